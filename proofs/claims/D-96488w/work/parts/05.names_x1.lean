/-! BladeBetweenThumbs -/
set_option maxRecDepth 100000
def RX1 : String := "BladeBetweenThumbs"
def TX1 : u_T := fun k => match k with
  | 0 => ("BladeBetweenThumbs", "now", "LBladeBetweenThumbs$Hedge;", true)
  | 1 => ("BladeBetweenThumbs", "kept", "LBladeBetweenThumbs$Hedge;", true)
  | 2 => ("BladeBetweenThumbs", "mind", "LBladeBetweenThumbs$Hedge;", true)
  | 3 => ("BladeBetweenThumbs", "hasImage", "Z", false)
  | 4 => ("BladeBetweenThumbs", "told", "[LBladeBetweenThumbs$Told;", true)
  | 5 => ("BladeBetweenThumbs", "notes", "[I", true)
  | 6 => ("BladeBetweenThumbs", "near", "[J", false)
  | 7 => ("BladeBetweenThumbs", "then", "[J", false)
  | 8 => ("BladeBetweenThumbs", "leastForce", "I", false)
  | 9 => ("BladeBetweenThumbs", "lots", "I", false)
  | _ => ("BladeBetweenThumbs", "shelves", "[LBladeBetweenThumbs$Shelf;", true)
def tyX1 : Nat → FieldType := fun k => match k with
  | 0 => .object "BladeBetweenThumbs$Hedge"
  | 1 => .object "BladeBetweenThumbs$Hedge"
  | 2 => .object "BladeBetweenThumbs$Hedge"
  | 3 => .boolean
  | 4 => .array (.object "BladeBetweenThumbs$Told")
  | 5 => .array .int
  | 6 => .array .long
  | 7 => .array .long
  | 8 => .int
  | 9 => .int
  | _ => .array (.object "BladeBetweenThumbs$Shelf")
abbrev wsX10 : List Cond := u_ws RX1 TX1 11
theorem nmX1 : ∀ a, a < 11 → ∀ b, b < 11 → a ≠ b → (TX1 a).2.1 ≠ (TX1 b).2.1 := by decide +kernel
theorem tyX1_ok : ∀ k, k < 11 → parseFieldDescriptor (TX1 k).2.2.1 = some (tyX1 k) := by decide +kernel
abbrev cX1_hedge : ByteArray := prog_1_method_9_code
def yX1_hedge : MethodName := ⟨RX1, "hedge", "(I)I"⟩
def dkwX1_hedge_1 : List UInt8 := [199, 0, 8, 16, 245, 167, 0, 8, 42, 44, 182, 0, 136, 172, 77, 16, 244, 172, 77, 44, 180, 0, 142, 172]
abbrev dktX1_hedge_1 : List UInt8 := dkwX1_hedge_1 ++ []
def dkwX1_hedge_0 : List UInt8 := [42, 27, 182, 0, 121, 154, 0, 5, 2, 172, 42, 180, 0, 124, 27, 50, 180, 0, 128, 192, 0, 134, 77, 44]
abbrev dktX1_hedge_0 : List UInt8 := dkwX1_hedge_0 ++ dktX1_hedge_1
theorem dksX1_hedge_0 : cX1_hedge.data.toList.drop 0 = dktX1_hedge_0 := by decide +kernel
theorem dksX1_hedge_1 : cX1_hedge.data.toList.drop 24 = dktX1_hedge_1 := dk_seg dksX1_hedge_0 24 rfl rfl
theorem dX1_hedge_0 : decode cX1_hedge 0 = .ok (.aload_n 0, 1) := dk_42 (dk_at dksX1_hedge_0 0 rfl rfl)
theorem dX1_hedge_1 : decode cX1_hedge 1 = .ok (.iload_n 1, 1) := dk_27 (dk_at dksX1_hedge_0 1 rfl rfl)
theorem dX1_hedge_2 : decode cX1_hedge 2 = .ok (.invokevirtual 121, 3) := dk_182 0 121 (dk_at dksX1_hedge_0 2 rfl rfl)
theorem dX1_hedge_5 : decode cX1_hedge 5 = .ok (.ifCond .ne 5, 3) := dk_154 0 5 (dk_at dksX1_hedge_0 5 rfl rfl)
theorem dX1_hedge_8 : decode cX1_hedge 8 = .ok (.iconst (-1), 1) := dk_2 (dk_at dksX1_hedge_0 8 rfl rfl)
theorem dX1_hedge_9 : decode cX1_hedge 9 = .ok (.ireturn, 1) := dk_172 (dk_at dksX1_hedge_0 9 rfl rfl)
theorem dX1_hedge_10 : decode cX1_hedge 10 = .ok (.aload_n 0, 1) := dk_42 (dk_at dksX1_hedge_0 10 rfl rfl)
theorem dX1_hedge_11 : decode cX1_hedge 11 = .ok (.getfield 124, 3) := dk_180 0 124 (dk_at dksX1_hedge_0 11 rfl rfl)
theorem dX1_hedge_14 : decode cX1_hedge 14 = .ok (.iload_n 1, 1) := dk_27 (dk_at dksX1_hedge_0 14 rfl rfl)
theorem dX1_hedge_15 : decode cX1_hedge 15 = .ok (.aaload, 1) := dk_50 (dk_at dksX1_hedge_0 15 rfl rfl)
theorem dX1_hedge_16 : decode cX1_hedge 16 = .ok (.getfield 128, 3) := dk_180 0 128 (dk_at dksX1_hedge_0 16 rfl rfl)
theorem dX1_hedge_19 : decode cX1_hedge 19 = .ok (.checkcast 134, 3) := dk_192 0 134 (dk_at dksX1_hedge_0 19 rfl rfl)
theorem dX1_hedge_22 : decode cX1_hedge 22 = .ok (.astore_n 2, 1) := dk_77 (dk_at dksX1_hedge_0 22 rfl rfl)
theorem dX1_hedge_23 : decode cX1_hedge 23 = .ok (.aload_n 2, 1) := dk_44 (dk_at dksX1_hedge_0 23 rfl rfl)
theorem dX1_hedge_24 : decode cX1_hedge 24 = .ok (.ifnonnull 8, 3) := dk_199 0 8 (dk_at dksX1_hedge_1 0 rfl rfl)
theorem dX1_hedge_27 : decode cX1_hedge 27 = .ok (.bipush (-11), 2) := dk_16 245 (dk_at dksX1_hedge_1 3 rfl rfl)
theorem dX1_hedge_29 : decode cX1_hedge 29 = .ok (.goto 8, 3) := dk_167 0 8 (dk_at dksX1_hedge_1 5 rfl rfl)
theorem dX1_hedge_32 : decode cX1_hedge 32 = .ok (.aload_n 0, 1) := dk_42 (dk_at dksX1_hedge_1 8 rfl rfl)
theorem dX1_hedge_33 : decode cX1_hedge 33 = .ok (.aload_n 2, 1) := dk_44 (dk_at dksX1_hedge_1 9 rfl rfl)
theorem dX1_hedge_34 : decode cX1_hedge 34 = .ok (.invokevirtual 136, 3) := dk_182 0 136 (dk_at dksX1_hedge_1 10 rfl rfl)
theorem dX1_hedge_37 : decode cX1_hedge 37 = .ok (.ireturn, 1) := dk_172 (dk_at dksX1_hedge_1 13 rfl rfl)
theorem dX1_hedge_38 : decode cX1_hedge 38 = .ok (.astore_n 2, 1) := dk_77 (dk_at dksX1_hedge_1 14 rfl rfl)
theorem dX1_hedge_39 : decode cX1_hedge 39 = .ok (.bipush (-12), 2) := dk_16 244 (dk_at dksX1_hedge_1 15 rfl rfl)
theorem dX1_hedge_41 : decode cX1_hedge 41 = .ok (.ireturn, 1) := dk_172 (dk_at dksX1_hedge_1 17 rfl rfl)
theorem dX1_hedge_42 : decode cX1_hedge 42 = .ok (.astore_n 2, 1) := dk_77 (dk_at dksX1_hedge_1 18 rfl rfl)
theorem dX1_hedge_43 : decode cX1_hedge 43 = .ok (.aload_n 2, 1) := dk_44 (dk_at dksX1_hedge_1 19 rfl rfl)
theorem dX1_hedge_44 : decode cX1_hedge 44 = .ok (.getfield 142, 3) := dk_180 0 142 (dk_at dksX1_hedge_1 20 rfl rfl)
theorem dX1_hedge_47 : decode cX1_hedge 47 = .ok (.ireturn, 1) := dk_172 (dk_at dksX1_hedge_1 23 rfl rfl)
abbrev cX1_isShelf : ByteArray := prog_1_method_4_code
def yX1_isShelf : MethodName := ⟨RX1, "isShelf", "(I)Z"⟩
def dkwX1_isShelf_0 : List UInt8 := [27, 3, 16, 7, 184, 0, 30, 172]
abbrev dktX1_isShelf_0 : List UInt8 := dkwX1_isShelf_0 ++ []
theorem dksX1_isShelf_0 : cX1_isShelf.data.toList.drop 0 = dktX1_isShelf_0 := by decide +kernel
theorem dX1_isShelf_0 : decode cX1_isShelf 0 = .ok (.iload_n 1, 1) := dk_27 (dk_at dksX1_isShelf_0 0 rfl rfl)
theorem dX1_isShelf_1 : decode cX1_isShelf 1 = .ok (.iconst 0, 1) := dk_3 (dk_at dksX1_isShelf_0 1 rfl rfl)
theorem dX1_isShelf_2 : decode cX1_isShelf 2 = .ok (.bipush 7, 2) := dk_16 7 (dk_at dksX1_isShelf_0 2 rfl rfl)
theorem dX1_isShelf_4 : decode cX1_isShelf 4 = .ok (.invokestatic 30, 3) := dk_184 0 30 (dk_at dksX1_isShelf_0 4 rfl rfl)
theorem dX1_isShelf_7 : decode cX1_isShelf 7 = .ok (.ireturn, 1) := dk_172 (dk_at dksX1_isShelf_0 7 rfl rfl)
abbrev cX1_isIn : ByteArray := prog_1_method_1_code
def yX1_isIn : MethodName := ⟨RX1, "isIn", "(III)Z"⟩
def dkwX1_isIn_0 : List UInt8 := [26, 27, 161, 0, 12, 26, 28, 163, 0, 7, 4, 167, 0, 4, 3, 172]
abbrev dktX1_isIn_0 : List UInt8 := dkwX1_isIn_0 ++ []
theorem dksX1_isIn_0 : cX1_isIn.data.toList.drop 0 = dktX1_isIn_0 := by decide +kernel
theorem dX1_isIn_0 : decode cX1_isIn 0 = .ok (.iload_n 0, 1) := dk_26 (dk_at dksX1_isIn_0 0 rfl rfl)
theorem dX1_isIn_1 : decode cX1_isIn 1 = .ok (.iload_n 1, 1) := dk_27 (dk_at dksX1_isIn_0 1 rfl rfl)
theorem dX1_isIn_2 : decode cX1_isIn 2 = .ok (.if_icmp .lt 12, 3) := dk_161 0 12 (dk_at dksX1_isIn_0 2 rfl rfl)
theorem dX1_isIn_5 : decode cX1_isIn 5 = .ok (.iload_n 0, 1) := dk_26 (dk_at dksX1_isIn_0 5 rfl rfl)
theorem dX1_isIn_6 : decode cX1_isIn 6 = .ok (.iload_n 2, 1) := dk_28 (dk_at dksX1_isIn_0 6 rfl rfl)
theorem dX1_isIn_7 : decode cX1_isIn 7 = .ok (.if_icmp .gt 7, 3) := dk_163 0 7 (dk_at dksX1_isIn_0 7 rfl rfl)
theorem dX1_isIn_10 : decode cX1_isIn 10 = .ok (.iconst 1, 1) := dk_4 (dk_at dksX1_isIn_0 10 rfl rfl)
theorem dX1_isIn_11 : decode cX1_isIn 11 = .ok (.goto 4, 3) := dk_167 0 4 (dk_at dksX1_isIn_0 11 rfl rfl)
theorem dX1_isIn_14 : decode cX1_isIn 14 = .ok (.iconst 0, 1) := dk_3 (dk_at dksX1_isIn_0 14 rfl rfl)
theorem dX1_isIn_15 : decode cX1_isIn 15 = .ok (.ireturn, 1) := dk_172 (dk_at dksX1_isIn_0 15 rfl rfl)
abbrev cX1_reads : ByteArray := prog_1_method_8_code
def yX1_reads : MethodName := ⟨RX1, "reads", "([B)I"⟩
def dkwX1_reads_3 : List UInt8 := [167, 255, 214, 42, 180, 0, 105, 42, 180, 0, 48, 182, 0, 108, 28, 172]
abbrev dktX1_reads_3 : List UInt8 := dkwX1_reads_3 ++ []
def dkwX1_reads_2 : List UInt8 := [187, 0, 115, 89, 17, 248, 48, 42, 180, 0, 97, 29, 50, 180, 0, 117, 100, 183, 0, 120, 191, 132, 3, 1]
abbrev dktX1_reads_2 : List UInt8 := dkwX1_reads_2 ++ dktX1_reads_3
def dkwX1_reads_1 : List UInt8 := [182, 0, 108, 3, 62, 29, 28, 162, 0, 43, 42, 42, 180, 0, 97, 29, 50, 182, 0, 112, 154, 0, 24]
abbrev dktX1_reads_1 : List UInt8 := dkwX1_reads_1 ++ dktX1_reads_2
def dkwX1_reads_0 : List UInt8 := [187, 0, 92, 89, 43, 183, 0, 94, 42, 180, 0, 97, 182, 0, 101, 61, 42, 180, 0, 48, 42, 180, 0, 105]
abbrev dktX1_reads_0 : List UInt8 := dkwX1_reads_0 ++ dktX1_reads_1
theorem dksX1_reads_0 : cX1_reads.data.toList.drop 0 = dktX1_reads_0 := by decide +kernel
theorem dksX1_reads_1 : cX1_reads.data.toList.drop 24 = dktX1_reads_1 := dk_seg dksX1_reads_0 24 rfl rfl
theorem dksX1_reads_2 : cX1_reads.data.toList.drop 47 = dktX1_reads_2 := dk_seg dksX1_reads_1 23 rfl rfl
theorem dksX1_reads_3 : cX1_reads.data.toList.drop 71 = dktX1_reads_3 := dk_seg dksX1_reads_2 24 rfl rfl
theorem dX1_reads_0 : decode cX1_reads 0 = .ok (.new 92, 3) := dk_187 0 92 (dk_at dksX1_reads_0 0 rfl rfl)
theorem dX1_reads_3 : decode cX1_reads 3 = .ok (.dup, 1) := dk_89 (dk_at dksX1_reads_0 3 rfl rfl)
theorem dX1_reads_4 : decode cX1_reads 4 = .ok (.aload_n 1, 1) := dk_43 (dk_at dksX1_reads_0 4 rfl rfl)
theorem dX1_reads_5 : decode cX1_reads 5 = .ok (.invokespecial 94, 3) := dk_183 0 94 (dk_at dksX1_reads_0 5 rfl rfl)
theorem dX1_reads_8 : decode cX1_reads 8 = .ok (.aload_n 0, 1) := dk_42 (dk_at dksX1_reads_0 8 rfl rfl)
theorem dX1_reads_9 : decode cX1_reads 9 = .ok (.getfield 97, 3) := dk_180 0 97 (dk_at dksX1_reads_0 9 rfl rfl)
theorem dX1_reads_12 : decode cX1_reads 12 = .ok (.invokevirtual 101, 3) := dk_182 0 101 (dk_at dksX1_reads_0 12 rfl rfl)
theorem dX1_reads_15 : decode cX1_reads 15 = .ok (.istore_n 2, 1) := dk_61 (dk_at dksX1_reads_0 15 rfl rfl)
theorem dX1_reads_16 : decode cX1_reads 16 = .ok (.aload_n 0, 1) := dk_42 (dk_at dksX1_reads_0 16 rfl rfl)
theorem dX1_reads_17 : decode cX1_reads 17 = .ok (.getfield 48, 3) := dk_180 0 48 (dk_at dksX1_reads_0 17 rfl rfl)
theorem dX1_reads_20 : decode cX1_reads 20 = .ok (.aload_n 0, 1) := dk_42 (dk_at dksX1_reads_0 20 rfl rfl)
theorem dX1_reads_21 : decode cX1_reads 21 = .ok (.getfield 105, 3) := dk_180 0 105 (dk_at dksX1_reads_0 21 rfl rfl)
theorem dX1_reads_24 : decode cX1_reads 24 = .ok (.invokevirtual 108, 3) := dk_182 0 108 (dk_at dksX1_reads_1 0 rfl rfl)
theorem dX1_reads_27 : decode cX1_reads 27 = .ok (.iconst 0, 1) := dk_3 (dk_at dksX1_reads_1 3 rfl rfl)
theorem dX1_reads_28 : decode cX1_reads 28 = .ok (.istore_n 3, 1) := dk_62 (dk_at dksX1_reads_1 4 rfl rfl)
theorem dX1_reads_29 : decode cX1_reads 29 = .ok (.iload_n 3, 1) := dk_29 (dk_at dksX1_reads_1 5 rfl rfl)
theorem dX1_reads_30 : decode cX1_reads 30 = .ok (.iload_n 2, 1) := dk_28 (dk_at dksX1_reads_1 6 rfl rfl)
theorem dX1_reads_31 : decode cX1_reads 31 = .ok (.if_icmp .ge 43, 3) := dk_162 0 43 (dk_at dksX1_reads_1 7 rfl rfl)
theorem dX1_reads_34 : decode cX1_reads 34 = .ok (.aload_n 0, 1) := dk_42 (dk_at dksX1_reads_1 10 rfl rfl)
theorem dX1_reads_35 : decode cX1_reads 35 = .ok (.aload_n 0, 1) := dk_42 (dk_at dksX1_reads_1 11 rfl rfl)
theorem dX1_reads_36 : decode cX1_reads 36 = .ok (.getfield 97, 3) := dk_180 0 97 (dk_at dksX1_reads_1 12 rfl rfl)
theorem dX1_reads_39 : decode cX1_reads 39 = .ok (.iload_n 3, 1) := dk_29 (dk_at dksX1_reads_1 15 rfl rfl)
theorem dX1_reads_40 : decode cX1_reads 40 = .ok (.aaload, 1) := dk_50 (dk_at dksX1_reads_1 16 rfl rfl)
theorem dX1_reads_41 : decode cX1_reads 41 = .ok (.invokevirtual 112, 3) := dk_182 0 112 (dk_at dksX1_reads_1 17 rfl rfl)
theorem dX1_reads_44 : decode cX1_reads 44 = .ok (.ifCond .ne 24, 3) := dk_154 0 24 (dk_at dksX1_reads_1 20 rfl rfl)
theorem dX1_reads_47 : decode cX1_reads 47 = .ok (.new 115, 3) := dk_187 0 115 (dk_at dksX1_reads_2 0 rfl rfl)
theorem dX1_reads_50 : decode cX1_reads 50 = .ok (.dup, 1) := dk_89 (dk_at dksX1_reads_2 3 rfl rfl)
theorem dX1_reads_51 : decode cX1_reads 51 = .ok (.sipush (-2000), 3) := dk_17 248 48 (dk_at dksX1_reads_2 4 rfl rfl)
theorem dX1_reads_54 : decode cX1_reads 54 = .ok (.aload_n 0, 1) := dk_42 (dk_at dksX1_reads_2 7 rfl rfl)
theorem dX1_reads_55 : decode cX1_reads 55 = .ok (.getfield 97, 3) := dk_180 0 97 (dk_at dksX1_reads_2 8 rfl rfl)
theorem dX1_reads_58 : decode cX1_reads 58 = .ok (.iload_n 3, 1) := dk_29 (dk_at dksX1_reads_2 11 rfl rfl)
theorem dX1_reads_59 : decode cX1_reads 59 = .ok (.aaload, 1) := dk_50 (dk_at dksX1_reads_2 12 rfl rfl)
theorem dX1_reads_60 : decode cX1_reads 60 = .ok (.getfield 117, 3) := dk_180 0 117 (dk_at dksX1_reads_2 13 rfl rfl)
theorem dX1_reads_63 : decode cX1_reads 63 = .ok (.isub, 1) := dk_100 (dk_at dksX1_reads_2 16 rfl rfl)
theorem dX1_reads_64 : decode cX1_reads 64 = .ok (.invokespecial 120, 3) := dk_183 0 120 (dk_at dksX1_reads_2 17 rfl rfl)
theorem dX1_reads_67 : decode cX1_reads 67 = .ok (.athrow, 1) := dk_191 (dk_at dksX1_reads_2 20 rfl rfl)
theorem dX1_reads_68 : decode cX1_reads 68 = .ok (.iinc 3 1, 3) := dk_132 3 1 (dk_at dksX1_reads_2 21 rfl rfl)
theorem dX1_reads_71 : decode cX1_reads 71 = .ok (.goto (-42), 3) := dk_167 255 214 (dk_at dksX1_reads_3 0 rfl rfl)
theorem dX1_reads_74 : decode cX1_reads 74 = .ok (.aload_n 0, 1) := dk_42 (dk_at dksX1_reads_3 3 rfl rfl)
theorem dX1_reads_75 : decode cX1_reads 75 = .ok (.getfield 105, 3) := dk_180 0 105 (dk_at dksX1_reads_3 4 rfl rfl)
theorem dX1_reads_78 : decode cX1_reads 78 = .ok (.aload_n 0, 1) := dk_42 (dk_at dksX1_reads_3 7 rfl rfl)
theorem dX1_reads_79 : decode cX1_reads 79 = .ok (.getfield 48, 3) := dk_180 0 48 (dk_at dksX1_reads_3 8 rfl rfl)
theorem dX1_reads_82 : decode cX1_reads 82 = .ok (.invokevirtual 108, 3) := dk_182 0 108 (dk_at dksX1_reads_3 11 rfl rfl)
theorem dX1_reads_85 : decode cX1_reads 85 = .ok (.iload_n 2, 1) := dk_28 (dk_at dksX1_reads_3 14 rfl rfl)
theorem dX1_reads_86 : decode cX1_reads 86 = .ok (.ireturn, 1) := dk_172 (dk_at dksX1_reads_3 15 rfl rfl)
abbrev cX1_comes : ByteArray := prog_1_method_7_code
def yX1_comes : MethodName := ⟨RX1, "comes", "(LBladeBetweenThumbs$Told;)Z"⟩
def dkwX1_comes_10 : List UInt8 := [46, 44, 4, 46, 44, 5, 46, 44, 6, 46, 44, 7, 46, 182, 0, 88, 87, 4, 172]
abbrev dktX1_comes_10 : List UInt8 := dkwX1_comes_10 ++ []
def dkwX1_comes_9 : List UInt8 := [153, 0, 16, 42, 180, 0, 48, 44, 3, 46, 182, 0, 85, 153, 0, 5, 3, 172, 42, 180, 0, 48, 44, 3]
abbrev dktX1_comes_9 : List UInt8 := dkwX1_comes_9 ++ dktX1_comes_10
def dkwX1_comes_8 : List UInt8 := [44, 5, 46, 182, 0, 82, 153, 0, 34, 44, 6, 46, 184, 0, 61, 153, 0, 25, 44, 7, 46, 184, 0, 61]
abbrev dktX1_comes_8 : List UInt8 := dkwX1_comes_8 ++ dktX1_comes_9
def dkwX1_comes_7 : List UInt8 := [3, 46, 44, 4, 46, 184, 0, 74, 182, 0, 78, 87, 4, 172, 42, 180, 0, 48, 44, 3, 46, 44, 4, 46]
abbrev dktX1_comes_7 : List UInt8 := dkwX1_comes_7 ++ dktX1_comes_8
def dkwX1_comes_6 : List UInt8 := [16, 8, 162, 0, 15, 42, 180, 0, 48, 180, 0, 71, 16, 6, 160, 0, 5, 3, 172, 42, 180, 0, 48, 44]
abbrev dktX1_comes_6 : List UInt8 := dkwX1_comes_6 ++ dktX1_comes_7
def dkwX1_comes_5 : List UInt8 := [160, 0, 5, 3, 172, 42, 180, 0, 48, 44, 3, 46, 44, 4, 46, 182, 0, 67, 87, 4, 172, 44, 3, 46]
abbrev dktX1_comes_5 : List UInt8 := dkwX1_comes_5 ++ dktX1_comes_6
def dkwX1_comes_4 : List UInt8 := [182, 0, 57, 87, 4, 172, 44, 4, 46, 184, 0, 61, 153, 0, 14, 42, 180, 0, 48, 180, 0, 64, 7]
abbrev dktX1_comes_4 : List UInt8 := dkwX1_comes_4 ++ dktX1_comes_5
def dkwX1_comes_3 : List UInt8 := [180, 0, 52, 16, 6, 160, 0, 5, 3, 172, 42, 180, 0, 48, 44, 3, 46, 44, 4, 46, 44, 5, 46]
abbrev dktX1_comes_3 : List UInt8 := dkwX1_comes_3 ++ dktX1_comes_4
def dkwX1_comes_2 : List UInt8 := [44, 3, 46, 184, 0, 44, 153, 0, 24, 44, 4, 46, 184, 0, 44, 153, 0, 15, 42, 180, 0, 48]
abbrev dktX1_comes_2 : List UInt8 := dkwX1_comes_2 ++ dktX1_comes_3
def dkwX1_comes_1 : List UInt8 := [171, 0, 0, 0, 0, 0, 165, 0, 0, 0, 3, 0, 0, 0, 98, 0, 0, 0, 35, 0, 0, 0, 107, 0, 0, 0, 124, 0, 0, 0, 116, 0, 0, 0, 86]
abbrev dktX1_comes_1 : List UInt8 := dkwX1_comes_1 ++ dktX1_comes_2
def dkwX1_comes_0 : List UInt8 := [43, 180, 0, 34, 77, 43, 180, 0, 40]
abbrev dktX1_comes_0 : List UInt8 := dkwX1_comes_0 ++ dktX1_comes_1
theorem dksX1_comes_0 : cX1_comes.data.toList.drop 0 = dktX1_comes_0 := by decide +kernel
theorem dksX1_comes_1 : cX1_comes.data.toList.drop 9 = dktX1_comes_1 := dk_seg dksX1_comes_0 9 rfl rfl
theorem dksX1_comes_2 : cX1_comes.data.toList.drop 44 = dktX1_comes_2 := dk_seg dksX1_comes_1 35 rfl rfl
theorem dksX1_comes_3 : cX1_comes.data.toList.drop 66 = dktX1_comes_3 := dk_seg dksX1_comes_2 22 rfl rfl
theorem dksX1_comes_4 : cX1_comes.data.toList.drop 89 = dktX1_comes_4 := dk_seg dksX1_comes_3 23 rfl rfl
theorem dksX1_comes_5 : cX1_comes.data.toList.drop 112 = dktX1_comes_5 := dk_seg dksX1_comes_4 23 rfl rfl
theorem dksX1_comes_6 : cX1_comes.data.toList.drop 136 = dktX1_comes_6 := dk_seg dksX1_comes_5 24 rfl rfl
theorem dksX1_comes_7 : cX1_comes.data.toList.drop 160 = dktX1_comes_7 := dk_seg dksX1_comes_6 24 rfl rfl
theorem dksX1_comes_8 : cX1_comes.data.toList.drop 184 = dktX1_comes_8 := dk_seg dksX1_comes_7 24 rfl rfl
theorem dksX1_comes_9 : cX1_comes.data.toList.drop 208 = dktX1_comes_9 := dk_seg dksX1_comes_8 24 rfl rfl
theorem dksX1_comes_10 : cX1_comes.data.toList.drop 232 = dktX1_comes_10 := dk_seg dksX1_comes_9 24 rfl rfl
theorem dX1_comes_0 : decode cX1_comes 0 = .ok (.aload_n 1, 1) := dk_43 (dk_at dksX1_comes_0 0 rfl rfl)
theorem dX1_comes_1 : decode cX1_comes 1 = .ok (.getfield 34, 3) := dk_180 0 34 (dk_at dksX1_comes_0 1 rfl rfl)
theorem dX1_comes_4 : decode cX1_comes 4 = .ok (.astore_n 2, 1) := dk_77 (dk_at dksX1_comes_0 4 rfl rfl)
theorem dX1_comes_5 : decode cX1_comes 5 = .ok (.aload_n 1, 1) := dk_43 (dk_at dksX1_comes_0 5 rfl rfl)
theorem dX1_comes_6 : decode cX1_comes 6 = .ok (.getfield 40, 3) := dk_180 0 40 (dk_at dksX1_comes_0 6 rfl rfl)
theorem dX1_comes_9 : decode cX1_comes 9 = .ok (.lookupswitch 165 #[(98, 35), (107, 124), (116, 86)], 35) := by decide +kernel
theorem dX1_comes_44 : decode cX1_comes 44 = .ok (.aload_n 2, 1) := dk_44 (dk_at dksX1_comes_2 0 rfl rfl)
theorem dX1_comes_45 : decode cX1_comes 45 = .ok (.iconst 0, 1) := dk_3 (dk_at dksX1_comes_2 1 rfl rfl)
theorem dX1_comes_46 : decode cX1_comes 46 = .ok (.iaload, 1) := dk_46 (dk_at dksX1_comes_2 2 rfl rfl)
theorem dX1_comes_47 : decode cX1_comes 47 = .ok (.invokestatic 44, 3) := dk_184 0 44 (dk_at dksX1_comes_2 3 rfl rfl)
theorem dX1_comes_50 : decode cX1_comes 50 = .ok (.ifCond .eq 24, 3) := dk_153 0 24 (dk_at dksX1_comes_2 6 rfl rfl)
theorem dX1_comes_53 : decode cX1_comes 53 = .ok (.aload_n 2, 1) := dk_44 (dk_at dksX1_comes_2 9 rfl rfl)
theorem dX1_comes_54 : decode cX1_comes 54 = .ok (.iconst 1, 1) := dk_4 (dk_at dksX1_comes_2 10 rfl rfl)
theorem dX1_comes_55 : decode cX1_comes 55 = .ok (.iaload, 1) := dk_46 (dk_at dksX1_comes_2 11 rfl rfl)
theorem dX1_comes_56 : decode cX1_comes 56 = .ok (.invokestatic 44, 3) := dk_184 0 44 (dk_at dksX1_comes_2 12 rfl rfl)
theorem dX1_comes_59 : decode cX1_comes 59 = .ok (.ifCond .eq 15, 3) := dk_153 0 15 (dk_at dksX1_comes_2 15 rfl rfl)
theorem dX1_comes_62 : decode cX1_comes 62 = .ok (.aload_n 0, 1) := dk_42 (dk_at dksX1_comes_2 18 rfl rfl)
theorem dX1_comes_63 : decode cX1_comes 63 = .ok (.getfield 48, 3) := dk_180 0 48 (dk_at dksX1_comes_2 19 rfl rfl)
theorem dX1_comes_66 : decode cX1_comes 66 = .ok (.getfield 52, 3) := dk_180 0 52 (dk_at dksX1_comes_3 0 rfl rfl)
theorem dX1_comes_69 : decode cX1_comes 69 = .ok (.bipush 6, 2) := dk_16 6 (dk_at dksX1_comes_3 3 rfl rfl)
theorem dX1_comes_71 : decode cX1_comes 71 = .ok (.if_icmp .ne 5, 3) := dk_160 0 5 (dk_at dksX1_comes_3 5 rfl rfl)
theorem dX1_comes_74 : decode cX1_comes 74 = .ok (.iconst 0, 1) := dk_3 (dk_at dksX1_comes_3 8 rfl rfl)
theorem dX1_comes_75 : decode cX1_comes 75 = .ok (.ireturn, 1) := dk_172 (dk_at dksX1_comes_3 9 rfl rfl)
theorem dX1_comes_76 : decode cX1_comes 76 = .ok (.aload_n 0, 1) := dk_42 (dk_at dksX1_comes_3 10 rfl rfl)
theorem dX1_comes_77 : decode cX1_comes 77 = .ok (.getfield 48, 3) := dk_180 0 48 (dk_at dksX1_comes_3 11 rfl rfl)
theorem dX1_comes_80 : decode cX1_comes 80 = .ok (.aload_n 2, 1) := dk_44 (dk_at dksX1_comes_3 14 rfl rfl)
theorem dX1_comes_81 : decode cX1_comes 81 = .ok (.iconst 0, 1) := dk_3 (dk_at dksX1_comes_3 15 rfl rfl)
theorem dX1_comes_82 : decode cX1_comes 82 = .ok (.iaload, 1) := dk_46 (dk_at dksX1_comes_3 16 rfl rfl)
theorem dX1_comes_83 : decode cX1_comes 83 = .ok (.aload_n 2, 1) := dk_44 (dk_at dksX1_comes_3 17 rfl rfl)
theorem dX1_comes_84 : decode cX1_comes 84 = .ok (.iconst 1, 1) := dk_4 (dk_at dksX1_comes_3 18 rfl rfl)
theorem dX1_comes_85 : decode cX1_comes 85 = .ok (.iaload, 1) := dk_46 (dk_at dksX1_comes_3 19 rfl rfl)
theorem dX1_comes_86 : decode cX1_comes 86 = .ok (.aload_n 2, 1) := dk_44 (dk_at dksX1_comes_3 20 rfl rfl)
theorem dX1_comes_87 : decode cX1_comes 87 = .ok (.iconst 2, 1) := dk_5 (dk_at dksX1_comes_3 21 rfl rfl)
theorem dX1_comes_88 : decode cX1_comes 88 = .ok (.iaload, 1) := dk_46 (dk_at dksX1_comes_3 22 rfl rfl)
theorem dX1_comes_89 : decode cX1_comes 89 = .ok (.invokevirtual 57, 3) := dk_182 0 57 (dk_at dksX1_comes_4 0 rfl rfl)
theorem dX1_comes_92 : decode cX1_comes 92 = .ok (.pop, 1) := dk_87 (dk_at dksX1_comes_4 3 rfl rfl)
theorem dX1_comes_93 : decode cX1_comes 93 = .ok (.iconst 1, 1) := dk_4 (dk_at dksX1_comes_4 4 rfl rfl)
theorem dX1_comes_94 : decode cX1_comes 94 = .ok (.ireturn, 1) := dk_172 (dk_at dksX1_comes_4 5 rfl rfl)
theorem dX1_comes_95 : decode cX1_comes 95 = .ok (.aload_n 2, 1) := dk_44 (dk_at dksX1_comes_4 6 rfl rfl)
theorem dX1_comes_96 : decode cX1_comes 96 = .ok (.iconst 1, 1) := dk_4 (dk_at dksX1_comes_4 7 rfl rfl)
theorem dX1_comes_97 : decode cX1_comes 97 = .ok (.iaload, 1) := dk_46 (dk_at dksX1_comes_4 8 rfl rfl)
theorem dX1_comes_98 : decode cX1_comes 98 = .ok (.invokestatic 61, 3) := dk_184 0 61 (dk_at dksX1_comes_4 9 rfl rfl)
theorem dX1_comes_101 : decode cX1_comes 101 = .ok (.ifCond .eq 14, 3) := dk_153 0 14 (dk_at dksX1_comes_4 12 rfl rfl)
theorem dX1_comes_104 : decode cX1_comes 104 = .ok (.aload_n 0, 1) := dk_42 (dk_at dksX1_comes_4 15 rfl rfl)
theorem dX1_comes_105 : decode cX1_comes 105 = .ok (.getfield 48, 3) := dk_180 0 48 (dk_at dksX1_comes_4 16 rfl rfl)
theorem dX1_comes_108 : decode cX1_comes 108 = .ok (.getfield 64, 3) := dk_180 0 64 (dk_at dksX1_comes_4 19 rfl rfl)
theorem dX1_comes_111 : decode cX1_comes 111 = .ok (.iconst 4, 1) := dk_7 (dk_at dksX1_comes_4 22 rfl rfl)
theorem dX1_comes_112 : decode cX1_comes 112 = .ok (.if_icmp .ne 5, 3) := dk_160 0 5 (dk_at dksX1_comes_5 0 rfl rfl)
theorem dX1_comes_115 : decode cX1_comes 115 = .ok (.iconst 0, 1) := dk_3 (dk_at dksX1_comes_5 3 rfl rfl)
theorem dX1_comes_116 : decode cX1_comes 116 = .ok (.ireturn, 1) := dk_172 (dk_at dksX1_comes_5 4 rfl rfl)
theorem dX1_comes_117 : decode cX1_comes 117 = .ok (.aload_n 0, 1) := dk_42 (dk_at dksX1_comes_5 5 rfl rfl)
theorem dX1_comes_118 : decode cX1_comes 118 = .ok (.getfield 48, 3) := dk_180 0 48 (dk_at dksX1_comes_5 6 rfl rfl)
theorem dX1_comes_121 : decode cX1_comes 121 = .ok (.aload_n 2, 1) := dk_44 (dk_at dksX1_comes_5 9 rfl rfl)
theorem dX1_comes_122 : decode cX1_comes 122 = .ok (.iconst 0, 1) := dk_3 (dk_at dksX1_comes_5 10 rfl rfl)
theorem dX1_comes_123 : decode cX1_comes 123 = .ok (.iaload, 1) := dk_46 (dk_at dksX1_comes_5 11 rfl rfl)
theorem dX1_comes_124 : decode cX1_comes 124 = .ok (.aload_n 2, 1) := dk_44 (dk_at dksX1_comes_5 12 rfl rfl)
theorem dX1_comes_125 : decode cX1_comes 125 = .ok (.iconst 1, 1) := dk_4 (dk_at dksX1_comes_5 13 rfl rfl)
theorem dX1_comes_126 : decode cX1_comes 126 = .ok (.iaload, 1) := dk_46 (dk_at dksX1_comes_5 14 rfl rfl)
theorem dX1_comes_127 : decode cX1_comes 127 = .ok (.invokevirtual 67, 3) := dk_182 0 67 (dk_at dksX1_comes_5 15 rfl rfl)
theorem dX1_comes_130 : decode cX1_comes 130 = .ok (.pop, 1) := dk_87 (dk_at dksX1_comes_5 18 rfl rfl)
theorem dX1_comes_131 : decode cX1_comes 131 = .ok (.iconst 1, 1) := dk_4 (dk_at dksX1_comes_5 19 rfl rfl)
theorem dX1_comes_132 : decode cX1_comes 132 = .ok (.ireturn, 1) := dk_172 (dk_at dksX1_comes_5 20 rfl rfl)
theorem dX1_comes_133 : decode cX1_comes 133 = .ok (.aload_n 2, 1) := dk_44 (dk_at dksX1_comes_5 21 rfl rfl)
theorem dX1_comes_134 : decode cX1_comes 134 = .ok (.iconst 0, 1) := dk_3 (dk_at dksX1_comes_5 22 rfl rfl)
theorem dX1_comes_135 : decode cX1_comes 135 = .ok (.iaload, 1) := dk_46 (dk_at dksX1_comes_5 23 rfl rfl)
theorem dX1_comes_136 : decode cX1_comes 136 = .ok (.bipush 8, 2) := dk_16 8 (dk_at dksX1_comes_6 0 rfl rfl)
theorem dX1_comes_138 : decode cX1_comes 138 = .ok (.if_icmp .ge 15, 3) := dk_162 0 15 (dk_at dksX1_comes_6 2 rfl rfl)
theorem dX1_comes_141 : decode cX1_comes 141 = .ok (.aload_n 0, 1) := dk_42 (dk_at dksX1_comes_6 5 rfl rfl)
theorem dX1_comes_142 : decode cX1_comes 142 = .ok (.getfield 48, 3) := dk_180 0 48 (dk_at dksX1_comes_6 6 rfl rfl)
theorem dX1_comes_145 : decode cX1_comes 145 = .ok (.getfield 71, 3) := dk_180 0 71 (dk_at dksX1_comes_6 9 rfl rfl)
theorem dX1_comes_148 : decode cX1_comes 148 = .ok (.bipush 6, 2) := dk_16 6 (dk_at dksX1_comes_6 12 rfl rfl)
theorem dX1_comes_150 : decode cX1_comes 150 = .ok (.if_icmp .ne 5, 3) := dk_160 0 5 (dk_at dksX1_comes_6 14 rfl rfl)
theorem dX1_comes_153 : decode cX1_comes 153 = .ok (.iconst 0, 1) := dk_3 (dk_at dksX1_comes_6 17 rfl rfl)
theorem dX1_comes_154 : decode cX1_comes 154 = .ok (.ireturn, 1) := dk_172 (dk_at dksX1_comes_6 18 rfl rfl)
theorem dX1_comes_155 : decode cX1_comes 155 = .ok (.aload_n 0, 1) := dk_42 (dk_at dksX1_comes_6 19 rfl rfl)
theorem dX1_comes_156 : decode cX1_comes 156 = .ok (.getfield 48, 3) := dk_180 0 48 (dk_at dksX1_comes_6 20 rfl rfl)
theorem dX1_comes_159 : decode cX1_comes 159 = .ok (.aload_n 2, 1) := dk_44 (dk_at dksX1_comes_6 23 rfl rfl)
theorem dX1_comes_160 : decode cX1_comes 160 = .ok (.iconst 0, 1) := dk_3 (dk_at dksX1_comes_7 0 rfl rfl)
theorem dX1_comes_161 : decode cX1_comes 161 = .ok (.iaload, 1) := dk_46 (dk_at dksX1_comes_7 1 rfl rfl)
theorem dX1_comes_162 : decode cX1_comes 162 = .ok (.aload_n 2, 1) := dk_44 (dk_at dksX1_comes_7 2 rfl rfl)
theorem dX1_comes_163 : decode cX1_comes 163 = .ok (.iconst 1, 1) := dk_4 (dk_at dksX1_comes_7 3 rfl rfl)
theorem dX1_comes_164 : decode cX1_comes 164 = .ok (.iaload, 1) := dk_46 (dk_at dksX1_comes_7 4 rfl rfl)
theorem dX1_comes_165 : decode cX1_comes 165 = .ok (.invokestatic 74, 3) := dk_184 0 74 (dk_at dksX1_comes_7 5 rfl rfl)
theorem dX1_comes_168 : decode cX1_comes 168 = .ok (.invokevirtual 78, 3) := dk_182 0 78 (dk_at dksX1_comes_7 8 rfl rfl)
theorem dX1_comes_171 : decode cX1_comes 171 = .ok (.pop, 1) := dk_87 (dk_at dksX1_comes_7 11 rfl rfl)
theorem dX1_comes_172 : decode cX1_comes 172 = .ok (.iconst 1, 1) := dk_4 (dk_at dksX1_comes_7 12 rfl rfl)
theorem dX1_comes_173 : decode cX1_comes 173 = .ok (.ireturn, 1) := dk_172 (dk_at dksX1_comes_7 13 rfl rfl)
theorem dX1_comes_174 : decode cX1_comes 174 = .ok (.aload_n 0, 1) := dk_42 (dk_at dksX1_comes_7 14 rfl rfl)
theorem dX1_comes_175 : decode cX1_comes 175 = .ok (.getfield 48, 3) := dk_180 0 48 (dk_at dksX1_comes_7 15 rfl rfl)
theorem dX1_comes_178 : decode cX1_comes 178 = .ok (.aload_n 2, 1) := dk_44 (dk_at dksX1_comes_7 18 rfl rfl)
theorem dX1_comes_179 : decode cX1_comes 179 = .ok (.iconst 0, 1) := dk_3 (dk_at dksX1_comes_7 19 rfl rfl)
theorem dX1_comes_180 : decode cX1_comes 180 = .ok (.iaload, 1) := dk_46 (dk_at dksX1_comes_7 20 rfl rfl)
theorem dX1_comes_181 : decode cX1_comes 181 = .ok (.aload_n 2, 1) := dk_44 (dk_at dksX1_comes_7 21 rfl rfl)
theorem dX1_comes_182 : decode cX1_comes 182 = .ok (.iconst 1, 1) := dk_4 (dk_at dksX1_comes_7 22 rfl rfl)
theorem dX1_comes_183 : decode cX1_comes 183 = .ok (.iaload, 1) := dk_46 (dk_at dksX1_comes_7 23 rfl rfl)
theorem dX1_comes_184 : decode cX1_comes 184 = .ok (.aload_n 2, 1) := dk_44 (dk_at dksX1_comes_8 0 rfl rfl)
theorem dX1_comes_185 : decode cX1_comes 185 = .ok (.iconst 2, 1) := dk_5 (dk_at dksX1_comes_8 1 rfl rfl)
theorem dX1_comes_186 : decode cX1_comes 186 = .ok (.iaload, 1) := dk_46 (dk_at dksX1_comes_8 2 rfl rfl)
theorem dX1_comes_187 : decode cX1_comes 187 = .ok (.invokevirtual 82, 3) := dk_182 0 82 (dk_at dksX1_comes_8 3 rfl rfl)
theorem dX1_comes_190 : decode cX1_comes 190 = .ok (.ifCond .eq 34, 3) := dk_153 0 34 (dk_at dksX1_comes_8 6 rfl rfl)
theorem dX1_comes_193 : decode cX1_comes 193 = .ok (.aload_n 2, 1) := dk_44 (dk_at dksX1_comes_8 9 rfl rfl)
theorem dX1_comes_194 : decode cX1_comes 194 = .ok (.iconst 3, 1) := dk_6 (dk_at dksX1_comes_8 10 rfl rfl)
theorem dX1_comes_195 : decode cX1_comes 195 = .ok (.iaload, 1) := dk_46 (dk_at dksX1_comes_8 11 rfl rfl)
theorem dX1_comes_196 : decode cX1_comes 196 = .ok (.invokestatic 61, 3) := dk_184 0 61 (dk_at dksX1_comes_8 12 rfl rfl)
theorem dX1_comes_199 : decode cX1_comes 199 = .ok (.ifCond .eq 25, 3) := dk_153 0 25 (dk_at dksX1_comes_8 15 rfl rfl)
theorem dX1_comes_202 : decode cX1_comes 202 = .ok (.aload_n 2, 1) := dk_44 (dk_at dksX1_comes_8 18 rfl rfl)
theorem dX1_comes_203 : decode cX1_comes 203 = .ok (.iconst 4, 1) := dk_7 (dk_at dksX1_comes_8 19 rfl rfl)
theorem dX1_comes_204 : decode cX1_comes 204 = .ok (.iaload, 1) := dk_46 (dk_at dksX1_comes_8 20 rfl rfl)
theorem dX1_comes_205 : decode cX1_comes 205 = .ok (.invokestatic 61, 3) := dk_184 0 61 (dk_at dksX1_comes_8 21 rfl rfl)
theorem dX1_comes_208 : decode cX1_comes 208 = .ok (.ifCond .eq 16, 3) := dk_153 0 16 (dk_at dksX1_comes_9 0 rfl rfl)
theorem dX1_comes_211 : decode cX1_comes 211 = .ok (.aload_n 0, 1) := dk_42 (dk_at dksX1_comes_9 3 rfl rfl)
theorem dX1_comes_212 : decode cX1_comes 212 = .ok (.getfield 48, 3) := dk_180 0 48 (dk_at dksX1_comes_9 4 rfl rfl)
theorem dX1_comes_215 : decode cX1_comes 215 = .ok (.aload_n 2, 1) := dk_44 (dk_at dksX1_comes_9 7 rfl rfl)
theorem dX1_comes_216 : decode cX1_comes 216 = .ok (.iconst 0, 1) := dk_3 (dk_at dksX1_comes_9 8 rfl rfl)
theorem dX1_comes_217 : decode cX1_comes 217 = .ok (.iaload, 1) := dk_46 (dk_at dksX1_comes_9 9 rfl rfl)
theorem dX1_comes_218 : decode cX1_comes 218 = .ok (.invokevirtual 85, 3) := dk_182 0 85 (dk_at dksX1_comes_9 10 rfl rfl)
theorem dX1_comes_221 : decode cX1_comes 221 = .ok (.ifCond .eq 5, 3) := dk_153 0 5 (dk_at dksX1_comes_9 13 rfl rfl)
theorem dX1_comes_224 : decode cX1_comes 224 = .ok (.iconst 0, 1) := dk_3 (dk_at dksX1_comes_9 16 rfl rfl)
theorem dX1_comes_225 : decode cX1_comes 225 = .ok (.ireturn, 1) := dk_172 (dk_at dksX1_comes_9 17 rfl rfl)
theorem dX1_comes_226 : decode cX1_comes 226 = .ok (.aload_n 0, 1) := dk_42 (dk_at dksX1_comes_9 18 rfl rfl)
theorem dX1_comes_227 : decode cX1_comes 227 = .ok (.getfield 48, 3) := dk_180 0 48 (dk_at dksX1_comes_9 19 rfl rfl)
theorem dX1_comes_230 : decode cX1_comes 230 = .ok (.aload_n 2, 1) := dk_44 (dk_at dksX1_comes_9 22 rfl rfl)
theorem dX1_comes_231 : decode cX1_comes 231 = .ok (.iconst 0, 1) := dk_3 (dk_at dksX1_comes_9 23 rfl rfl)
theorem dX1_comes_232 : decode cX1_comes 232 = .ok (.iaload, 1) := dk_46 (dk_at dksX1_comes_10 0 rfl rfl)
theorem dX1_comes_233 : decode cX1_comes 233 = .ok (.aload_n 2, 1) := dk_44 (dk_at dksX1_comes_10 1 rfl rfl)
theorem dX1_comes_234 : decode cX1_comes 234 = .ok (.iconst 1, 1) := dk_4 (dk_at dksX1_comes_10 2 rfl rfl)
theorem dX1_comes_235 : decode cX1_comes 235 = .ok (.iaload, 1) := dk_46 (dk_at dksX1_comes_10 3 rfl rfl)
theorem dX1_comes_236 : decode cX1_comes 236 = .ok (.aload_n 2, 1) := dk_44 (dk_at dksX1_comes_10 4 rfl rfl)
theorem dX1_comes_237 : decode cX1_comes 237 = .ok (.iconst 2, 1) := dk_5 (dk_at dksX1_comes_10 5 rfl rfl)
theorem dX1_comes_238 : decode cX1_comes 238 = .ok (.iaload, 1) := dk_46 (dk_at dksX1_comes_10 6 rfl rfl)
theorem dX1_comes_239 : decode cX1_comes 239 = .ok (.aload_n 2, 1) := dk_44 (dk_at dksX1_comes_10 7 rfl rfl)
theorem dX1_comes_240 : decode cX1_comes 240 = .ok (.iconst 3, 1) := dk_6 (dk_at dksX1_comes_10 8 rfl rfl)
theorem dX1_comes_241 : decode cX1_comes 241 = .ok (.iaload, 1) := dk_46 (dk_at dksX1_comes_10 9 rfl rfl)
theorem dX1_comes_242 : decode cX1_comes 242 = .ok (.aload_n 2, 1) := dk_44 (dk_at dksX1_comes_10 10 rfl rfl)
theorem dX1_comes_243 : decode cX1_comes 243 = .ok (.iconst 4, 1) := dk_7 (dk_at dksX1_comes_10 11 rfl rfl)
theorem dX1_comes_244 : decode cX1_comes 244 = .ok (.iaload, 1) := dk_46 (dk_at dksX1_comes_10 12 rfl rfl)
theorem dX1_comes_245 : decode cX1_comes 245 = .ok (.invokevirtual 88, 3) := dk_182 0 88 (dk_at dksX1_comes_10 13 rfl rfl)
theorem dX1_comes_248 : decode cX1_comes 248 = .ok (.pop, 1) := dk_87 (dk_at dksX1_comes_10 16 rfl rfl)
theorem dX1_comes_249 : decode cX1_comes 249 = .ok (.iconst 1, 1) := dk_4 (dk_at dksX1_comes_10 17 rfl rfl)
theorem dX1_comes_250 : decode cX1_comes 250 = .ok (.ireturn, 1) := dk_172 (dk_at dksX1_comes_10 18 rfl rfl)
abbrev cX1_isSize : ByteArray := prog_1_method_5_code
def yX1_isSize : MethodName := ⟨RX1, "isSize", "(I)Z"⟩
def dkwX1_isSize_0 : List UInt8 := [26, 4, 16, 24, 184, 0, 30, 172]
abbrev dktX1_isSize_0 : List UInt8 := dkwX1_isSize_0 ++ []
theorem dksX1_isSize_0 : cX1_isSize.data.toList.drop 0 = dktX1_isSize_0 := by decide +kernel
theorem dX1_isSize_0 : decode cX1_isSize 0 = .ok (.iload_n 0, 1) := dk_26 (dk_at dksX1_isSize_0 0 rfl rfl)
theorem dX1_isSize_1 : decode cX1_isSize 1 = .ok (.iconst 1, 1) := dk_4 (dk_at dksX1_isSize_0 1 rfl rfl)
theorem dX1_isSize_2 : decode cX1_isSize 2 = .ok (.bipush 24, 2) := dk_16 24 (dk_at dksX1_isSize_0 2 rfl rfl)
theorem dX1_isSize_4 : decode cX1_isSize 4 = .ok (.invokestatic 30, 3) := dk_184 0 30 (dk_at dksX1_isSize_0 4 rfl rfl)
theorem dX1_isSize_7 : decode cX1_isSize 7 = .ok (.ireturn, 1) := dk_172 (dk_at dksX1_isSize_0 7 rfl rfl)
abbrev cX1_isSixty : ByteArray := prog_1_method_6_code
def yX1_isSixty : MethodName := ⟨RX1, "isSixty", "(I)Z"⟩
def dkwX1_isSixty_0 : List UInt8 := [26, 3, 16, 60, 184, 0, 30, 172]
abbrev dktX1_isSixty_0 : List UInt8 := dkwX1_isSixty_0 ++ []
theorem dksX1_isSixty_0 : cX1_isSixty.data.toList.drop 0 = dktX1_isSixty_0 := by decide +kernel
theorem dX1_isSixty_0 : decode cX1_isSixty 0 = .ok (.iload_n 0, 1) := dk_26 (dk_at dksX1_isSixty_0 0 rfl rfl)
theorem dX1_isSixty_1 : decode cX1_isSixty 1 = .ok (.iconst 0, 1) := dk_3 (dk_at dksX1_isSixty_0 1 rfl rfl)
theorem dX1_isSixty_2 : decode cX1_isSixty 2 = .ok (.bipush 60, 2) := dk_16 60 (dk_at dksX1_isSixty_0 2 rfl rfl)
theorem dX1_isSixty_4 : decode cX1_isSixty 4 = .ok (.invokestatic 30, 3) := dk_184 0 30 (dk_at dksX1_isSixty_0 4 rfl rfl)
theorem dX1_isSixty_7 : decode cX1_isSixty 7 = .ok (.ireturn, 1) := dk_172 (dk_at dksX1_isSixty_0 7 rfl rfl)
abbrev cX1_blowOf : ByteArray := prog_1_method_3_code
def yX1_blowOf : MethodName := ⟨RX1, "blowOf", "(II)LBladeBetweenThumbs$Blow;"⟩
def dkwX1_blowOf_5 : List UInt8 := [183, 0, 27, 176]
abbrev dktX1_blowOf_5 : List UInt8 := dkwX1_blowOf_5 ++ []
def dkwX1_blowOf_4 : List UInt8 := [187, 0, 19, 89, 27, 183, 0, 21, 176, 187, 0, 22, 89, 27, 183, 0, 24, 176, 187, 0, 25, 89, 27]
abbrev dktX1_blowOf_4 : List UInt8 := dkwX1_blowOf_4 ++ dktX1_blowOf_5
def dkwX1_blowOf_3 : List UInt8 := [183, 0, 12, 176, 187, 0, 13, 89, 27, 183, 0, 15, 176, 187, 0, 16, 89, 27, 183, 0, 18, 176]
abbrev dktX1_blowOf_3 : List UInt8 := dkwX1_blowOf_3 ++ dktX1_blowOf_4
def dkwX1_blowOf_2 : List UInt8 := [187, 0, 1, 89, 27, 183, 0, 3, 176, 187, 0, 7, 89, 27, 183, 0, 9, 176, 187, 0, 10, 89, 27]
abbrev dktX1_blowOf_2 : List UInt8 := dkwX1_blowOf_2 ++ dktX1_blowOf_3
def dkwX1_blowOf_1 : List UInt8 := [170, 0, 0, 0, 0, 0, 106, 0, 0, 0, 0, 0, 0, 0, 6, 0, 0, 0, 43, 0, 0, 0, 52, 0, 0, 0, 61, 0, 0, 0, 70, 0, 0, 0, 79, 0, 0, 0, 88, 0, 0, 0, 97]
abbrev dktX1_blowOf_1 : List UInt8 := dkwX1_blowOf_1 ++ dktX1_blowOf_2
def dkwX1_blowOf_0 : List UInt8 := [26]
abbrev dktX1_blowOf_0 : List UInt8 := dkwX1_blowOf_0 ++ dktX1_blowOf_1
theorem dksX1_blowOf_0 : cX1_blowOf.data.toList.drop 0 = dktX1_blowOf_0 := by decide +kernel
theorem dksX1_blowOf_1 : cX1_blowOf.data.toList.drop 1 = dktX1_blowOf_1 := dk_seg dksX1_blowOf_0 1 rfl rfl
theorem dksX1_blowOf_2 : cX1_blowOf.data.toList.drop 44 = dktX1_blowOf_2 := dk_seg dksX1_blowOf_1 43 rfl rfl
theorem dksX1_blowOf_3 : cX1_blowOf.data.toList.drop 67 = dktX1_blowOf_3 := dk_seg dksX1_blowOf_2 23 rfl rfl
theorem dksX1_blowOf_4 : cX1_blowOf.data.toList.drop 89 = dktX1_blowOf_4 := dk_seg dksX1_blowOf_3 22 rfl rfl
theorem dksX1_blowOf_5 : cX1_blowOf.data.toList.drop 112 = dktX1_blowOf_5 := dk_seg dksX1_blowOf_4 23 rfl rfl
theorem dX1_blowOf_0 : decode cX1_blowOf 0 = .ok (.iload_n 0, 1) := dk_26 (dk_at dksX1_blowOf_0 0 rfl rfl)
theorem dX1_blowOf_1 : decode cX1_blowOf 1 = .ok (.tableswitch 106 0 6 #[43, 52, 61, 70, 79, 88, 97], 43) := by decide +kernel
theorem dX1_blowOf_44 : decode cX1_blowOf 44 = .ok (.new 1, 3) := dk_187 0 1 (dk_at dksX1_blowOf_2 0 rfl rfl)
theorem dX1_blowOf_47 : decode cX1_blowOf 47 = .ok (.dup, 1) := dk_89 (dk_at dksX1_blowOf_2 3 rfl rfl)
theorem dX1_blowOf_48 : decode cX1_blowOf 48 = .ok (.iload_n 1, 1) := dk_27 (dk_at dksX1_blowOf_2 4 rfl rfl)
theorem dX1_blowOf_49 : decode cX1_blowOf 49 = .ok (.invokespecial 3, 3) := dk_183 0 3 (dk_at dksX1_blowOf_2 5 rfl rfl)
theorem dX1_blowOf_52 : decode cX1_blowOf 52 = .ok (.areturn, 1) := dk_176 (dk_at dksX1_blowOf_2 8 rfl rfl)
theorem dX1_blowOf_53 : decode cX1_blowOf 53 = .ok (.new 7, 3) := dk_187 0 7 (dk_at dksX1_blowOf_2 9 rfl rfl)
theorem dX1_blowOf_56 : decode cX1_blowOf 56 = .ok (.dup, 1) := dk_89 (dk_at dksX1_blowOf_2 12 rfl rfl)
theorem dX1_blowOf_57 : decode cX1_blowOf 57 = .ok (.iload_n 1, 1) := dk_27 (dk_at dksX1_blowOf_2 13 rfl rfl)
theorem dX1_blowOf_58 : decode cX1_blowOf 58 = .ok (.invokespecial 9, 3) := dk_183 0 9 (dk_at dksX1_blowOf_2 14 rfl rfl)
theorem dX1_blowOf_61 : decode cX1_blowOf 61 = .ok (.areturn, 1) := dk_176 (dk_at dksX1_blowOf_2 17 rfl rfl)
theorem dX1_blowOf_62 : decode cX1_blowOf 62 = .ok (.new 10, 3) := dk_187 0 10 (dk_at dksX1_blowOf_2 18 rfl rfl)
theorem dX1_blowOf_65 : decode cX1_blowOf 65 = .ok (.dup, 1) := dk_89 (dk_at dksX1_blowOf_2 21 rfl rfl)
theorem dX1_blowOf_66 : decode cX1_blowOf 66 = .ok (.iload_n 1, 1) := dk_27 (dk_at dksX1_blowOf_2 22 rfl rfl)
theorem dX1_blowOf_67 : decode cX1_blowOf 67 = .ok (.invokespecial 12, 3) := dk_183 0 12 (dk_at dksX1_blowOf_3 0 rfl rfl)
theorem dX1_blowOf_70 : decode cX1_blowOf 70 = .ok (.areturn, 1) := dk_176 (dk_at dksX1_blowOf_3 3 rfl rfl)
theorem dX1_blowOf_71 : decode cX1_blowOf 71 = .ok (.new 13, 3) := dk_187 0 13 (dk_at dksX1_blowOf_3 4 rfl rfl)
theorem dX1_blowOf_74 : decode cX1_blowOf 74 = .ok (.dup, 1) := dk_89 (dk_at dksX1_blowOf_3 7 rfl rfl)
theorem dX1_blowOf_75 : decode cX1_blowOf 75 = .ok (.iload_n 1, 1) := dk_27 (dk_at dksX1_blowOf_3 8 rfl rfl)
theorem dX1_blowOf_76 : decode cX1_blowOf 76 = .ok (.invokespecial 15, 3) := dk_183 0 15 (dk_at dksX1_blowOf_3 9 rfl rfl)
theorem dX1_blowOf_79 : decode cX1_blowOf 79 = .ok (.areturn, 1) := dk_176 (dk_at dksX1_blowOf_3 12 rfl rfl)
theorem dX1_blowOf_80 : decode cX1_blowOf 80 = .ok (.new 16, 3) := dk_187 0 16 (dk_at dksX1_blowOf_3 13 rfl rfl)
theorem dX1_blowOf_83 : decode cX1_blowOf 83 = .ok (.dup, 1) := dk_89 (dk_at dksX1_blowOf_3 16 rfl rfl)
theorem dX1_blowOf_84 : decode cX1_blowOf 84 = .ok (.iload_n 1, 1) := dk_27 (dk_at dksX1_blowOf_3 17 rfl rfl)
theorem dX1_blowOf_85 : decode cX1_blowOf 85 = .ok (.invokespecial 18, 3) := dk_183 0 18 (dk_at dksX1_blowOf_3 18 rfl rfl)
theorem dX1_blowOf_88 : decode cX1_blowOf 88 = .ok (.areturn, 1) := dk_176 (dk_at dksX1_blowOf_3 21 rfl rfl)
theorem dX1_blowOf_89 : decode cX1_blowOf 89 = .ok (.new 19, 3) := dk_187 0 19 (dk_at dksX1_blowOf_4 0 rfl rfl)
theorem dX1_blowOf_92 : decode cX1_blowOf 92 = .ok (.dup, 1) := dk_89 (dk_at dksX1_blowOf_4 3 rfl rfl)
theorem dX1_blowOf_93 : decode cX1_blowOf 93 = .ok (.iload_n 1, 1) := dk_27 (dk_at dksX1_blowOf_4 4 rfl rfl)
theorem dX1_blowOf_94 : decode cX1_blowOf 94 = .ok (.invokespecial 21, 3) := dk_183 0 21 (dk_at dksX1_blowOf_4 5 rfl rfl)
theorem dX1_blowOf_97 : decode cX1_blowOf 97 = .ok (.areturn, 1) := dk_176 (dk_at dksX1_blowOf_4 8 rfl rfl)
theorem dX1_blowOf_98 : decode cX1_blowOf 98 = .ok (.new 22, 3) := dk_187 0 22 (dk_at dksX1_blowOf_4 9 rfl rfl)
theorem dX1_blowOf_101 : decode cX1_blowOf 101 = .ok (.dup, 1) := dk_89 (dk_at dksX1_blowOf_4 12 rfl rfl)
theorem dX1_blowOf_102 : decode cX1_blowOf 102 = .ok (.iload_n 1, 1) := dk_27 (dk_at dksX1_blowOf_4 13 rfl rfl)
theorem dX1_blowOf_103 : decode cX1_blowOf 103 = .ok (.invokespecial 24, 3) := dk_183 0 24 (dk_at dksX1_blowOf_4 14 rfl rfl)
theorem dX1_blowOf_106 : decode cX1_blowOf 106 = .ok (.areturn, 1) := dk_176 (dk_at dksX1_blowOf_4 17 rfl rfl)
theorem dX1_blowOf_107 : decode cX1_blowOf 107 = .ok (.new 25, 3) := dk_187 0 25 (dk_at dksX1_blowOf_4 18 rfl rfl)
theorem dX1_blowOf_110 : decode cX1_blowOf 110 = .ok (.dup, 1) := dk_89 (dk_at dksX1_blowOf_4 21 rfl rfl)
theorem dX1_blowOf_111 : decode cX1_blowOf 111 = .ok (.iload_n 1, 1) := dk_27 (dk_at dksX1_blowOf_4 22 rfl rfl)
theorem dX1_blowOf_112 : decode cX1_blowOf 112 = .ok (.invokespecial 27, 3) := dk_183 0 27 (dk_at dksX1_blowOf_5 0 rfl rfl)
theorem dX1_blowOf_115 : decode cX1_blowOf 115 = .ok (.areturn, 1) := dk_176 (dk_at dksX1_blowOf_5 3 rfl rfl)
abbrev cX1_blade : ByteArray := prog_1_method_10_code
def yX1_blade : MethodName := ⟨RX1, "blade", "(II)I"⟩
def dkwX1_blade_4 : List UInt8 := [153, 0, 7, 4, 167, 0, 4, 3, 172, 2, 172]
abbrev dktX1_blade_4 : List UInt8 := dkwX1_blade_4 ++ []
def dkwX1_blade_3 : List UInt8 := [180, 0, 154, 27, 46, 172, 42, 180, 0, 105, 180, 0, 157, 27, 46, 172, 42, 180, 0, 105, 27, 182, 0, 85]
abbrev dktX1_blade_3 : List UInt8 := dkwX1_blade_3 ++ dktX1_blade_4
def dkwX1_blade_2 : List UInt8 := [42, 180, 0, 105, 180, 0, 148, 27, 46, 172, 42, 180, 0, 105, 180, 0, 151, 27, 46, 172, 42, 180, 0, 105]
abbrev dktX1_blade_2 : List UInt8 := dkwX1_blade_2 ++ dktX1_blade_3
def dkwX1_blade_1 : List UInt8 := [170, 0, 0, 0, 0, 91, 0, 0, 0, 0, 0, 0, 0, 4, 0, 0, 0, 34, 0, 0, 0, 44, 0, 0, 0, 54, 0, 0, 0, 64, 0, 0, 0, 74]
abbrev dktX1_blade_1 : List UInt8 := dkwX1_blade_1 ++ dktX1_blade_2
def dkwX1_blade_0 : List UInt8 := [42, 180, 0, 105, 27, 182, 0, 145, 154, 0, 5, 2, 172, 28]
abbrev dktX1_blade_0 : List UInt8 := dkwX1_blade_0 ++ dktX1_blade_1
theorem dksX1_blade_0 : cX1_blade.data.toList.drop 0 = dktX1_blade_0 := by decide +kernel
theorem dksX1_blade_1 : cX1_blade.data.toList.drop 14 = dktX1_blade_1 := dk_seg dksX1_blade_0 14 rfl rfl
theorem dksX1_blade_2 : cX1_blade.data.toList.drop 48 = dktX1_blade_2 := dk_seg dksX1_blade_1 34 rfl rfl
theorem dksX1_blade_3 : cX1_blade.data.toList.drop 72 = dktX1_blade_3 := dk_seg dksX1_blade_2 24 rfl rfl
theorem dksX1_blade_4 : cX1_blade.data.toList.drop 96 = dktX1_blade_4 := dk_seg dksX1_blade_3 24 rfl rfl
theorem dX1_blade_0 : decode cX1_blade 0 = .ok (.aload_n 0, 1) := dk_42 (dk_at dksX1_blade_0 0 rfl rfl)
theorem dX1_blade_1 : decode cX1_blade 1 = .ok (.getfield 105, 3) := dk_180 0 105 (dk_at dksX1_blade_0 1 rfl rfl)
theorem dX1_blade_4 : decode cX1_blade 4 = .ok (.iload_n 1, 1) := dk_27 (dk_at dksX1_blade_0 4 rfl rfl)
theorem dX1_blade_5 : decode cX1_blade 5 = .ok (.invokevirtual 145, 3) := dk_182 0 145 (dk_at dksX1_blade_0 5 rfl rfl)
theorem dX1_blade_8 : decode cX1_blade 8 = .ok (.ifCond .ne 5, 3) := dk_154 0 5 (dk_at dksX1_blade_0 8 rfl rfl)
theorem dX1_blade_11 : decode cX1_blade 11 = .ok (.iconst (-1), 1) := dk_2 (dk_at dksX1_blade_0 11 rfl rfl)
theorem dX1_blade_12 : decode cX1_blade 12 = .ok (.ireturn, 1) := dk_172 (dk_at dksX1_blade_0 12 rfl rfl)
theorem dX1_blade_13 : decode cX1_blade 13 = .ok (.iload_n 2, 1) := dk_28 (dk_at dksX1_blade_0 13 rfl rfl)
theorem dX1_blade_14 : decode cX1_blade 14 = .ok (.tableswitch 91 0 4 #[34, 44, 54, 64, 74], 34) := by decide +kernel
theorem dX1_blade_48 : decode cX1_blade 48 = .ok (.aload_n 0, 1) := dk_42 (dk_at dksX1_blade_2 0 rfl rfl)
theorem dX1_blade_49 : decode cX1_blade 49 = .ok (.getfield 105, 3) := dk_180 0 105 (dk_at dksX1_blade_2 1 rfl rfl)
theorem dX1_blade_52 : decode cX1_blade 52 = .ok (.getfield 148, 3) := dk_180 0 148 (dk_at dksX1_blade_2 4 rfl rfl)
theorem dX1_blade_55 : decode cX1_blade 55 = .ok (.iload_n 1, 1) := dk_27 (dk_at dksX1_blade_2 7 rfl rfl)
theorem dX1_blade_56 : decode cX1_blade 56 = .ok (.iaload, 1) := dk_46 (dk_at dksX1_blade_2 8 rfl rfl)
theorem dX1_blade_57 : decode cX1_blade 57 = .ok (.ireturn, 1) := dk_172 (dk_at dksX1_blade_2 9 rfl rfl)
theorem dX1_blade_58 : decode cX1_blade 58 = .ok (.aload_n 0, 1) := dk_42 (dk_at dksX1_blade_2 10 rfl rfl)
theorem dX1_blade_59 : decode cX1_blade 59 = .ok (.getfield 105, 3) := dk_180 0 105 (dk_at dksX1_blade_2 11 rfl rfl)
theorem dX1_blade_62 : decode cX1_blade 62 = .ok (.getfield 151, 3) := dk_180 0 151 (dk_at dksX1_blade_2 14 rfl rfl)
theorem dX1_blade_65 : decode cX1_blade 65 = .ok (.iload_n 1, 1) := dk_27 (dk_at dksX1_blade_2 17 rfl rfl)
theorem dX1_blade_66 : decode cX1_blade 66 = .ok (.iaload, 1) := dk_46 (dk_at dksX1_blade_2 18 rfl rfl)
theorem dX1_blade_67 : decode cX1_blade 67 = .ok (.ireturn, 1) := dk_172 (dk_at dksX1_blade_2 19 rfl rfl)
theorem dX1_blade_68 : decode cX1_blade 68 = .ok (.aload_n 0, 1) := dk_42 (dk_at dksX1_blade_2 20 rfl rfl)
theorem dX1_blade_69 : decode cX1_blade 69 = .ok (.getfield 105, 3) := dk_180 0 105 (dk_at dksX1_blade_2 21 rfl rfl)
theorem dX1_blade_72 : decode cX1_blade 72 = .ok (.getfield 154, 3) := dk_180 0 154 (dk_at dksX1_blade_3 0 rfl rfl)
theorem dX1_blade_75 : decode cX1_blade 75 = .ok (.iload_n 1, 1) := dk_27 (dk_at dksX1_blade_3 3 rfl rfl)
theorem dX1_blade_76 : decode cX1_blade 76 = .ok (.iaload, 1) := dk_46 (dk_at dksX1_blade_3 4 rfl rfl)
theorem dX1_blade_77 : decode cX1_blade 77 = .ok (.ireturn, 1) := dk_172 (dk_at dksX1_blade_3 5 rfl rfl)
theorem dX1_blade_78 : decode cX1_blade 78 = .ok (.aload_n 0, 1) := dk_42 (dk_at dksX1_blade_3 6 rfl rfl)
theorem dX1_blade_79 : decode cX1_blade 79 = .ok (.getfield 105, 3) := dk_180 0 105 (dk_at dksX1_blade_3 7 rfl rfl)
theorem dX1_blade_82 : decode cX1_blade 82 = .ok (.getfield 157, 3) := dk_180 0 157 (dk_at dksX1_blade_3 10 rfl rfl)
theorem dX1_blade_85 : decode cX1_blade 85 = .ok (.iload_n 1, 1) := dk_27 (dk_at dksX1_blade_3 13 rfl rfl)
theorem dX1_blade_86 : decode cX1_blade 86 = .ok (.iaload, 1) := dk_46 (dk_at dksX1_blade_3 14 rfl rfl)
theorem dX1_blade_87 : decode cX1_blade 87 = .ok (.ireturn, 1) := dk_172 (dk_at dksX1_blade_3 15 rfl rfl)
theorem dX1_blade_88 : decode cX1_blade 88 = .ok (.aload_n 0, 1) := dk_42 (dk_at dksX1_blade_3 16 rfl rfl)
theorem dX1_blade_89 : decode cX1_blade 89 = .ok (.getfield 105, 3) := dk_180 0 105 (dk_at dksX1_blade_3 17 rfl rfl)
theorem dX1_blade_92 : decode cX1_blade 92 = .ok (.iload_n 1, 1) := dk_27 (dk_at dksX1_blade_3 20 rfl rfl)
theorem dX1_blade_93 : decode cX1_blade 93 = .ok (.invokevirtual 85, 3) := dk_182 0 85 (dk_at dksX1_blade_3 21 rfl rfl)
theorem dX1_blade_96 : decode cX1_blade 96 = .ok (.ifCond .eq 7, 3) := dk_153 0 7 (dk_at dksX1_blade_4 0 rfl rfl)
theorem dX1_blade_99 : decode cX1_blade 99 = .ok (.iconst 1, 1) := dk_4 (dk_at dksX1_blade_4 3 rfl rfl)
theorem dX1_blade_100 : decode cX1_blade 100 = .ok (.goto 4, 3) := dk_167 0 4 (dk_at dksX1_blade_4 4 rfl rfl)
theorem dX1_blade_103 : decode cX1_blade 103 = .ok (.iconst 0, 1) := dk_3 (dk_at dksX1_blade_4 7 rfl rfl)
theorem dX1_blade_104 : decode cX1_blade 104 = .ok (.ireturn, 1) := dk_172 (dk_at dksX1_blade_4 8 rfl rfl)
theorem dX1_blade_105 : decode cX1_blade 105 = .ok (.iconst (-1), 1) := dk_2 (dk_at dksX1_blade_4 9 rfl rfl)
theorem dX1_blade_106 : decode cX1_blade 106 = .ok (.ireturn, 1) := dk_172 (dk_at dksX1_blade_4 10 rfl rfl)
abbrev cX1_thumbs : ByteArray := prog_1_method_11_code
def yX1_thumbs : MethodName := ⟨RX1, "thumbs", "(II)I"⟩
def dkwX1_thumbs_2 : List UInt8 := [172]
abbrev dktX1_thumbs_2 : List UInt8 := dkwX1_thumbs_2 ++ []
def dkwX1_thumbs_1 : List UInt8 := [154, 0, 15, 42, 180, 0, 105, 180, 0, 163, 27, 46, 167, 0, 12, 42, 180, 0, 105, 180, 0, 166, 27, 46]
abbrev dktX1_thumbs_1 : List UInt8 := dkwX1_thumbs_1 ++ dktX1_thumbs_2
def dkwX1_thumbs_0 : List UInt8 := [42, 180, 0, 105, 27, 182, 0, 160, 153, 0, 12, 28, 3, 4, 184, 0, 30, 154, 0, 5, 2, 172, 28]
abbrev dktX1_thumbs_0 : List UInt8 := dkwX1_thumbs_0 ++ dktX1_thumbs_1
theorem dksX1_thumbs_0 : cX1_thumbs.data.toList.drop 0 = dktX1_thumbs_0 := by decide +kernel
theorem dksX1_thumbs_1 : cX1_thumbs.data.toList.drop 23 = dktX1_thumbs_1 := dk_seg dksX1_thumbs_0 23 rfl rfl
theorem dksX1_thumbs_2 : cX1_thumbs.data.toList.drop 47 = dktX1_thumbs_2 := dk_seg dksX1_thumbs_1 24 rfl rfl
theorem dX1_thumbs_0 : decode cX1_thumbs 0 = .ok (.aload_n 0, 1) := dk_42 (dk_at dksX1_thumbs_0 0 rfl rfl)
theorem dX1_thumbs_1 : decode cX1_thumbs 1 = .ok (.getfield 105, 3) := dk_180 0 105 (dk_at dksX1_thumbs_0 1 rfl rfl)
theorem dX1_thumbs_4 : decode cX1_thumbs 4 = .ok (.iload_n 1, 1) := dk_27 (dk_at dksX1_thumbs_0 4 rfl rfl)
theorem dX1_thumbs_5 : decode cX1_thumbs 5 = .ok (.invokevirtual 160, 3) := dk_182 0 160 (dk_at dksX1_thumbs_0 5 rfl rfl)
theorem dX1_thumbs_8 : decode cX1_thumbs 8 = .ok (.ifCond .eq 12, 3) := dk_153 0 12 (dk_at dksX1_thumbs_0 8 rfl rfl)
theorem dX1_thumbs_11 : decode cX1_thumbs 11 = .ok (.iload_n 2, 1) := dk_28 (dk_at dksX1_thumbs_0 11 rfl rfl)
theorem dX1_thumbs_12 : decode cX1_thumbs 12 = .ok (.iconst 0, 1) := dk_3 (dk_at dksX1_thumbs_0 12 rfl rfl)
theorem dX1_thumbs_13 : decode cX1_thumbs 13 = .ok (.iconst 1, 1) := dk_4 (dk_at dksX1_thumbs_0 13 rfl rfl)
theorem dX1_thumbs_14 : decode cX1_thumbs 14 = .ok (.invokestatic 30, 3) := dk_184 0 30 (dk_at dksX1_thumbs_0 14 rfl rfl)
theorem dX1_thumbs_17 : decode cX1_thumbs 17 = .ok (.ifCond .ne 5, 3) := dk_154 0 5 (dk_at dksX1_thumbs_0 17 rfl rfl)
theorem dX1_thumbs_20 : decode cX1_thumbs 20 = .ok (.iconst (-1), 1) := dk_2 (dk_at dksX1_thumbs_0 20 rfl rfl)
theorem dX1_thumbs_21 : decode cX1_thumbs 21 = .ok (.ireturn, 1) := dk_172 (dk_at dksX1_thumbs_0 21 rfl rfl)
theorem dX1_thumbs_22 : decode cX1_thumbs 22 = .ok (.iload_n 2, 1) := dk_28 (dk_at dksX1_thumbs_0 22 rfl rfl)
theorem dX1_thumbs_23 : decode cX1_thumbs 23 = .ok (.ifCond .ne 15, 3) := dk_154 0 15 (dk_at dksX1_thumbs_1 0 rfl rfl)
theorem dX1_thumbs_26 : decode cX1_thumbs 26 = .ok (.aload_n 0, 1) := dk_42 (dk_at dksX1_thumbs_1 3 rfl rfl)
theorem dX1_thumbs_27 : decode cX1_thumbs 27 = .ok (.getfield 105, 3) := dk_180 0 105 (dk_at dksX1_thumbs_1 4 rfl rfl)
theorem dX1_thumbs_30 : decode cX1_thumbs 30 = .ok (.getfield 163, 3) := dk_180 0 163 (dk_at dksX1_thumbs_1 7 rfl rfl)
theorem dX1_thumbs_33 : decode cX1_thumbs 33 = .ok (.iload_n 1, 1) := dk_27 (dk_at dksX1_thumbs_1 10 rfl rfl)
theorem dX1_thumbs_34 : decode cX1_thumbs 34 = .ok (.iaload, 1) := dk_46 (dk_at dksX1_thumbs_1 11 rfl rfl)
theorem dX1_thumbs_35 : decode cX1_thumbs 35 = .ok (.goto 12, 3) := dk_167 0 12 (dk_at dksX1_thumbs_1 12 rfl rfl)
theorem dX1_thumbs_38 : decode cX1_thumbs 38 = .ok (.aload_n 0, 1) := dk_42 (dk_at dksX1_thumbs_1 15 rfl rfl)
theorem dX1_thumbs_39 : decode cX1_thumbs 39 = .ok (.getfield 105, 3) := dk_180 0 105 (dk_at dksX1_thumbs_1 16 rfl rfl)
theorem dX1_thumbs_42 : decode cX1_thumbs 42 = .ok (.getfield 166, 3) := dk_180 0 166 (dk_at dksX1_thumbs_1 19 rfl rfl)
theorem dX1_thumbs_45 : decode cX1_thumbs 45 = .ok (.iload_n 1, 1) := dk_27 (dk_at dksX1_thumbs_1 22 rfl rfl)
theorem dX1_thumbs_46 : decode cX1_thumbs 46 = .ok (.iaload, 1) := dk_46 (dk_at dksX1_thumbs_1 23 rfl rfl)
theorem dX1_thumbs_47 : decode cX1_thumbs 47 = .ok (.ireturn, 1) := dk_172 (dk_at dksX1_thumbs_2 0 rfl rfl)
abbrev cX1_blow : ByteArray := prog_1_method_12_code
def yX1_blow : MethodName := ⟨RX1, "blow", "(II)I"⟩
def dkwX1_blow_3 : List UInt8 := [16, 30, 182, 0, 183, 172]
abbrev dktX1_blow_3 : List UInt8 := dkwX1_blow_3 ++ []
def dkwX1_blow_2 : List UInt8 := [180, 0, 105, 180, 0, 172, 27, 50, 180, 0, 180, 167, 0, 17, 42, 180, 0, 105, 180, 0, 172, 27, 50]
abbrev dktX1_blow_2 : List UInt8 := dkwX1_blow_2 ++ dktX1_blow_3
def dkwX1_blow_1 : List UInt8 := [154, 0, 18, 42, 180, 0, 105, 180, 0, 172, 27, 50, 182, 0, 176, 167, 0, 37, 28, 4, 160, 0, 18, 42]
abbrev dktX1_blow_1 : List UInt8 := dkwX1_blow_1 ++ dktX1_blow_2
def dkwX1_blow_0 : List UInt8 := [42, 180, 0, 105, 27, 182, 0, 169, 153, 0, 12, 28, 3, 5, 184, 0, 30, 154, 0, 5, 2, 172, 28]
abbrev dktX1_blow_0 : List UInt8 := dkwX1_blow_0 ++ dktX1_blow_1
theorem dksX1_blow_0 : cX1_blow.data.toList.drop 0 = dktX1_blow_0 := by decide +kernel
theorem dksX1_blow_1 : cX1_blow.data.toList.drop 23 = dktX1_blow_1 := dk_seg dksX1_blow_0 23 rfl rfl
theorem dksX1_blow_2 : cX1_blow.data.toList.drop 47 = dktX1_blow_2 := dk_seg dksX1_blow_1 24 rfl rfl
theorem dksX1_blow_3 : cX1_blow.data.toList.drop 70 = dktX1_blow_3 := dk_seg dksX1_blow_2 23 rfl rfl
theorem dX1_blow_0 : decode cX1_blow 0 = .ok (.aload_n 0, 1) := dk_42 (dk_at dksX1_blow_0 0 rfl rfl)
theorem dX1_blow_1 : decode cX1_blow 1 = .ok (.getfield 105, 3) := dk_180 0 105 (dk_at dksX1_blow_0 1 rfl rfl)
theorem dX1_blow_4 : decode cX1_blow 4 = .ok (.iload_n 1, 1) := dk_27 (dk_at dksX1_blow_0 4 rfl rfl)
theorem dX1_blow_5 : decode cX1_blow 5 = .ok (.invokevirtual 169, 3) := dk_182 0 169 (dk_at dksX1_blow_0 5 rfl rfl)
theorem dX1_blow_8 : decode cX1_blow 8 = .ok (.ifCond .eq 12, 3) := dk_153 0 12 (dk_at dksX1_blow_0 8 rfl rfl)
theorem dX1_blow_11 : decode cX1_blow 11 = .ok (.iload_n 2, 1) := dk_28 (dk_at dksX1_blow_0 11 rfl rfl)
theorem dX1_blow_12 : decode cX1_blow 12 = .ok (.iconst 0, 1) := dk_3 (dk_at dksX1_blow_0 12 rfl rfl)
theorem dX1_blow_13 : decode cX1_blow 13 = .ok (.iconst 2, 1) := dk_5 (dk_at dksX1_blow_0 13 rfl rfl)
theorem dX1_blow_14 : decode cX1_blow 14 = .ok (.invokestatic 30, 3) := dk_184 0 30 (dk_at dksX1_blow_0 14 rfl rfl)
theorem dX1_blow_17 : decode cX1_blow 17 = .ok (.ifCond .ne 5, 3) := dk_154 0 5 (dk_at dksX1_blow_0 17 rfl rfl)
theorem dX1_blow_20 : decode cX1_blow 20 = .ok (.iconst (-1), 1) := dk_2 (dk_at dksX1_blow_0 20 rfl rfl)
theorem dX1_blow_21 : decode cX1_blow 21 = .ok (.ireturn, 1) := dk_172 (dk_at dksX1_blow_0 21 rfl rfl)
theorem dX1_blow_22 : decode cX1_blow 22 = .ok (.iload_n 2, 1) := dk_28 (dk_at dksX1_blow_0 22 rfl rfl)
theorem dX1_blow_23 : decode cX1_blow 23 = .ok (.ifCond .ne 18, 3) := dk_154 0 18 (dk_at dksX1_blow_1 0 rfl rfl)
theorem dX1_blow_26 : decode cX1_blow 26 = .ok (.aload_n 0, 1) := dk_42 (dk_at dksX1_blow_1 3 rfl rfl)
theorem dX1_blow_27 : decode cX1_blow 27 = .ok (.getfield 105, 3) := dk_180 0 105 (dk_at dksX1_blow_1 4 rfl rfl)
theorem dX1_blow_30 : decode cX1_blow 30 = .ok (.getfield 172, 3) := dk_180 0 172 (dk_at dksX1_blow_1 7 rfl rfl)
theorem dX1_blow_33 : decode cX1_blow 33 = .ok (.iload_n 1, 1) := dk_27 (dk_at dksX1_blow_1 10 rfl rfl)
theorem dX1_blow_34 : decode cX1_blow 34 = .ok (.aaload, 1) := dk_50 (dk_at dksX1_blow_1 11 rfl rfl)
theorem dX1_blow_35 : decode cX1_blow 35 = .ok (.invokevirtual 176, 3) := dk_182 0 176 (dk_at dksX1_blow_1 12 rfl rfl)
theorem dX1_blow_38 : decode cX1_blow 38 = .ok (.goto 37, 3) := dk_167 0 37 (dk_at dksX1_blow_1 15 rfl rfl)
theorem dX1_blow_41 : decode cX1_blow 41 = .ok (.iload_n 2, 1) := dk_28 (dk_at dksX1_blow_1 18 rfl rfl)
theorem dX1_blow_42 : decode cX1_blow 42 = .ok (.iconst 1, 1) := dk_4 (dk_at dksX1_blow_1 19 rfl rfl)
theorem dX1_blow_43 : decode cX1_blow 43 = .ok (.if_icmp .ne 18, 3) := dk_160 0 18 (dk_at dksX1_blow_1 20 rfl rfl)
theorem dX1_blow_46 : decode cX1_blow 46 = .ok (.aload_n 0, 1) := dk_42 (dk_at dksX1_blow_1 23 rfl rfl)
theorem dX1_blow_47 : decode cX1_blow 47 = .ok (.getfield 105, 3) := dk_180 0 105 (dk_at dksX1_blow_2 0 rfl rfl)
theorem dX1_blow_50 : decode cX1_blow 50 = .ok (.getfield 172, 3) := dk_180 0 172 (dk_at dksX1_blow_2 3 rfl rfl)
theorem dX1_blow_53 : decode cX1_blow 53 = .ok (.iload_n 1, 1) := dk_27 (dk_at dksX1_blow_2 6 rfl rfl)
theorem dX1_blow_54 : decode cX1_blow 54 = .ok (.aaload, 1) := dk_50 (dk_at dksX1_blow_2 7 rfl rfl)
theorem dX1_blow_55 : decode cX1_blow 55 = .ok (.getfield 180, 3) := dk_180 0 180 (dk_at dksX1_blow_2 8 rfl rfl)
theorem dX1_blow_58 : decode cX1_blow 58 = .ok (.goto 17, 3) := dk_167 0 17 (dk_at dksX1_blow_2 11 rfl rfl)
theorem dX1_blow_61 : decode cX1_blow 61 = .ok (.aload_n 0, 1) := dk_42 (dk_at dksX1_blow_2 14 rfl rfl)
theorem dX1_blow_62 : decode cX1_blow 62 = .ok (.getfield 105, 3) := dk_180 0 105 (dk_at dksX1_blow_2 15 rfl rfl)
theorem dX1_blow_65 : decode cX1_blow 65 = .ok (.getfield 172, 3) := dk_180 0 172 (dk_at dksX1_blow_2 18 rfl rfl)
theorem dX1_blow_68 : decode cX1_blow 68 = .ok (.iload_n 1, 1) := dk_27 (dk_at dksX1_blow_2 21 rfl rfl)
theorem dX1_blow_69 : decode cX1_blow 69 = .ok (.aaload, 1) := dk_50 (dk_at dksX1_blow_2 22 rfl rfl)
theorem dX1_blow_70 : decode cX1_blow 70 = .ok (.bipush 30, 2) := dk_16 30 (dk_at dksX1_blow_3 0 rfl rfl)
theorem dX1_blow_72 : decode cX1_blow 72 = .ok (.invokevirtual 183, 3) := dk_182 0 183 (dk_at dksX1_blow_3 2 rfl rfl)
theorem dX1_blow_75 : decode cX1_blow 75 = .ok (.ireturn, 1) := dk_172 (dk_at dksX1_blow_3 5 rfl rfl)
abbrev cX1_grows : ByteArray := prog_1_method_14_code
def yX1_grows : MethodName := ⟨RX1, "grows", "(III)I"⟩
def dkwX1_grows_2 : List UInt8 := [182, 0, 57, 172]
abbrev dktX1_grows_2 : List UInt8 := dkwX1_grows_2 ++ []
def dkwX1_grows_1 : List UInt8 := [180, 0, 105, 180, 0, 52, 16, 6, 160, 0, 8, 16, 254, 167, 0, 13, 42, 180, 0, 105, 27, 28, 29]
abbrev dktX1_grows_1 : List UInt8 := dkwX1_grows_1 ++ dktX1_grows_2
def dkwX1_grows_0 : List UInt8 := [27, 184, 0, 44, 153, 0, 17, 28, 184, 0, 44, 153, 0, 10, 29, 184, 0, 187, 154, 0, 5, 2, 172, 42]
abbrev dktX1_grows_0 : List UInt8 := dkwX1_grows_0 ++ dktX1_grows_1
theorem dksX1_grows_0 : cX1_grows.data.toList.drop 0 = dktX1_grows_0 := by decide +kernel
theorem dksX1_grows_1 : cX1_grows.data.toList.drop 24 = dktX1_grows_1 := dk_seg dksX1_grows_0 24 rfl rfl
theorem dksX1_grows_2 : cX1_grows.data.toList.drop 47 = dktX1_grows_2 := dk_seg dksX1_grows_1 23 rfl rfl
theorem dX1_grows_0 : decode cX1_grows 0 = .ok (.iload_n 1, 1) := dk_27 (dk_at dksX1_grows_0 0 rfl rfl)
theorem dX1_grows_1 : decode cX1_grows 1 = .ok (.invokestatic 44, 3) := dk_184 0 44 (dk_at dksX1_grows_0 1 rfl rfl)
theorem dX1_grows_4 : decode cX1_grows 4 = .ok (.ifCond .eq 17, 3) := dk_153 0 17 (dk_at dksX1_grows_0 4 rfl rfl)
theorem dX1_grows_7 : decode cX1_grows 7 = .ok (.iload_n 2, 1) := dk_28 (dk_at dksX1_grows_0 7 rfl rfl)
theorem dX1_grows_8 : decode cX1_grows 8 = .ok (.invokestatic 44, 3) := dk_184 0 44 (dk_at dksX1_grows_0 8 rfl rfl)
theorem dX1_grows_11 : decode cX1_grows 11 = .ok (.ifCond .eq 10, 3) := dk_153 0 10 (dk_at dksX1_grows_0 11 rfl rfl)
theorem dX1_grows_14 : decode cX1_grows 14 = .ok (.iload_n 3, 1) := dk_29 (dk_at dksX1_grows_0 14 rfl rfl)
theorem dX1_grows_15 : decode cX1_grows 15 = .ok (.invokestatic 187, 3) := dk_184 0 187 (dk_at dksX1_grows_0 15 rfl rfl)
theorem dX1_grows_18 : decode cX1_grows 18 = .ok (.ifCond .ne 5, 3) := dk_154 0 5 (dk_at dksX1_grows_0 18 rfl rfl)
theorem dX1_grows_21 : decode cX1_grows 21 = .ok (.iconst (-1), 1) := dk_2 (dk_at dksX1_grows_0 21 rfl rfl)
theorem dX1_grows_22 : decode cX1_grows 22 = .ok (.ireturn, 1) := dk_172 (dk_at dksX1_grows_0 22 rfl rfl)
theorem dX1_grows_23 : decode cX1_grows 23 = .ok (.aload_n 0, 1) := dk_42 (dk_at dksX1_grows_0 23 rfl rfl)
theorem dX1_grows_24 : decode cX1_grows 24 = .ok (.getfield 105, 3) := dk_180 0 105 (dk_at dksX1_grows_1 0 rfl rfl)
theorem dX1_grows_27 : decode cX1_grows 27 = .ok (.getfield 52, 3) := dk_180 0 52 (dk_at dksX1_grows_1 3 rfl rfl)
theorem dX1_grows_30 : decode cX1_grows 30 = .ok (.bipush 6, 2) := dk_16 6 (dk_at dksX1_grows_1 6 rfl rfl)
theorem dX1_grows_32 : decode cX1_grows 32 = .ok (.if_icmp .ne 8, 3) := dk_160 0 8 (dk_at dksX1_grows_1 8 rfl rfl)
theorem dX1_grows_35 : decode cX1_grows 35 = .ok (.bipush (-2), 2) := dk_16 254 (dk_at dksX1_grows_1 11 rfl rfl)
theorem dX1_grows_37 : decode cX1_grows 37 = .ok (.goto 13, 3) := dk_167 0 13 (dk_at dksX1_grows_1 13 rfl rfl)
theorem dX1_grows_40 : decode cX1_grows 40 = .ok (.aload_n 0, 1) := dk_42 (dk_at dksX1_grows_1 16 rfl rfl)
theorem dX1_grows_41 : decode cX1_grows 41 = .ok (.getfield 105, 3) := dk_180 0 105 (dk_at dksX1_grows_1 17 rfl rfl)
theorem dX1_grows_44 : decode cX1_grows 44 = .ok (.iload_n 1, 1) := dk_27 (dk_at dksX1_grows_1 20 rfl rfl)
theorem dX1_grows_45 : decode cX1_grows 45 = .ok (.iload_n 2, 1) := dk_28 (dk_at dksX1_grows_1 21 rfl rfl)
theorem dX1_grows_46 : decode cX1_grows 46 = .ok (.iload_n 3, 1) := dk_29 (dk_at dksX1_grows_1 22 rfl rfl)
theorem dX1_grows_47 : decode cX1_grows 47 = .ok (.invokevirtual 57, 3) := dk_182 0 57 (dk_at dksX1_grows_2 0 rfl rfl)
theorem dX1_grows_50 : decode cX1_grows 50 = .ok (.ireturn, 1) := dk_172 (dk_at dksX1_grows_2 3 rfl rfl)
abbrev cX1_isNine : ByteArray := prog_1_method_13_code
def yX1_isNine : MethodName := ⟨RX1, "isNine", "(I)Z"⟩
def dkwX1_isNine_0 : List UInt8 := [26, 3, 16, 9, 184, 0, 30, 172]
abbrev dktX1_isNine_0 : List UInt8 := dkwX1_isNine_0 ++ []
theorem dksX1_isNine_0 : cX1_isNine.data.toList.drop 0 = dktX1_isNine_0 := by decide +kernel
theorem dX1_isNine_0 : decode cX1_isNine 0 = .ok (.iload_n 0, 1) := dk_26 (dk_at dksX1_isNine_0 0 rfl rfl)
theorem dX1_isNine_1 : decode cX1_isNine 1 = .ok (.iconst 0, 1) := dk_3 (dk_at dksX1_isNine_0 1 rfl rfl)
theorem dX1_isNine_2 : decode cX1_isNine 2 = .ok (.bipush 9, 2) := dk_16 9 (dk_at dksX1_isNine_0 2 rfl rfl)
theorem dX1_isNine_4 : decode cX1_isNine 4 = .ok (.invokestatic 30, 3) := dk_184 0 30 (dk_at dksX1_isNine_0 4 rfl rfl)
theorem dX1_isNine_7 : decode cX1_isNine 7 = .ok (.ireturn, 1) := dk_172 (dk_at dksX1_isNine_0 7 rfl rfl)
abbrev cX1_learns : ByteArray := prog_1_method_15_code
def yX1_learns : MethodName := ⟨RX1, "learns", "(I)I"⟩
def dkwX1_learns_2 : List UInt8 := [180, 0, 105, 44, 182, 0, 78, 172, 77, 16, 244, 172]
abbrev dktX1_learns_2 : List UInt8 := dkwX1_learns_2 ++ []
def dkwX1_learns_1 : List UInt8 := [199, 0, 6, 16, 245, 172, 42, 180, 0, 105, 180, 0, 71, 16, 6, 160, 0, 8, 16, 254, 167, 0, 11, 42]
abbrev dktX1_learns_1 : List UInt8 := dkwX1_learns_1 ++ dktX1_learns_2
def dkwX1_learns_0 : List UInt8 := [42, 27, 182, 0, 121, 154, 0, 5, 2, 172, 42, 180, 0, 124, 27, 50, 180, 0, 128, 192, 0, 1, 77, 44]
abbrev dktX1_learns_0 : List UInt8 := dkwX1_learns_0 ++ dktX1_learns_1
theorem dksX1_learns_0 : cX1_learns.data.toList.drop 0 = dktX1_learns_0 := by decide +kernel
theorem dksX1_learns_1 : cX1_learns.data.toList.drop 24 = dktX1_learns_1 := dk_seg dksX1_learns_0 24 rfl rfl
theorem dksX1_learns_2 : cX1_learns.data.toList.drop 48 = dktX1_learns_2 := dk_seg dksX1_learns_1 24 rfl rfl
theorem dX1_learns_0 : decode cX1_learns 0 = .ok (.aload_n 0, 1) := dk_42 (dk_at dksX1_learns_0 0 rfl rfl)
theorem dX1_learns_1 : decode cX1_learns 1 = .ok (.iload_n 1, 1) := dk_27 (dk_at dksX1_learns_0 1 rfl rfl)
theorem dX1_learns_2 : decode cX1_learns 2 = .ok (.invokevirtual 121, 3) := dk_182 0 121 (dk_at dksX1_learns_0 2 rfl rfl)
theorem dX1_learns_5 : decode cX1_learns 5 = .ok (.ifCond .ne 5, 3) := dk_154 0 5 (dk_at dksX1_learns_0 5 rfl rfl)
theorem dX1_learns_8 : decode cX1_learns 8 = .ok (.iconst (-1), 1) := dk_2 (dk_at dksX1_learns_0 8 rfl rfl)
theorem dX1_learns_9 : decode cX1_learns 9 = .ok (.ireturn, 1) := dk_172 (dk_at dksX1_learns_0 9 rfl rfl)
theorem dX1_learns_10 : decode cX1_learns 10 = .ok (.aload_n 0, 1) := dk_42 (dk_at dksX1_learns_0 10 rfl rfl)
theorem dX1_learns_11 : decode cX1_learns 11 = .ok (.getfield 124, 3) := dk_180 0 124 (dk_at dksX1_learns_0 11 rfl rfl)
theorem dX1_learns_14 : decode cX1_learns 14 = .ok (.iload_n 1, 1) := dk_27 (dk_at dksX1_learns_0 14 rfl rfl)
theorem dX1_learns_15 : decode cX1_learns 15 = .ok (.aaload, 1) := dk_50 (dk_at dksX1_learns_0 15 rfl rfl)
theorem dX1_learns_16 : decode cX1_learns 16 = .ok (.getfield 128, 3) := dk_180 0 128 (dk_at dksX1_learns_0 16 rfl rfl)
theorem dX1_learns_19 : decode cX1_learns 19 = .ok (.checkcast 1, 3) := dk_192 0 1 (dk_at dksX1_learns_0 19 rfl rfl)
theorem dX1_learns_22 : decode cX1_learns 22 = .ok (.astore_n 2, 1) := dk_77 (dk_at dksX1_learns_0 22 rfl rfl)
theorem dX1_learns_23 : decode cX1_learns 23 = .ok (.aload_n 2, 1) := dk_44 (dk_at dksX1_learns_0 23 rfl rfl)
theorem dX1_learns_24 : decode cX1_learns 24 = .ok (.ifnonnull 6, 3) := dk_199 0 6 (dk_at dksX1_learns_1 0 rfl rfl)
theorem dX1_learns_27 : decode cX1_learns 27 = .ok (.bipush (-11), 2) := dk_16 245 (dk_at dksX1_learns_1 3 rfl rfl)
theorem dX1_learns_29 : decode cX1_learns 29 = .ok (.ireturn, 1) := dk_172 (dk_at dksX1_learns_1 5 rfl rfl)
theorem dX1_learns_30 : decode cX1_learns 30 = .ok (.aload_n 0, 1) := dk_42 (dk_at dksX1_learns_1 6 rfl rfl)
theorem dX1_learns_31 : decode cX1_learns 31 = .ok (.getfield 105, 3) := dk_180 0 105 (dk_at dksX1_learns_1 7 rfl rfl)
theorem dX1_learns_34 : decode cX1_learns 34 = .ok (.getfield 71, 3) := dk_180 0 71 (dk_at dksX1_learns_1 10 rfl rfl)
theorem dX1_learns_37 : decode cX1_learns 37 = .ok (.bipush 6, 2) := dk_16 6 (dk_at dksX1_learns_1 13 rfl rfl)
theorem dX1_learns_39 : decode cX1_learns 39 = .ok (.if_icmp .ne 8, 3) := dk_160 0 8 (dk_at dksX1_learns_1 15 rfl rfl)
theorem dX1_learns_42 : decode cX1_learns 42 = .ok (.bipush (-2), 2) := dk_16 254 (dk_at dksX1_learns_1 18 rfl rfl)
theorem dX1_learns_44 : decode cX1_learns 44 = .ok (.goto 11, 3) := dk_167 0 11 (dk_at dksX1_learns_1 20 rfl rfl)
theorem dX1_learns_47 : decode cX1_learns 47 = .ok (.aload_n 0, 1) := dk_42 (dk_at dksX1_learns_1 23 rfl rfl)
theorem dX1_learns_48 : decode cX1_learns 48 = .ok (.getfield 105, 3) := dk_180 0 105 (dk_at dksX1_learns_2 0 rfl rfl)
theorem dX1_learns_51 : decode cX1_learns 51 = .ok (.aload_n 2, 1) := dk_44 (dk_at dksX1_learns_2 3 rfl rfl)
theorem dX1_learns_52 : decode cX1_learns 52 = .ok (.invokevirtual 78, 3) := dk_182 0 78 (dk_at dksX1_learns_2 4 rfl rfl)
theorem dX1_learns_55 : decode cX1_learns 55 = .ok (.ireturn, 1) := dk_172 (dk_at dksX1_learns_2 7 rfl rfl)
theorem dX1_learns_56 : decode cX1_learns 56 = .ok (.astore_n 2, 1) := dk_77 (dk_at dksX1_learns_2 8 rfl rfl)
theorem dX1_learns_57 : decode cX1_learns 57 = .ok (.bipush (-12), 2) := dk_16 244 (dk_at dksX1_learns_2 9 rfl rfl)
theorem dX1_learns_59 : decode cX1_learns 59 = .ok (.ireturn, 1) := dk_172 (dk_at dksX1_learns_2 11 rfl rfl)
abbrev cX1_comes_2 : ByteArray := prog_1_method_16_code
def yX1_comes_2 : MethodName := ⟨RX1, "comes", "(II)I"⟩
def dkwX1_comes_2_1 : List UInt8 := [160, 0, 8, 16, 254, 167, 0, 12, 42, 180, 0, 105, 27, 28, 182, 0, 67, 172]
abbrev dktX1_comes_2_1 : List UInt8 := dkwX1_comes_2_1 ++ []
def dkwX1_comes_2_0 : List UInt8 := [27, 184, 0, 187, 153, 0, 10, 28, 184, 0, 61, 154, 0, 5, 2, 172, 42, 180, 0, 105, 180, 0, 64, 7]
abbrev dktX1_comes_2_0 : List UInt8 := dkwX1_comes_2_0 ++ dktX1_comes_2_1
theorem dksX1_comes_2_0 : cX1_comes_2.data.toList.drop 0 = dktX1_comes_2_0 := by decide +kernel
theorem dksX1_comes_2_1 : cX1_comes_2.data.toList.drop 24 = dktX1_comes_2_1 := dk_seg dksX1_comes_2_0 24 rfl rfl
theorem dX1_comes_2_0 : decode cX1_comes_2 0 = .ok (.iload_n 1, 1) := dk_27 (dk_at dksX1_comes_2_0 0 rfl rfl)
theorem dX1_comes_2_1 : decode cX1_comes_2 1 = .ok (.invokestatic 187, 3) := dk_184 0 187 (dk_at dksX1_comes_2_0 1 rfl rfl)
theorem dX1_comes_2_4 : decode cX1_comes_2 4 = .ok (.ifCond .eq 10, 3) := dk_153 0 10 (dk_at dksX1_comes_2_0 4 rfl rfl)
theorem dX1_comes_2_7 : decode cX1_comes_2 7 = .ok (.iload_n 2, 1) := dk_28 (dk_at dksX1_comes_2_0 7 rfl rfl)
theorem dX1_comes_2_8 : decode cX1_comes_2 8 = .ok (.invokestatic 61, 3) := dk_184 0 61 (dk_at dksX1_comes_2_0 8 rfl rfl)
theorem dX1_comes_2_11 : decode cX1_comes_2 11 = .ok (.ifCond .ne 5, 3) := dk_154 0 5 (dk_at dksX1_comes_2_0 11 rfl rfl)
theorem dX1_comes_2_14 : decode cX1_comes_2 14 = .ok (.iconst (-1), 1) := dk_2 (dk_at dksX1_comes_2_0 14 rfl rfl)
theorem dX1_comes_2_15 : decode cX1_comes_2 15 = .ok (.ireturn, 1) := dk_172 (dk_at dksX1_comes_2_0 15 rfl rfl)
theorem dX1_comes_2_16 : decode cX1_comes_2 16 = .ok (.aload_n 0, 1) := dk_42 (dk_at dksX1_comes_2_0 16 rfl rfl)
theorem dX1_comes_2_17 : decode cX1_comes_2 17 = .ok (.getfield 105, 3) := dk_180 0 105 (dk_at dksX1_comes_2_0 17 rfl rfl)
theorem dX1_comes_2_20 : decode cX1_comes_2 20 = .ok (.getfield 64, 3) := dk_180 0 64 (dk_at dksX1_comes_2_0 20 rfl rfl)
theorem dX1_comes_2_23 : decode cX1_comes_2 23 = .ok (.iconst 4, 1) := dk_7 (dk_at dksX1_comes_2_0 23 rfl rfl)
theorem dX1_comes_2_24 : decode cX1_comes_2 24 = .ok (.if_icmp .ne 8, 3) := dk_160 0 8 (dk_at dksX1_comes_2_1 0 rfl rfl)
theorem dX1_comes_2_27 : decode cX1_comes_2 27 = .ok (.bipush (-2), 2) := dk_16 254 (dk_at dksX1_comes_2_1 3 rfl rfl)
theorem dX1_comes_2_29 : decode cX1_comes_2 29 = .ok (.goto 12, 3) := dk_167 0 12 (dk_at dksX1_comes_2_1 5 rfl rfl)
theorem dX1_comes_2_32 : decode cX1_comes_2 32 = .ok (.aload_n 0, 1) := dk_42 (dk_at dksX1_comes_2_1 8 rfl rfl)
theorem dX1_comes_2_33 : decode cX1_comes_2 33 = .ok (.getfield 105, 3) := dk_180 0 105 (dk_at dksX1_comes_2_1 9 rfl rfl)
theorem dX1_comes_2_36 : decode cX1_comes_2 36 = .ok (.iload_n 1, 1) := dk_27 (dk_at dksX1_comes_2_1 12 rfl rfl)
theorem dX1_comes_2_37 : decode cX1_comes_2 37 = .ok (.iload_n 2, 1) := dk_28 (dk_at dksX1_comes_2_1 13 rfl rfl)
theorem dX1_comes_2_38 : decode cX1_comes_2 38 = .ok (.invokevirtual 67, 3) := dk_182 0 67 (dk_at dksX1_comes_2_1 14 rfl rfl)
theorem dX1_comes_2_41 : decode cX1_comes_2 41 = .ok (.ireturn, 1) := dk_172 (dk_at dksX1_comes_2_1 17 rfl rfl)
abbrev cX1_wets : ByteArray := prog_1_method_17_code
def yX1_wets : MethodName := ⟨RX1, "wets", "(II)I"⟩
def dkwX1_wets_1 : List UInt8 := [180, 0, 154, 27, 46, 62, 42, 180, 0, 105, 180, 0, 154, 27, 28, 79, 29, 172]
abbrev dktX1_wets_1 : List UInt8 := dkwX1_wets_1 ++ []
def dkwX1_wets_0 : List UInt8 := [42, 180, 0, 105, 27, 182, 0, 145, 153, 0, 10, 28, 184, 0, 187, 154, 0, 5, 2, 172, 42, 180, 0, 105]
abbrev dktX1_wets_0 : List UInt8 := dkwX1_wets_0 ++ dktX1_wets_1
theorem dksX1_wets_0 : cX1_wets.data.toList.drop 0 = dktX1_wets_0 := by decide +kernel
theorem dksX1_wets_1 : cX1_wets.data.toList.drop 24 = dktX1_wets_1 := dk_seg dksX1_wets_0 24 rfl rfl
theorem dX1_wets_0 : decode cX1_wets 0 = .ok (.aload_n 0, 1) := dk_42 (dk_at dksX1_wets_0 0 rfl rfl)
theorem dX1_wets_1 : decode cX1_wets 1 = .ok (.getfield 105, 3) := dk_180 0 105 (dk_at dksX1_wets_0 1 rfl rfl)
theorem dX1_wets_4 : decode cX1_wets 4 = .ok (.iload_n 1, 1) := dk_27 (dk_at dksX1_wets_0 4 rfl rfl)
theorem dX1_wets_5 : decode cX1_wets 5 = .ok (.invokevirtual 145, 3) := dk_182 0 145 (dk_at dksX1_wets_0 5 rfl rfl)
theorem dX1_wets_8 : decode cX1_wets 8 = .ok (.ifCond .eq 10, 3) := dk_153 0 10 (dk_at dksX1_wets_0 8 rfl rfl)
theorem dX1_wets_11 : decode cX1_wets 11 = .ok (.iload_n 2, 1) := dk_28 (dk_at dksX1_wets_0 11 rfl rfl)
theorem dX1_wets_12 : decode cX1_wets 12 = .ok (.invokestatic 187, 3) := dk_184 0 187 (dk_at dksX1_wets_0 12 rfl rfl)
theorem dX1_wets_15 : decode cX1_wets 15 = .ok (.ifCond .ne 5, 3) := dk_154 0 5 (dk_at dksX1_wets_0 15 rfl rfl)
theorem dX1_wets_18 : decode cX1_wets 18 = .ok (.iconst (-1), 1) := dk_2 (dk_at dksX1_wets_0 18 rfl rfl)
theorem dX1_wets_19 : decode cX1_wets 19 = .ok (.ireturn, 1) := dk_172 (dk_at dksX1_wets_0 19 rfl rfl)
theorem dX1_wets_20 : decode cX1_wets 20 = .ok (.aload_n 0, 1) := dk_42 (dk_at dksX1_wets_0 20 rfl rfl)
theorem dX1_wets_21 : decode cX1_wets 21 = .ok (.getfield 105, 3) := dk_180 0 105 (dk_at dksX1_wets_0 21 rfl rfl)
theorem dX1_wets_24 : decode cX1_wets 24 = .ok (.getfield 154, 3) := dk_180 0 154 (dk_at dksX1_wets_1 0 rfl rfl)
theorem dX1_wets_27 : decode cX1_wets 27 = .ok (.iload_n 1, 1) := dk_27 (dk_at dksX1_wets_1 3 rfl rfl)
theorem dX1_wets_28 : decode cX1_wets 28 = .ok (.iaload, 1) := dk_46 (dk_at dksX1_wets_1 4 rfl rfl)
theorem dX1_wets_29 : decode cX1_wets 29 = .ok (.istore_n 3, 1) := dk_62 (dk_at dksX1_wets_1 5 rfl rfl)
theorem dX1_wets_30 : decode cX1_wets 30 = .ok (.aload_n 0, 1) := dk_42 (dk_at dksX1_wets_1 6 rfl rfl)
theorem dX1_wets_31 : decode cX1_wets 31 = .ok (.getfield 105, 3) := dk_180 0 105 (dk_at dksX1_wets_1 7 rfl rfl)
theorem dX1_wets_34 : decode cX1_wets 34 = .ok (.getfield 154, 3) := dk_180 0 154 (dk_at dksX1_wets_1 10 rfl rfl)
theorem dX1_wets_37 : decode cX1_wets 37 = .ok (.iload_n 1, 1) := dk_27 (dk_at dksX1_wets_1 13 rfl rfl)
theorem dX1_wets_38 : decode cX1_wets 38 = .ok (.iload_n 2, 1) := dk_28 (dk_at dksX1_wets_1 14 rfl rfl)
theorem dX1_wets_39 : decode cX1_wets 39 = .ok (.iastore, 1) := dk_79 (dk_at dksX1_wets_1 15 rfl rfl)
theorem dX1_wets_40 : decode cX1_wets 40 = .ok (.iload_n 3, 1) := dk_29 (dk_at dksX1_wets_1 16 rfl rfl)
theorem dX1_wets_41 : decode cX1_wets 41 = .ok (.ireturn, 1) := dk_172 (dk_at dksX1_wets_1 17 rfl rfl)
abbrev cX1_span : ByteArray := prog_1_method_18_code
def yX1_span : MethodName := ⟨RX1, "span", "(IIII)I"⟩
def dkwX1_span_3 : List UInt8 := [180, 0, 105, 28, 29, 182, 0, 196, 172, 42, 180, 0, 105, 28, 29, 182, 0, 199, 172, 2, 172]
abbrev dktX1_span_3 : List UInt8 := dkwX1_span_3 ++ []
def dkwX1_span_2 : List UInt8 := [42, 180, 0, 105, 27, 28, 29, 182, 0, 190, 172, 42, 180, 0, 105, 27, 28, 29, 182, 0, 193, 172, 42]
abbrev dktX1_span_2 : List UInt8 := dkwX1_span_2 ++ dktX1_span_3
def dkwX1_span_1 : List UInt8 := [170, 0, 0, 0, 0, 0, 73, 0, 0, 0, 0, 0, 0, 0, 3, 0, 0, 0, 31, 0, 0, 0, 42, 0, 0, 0, 53, 0, 0, 0, 63]
abbrev dktX1_span_1 : List UInt8 := dkwX1_span_1 ++ dktX1_span_2
def dkwX1_span_0 : List UInt8 := [42, 180, 0, 105, 27, 28, 29, 182, 0, 82, 154, 0, 5, 2, 172, 21, 4]
abbrev dktX1_span_0 : List UInt8 := dkwX1_span_0 ++ dktX1_span_1
theorem dksX1_span_0 : cX1_span.data.toList.drop 0 = dktX1_span_0 := by decide +kernel
theorem dksX1_span_1 : cX1_span.data.toList.drop 17 = dktX1_span_1 := dk_seg dksX1_span_0 17 rfl rfl
theorem dksX1_span_2 : cX1_span.data.toList.drop 48 = dktX1_span_2 := dk_seg dksX1_span_1 31 rfl rfl
theorem dksX1_span_3 : cX1_span.data.toList.drop 71 = dktX1_span_3 := dk_seg dksX1_span_2 23 rfl rfl
theorem dX1_span_0 : decode cX1_span 0 = .ok (.aload_n 0, 1) := dk_42 (dk_at dksX1_span_0 0 rfl rfl)
theorem dX1_span_1 : decode cX1_span 1 = .ok (.getfield 105, 3) := dk_180 0 105 (dk_at dksX1_span_0 1 rfl rfl)
theorem dX1_span_4 : decode cX1_span 4 = .ok (.iload_n 1, 1) := dk_27 (dk_at dksX1_span_0 4 rfl rfl)
theorem dX1_span_5 : decode cX1_span 5 = .ok (.iload_n 2, 1) := dk_28 (dk_at dksX1_span_0 5 rfl rfl)
theorem dX1_span_6 : decode cX1_span 6 = .ok (.iload_n 3, 1) := dk_29 (dk_at dksX1_span_0 6 rfl rfl)
theorem dX1_span_7 : decode cX1_span 7 = .ok (.invokevirtual 82, 3) := dk_182 0 82 (dk_at dksX1_span_0 7 rfl rfl)
theorem dX1_span_10 : decode cX1_span 10 = .ok (.ifCond .ne 5, 3) := dk_154 0 5 (dk_at dksX1_span_0 10 rfl rfl)
theorem dX1_span_13 : decode cX1_span 13 = .ok (.iconst (-1), 1) := dk_2 (dk_at dksX1_span_0 13 rfl rfl)
theorem dX1_span_14 : decode cX1_span 14 = .ok (.ireturn, 1) := dk_172 (dk_at dksX1_span_0 14 rfl rfl)
theorem dX1_span_15 : decode cX1_span 15 = .ok (.iload 4, 2) := dk_21 4 (dk_at dksX1_span_0 15 rfl rfl)
theorem dX1_span_17 : decode cX1_span 17 = .ok (.tableswitch 73 0 3 #[31, 42, 53, 63], 31) := by decide +kernel
theorem dX1_span_48 : decode cX1_span 48 = .ok (.aload_n 0, 1) := dk_42 (dk_at dksX1_span_2 0 rfl rfl)
theorem dX1_span_49 : decode cX1_span 49 = .ok (.getfield 105, 3) := dk_180 0 105 (dk_at dksX1_span_2 1 rfl rfl)
theorem dX1_span_52 : decode cX1_span 52 = .ok (.iload_n 1, 1) := dk_27 (dk_at dksX1_span_2 4 rfl rfl)
theorem dX1_span_53 : decode cX1_span 53 = .ok (.iload_n 2, 1) := dk_28 (dk_at dksX1_span_2 5 rfl rfl)
theorem dX1_span_54 : decode cX1_span 54 = .ok (.iload_n 3, 1) := dk_29 (dk_at dksX1_span_2 6 rfl rfl)
theorem dX1_span_55 : decode cX1_span 55 = .ok (.invokevirtual 190, 3) := dk_182 0 190 (dk_at dksX1_span_2 7 rfl rfl)
theorem dX1_span_58 : decode cX1_span 58 = .ok (.ireturn, 1) := dk_172 (dk_at dksX1_span_2 10 rfl rfl)
theorem dX1_span_59 : decode cX1_span 59 = .ok (.aload_n 0, 1) := dk_42 (dk_at dksX1_span_2 11 rfl rfl)
theorem dX1_span_60 : decode cX1_span 60 = .ok (.getfield 105, 3) := dk_180 0 105 (dk_at dksX1_span_2 12 rfl rfl)
theorem dX1_span_63 : decode cX1_span 63 = .ok (.iload_n 1, 1) := dk_27 (dk_at dksX1_span_2 15 rfl rfl)
theorem dX1_span_64 : decode cX1_span 64 = .ok (.iload_n 2, 1) := dk_28 (dk_at dksX1_span_2 16 rfl rfl)
theorem dX1_span_65 : decode cX1_span 65 = .ok (.iload_n 3, 1) := dk_29 (dk_at dksX1_span_2 17 rfl rfl)
theorem dX1_span_66 : decode cX1_span 66 = .ok (.invokevirtual 193, 3) := dk_182 0 193 (dk_at dksX1_span_2 18 rfl rfl)
theorem dX1_span_69 : decode cX1_span 69 = .ok (.ireturn, 1) := dk_172 (dk_at dksX1_span_2 21 rfl rfl)
theorem dX1_span_70 : decode cX1_span 70 = .ok (.aload_n 0, 1) := dk_42 (dk_at dksX1_span_2 22 rfl rfl)
theorem dX1_span_71 : decode cX1_span 71 = .ok (.getfield 105, 3) := dk_180 0 105 (dk_at dksX1_span_3 0 rfl rfl)
theorem dX1_span_74 : decode cX1_span 74 = .ok (.iload_n 2, 1) := dk_28 (dk_at dksX1_span_3 3 rfl rfl)
theorem dX1_span_75 : decode cX1_span 75 = .ok (.iload_n 3, 1) := dk_29 (dk_at dksX1_span_3 4 rfl rfl)
theorem dX1_span_76 : decode cX1_span 76 = .ok (.invokevirtual 196, 3) := dk_182 0 196 (dk_at dksX1_span_3 5 rfl rfl)
theorem dX1_span_79 : decode cX1_span 79 = .ok (.ireturn, 1) := dk_172 (dk_at dksX1_span_3 8 rfl rfl)
theorem dX1_span_80 : decode cX1_span 80 = .ok (.aload_n 0, 1) := dk_42 (dk_at dksX1_span_3 9 rfl rfl)
theorem dX1_span_81 : decode cX1_span 81 = .ok (.getfield 105, 3) := dk_180 0 105 (dk_at dksX1_span_3 10 rfl rfl)
theorem dX1_span_84 : decode cX1_span 84 = .ok (.iload_n 2, 1) := dk_28 (dk_at dksX1_span_3 13 rfl rfl)
theorem dX1_span_85 : decode cX1_span 85 = .ok (.iload_n 3, 1) := dk_29 (dk_at dksX1_span_3 14 rfl rfl)
theorem dX1_span_86 : decode cX1_span 86 = .ok (.invokevirtual 199, 3) := dk_182 0 199 (dk_at dksX1_span_3 15 rfl rfl)
theorem dX1_span_89 : decode cX1_span 89 = .ok (.ireturn, 1) := dk_172 (dk_at dksX1_span_3 18 rfl rfl)
theorem dX1_span_90 : decode cX1_span 90 = .ok (.iconst (-1), 1) := dk_2 (dk_at dksX1_span_3 19 rfl rfl)
theorem dX1_span_91 : decode cX1_span 91 = .ok (.ireturn, 1) := dk_172 (dk_at dksX1_span_3 20 rfl rfl)
abbrev cX1_sounds : ByteArray := prog_1_method_20_code
def yX1_sounds : MethodName := ⟨RX1, "sounds", "(IIIII)I"⟩
def dkwX1_sounds_1 : List UInt8 := [21, 4, 21, 5, 182, 0, 205, 153, 0, 7, 4, 167, 0, 4, 3, 172]
abbrev dktX1_sounds_1 : List UInt8 := dkwX1_sounds_1 ++ []
def dkwX1_sounds_0 : List UInt8 := [42, 27, 28, 29, 21, 4, 21, 5, 182, 0, 202, 154, 0, 5, 2, 172, 42, 180, 0, 105, 27, 28, 29]
abbrev dktX1_sounds_0 : List UInt8 := dkwX1_sounds_0 ++ dktX1_sounds_1
theorem dksX1_sounds_0 : cX1_sounds.data.toList.drop 0 = dktX1_sounds_0 := by decide +kernel
theorem dksX1_sounds_1 : cX1_sounds.data.toList.drop 23 = dktX1_sounds_1 := dk_seg dksX1_sounds_0 23 rfl rfl
theorem dX1_sounds_0 : decode cX1_sounds 0 = .ok (.aload_n 0, 1) := dk_42 (dk_at dksX1_sounds_0 0 rfl rfl)
theorem dX1_sounds_1 : decode cX1_sounds 1 = .ok (.iload_n 1, 1) := dk_27 (dk_at dksX1_sounds_0 1 rfl rfl)
theorem dX1_sounds_2 : decode cX1_sounds 2 = .ok (.iload_n 2, 1) := dk_28 (dk_at dksX1_sounds_0 2 rfl rfl)
theorem dX1_sounds_3 : decode cX1_sounds 3 = .ok (.iload_n 3, 1) := dk_29 (dk_at dksX1_sounds_0 3 rfl rfl)
theorem dX1_sounds_4 : decode cX1_sounds 4 = .ok (.iload 4, 2) := dk_21 4 (dk_at dksX1_sounds_0 4 rfl rfl)
theorem dX1_sounds_6 : decode cX1_sounds 6 = .ok (.iload 5, 2) := dk_21 5 (dk_at dksX1_sounds_0 6 rfl rfl)
theorem dX1_sounds_8 : decode cX1_sounds 8 = .ok (.invokevirtual 202, 3) := dk_182 0 202 (dk_at dksX1_sounds_0 8 rfl rfl)
theorem dX1_sounds_11 : decode cX1_sounds 11 = .ok (.ifCond .ne 5, 3) := dk_154 0 5 (dk_at dksX1_sounds_0 11 rfl rfl)
theorem dX1_sounds_14 : decode cX1_sounds 14 = .ok (.iconst (-1), 1) := dk_2 (dk_at dksX1_sounds_0 14 rfl rfl)
theorem dX1_sounds_15 : decode cX1_sounds 15 = .ok (.ireturn, 1) := dk_172 (dk_at dksX1_sounds_0 15 rfl rfl)
theorem dX1_sounds_16 : decode cX1_sounds 16 = .ok (.aload_n 0, 1) := dk_42 (dk_at dksX1_sounds_0 16 rfl rfl)
theorem dX1_sounds_17 : decode cX1_sounds 17 = .ok (.getfield 105, 3) := dk_180 0 105 (dk_at dksX1_sounds_0 17 rfl rfl)
theorem dX1_sounds_20 : decode cX1_sounds 20 = .ok (.iload_n 1, 1) := dk_27 (dk_at dksX1_sounds_0 20 rfl rfl)
theorem dX1_sounds_21 : decode cX1_sounds 21 = .ok (.iload_n 2, 1) := dk_28 (dk_at dksX1_sounds_0 21 rfl rfl)
theorem dX1_sounds_22 : decode cX1_sounds 22 = .ok (.iload_n 3, 1) := dk_29 (dk_at dksX1_sounds_0 22 rfl rfl)
theorem dX1_sounds_23 : decode cX1_sounds 23 = .ok (.iload 4, 2) := dk_21 4 (dk_at dksX1_sounds_1 0 rfl rfl)
theorem dX1_sounds_25 : decode cX1_sounds 25 = .ok (.iload 5, 2) := dk_21 5 (dk_at dksX1_sounds_1 2 rfl rfl)
theorem dX1_sounds_27 : decode cX1_sounds 27 = .ok (.invokevirtual 205, 3) := dk_182 0 205 (dk_at dksX1_sounds_1 4 rfl rfl)
theorem dX1_sounds_30 : decode cX1_sounds 30 = .ok (.ifCond .eq 7, 3) := dk_153 0 7 (dk_at dksX1_sounds_1 7 rfl rfl)
theorem dX1_sounds_33 : decode cX1_sounds 33 = .ok (.iconst 1, 1) := dk_4 (dk_at dksX1_sounds_1 10 rfl rfl)
theorem dX1_sounds_34 : decode cX1_sounds 34 = .ok (.goto 4, 3) := dk_167 0 4 (dk_at dksX1_sounds_1 11 rfl rfl)
theorem dX1_sounds_37 : decode cX1_sounds 37 = .ok (.iconst 0, 1) := dk_3 (dk_at dksX1_sounds_1 14 rfl rfl)
theorem dX1_sounds_38 : decode cX1_sounds 38 = .ok (.ireturn, 1) := dk_172 (dk_at dksX1_sounds_1 15 rfl rfl)
abbrev cX1_isTry : ByteArray := prog_1_method_19_code
def yX1_isTry : MethodName := ⟨RX1, "isTry", "(IIIII)Z"⟩
def dkwX1_isTry_1 : List UInt8 := [184, 0, 61, 153, 0, 7, 4, 167, 0, 4, 3, 172]
abbrev dktX1_isTry_1 : List UInt8 := dkwX1_isTry_1 ++ []
def dkwX1_isTry_0 : List UInt8 := [42, 180, 0, 105, 27, 28, 29, 182, 0, 82, 153, 0, 23, 21, 4, 184, 0, 61, 153, 0, 15, 21, 5]
abbrev dktX1_isTry_0 : List UInt8 := dkwX1_isTry_0 ++ dktX1_isTry_1
theorem dksX1_isTry_0 : cX1_isTry.data.toList.drop 0 = dktX1_isTry_0 := by decide +kernel
theorem dksX1_isTry_1 : cX1_isTry.data.toList.drop 23 = dktX1_isTry_1 := dk_seg dksX1_isTry_0 23 rfl rfl
theorem dX1_isTry_0 : decode cX1_isTry 0 = .ok (.aload_n 0, 1) := dk_42 (dk_at dksX1_isTry_0 0 rfl rfl)
theorem dX1_isTry_1 : decode cX1_isTry 1 = .ok (.getfield 105, 3) := dk_180 0 105 (dk_at dksX1_isTry_0 1 rfl rfl)
theorem dX1_isTry_4 : decode cX1_isTry 4 = .ok (.iload_n 1, 1) := dk_27 (dk_at dksX1_isTry_0 4 rfl rfl)
theorem dX1_isTry_5 : decode cX1_isTry 5 = .ok (.iload_n 2, 1) := dk_28 (dk_at dksX1_isTry_0 5 rfl rfl)
theorem dX1_isTry_6 : decode cX1_isTry 6 = .ok (.iload_n 3, 1) := dk_29 (dk_at dksX1_isTry_0 6 rfl rfl)
theorem dX1_isTry_7 : decode cX1_isTry 7 = .ok (.invokevirtual 82, 3) := dk_182 0 82 (dk_at dksX1_isTry_0 7 rfl rfl)
theorem dX1_isTry_10 : decode cX1_isTry 10 = .ok (.ifCond .eq 23, 3) := dk_153 0 23 (dk_at dksX1_isTry_0 10 rfl rfl)
theorem dX1_isTry_13 : decode cX1_isTry 13 = .ok (.iload 4, 2) := dk_21 4 (dk_at dksX1_isTry_0 13 rfl rfl)
theorem dX1_isTry_15 : decode cX1_isTry 15 = .ok (.invokestatic 61, 3) := dk_184 0 61 (dk_at dksX1_isTry_0 15 rfl rfl)
theorem dX1_isTry_18 : decode cX1_isTry 18 = .ok (.ifCond .eq 15, 3) := dk_153 0 15 (dk_at dksX1_isTry_0 18 rfl rfl)
theorem dX1_isTry_21 : decode cX1_isTry 21 = .ok (.iload 5, 2) := dk_21 5 (dk_at dksX1_isTry_0 21 rfl rfl)
theorem dX1_isTry_23 : decode cX1_isTry 23 = .ok (.invokestatic 61, 3) := dk_184 0 61 (dk_at dksX1_isTry_1 0 rfl rfl)
theorem dX1_isTry_26 : decode cX1_isTry 26 = .ok (.ifCond .eq 7, 3) := dk_153 0 7 (dk_at dksX1_isTry_1 3 rfl rfl)
theorem dX1_isTry_29 : decode cX1_isTry 29 = .ok (.iconst 1, 1) := dk_4 (dk_at dksX1_isTry_1 6 rfl rfl)
theorem dX1_isTry_30 : decode cX1_isTry 30 = .ok (.goto 4, 3) := dk_167 0 4 (dk_at dksX1_isTry_1 7 rfl rfl)
theorem dX1_isTry_33 : decode cX1_isTry 33 = .ok (.iconst 0, 1) := dk_3 (dk_at dksX1_isTry_1 10 rfl rfl)
theorem dX1_isTry_34 : decode cX1_isTry 34 = .ok (.ireturn, 1) := dk_172 (dk_at dksX1_isTry_1 11 rfl rfl)
abbrev cX1_pitch : ByteArray := prog_1_method_21_code
def yX1_pitch : MethodName := ⟨RX1, "pitch", "(IIII)I"⟩
def dkwX1_pitch_2 : List UInt8 := [21, 4, 182, 0, 209, 172]
abbrev dktX1_pitch_2 : List UInt8 := dkwX1_pitch_2 ++ []
def dkwX1_pitch_1 : List UInt8 := [184, 0, 61, 153, 0, 11, 21, 4, 184, 0, 187, 154, 0, 6, 18, 208, 172, 42, 180, 0, 105, 27, 28, 29]
abbrev dktX1_pitch_1 : List UInt8 := dkwX1_pitch_1 ++ dktX1_pitch_2
def dkwX1_pitch_0 : List UInt8 := [42, 180, 0, 105, 27, 182, 0, 145, 153, 0, 29, 42, 180, 0, 105, 28, 182, 0, 169, 153, 0, 18, 29]
abbrev dktX1_pitch_0 : List UInt8 := dkwX1_pitch_0 ++ dktX1_pitch_1
theorem dksX1_pitch_0 : cX1_pitch.data.toList.drop 0 = dktX1_pitch_0 := by decide +kernel
theorem dksX1_pitch_1 : cX1_pitch.data.toList.drop 23 = dktX1_pitch_1 := dk_seg dksX1_pitch_0 23 rfl rfl
theorem dksX1_pitch_2 : cX1_pitch.data.toList.drop 47 = dktX1_pitch_2 := dk_seg dksX1_pitch_1 24 rfl rfl
theorem dX1_pitch_0 : decode cX1_pitch 0 = .ok (.aload_n 0, 1) := dk_42 (dk_at dksX1_pitch_0 0 rfl rfl)
theorem dX1_pitch_1 : decode cX1_pitch 1 = .ok (.getfield 105, 3) := dk_180 0 105 (dk_at dksX1_pitch_0 1 rfl rfl)
theorem dX1_pitch_4 : decode cX1_pitch 4 = .ok (.iload_n 1, 1) := dk_27 (dk_at dksX1_pitch_0 4 rfl rfl)
theorem dX1_pitch_5 : decode cX1_pitch 5 = .ok (.invokevirtual 145, 3) := dk_182 0 145 (dk_at dksX1_pitch_0 5 rfl rfl)
theorem dX1_pitch_8 : decode cX1_pitch 8 = .ok (.ifCond .eq 29, 3) := dk_153 0 29 (dk_at dksX1_pitch_0 8 rfl rfl)
theorem dX1_pitch_11 : decode cX1_pitch 11 = .ok (.aload_n 0, 1) := dk_42 (dk_at dksX1_pitch_0 11 rfl rfl)
theorem dX1_pitch_12 : decode cX1_pitch 12 = .ok (.getfield 105, 3) := dk_180 0 105 (dk_at dksX1_pitch_0 12 rfl rfl)
theorem dX1_pitch_15 : decode cX1_pitch 15 = .ok (.iload_n 2, 1) := dk_28 (dk_at dksX1_pitch_0 15 rfl rfl)
theorem dX1_pitch_16 : decode cX1_pitch 16 = .ok (.invokevirtual 169, 3) := dk_182 0 169 (dk_at dksX1_pitch_0 16 rfl rfl)
theorem dX1_pitch_19 : decode cX1_pitch 19 = .ok (.ifCond .eq 18, 3) := dk_153 0 18 (dk_at dksX1_pitch_0 19 rfl rfl)
theorem dX1_pitch_22 : decode cX1_pitch 22 = .ok (.iload_n 3, 1) := dk_29 (dk_at dksX1_pitch_0 22 rfl rfl)
theorem dX1_pitch_23 : decode cX1_pitch 23 = .ok (.invokestatic 61, 3) := dk_184 0 61 (dk_at dksX1_pitch_1 0 rfl rfl)
theorem dX1_pitch_26 : decode cX1_pitch 26 = .ok (.ifCond .eq 11, 3) := dk_153 0 11 (dk_at dksX1_pitch_1 3 rfl rfl)
theorem dX1_pitch_29 : decode cX1_pitch 29 = .ok (.iload 4, 2) := dk_21 4 (dk_at dksX1_pitch_1 6 rfl rfl)
theorem dX1_pitch_31 : decode cX1_pitch 31 = .ok (.invokestatic 187, 3) := dk_184 0 187 (dk_at dksX1_pitch_1 8 rfl rfl)
theorem dX1_pitch_34 : decode cX1_pitch 34 = .ok (.ifCond .ne 6, 3) := dk_154 0 6 (dk_at dksX1_pitch_1 11 rfl rfl)
theorem dX1_pitch_37 : decode cX1_pitch 37 = .ok (.ldc 208, 2) := dk_18 208 (dk_at dksX1_pitch_1 14 rfl rfl)
theorem dX1_pitch_39 : decode cX1_pitch 39 = .ok (.ireturn, 1) := dk_172 (dk_at dksX1_pitch_1 16 rfl rfl)
theorem dX1_pitch_40 : decode cX1_pitch 40 = .ok (.aload_n 0, 1) := dk_42 (dk_at dksX1_pitch_1 17 rfl rfl)
theorem dX1_pitch_41 : decode cX1_pitch 41 = .ok (.getfield 105, 3) := dk_180 0 105 (dk_at dksX1_pitch_1 18 rfl rfl)
theorem dX1_pitch_44 : decode cX1_pitch 44 = .ok (.iload_n 1, 1) := dk_27 (dk_at dksX1_pitch_1 21 rfl rfl)
theorem dX1_pitch_45 : decode cX1_pitch 45 = .ok (.iload_n 2, 1) := dk_28 (dk_at dksX1_pitch_1 22 rfl rfl)
theorem dX1_pitch_46 : decode cX1_pitch 46 = .ok (.iload_n 3, 1) := dk_29 (dk_at dksX1_pitch_1 23 rfl rfl)
theorem dX1_pitch_47 : decode cX1_pitch 47 = .ok (.iload 4, 2) := dk_21 4 (dk_at dksX1_pitch_2 0 rfl rfl)
theorem dX1_pitch_49 : decode cX1_pitch 49 = .ok (.invokevirtual 209, 3) := dk_182 0 209 (dk_at dksX1_pitch_2 2 rfl rfl)
theorem dX1_pitch_52 : decode cX1_pitch 52 = .ok (.ireturn, 1) := dk_172 (dk_at dksX1_pitch_2 5 rfl rfl)
abbrev cX1_tries : ByteArray := prog_1_method_22_code
def yX1_tries : MethodName := ⟨RX1, "tries", "(IIIII)I"⟩
def dkwX1_tries_3 : List UInt8 := [21, 6, 172]
abbrev dktX1_tries_3 : List UInt8 := dkwX1_tries_3 ++ []
def dkwX1_tries_2 : List UInt8 := [167, 0, 4, 3, 54, 6, 42, 180, 0, 105, 27, 182, 0, 85, 153, 0, 10, 21, 6, 5, 96, 167, 0, 5]
abbrev dktX1_tries_2 : List UInt8 := dkwX1_tries_2 ++ dktX1_tries_3
def dkwX1_tries_1 : List UInt8 := [153, 0, 6, 16, 253, 172, 42, 180, 0, 105, 27, 28, 29, 21, 4, 21, 5, 182, 0, 88, 153, 0, 7, 4]
abbrev dktX1_tries_1 : List UInt8 := dkwX1_tries_1 ++ dktX1_tries_2
def dkwX1_tries_0 : List UInt8 := [42, 27, 28, 29, 21, 4, 21, 5, 182, 0, 202, 154, 0, 5, 2, 172, 42, 180, 0, 105, 27, 182, 0, 85]
abbrev dktX1_tries_0 : List UInt8 := dkwX1_tries_0 ++ dktX1_tries_1
theorem dksX1_tries_0 : cX1_tries.data.toList.drop 0 = dktX1_tries_0 := by decide +kernel
theorem dksX1_tries_1 : cX1_tries.data.toList.drop 24 = dktX1_tries_1 := dk_seg dksX1_tries_0 24 rfl rfl
theorem dksX1_tries_2 : cX1_tries.data.toList.drop 48 = dktX1_tries_2 := dk_seg dksX1_tries_1 24 rfl rfl
theorem dksX1_tries_3 : cX1_tries.data.toList.drop 72 = dktX1_tries_3 := dk_seg dksX1_tries_2 24 rfl rfl
theorem dX1_tries_0 : decode cX1_tries 0 = .ok (.aload_n 0, 1) := dk_42 (dk_at dksX1_tries_0 0 rfl rfl)
theorem dX1_tries_1 : decode cX1_tries 1 = .ok (.iload_n 1, 1) := dk_27 (dk_at dksX1_tries_0 1 rfl rfl)
theorem dX1_tries_2 : decode cX1_tries 2 = .ok (.iload_n 2, 1) := dk_28 (dk_at dksX1_tries_0 2 rfl rfl)
theorem dX1_tries_3 : decode cX1_tries 3 = .ok (.iload_n 3, 1) := dk_29 (dk_at dksX1_tries_0 3 rfl rfl)
theorem dX1_tries_4 : decode cX1_tries 4 = .ok (.iload 4, 2) := dk_21 4 (dk_at dksX1_tries_0 4 rfl rfl)
theorem dX1_tries_6 : decode cX1_tries 6 = .ok (.iload 5, 2) := dk_21 5 (dk_at dksX1_tries_0 6 rfl rfl)
theorem dX1_tries_8 : decode cX1_tries 8 = .ok (.invokevirtual 202, 3) := dk_182 0 202 (dk_at dksX1_tries_0 8 rfl rfl)
theorem dX1_tries_11 : decode cX1_tries 11 = .ok (.ifCond .ne 5, 3) := dk_154 0 5 (dk_at dksX1_tries_0 11 rfl rfl)
theorem dX1_tries_14 : decode cX1_tries 14 = .ok (.iconst (-1), 1) := dk_2 (dk_at dksX1_tries_0 14 rfl rfl)
theorem dX1_tries_15 : decode cX1_tries 15 = .ok (.ireturn, 1) := dk_172 (dk_at dksX1_tries_0 15 rfl rfl)
theorem dX1_tries_16 : decode cX1_tries 16 = .ok (.aload_n 0, 1) := dk_42 (dk_at dksX1_tries_0 16 rfl rfl)
theorem dX1_tries_17 : decode cX1_tries 17 = .ok (.getfield 105, 3) := dk_180 0 105 (dk_at dksX1_tries_0 17 rfl rfl)
theorem dX1_tries_20 : decode cX1_tries 20 = .ok (.iload_n 1, 1) := dk_27 (dk_at dksX1_tries_0 20 rfl rfl)
theorem dX1_tries_21 : decode cX1_tries 21 = .ok (.invokevirtual 85, 3) := dk_182 0 85 (dk_at dksX1_tries_0 21 rfl rfl)
theorem dX1_tries_24 : decode cX1_tries 24 = .ok (.ifCond .eq 6, 3) := dk_153 0 6 (dk_at dksX1_tries_1 0 rfl rfl)
theorem dX1_tries_27 : decode cX1_tries 27 = .ok (.bipush (-3), 2) := dk_16 253 (dk_at dksX1_tries_1 3 rfl rfl)
theorem dX1_tries_29 : decode cX1_tries 29 = .ok (.ireturn, 1) := dk_172 (dk_at dksX1_tries_1 5 rfl rfl)
theorem dX1_tries_30 : decode cX1_tries 30 = .ok (.aload_n 0, 1) := dk_42 (dk_at dksX1_tries_1 6 rfl rfl)
theorem dX1_tries_31 : decode cX1_tries 31 = .ok (.getfield 105, 3) := dk_180 0 105 (dk_at dksX1_tries_1 7 rfl rfl)
theorem dX1_tries_34 : decode cX1_tries 34 = .ok (.iload_n 1, 1) := dk_27 (dk_at dksX1_tries_1 10 rfl rfl)
theorem dX1_tries_35 : decode cX1_tries 35 = .ok (.iload_n 2, 1) := dk_28 (dk_at dksX1_tries_1 11 rfl rfl)
theorem dX1_tries_36 : decode cX1_tries 36 = .ok (.iload_n 3, 1) := dk_29 (dk_at dksX1_tries_1 12 rfl rfl)
theorem dX1_tries_37 : decode cX1_tries 37 = .ok (.iload 4, 2) := dk_21 4 (dk_at dksX1_tries_1 13 rfl rfl)
theorem dX1_tries_39 : decode cX1_tries 39 = .ok (.iload 5, 2) := dk_21 5 (dk_at dksX1_tries_1 15 rfl rfl)
theorem dX1_tries_41 : decode cX1_tries 41 = .ok (.invokevirtual 88, 3) := dk_182 0 88 (dk_at dksX1_tries_1 17 rfl rfl)
theorem dX1_tries_44 : decode cX1_tries 44 = .ok (.ifCond .eq 7, 3) := dk_153 0 7 (dk_at dksX1_tries_1 20 rfl rfl)
theorem dX1_tries_47 : decode cX1_tries 47 = .ok (.iconst 1, 1) := dk_4 (dk_at dksX1_tries_1 23 rfl rfl)
theorem dX1_tries_48 : decode cX1_tries 48 = .ok (.goto 4, 3) := dk_167 0 4 (dk_at dksX1_tries_2 0 rfl rfl)
theorem dX1_tries_51 : decode cX1_tries 51 = .ok (.iconst 0, 1) := dk_3 (dk_at dksX1_tries_2 3 rfl rfl)
theorem dX1_tries_52 : decode cX1_tries 52 = .ok (.istore 6, 2) := dk_54 6 (dk_at dksX1_tries_2 4 rfl rfl)
theorem dX1_tries_54 : decode cX1_tries 54 = .ok (.aload_n 0, 1) := dk_42 (dk_at dksX1_tries_2 6 rfl rfl)
theorem dX1_tries_55 : decode cX1_tries 55 = .ok (.getfield 105, 3) := dk_180 0 105 (dk_at dksX1_tries_2 7 rfl rfl)
theorem dX1_tries_58 : decode cX1_tries 58 = .ok (.iload_n 1, 1) := dk_27 (dk_at dksX1_tries_2 10 rfl rfl)
theorem dX1_tries_59 : decode cX1_tries 59 = .ok (.invokevirtual 85, 3) := dk_182 0 85 (dk_at dksX1_tries_2 11 rfl rfl)
theorem dX1_tries_62 : decode cX1_tries 62 = .ok (.ifCond .eq 10, 3) := dk_153 0 10 (dk_at dksX1_tries_2 14 rfl rfl)
theorem dX1_tries_65 : decode cX1_tries 65 = .ok (.iload 6, 2) := dk_21 6 (dk_at dksX1_tries_2 17 rfl rfl)
theorem dX1_tries_67 : decode cX1_tries 67 = .ok (.iconst 2, 1) := dk_5 (dk_at dksX1_tries_2 19 rfl rfl)
theorem dX1_tries_68 : decode cX1_tries 68 = .ok (.iadd, 1) := dk_96 (dk_at dksX1_tries_2 20 rfl rfl)
theorem dX1_tries_69 : decode cX1_tries 69 = .ok (.goto 5, 3) := dk_167 0 5 (dk_at dksX1_tries_2 21 rfl rfl)
theorem dX1_tries_72 : decode cX1_tries 72 = .ok (.iload 6, 2) := dk_21 6 (dk_at dksX1_tries_3 0 rfl rfl)
theorem dX1_tries_74 : decode cX1_tries 74 = .ok (.ireturn, 1) := dk_172 (dk_at dksX1_tries_3 2 rfl rfl)
abbrev cX1_where : ByteArray := prog_1_method_23_code
def yX1_where : MethodName := ⟨RX1, "where", "(IIII)I"⟩
def dkwX1_where_3 : List UInt8 := [167, 0, 12, 42, 180, 0, 105, 28, 29, 182, 0, 196, 172]
abbrev dktX1_where_3 : List UInt8 := dkwX1_where_3 ++ []
def dkwX1_where_2 : List UInt8 := [154, 0, 8, 16, 252, 167, 0, 31, 21, 4, 4, 160, 0, 16, 42, 180, 0, 105, 27, 28, 29, 182, 0, 190]
abbrev dktX1_where_2 : List UInt8 := dkwX1_where_2 ++ dktX1_where_3
def dkwX1_where_1 : List UInt8 := [172, 42, 180, 0, 105, 27, 28, 29, 182, 0, 213, 54, 5, 21, 4, 154, 0, 6, 21, 5, 172, 21, 5]
abbrev dktX1_where_1 : List UInt8 := dkwX1_where_1 ++ dktX1_where_2
def dkwX1_where_0 : List UInt8 := [42, 180, 0, 105, 27, 28, 29, 182, 0, 82, 153, 0, 13, 21, 4, 3, 5, 184, 0, 30, 154, 0, 5, 2]
abbrev dktX1_where_0 : List UInt8 := dkwX1_where_0 ++ dktX1_where_1
theorem dksX1_where_0 : cX1_where.data.toList.drop 0 = dktX1_where_0 := by decide +kernel
theorem dksX1_where_1 : cX1_where.data.toList.drop 24 = dktX1_where_1 := dk_seg dksX1_where_0 24 rfl rfl
theorem dksX1_where_2 : cX1_where.data.toList.drop 47 = dktX1_where_2 := dk_seg dksX1_where_1 23 rfl rfl
theorem dksX1_where_3 : cX1_where.data.toList.drop 71 = dktX1_where_3 := dk_seg dksX1_where_2 24 rfl rfl
theorem dX1_where_0 : decode cX1_where 0 = .ok (.aload_n 0, 1) := dk_42 (dk_at dksX1_where_0 0 rfl rfl)
theorem dX1_where_1 : decode cX1_where 1 = .ok (.getfield 105, 3) := dk_180 0 105 (dk_at dksX1_where_0 1 rfl rfl)
theorem dX1_where_4 : decode cX1_where 4 = .ok (.iload_n 1, 1) := dk_27 (dk_at dksX1_where_0 4 rfl rfl)
theorem dX1_where_5 : decode cX1_where 5 = .ok (.iload_n 2, 1) := dk_28 (dk_at dksX1_where_0 5 rfl rfl)
theorem dX1_where_6 : decode cX1_where 6 = .ok (.iload_n 3, 1) := dk_29 (dk_at dksX1_where_0 6 rfl rfl)
theorem dX1_where_7 : decode cX1_where 7 = .ok (.invokevirtual 82, 3) := dk_182 0 82 (dk_at dksX1_where_0 7 rfl rfl)
theorem dX1_where_10 : decode cX1_where 10 = .ok (.ifCond .eq 13, 3) := dk_153 0 13 (dk_at dksX1_where_0 10 rfl rfl)
theorem dX1_where_13 : decode cX1_where 13 = .ok (.iload 4, 2) := dk_21 4 (dk_at dksX1_where_0 13 rfl rfl)
theorem dX1_where_15 : decode cX1_where 15 = .ok (.iconst 0, 1) := dk_3 (dk_at dksX1_where_0 15 rfl rfl)
theorem dX1_where_16 : decode cX1_where 16 = .ok (.iconst 2, 1) := dk_5 (dk_at dksX1_where_0 16 rfl rfl)
theorem dX1_where_17 : decode cX1_where 17 = .ok (.invokestatic 30, 3) := dk_184 0 30 (dk_at dksX1_where_0 17 rfl rfl)
theorem dX1_where_20 : decode cX1_where 20 = .ok (.ifCond .ne 5, 3) := dk_154 0 5 (dk_at dksX1_where_0 20 rfl rfl)
theorem dX1_where_23 : decode cX1_where 23 = .ok (.iconst (-1), 1) := dk_2 (dk_at dksX1_where_0 23 rfl rfl)
theorem dX1_where_24 : decode cX1_where 24 = .ok (.ireturn, 1) := dk_172 (dk_at dksX1_where_1 0 rfl rfl)
theorem dX1_where_25 : decode cX1_where 25 = .ok (.aload_n 0, 1) := dk_42 (dk_at dksX1_where_1 1 rfl rfl)
theorem dX1_where_26 : decode cX1_where 26 = .ok (.getfield 105, 3) := dk_180 0 105 (dk_at dksX1_where_1 2 rfl rfl)
theorem dX1_where_29 : decode cX1_where 29 = .ok (.iload_n 1, 1) := dk_27 (dk_at dksX1_where_1 5 rfl rfl)
theorem dX1_where_30 : decode cX1_where 30 = .ok (.iload_n 2, 1) := dk_28 (dk_at dksX1_where_1 6 rfl rfl)
theorem dX1_where_31 : decode cX1_where 31 = .ok (.iload_n 3, 1) := dk_29 (dk_at dksX1_where_1 7 rfl rfl)
theorem dX1_where_32 : decode cX1_where 32 = .ok (.invokevirtual 213, 3) := dk_182 0 213 (dk_at dksX1_where_1 8 rfl rfl)
theorem dX1_where_35 : decode cX1_where 35 = .ok (.istore 5, 2) := dk_54 5 (dk_at dksX1_where_1 11 rfl rfl)
theorem dX1_where_37 : decode cX1_where 37 = .ok (.iload 4, 2) := dk_21 4 (dk_at dksX1_where_1 13 rfl rfl)
theorem dX1_where_39 : decode cX1_where 39 = .ok (.ifCond .ne 6, 3) := dk_154 0 6 (dk_at dksX1_where_1 15 rfl rfl)
theorem dX1_where_42 : decode cX1_where 42 = .ok (.iload 5, 2) := dk_21 5 (dk_at dksX1_where_1 18 rfl rfl)
theorem dX1_where_44 : decode cX1_where 44 = .ok (.ireturn, 1) := dk_172 (dk_at dksX1_where_1 20 rfl rfl)
theorem dX1_where_45 : decode cX1_where 45 = .ok (.iload 5, 2) := dk_21 5 (dk_at dksX1_where_1 21 rfl rfl)
theorem dX1_where_47 : decode cX1_where 47 = .ok (.ifCond .ne 8, 3) := dk_154 0 8 (dk_at dksX1_where_2 0 rfl rfl)
theorem dX1_where_50 : decode cX1_where 50 = .ok (.bipush (-4), 2) := dk_16 252 (dk_at dksX1_where_2 3 rfl rfl)
theorem dX1_where_52 : decode cX1_where 52 = .ok (.goto 31, 3) := dk_167 0 31 (dk_at dksX1_where_2 5 rfl rfl)
theorem dX1_where_55 : decode cX1_where 55 = .ok (.iload 4, 2) := dk_21 4 (dk_at dksX1_where_2 8 rfl rfl)
theorem dX1_where_57 : decode cX1_where 57 = .ok (.iconst 1, 1) := dk_4 (dk_at dksX1_where_2 10 rfl rfl)
theorem dX1_where_58 : decode cX1_where 58 = .ok (.if_icmp .ne 16, 3) := dk_160 0 16 (dk_at dksX1_where_2 11 rfl rfl)
theorem dX1_where_61 : decode cX1_where 61 = .ok (.aload_n 0, 1) := dk_42 (dk_at dksX1_where_2 14 rfl rfl)
theorem dX1_where_62 : decode cX1_where 62 = .ok (.getfield 105, 3) := dk_180 0 105 (dk_at dksX1_where_2 15 rfl rfl)
theorem dX1_where_65 : decode cX1_where 65 = .ok (.iload_n 1, 1) := dk_27 (dk_at dksX1_where_2 18 rfl rfl)
theorem dX1_where_66 : decode cX1_where 66 = .ok (.iload_n 2, 1) := dk_28 (dk_at dksX1_where_2 19 rfl rfl)
theorem dX1_where_67 : decode cX1_where 67 = .ok (.iload_n 3, 1) := dk_29 (dk_at dksX1_where_2 20 rfl rfl)
theorem dX1_where_68 : decode cX1_where 68 = .ok (.invokevirtual 190, 3) := dk_182 0 190 (dk_at dksX1_where_2 21 rfl rfl)
theorem dX1_where_71 : decode cX1_where 71 = .ok (.goto 12, 3) := dk_167 0 12 (dk_at dksX1_where_3 0 rfl rfl)
theorem dX1_where_74 : decode cX1_where 74 = .ok (.aload_n 0, 1) := dk_42 (dk_at dksX1_where_3 3 rfl rfl)
theorem dX1_where_75 : decode cX1_where 75 = .ok (.getfield 105, 3) := dk_180 0 105 (dk_at dksX1_where_3 4 rfl rfl)
theorem dX1_where_78 : decode cX1_where 78 = .ok (.iload_n 2, 1) := dk_28 (dk_at dksX1_where_3 7 rfl rfl)
theorem dX1_where_79 : decode cX1_where 79 = .ok (.iload_n 3, 1) := dk_29 (dk_at dksX1_where_3 8 rfl rfl)
theorem dX1_where_80 : decode cX1_where 80 = .ok (.invokevirtual 196, 3) := dk_182 0 196 (dk_at dksX1_where_3 9 rfl rfl)
theorem dX1_where_83 : decode cX1_where 83 = .ok (.ireturn, 1) := dk_172 (dk_at dksX1_where_3 12 rfl rfl)
abbrev cX1_whoCan : ByteArray := prog_1_method_25_code
def yX1_whoCan : MethodName := ⟨RX1, "whoCan", "()I"⟩
def dkwX1_whoCan_1 : List UInt8 := [4, 28, 120, 167, 0, 4, 3, 128, 60, 132, 2, 1, 167, 255, 224, 27, 172]
abbrev dktX1_whoCan_1 : List UInt8 := dkwX1_whoCan_1 ++ []
def dkwX1_whoCan_0 : List UInt8 := [3, 60, 3, 61, 28, 42, 180, 0, 105, 180, 0, 64, 162, 0, 27, 27, 42, 28, 182, 0, 216, 153, 0, 9]
abbrev dktX1_whoCan_0 : List UInt8 := dkwX1_whoCan_0 ++ dktX1_whoCan_1
theorem dksX1_whoCan_0 : cX1_whoCan.data.toList.drop 0 = dktX1_whoCan_0 := by decide +kernel
theorem dksX1_whoCan_1 : cX1_whoCan.data.toList.drop 24 = dktX1_whoCan_1 := dk_seg dksX1_whoCan_0 24 rfl rfl
theorem dX1_whoCan_0 : decode cX1_whoCan 0 = .ok (.iconst 0, 1) := dk_3 (dk_at dksX1_whoCan_0 0 rfl rfl)
theorem dX1_whoCan_1 : decode cX1_whoCan 1 = .ok (.istore_n 1, 1) := dk_60 (dk_at dksX1_whoCan_0 1 rfl rfl)
theorem dX1_whoCan_2 : decode cX1_whoCan 2 = .ok (.iconst 0, 1) := dk_3 (dk_at dksX1_whoCan_0 2 rfl rfl)
theorem dX1_whoCan_3 : decode cX1_whoCan 3 = .ok (.istore_n 2, 1) := dk_61 (dk_at dksX1_whoCan_0 3 rfl rfl)
theorem dX1_whoCan_4 : decode cX1_whoCan 4 = .ok (.iload_n 2, 1) := dk_28 (dk_at dksX1_whoCan_0 4 rfl rfl)
theorem dX1_whoCan_5 : decode cX1_whoCan 5 = .ok (.aload_n 0, 1) := dk_42 (dk_at dksX1_whoCan_0 5 rfl rfl)
theorem dX1_whoCan_6 : decode cX1_whoCan 6 = .ok (.getfield 105, 3) := dk_180 0 105 (dk_at dksX1_whoCan_0 6 rfl rfl)
theorem dX1_whoCan_9 : decode cX1_whoCan 9 = .ok (.getfield 64, 3) := dk_180 0 64 (dk_at dksX1_whoCan_0 9 rfl rfl)
theorem dX1_whoCan_12 : decode cX1_whoCan 12 = .ok (.if_icmp .ge 27, 3) := dk_162 0 27 (dk_at dksX1_whoCan_0 12 rfl rfl)
theorem dX1_whoCan_15 : decode cX1_whoCan 15 = .ok (.iload_n 1, 1) := dk_27 (dk_at dksX1_whoCan_0 15 rfl rfl)
theorem dX1_whoCan_16 : decode cX1_whoCan 16 = .ok (.aload_n 0, 1) := dk_42 (dk_at dksX1_whoCan_0 16 rfl rfl)
theorem dX1_whoCan_17 : decode cX1_whoCan 17 = .ok (.iload_n 2, 1) := dk_28 (dk_at dksX1_whoCan_0 17 rfl rfl)
theorem dX1_whoCan_18 : decode cX1_whoCan 18 = .ok (.invokevirtual 216, 3) := dk_182 0 216 (dk_at dksX1_whoCan_0 18 rfl rfl)
theorem dX1_whoCan_21 : decode cX1_whoCan 21 = .ok (.ifCond .eq 9, 3) := dk_153 0 9 (dk_at dksX1_whoCan_0 21 rfl rfl)
theorem dX1_whoCan_24 : decode cX1_whoCan 24 = .ok (.iconst 1, 1) := dk_4 (dk_at dksX1_whoCan_1 0 rfl rfl)
theorem dX1_whoCan_25 : decode cX1_whoCan 25 = .ok (.iload_n 2, 1) := dk_28 (dk_at dksX1_whoCan_1 1 rfl rfl)
theorem dX1_whoCan_26 : decode cX1_whoCan 26 = .ok (.ishl, 1) := dk_120 (dk_at dksX1_whoCan_1 2 rfl rfl)
theorem dX1_whoCan_27 : decode cX1_whoCan 27 = .ok (.goto 4, 3) := dk_167 0 4 (dk_at dksX1_whoCan_1 3 rfl rfl)
theorem dX1_whoCan_30 : decode cX1_whoCan 30 = .ok (.iconst 0, 1) := dk_3 (dk_at dksX1_whoCan_1 6 rfl rfl)
theorem dX1_whoCan_31 : decode cX1_whoCan 31 = .ok (.ior, 1) := dk_128 (dk_at dksX1_whoCan_1 7 rfl rfl)
theorem dX1_whoCan_32 : decode cX1_whoCan 32 = .ok (.istore_n 1, 1) := dk_60 (dk_at dksX1_whoCan_1 8 rfl rfl)
theorem dX1_whoCan_33 : decode cX1_whoCan 33 = .ok (.iinc 2 1, 3) := dk_132 2 1 (dk_at dksX1_whoCan_1 9 rfl rfl)
theorem dX1_whoCan_36 : decode cX1_whoCan 36 = .ok (.goto (-32), 3) := dk_167 255 224 (dk_at dksX1_whoCan_1 12 rfl rfl)
theorem dX1_whoCan_39 : decode cX1_whoCan 39 = .ok (.iload_n 1, 1) := dk_27 (dk_at dksX1_whoCan_1 15 rfl rfl)
theorem dX1_whoCan_40 : decode cX1_whoCan 40 = .ok (.ireturn, 1) := dk_172 (dk_at dksX1_whoCan_1 16 rfl rfl)
abbrev cX1_canSound : ByteArray := prog_1_method_24_code
def yX1_canSound : MethodName := ⟨RX1, "canSound", "(I)Z"⟩
def dkwX1_canSound_2 : List UInt8 := [158, 0, 5, 4, 172, 132, 3, 1, 167, 255, 216, 132, 2, 1, 167, 255, 197, 3, 172]
abbrev dktX1_canSound_2 : List UInt8 := dkwX1_canSound_2 ++ []
def dkwX1_canSound_1 : List UInt8 := [162, 0, 35, 42, 180, 0, 105, 28, 182, 0, 85, 154, 0, 18, 42, 180, 0, 105, 28, 27, 29, 182, 0, 213]
abbrev dktX1_canSound_1 : List UInt8 := dkwX1_canSound_1 ++ dktX1_canSound_2
def dkwX1_canSound_0 : List UInt8 := [3, 61, 28, 42, 180, 0, 105, 180, 0, 52, 162, 0, 54, 3, 62, 29, 42, 180, 0, 105, 180, 0, 71]
abbrev dktX1_canSound_0 : List UInt8 := dkwX1_canSound_0 ++ dktX1_canSound_1
theorem dksX1_canSound_0 : cX1_canSound.data.toList.drop 0 = dktX1_canSound_0 := by decide +kernel
theorem dksX1_canSound_1 : cX1_canSound.data.toList.drop 23 = dktX1_canSound_1 := dk_seg dksX1_canSound_0 23 rfl rfl
theorem dksX1_canSound_2 : cX1_canSound.data.toList.drop 47 = dktX1_canSound_2 := dk_seg dksX1_canSound_1 24 rfl rfl
theorem dX1_canSound_0 : decode cX1_canSound 0 = .ok (.iconst 0, 1) := dk_3 (dk_at dksX1_canSound_0 0 rfl rfl)
theorem dX1_canSound_1 : decode cX1_canSound 1 = .ok (.istore_n 2, 1) := dk_61 (dk_at dksX1_canSound_0 1 rfl rfl)
theorem dX1_canSound_2 : decode cX1_canSound 2 = .ok (.iload_n 2, 1) := dk_28 (dk_at dksX1_canSound_0 2 rfl rfl)
theorem dX1_canSound_3 : decode cX1_canSound 3 = .ok (.aload_n 0, 1) := dk_42 (dk_at dksX1_canSound_0 3 rfl rfl)
theorem dX1_canSound_4 : decode cX1_canSound 4 = .ok (.getfield 105, 3) := dk_180 0 105 (dk_at dksX1_canSound_0 4 rfl rfl)
theorem dX1_canSound_7 : decode cX1_canSound 7 = .ok (.getfield 52, 3) := dk_180 0 52 (dk_at dksX1_canSound_0 7 rfl rfl)
theorem dX1_canSound_10 : decode cX1_canSound 10 = .ok (.if_icmp .ge 54, 3) := dk_162 0 54 (dk_at dksX1_canSound_0 10 rfl rfl)
theorem dX1_canSound_13 : decode cX1_canSound 13 = .ok (.iconst 0, 1) := dk_3 (dk_at dksX1_canSound_0 13 rfl rfl)
theorem dX1_canSound_14 : decode cX1_canSound 14 = .ok (.istore_n 3, 1) := dk_62 (dk_at dksX1_canSound_0 14 rfl rfl)
theorem dX1_canSound_15 : decode cX1_canSound 15 = .ok (.iload_n 3, 1) := dk_29 (dk_at dksX1_canSound_0 15 rfl rfl)
theorem dX1_canSound_16 : decode cX1_canSound 16 = .ok (.aload_n 0, 1) := dk_42 (dk_at dksX1_canSound_0 16 rfl rfl)
theorem dX1_canSound_17 : decode cX1_canSound 17 = .ok (.getfield 105, 3) := dk_180 0 105 (dk_at dksX1_canSound_0 17 rfl rfl)
theorem dX1_canSound_20 : decode cX1_canSound 20 = .ok (.getfield 71, 3) := dk_180 0 71 (dk_at dksX1_canSound_0 20 rfl rfl)
theorem dX1_canSound_23 : decode cX1_canSound 23 = .ok (.if_icmp .ge 35, 3) := dk_162 0 35 (dk_at dksX1_canSound_1 0 rfl rfl)
theorem dX1_canSound_26 : decode cX1_canSound 26 = .ok (.aload_n 0, 1) := dk_42 (dk_at dksX1_canSound_1 3 rfl rfl)
theorem dX1_canSound_27 : decode cX1_canSound 27 = .ok (.getfield 105, 3) := dk_180 0 105 (dk_at dksX1_canSound_1 4 rfl rfl)
theorem dX1_canSound_30 : decode cX1_canSound 30 = .ok (.iload_n 2, 1) := dk_28 (dk_at dksX1_canSound_1 7 rfl rfl)
theorem dX1_canSound_31 : decode cX1_canSound 31 = .ok (.invokevirtual 85, 3) := dk_182 0 85 (dk_at dksX1_canSound_1 8 rfl rfl)
theorem dX1_canSound_34 : decode cX1_canSound 34 = .ok (.ifCond .ne 18, 3) := dk_154 0 18 (dk_at dksX1_canSound_1 11 rfl rfl)
theorem dX1_canSound_37 : decode cX1_canSound 37 = .ok (.aload_n 0, 1) := dk_42 (dk_at dksX1_canSound_1 14 rfl rfl)
theorem dX1_canSound_38 : decode cX1_canSound 38 = .ok (.getfield 105, 3) := dk_180 0 105 (dk_at dksX1_canSound_1 15 rfl rfl)
theorem dX1_canSound_41 : decode cX1_canSound 41 = .ok (.iload_n 2, 1) := dk_28 (dk_at dksX1_canSound_1 18 rfl rfl)
theorem dX1_canSound_42 : decode cX1_canSound 42 = .ok (.iload_n 1, 1) := dk_27 (dk_at dksX1_canSound_1 19 rfl rfl)
theorem dX1_canSound_43 : decode cX1_canSound 43 = .ok (.iload_n 3, 1) := dk_29 (dk_at dksX1_canSound_1 20 rfl rfl)
theorem dX1_canSound_44 : decode cX1_canSound 44 = .ok (.invokevirtual 213, 3) := dk_182 0 213 (dk_at dksX1_canSound_1 21 rfl rfl)
theorem dX1_canSound_47 : decode cX1_canSound 47 = .ok (.ifCond .le 5, 3) := dk_158 0 5 (dk_at dksX1_canSound_2 0 rfl rfl)
theorem dX1_canSound_50 : decode cX1_canSound 50 = .ok (.iconst 1, 1) := dk_4 (dk_at dksX1_canSound_2 3 rfl rfl)
theorem dX1_canSound_51 : decode cX1_canSound 51 = .ok (.ireturn, 1) := dk_172 (dk_at dksX1_canSound_2 4 rfl rfl)
theorem dX1_canSound_52 : decode cX1_canSound 52 = .ok (.iinc 3 1, 3) := dk_132 3 1 (dk_at dksX1_canSound_2 5 rfl rfl)
theorem dX1_canSound_55 : decode cX1_canSound 55 = .ok (.goto (-40), 3) := dk_167 255 216 (dk_at dksX1_canSound_2 8 rfl rfl)
theorem dX1_canSound_58 : decode cX1_canSound 58 = .ok (.iinc 2 1, 3) := dk_132 2 1 (dk_at dksX1_canSound_2 11 rfl rfl)
theorem dX1_canSound_61 : decode cX1_canSound 61 = .ok (.goto (-59), 3) := dk_167 255 197 (dk_at dksX1_canSound_2 14 rfl rfl)
theorem dX1_canSound_64 : decode cX1_canSound 64 = .ok (.iconst 0, 1) := dk_3 (dk_at dksX1_canSound_2 17 rfl rfl)
theorem dX1_canSound_65 : decode cX1_canSound 65 = .ok (.ireturn, 1) := dk_172 (dk_at dksX1_canSound_2 18 rfl rfl)
abbrev cX1_which : ByteArray := prog_1_method_26_code
def yX1_which : MethodName := ⟨RX1, "which", "(II)I"⟩
def dkwX1_which_4 : List UInt8 := [132, 5, 1, 167, 255, 194, 29, 172]
abbrev dktX1_which_4 : List UInt8 := dkwX1_which_4 ++ []
def dkwX1_which_3 : List UInt8 := [163, 0, 6, 167, 0, 19, 21, 5, 62, 42, 180, 0, 105, 21, 5, 27, 28, 182, 0, 213, 54, 4]
abbrev dktX1_which_3 : List UInt8 := dkwX1_which_3 ++ dktX1_which_4
def dkwX1_which_2 : List UInt8 := [180, 0, 105, 21, 5, 182, 0, 85, 154, 0, 38, 42, 180, 0, 105, 21, 5, 27, 28, 182, 0, 213, 21, 4]
abbrev dktX1_which_2 : List UInt8 := dkwX1_which_2 ++ dktX1_which_3
def dkwX1_which_1 : List UInt8 := [16, 252, 62, 3, 54, 4, 3, 54, 5, 21, 5, 42, 180, 0, 105, 180, 0, 52, 162, 0, 56, 42]
abbrev dktX1_which_1 : List UInt8 := dkwX1_which_1 ++ dktX1_which_2
def dkwX1_which_0 : List UInt8 := [42, 180, 0, 105, 27, 182, 0, 160, 153, 0, 14, 42, 180, 0, 105, 28, 182, 0, 169, 154, 0, 5, 2, 172]
abbrev dktX1_which_0 : List UInt8 := dkwX1_which_0 ++ dktX1_which_1
theorem dksX1_which_0 : cX1_which.data.toList.drop 0 = dktX1_which_0 := by decide +kernel
theorem dksX1_which_1 : cX1_which.data.toList.drop 24 = dktX1_which_1 := dk_seg dksX1_which_0 24 rfl rfl
theorem dksX1_which_2 : cX1_which.data.toList.drop 46 = dktX1_which_2 := dk_seg dksX1_which_1 22 rfl rfl
theorem dksX1_which_3 : cX1_which.data.toList.drop 70 = dktX1_which_3 := dk_seg dksX1_which_2 24 rfl rfl
theorem dksX1_which_4 : cX1_which.data.toList.drop 92 = dktX1_which_4 := dk_seg dksX1_which_3 22 rfl rfl
theorem dX1_which_0 : decode cX1_which 0 = .ok (.aload_n 0, 1) := dk_42 (dk_at dksX1_which_0 0 rfl rfl)
theorem dX1_which_1 : decode cX1_which 1 = .ok (.getfield 105, 3) := dk_180 0 105 (dk_at dksX1_which_0 1 rfl rfl)
theorem dX1_which_4 : decode cX1_which 4 = .ok (.iload_n 1, 1) := dk_27 (dk_at dksX1_which_0 4 rfl rfl)
theorem dX1_which_5 : decode cX1_which 5 = .ok (.invokevirtual 160, 3) := dk_182 0 160 (dk_at dksX1_which_0 5 rfl rfl)
theorem dX1_which_8 : decode cX1_which 8 = .ok (.ifCond .eq 14, 3) := dk_153 0 14 (dk_at dksX1_which_0 8 rfl rfl)
theorem dX1_which_11 : decode cX1_which 11 = .ok (.aload_n 0, 1) := dk_42 (dk_at dksX1_which_0 11 rfl rfl)
theorem dX1_which_12 : decode cX1_which 12 = .ok (.getfield 105, 3) := dk_180 0 105 (dk_at dksX1_which_0 12 rfl rfl)
theorem dX1_which_15 : decode cX1_which 15 = .ok (.iload_n 2, 1) := dk_28 (dk_at dksX1_which_0 15 rfl rfl)
theorem dX1_which_16 : decode cX1_which 16 = .ok (.invokevirtual 169, 3) := dk_182 0 169 (dk_at dksX1_which_0 16 rfl rfl)
theorem dX1_which_19 : decode cX1_which 19 = .ok (.ifCond .ne 5, 3) := dk_154 0 5 (dk_at dksX1_which_0 19 rfl rfl)
theorem dX1_which_22 : decode cX1_which 22 = .ok (.iconst (-1), 1) := dk_2 (dk_at dksX1_which_0 22 rfl rfl)
theorem dX1_which_23 : decode cX1_which 23 = .ok (.ireturn, 1) := dk_172 (dk_at dksX1_which_0 23 rfl rfl)
theorem dX1_which_24 : decode cX1_which 24 = .ok (.bipush (-4), 2) := dk_16 252 (dk_at dksX1_which_1 0 rfl rfl)
theorem dX1_which_26 : decode cX1_which 26 = .ok (.istore_n 3, 1) := dk_62 (dk_at dksX1_which_1 2 rfl rfl)
theorem dX1_which_27 : decode cX1_which 27 = .ok (.iconst 0, 1) := dk_3 (dk_at dksX1_which_1 3 rfl rfl)
theorem dX1_which_28 : decode cX1_which 28 = .ok (.istore 4, 2) := dk_54 4 (dk_at dksX1_which_1 4 rfl rfl)
theorem dX1_which_30 : decode cX1_which 30 = .ok (.iconst 0, 1) := dk_3 (dk_at dksX1_which_1 6 rfl rfl)
theorem dX1_which_31 : decode cX1_which 31 = .ok (.istore 5, 2) := dk_54 5 (dk_at dksX1_which_1 7 rfl rfl)
theorem dX1_which_33 : decode cX1_which 33 = .ok (.iload 5, 2) := dk_21 5 (dk_at dksX1_which_1 9 rfl rfl)
theorem dX1_which_35 : decode cX1_which 35 = .ok (.aload_n 0, 1) := dk_42 (dk_at dksX1_which_1 11 rfl rfl)
theorem dX1_which_36 : decode cX1_which 36 = .ok (.getfield 105, 3) := dk_180 0 105 (dk_at dksX1_which_1 12 rfl rfl)
theorem dX1_which_39 : decode cX1_which 39 = .ok (.getfield 52, 3) := dk_180 0 52 (dk_at dksX1_which_1 15 rfl rfl)
theorem dX1_which_42 : decode cX1_which 42 = .ok (.if_icmp .ge 56, 3) := dk_162 0 56 (dk_at dksX1_which_1 18 rfl rfl)
theorem dX1_which_45 : decode cX1_which 45 = .ok (.aload_n 0, 1) := dk_42 (dk_at dksX1_which_1 21 rfl rfl)
theorem dX1_which_46 : decode cX1_which 46 = .ok (.getfield 105, 3) := dk_180 0 105 (dk_at dksX1_which_2 0 rfl rfl)
theorem dX1_which_49 : decode cX1_which 49 = .ok (.iload 5, 2) := dk_21 5 (dk_at dksX1_which_2 3 rfl rfl)
theorem dX1_which_51 : decode cX1_which 51 = .ok (.invokevirtual 85, 3) := dk_182 0 85 (dk_at dksX1_which_2 5 rfl rfl)
theorem dX1_which_54 : decode cX1_which 54 = .ok (.ifCond .ne 38, 3) := dk_154 0 38 (dk_at dksX1_which_2 8 rfl rfl)
theorem dX1_which_57 : decode cX1_which 57 = .ok (.aload_n 0, 1) := dk_42 (dk_at dksX1_which_2 11 rfl rfl)
theorem dX1_which_58 : decode cX1_which 58 = .ok (.getfield 105, 3) := dk_180 0 105 (dk_at dksX1_which_2 12 rfl rfl)
theorem dX1_which_61 : decode cX1_which 61 = .ok (.iload 5, 2) := dk_21 5 (dk_at dksX1_which_2 15 rfl rfl)
theorem dX1_which_63 : decode cX1_which 63 = .ok (.iload_n 1, 1) := dk_27 (dk_at dksX1_which_2 17 rfl rfl)
theorem dX1_which_64 : decode cX1_which 64 = .ok (.iload_n 2, 1) := dk_28 (dk_at dksX1_which_2 18 rfl rfl)
theorem dX1_which_65 : decode cX1_which 65 = .ok (.invokevirtual 213, 3) := dk_182 0 213 (dk_at dksX1_which_2 19 rfl rfl)
theorem dX1_which_68 : decode cX1_which 68 = .ok (.iload 4, 2) := dk_21 4 (dk_at dksX1_which_2 22 rfl rfl)
theorem dX1_which_70 : decode cX1_which 70 = .ok (.if_icmp .gt 6, 3) := dk_163 0 6 (dk_at dksX1_which_3 0 rfl rfl)
theorem dX1_which_73 : decode cX1_which 73 = .ok (.goto 19, 3) := dk_167 0 19 (dk_at dksX1_which_3 3 rfl rfl)
theorem dX1_which_76 : decode cX1_which 76 = .ok (.iload 5, 2) := dk_21 5 (dk_at dksX1_which_3 6 rfl rfl)
theorem dX1_which_78 : decode cX1_which 78 = .ok (.istore_n 3, 1) := dk_62 (dk_at dksX1_which_3 8 rfl rfl)
theorem dX1_which_79 : decode cX1_which 79 = .ok (.aload_n 0, 1) := dk_42 (dk_at dksX1_which_3 9 rfl rfl)
theorem dX1_which_80 : decode cX1_which 80 = .ok (.getfield 105, 3) := dk_180 0 105 (dk_at dksX1_which_3 10 rfl rfl)
theorem dX1_which_83 : decode cX1_which 83 = .ok (.iload 5, 2) := dk_21 5 (dk_at dksX1_which_3 13 rfl rfl)
theorem dX1_which_85 : decode cX1_which 85 = .ok (.iload_n 1, 1) := dk_27 (dk_at dksX1_which_3 15 rfl rfl)
theorem dX1_which_86 : decode cX1_which 86 = .ok (.iload_n 2, 1) := dk_28 (dk_at dksX1_which_3 16 rfl rfl)
theorem dX1_which_87 : decode cX1_which 87 = .ok (.invokevirtual 213, 3) := dk_182 0 213 (dk_at dksX1_which_3 17 rfl rfl)
theorem dX1_which_90 : decode cX1_which 90 = .ok (.istore 4, 2) := dk_54 4 (dk_at dksX1_which_3 20 rfl rfl)
theorem dX1_which_92 : decode cX1_which 92 = .ok (.iinc 5 1, 3) := dk_132 5 1 (dk_at dksX1_which_4 0 rfl rfl)
theorem dX1_which_95 : decode cX1_which 95 = .ok (.goto (-62), 3) := dk_167 255 194 (dk_at dksX1_which_4 3 rfl rfl)
theorem dX1_which_98 : decode cX1_which 98 = .ok (.iload_n 3, 1) := dk_29 (dk_at dksX1_which_4 6 rfl rfl)
theorem dX1_which_99 : decode cX1_which 99 = .ok (.ireturn, 1) := dk_172 (dk_at dksX1_which_4 7 rfl rfl)
abbrev cX1_wrong : ByteArray := prog_1_method_27_code
def yX1_wrong : MethodName := ⟨RX1, "wrong", "(IIIII)I"⟩
def dkwX1_wrong_1 : List UInt8 := [21, 5, 182, 0, 219, 167, 0, 4, 2, 172]
abbrev dktX1_wrong_1 : List UInt8 := dkwX1_wrong_1 ++ []
def dkwX1_wrong_0 : List UInt8 := [42, 27, 28, 29, 21, 4, 21, 5, 182, 0, 202, 153, 0, 20, 42, 180, 0, 105, 27, 28, 29, 21, 4]
abbrev dktX1_wrong_0 : List UInt8 := dkwX1_wrong_0 ++ dktX1_wrong_1
theorem dksX1_wrong_0 : cX1_wrong.data.toList.drop 0 = dktX1_wrong_0 := by decide +kernel
theorem dksX1_wrong_1 : cX1_wrong.data.toList.drop 23 = dktX1_wrong_1 := dk_seg dksX1_wrong_0 23 rfl rfl
theorem dX1_wrong_0 : decode cX1_wrong 0 = .ok (.aload_n 0, 1) := dk_42 (dk_at dksX1_wrong_0 0 rfl rfl)
theorem dX1_wrong_1 : decode cX1_wrong 1 = .ok (.iload_n 1, 1) := dk_27 (dk_at dksX1_wrong_0 1 rfl rfl)
theorem dX1_wrong_2 : decode cX1_wrong 2 = .ok (.iload_n 2, 1) := dk_28 (dk_at dksX1_wrong_0 2 rfl rfl)
theorem dX1_wrong_3 : decode cX1_wrong 3 = .ok (.iload_n 3, 1) := dk_29 (dk_at dksX1_wrong_0 3 rfl rfl)
theorem dX1_wrong_4 : decode cX1_wrong 4 = .ok (.iload 4, 2) := dk_21 4 (dk_at dksX1_wrong_0 4 rfl rfl)
theorem dX1_wrong_6 : decode cX1_wrong 6 = .ok (.iload 5, 2) := dk_21 5 (dk_at dksX1_wrong_0 6 rfl rfl)
theorem dX1_wrong_8 : decode cX1_wrong 8 = .ok (.invokevirtual 202, 3) := dk_182 0 202 (dk_at dksX1_wrong_0 8 rfl rfl)
theorem dX1_wrong_11 : decode cX1_wrong 11 = .ok (.ifCond .eq 20, 3) := dk_153 0 20 (dk_at dksX1_wrong_0 11 rfl rfl)
theorem dX1_wrong_14 : decode cX1_wrong 14 = .ok (.aload_n 0, 1) := dk_42 (dk_at dksX1_wrong_0 14 rfl rfl)
theorem dX1_wrong_15 : decode cX1_wrong 15 = .ok (.getfield 105, 3) := dk_180 0 105 (dk_at dksX1_wrong_0 15 rfl rfl)
theorem dX1_wrong_18 : decode cX1_wrong 18 = .ok (.iload_n 1, 1) := dk_27 (dk_at dksX1_wrong_0 18 rfl rfl)
theorem dX1_wrong_19 : decode cX1_wrong 19 = .ok (.iload_n 2, 1) := dk_28 (dk_at dksX1_wrong_0 19 rfl rfl)
theorem dX1_wrong_20 : decode cX1_wrong 20 = .ok (.iload_n 3, 1) := dk_29 (dk_at dksX1_wrong_0 20 rfl rfl)
theorem dX1_wrong_21 : decode cX1_wrong 21 = .ok (.iload 4, 2) := dk_21 4 (dk_at dksX1_wrong_0 21 rfl rfl)
theorem dX1_wrong_23 : decode cX1_wrong 23 = .ok (.iload 5, 2) := dk_21 5 (dk_at dksX1_wrong_1 0 rfl rfl)
theorem dX1_wrong_25 : decode cX1_wrong 25 = .ok (.invokevirtual 219, 3) := dk_182 0 219 (dk_at dksX1_wrong_1 2 rfl rfl)
theorem dX1_wrong_28 : decode cX1_wrong 28 = .ok (.goto 4, 3) := dk_167 0 4 (dk_at dksX1_wrong_1 5 rfl rfl)
theorem dX1_wrong_31 : decode cX1_wrong 31 = .ok (.iconst (-1), 1) := dk_2 (dk_at dksX1_wrong_1 8 rfl rfl)
theorem dX1_wrong_32 : decode cX1_wrong 32 = .ok (.ireturn, 1) := dk_172 (dk_at dksX1_wrong_1 9 rfl rfl)
abbrev cX1_next : ByteArray := prog_1_method_29_code
def yX1_next : MethodName := ⟨RX1, "next", "(IIIII)I"⟩
def dkwX1_next_8 : List UInt8 := [184, 0, 239, 96, 172]
abbrev dktX1_next_8 : List UInt8 := dkwX1_next_8 ++ []
def dkwX1_next_7 : List UInt8 := [167, 0, 26, 21, 6, 21, 4, 16, 100, 108, 100, 184, 0, 239, 21, 7, 21, 4, 16, 100, 112, 100]
abbrev dktX1_next_7 : List UInt8 := dkwX1_next_7 ++ dktX1_next_8
def dkwX1_next_6 : List UInt8 := [182, 0, 236, 96, 4, 100, 184, 0, 234, 54, 7, 21, 5, 154, 0, 14, 16, 100, 21, 6, 104, 21, 7, 96]
abbrev dktX1_next_6 : List UInt8 := dkwX1_next_6 ++ dktX1_next_7
def dkwX1_next_5 : List UInt8 := [180, 0, 105, 28, 29, 182, 0, 196, 42, 180, 0, 105, 28, 29, 182, 0, 196, 42, 180, 0, 105, 28, 29]
abbrev dktX1_next_5 : List UInt8 := dkwX1_next_5 ++ dktX1_next_6
def dkwX1_next_4 : List UInt8 := [180, 0, 105, 27, 28, 29, 182, 0, 231, 96, 4, 100, 184, 0, 234, 54, 6, 21, 4, 16, 100, 112, 42]
abbrev dktX1_next_4 : List UInt8 := dkwX1_next_4 ++ dktX1_next_5
def dkwX1_next_3 : List UInt8 := [16, 100, 108, 42, 180, 0, 105, 27, 28, 29, 182, 0, 190, 42, 180, 0, 105, 27, 28, 29, 182, 0, 190, 42]
abbrev dktX1_next_3 : List UInt8 := dkwX1_next_3 ++ dktX1_next_4
def dkwX1_next_2 : List UInt8 := [154, 0, 5, 2, 172, 42, 180, 0, 105, 27, 28, 29, 182, 0, 213, 154, 0, 6, 16, 252, 172, 21, 4]
abbrev dktX1_next_2 : List UInt8 := dkwX1_next_2 ++ dktX1_next_3
def dkwX1_next_1 : List UInt8 := [184, 0, 61, 153, 0, 24, 21, 4, 16, 100, 112, 184, 0, 61, 153, 0, 13, 21, 5, 3, 4, 184, 0, 30]
abbrev dktX1_next_1 : List UInt8 := dkwX1_next_1 ++ dktX1_next_2
def dkwX1_next_0 : List UInt8 := [42, 180, 0, 105, 27, 28, 29, 182, 0, 82, 153, 0, 40, 21, 4, 155, 0, 35, 21, 4, 16, 100, 108]
abbrev dktX1_next_0 : List UInt8 := dkwX1_next_0 ++ dktX1_next_1
theorem dksX1_next_0 : cX1_next.data.toList.drop 0 = dktX1_next_0 := by decide +kernel
theorem dksX1_next_1 : cX1_next.data.toList.drop 23 = dktX1_next_1 := dk_seg dksX1_next_0 23 rfl rfl
theorem dksX1_next_2 : cX1_next.data.toList.drop 47 = dktX1_next_2 := dk_seg dksX1_next_1 24 rfl rfl
theorem dksX1_next_3 : cX1_next.data.toList.drop 70 = dktX1_next_3 := dk_seg dksX1_next_2 23 rfl rfl
theorem dksX1_next_4 : cX1_next.data.toList.drop 94 = dktX1_next_4 := dk_seg dksX1_next_3 24 rfl rfl
theorem dksX1_next_5 : cX1_next.data.toList.drop 117 = dktX1_next_5 := dk_seg dksX1_next_4 23 rfl rfl
theorem dksX1_next_6 : cX1_next.data.toList.drop 140 = dktX1_next_6 := dk_seg dksX1_next_5 23 rfl rfl
theorem dksX1_next_7 : cX1_next.data.toList.drop 164 = dktX1_next_7 := dk_seg dksX1_next_6 24 rfl rfl
theorem dksX1_next_8 : cX1_next.data.toList.drop 186 = dktX1_next_8 := dk_seg dksX1_next_7 22 rfl rfl
theorem dX1_next_0 : decode cX1_next 0 = .ok (.aload_n 0, 1) := dk_42 (dk_at dksX1_next_0 0 rfl rfl)
theorem dX1_next_1 : decode cX1_next 1 = .ok (.getfield 105, 3) := dk_180 0 105 (dk_at dksX1_next_0 1 rfl rfl)
theorem dX1_next_4 : decode cX1_next 4 = .ok (.iload_n 1, 1) := dk_27 (dk_at dksX1_next_0 4 rfl rfl)
theorem dX1_next_5 : decode cX1_next 5 = .ok (.iload_n 2, 1) := dk_28 (dk_at dksX1_next_0 5 rfl rfl)
theorem dX1_next_6 : decode cX1_next 6 = .ok (.iload_n 3, 1) := dk_29 (dk_at dksX1_next_0 6 rfl rfl)
theorem dX1_next_7 : decode cX1_next 7 = .ok (.invokevirtual 82, 3) := dk_182 0 82 (dk_at dksX1_next_0 7 rfl rfl)
theorem dX1_next_10 : decode cX1_next 10 = .ok (.ifCond .eq 40, 3) := dk_153 0 40 (dk_at dksX1_next_0 10 rfl rfl)
theorem dX1_next_13 : decode cX1_next 13 = .ok (.iload 4, 2) := dk_21 4 (dk_at dksX1_next_0 13 rfl rfl)
theorem dX1_next_15 : decode cX1_next 15 = .ok (.ifCond .lt 35, 3) := dk_155 0 35 (dk_at dksX1_next_0 15 rfl rfl)
theorem dX1_next_18 : decode cX1_next 18 = .ok (.iload 4, 2) := dk_21 4 (dk_at dksX1_next_0 18 rfl rfl)
theorem dX1_next_20 : decode cX1_next 20 = .ok (.bipush 100, 2) := dk_16 100 (dk_at dksX1_next_0 20 rfl rfl)
theorem dX1_next_22 : decode cX1_next 22 = .ok (.idiv, 1) := dk_108 (dk_at dksX1_next_0 22 rfl rfl)
theorem dX1_next_23 : decode cX1_next 23 = .ok (.invokestatic 61, 3) := dk_184 0 61 (dk_at dksX1_next_1 0 rfl rfl)
theorem dX1_next_26 : decode cX1_next 26 = .ok (.ifCond .eq 24, 3) := dk_153 0 24 (dk_at dksX1_next_1 3 rfl rfl)
theorem dX1_next_29 : decode cX1_next 29 = .ok (.iload 4, 2) := dk_21 4 (dk_at dksX1_next_1 6 rfl rfl)
theorem dX1_next_31 : decode cX1_next 31 = .ok (.bipush 100, 2) := dk_16 100 (dk_at dksX1_next_1 8 rfl rfl)
theorem dX1_next_33 : decode cX1_next 33 = .ok (.irem, 1) := dk_112 (dk_at dksX1_next_1 10 rfl rfl)
theorem dX1_next_34 : decode cX1_next 34 = .ok (.invokestatic 61, 3) := dk_184 0 61 (dk_at dksX1_next_1 11 rfl rfl)
theorem dX1_next_37 : decode cX1_next 37 = .ok (.ifCond .eq 13, 3) := dk_153 0 13 (dk_at dksX1_next_1 14 rfl rfl)
theorem dX1_next_40 : decode cX1_next 40 = .ok (.iload 5, 2) := dk_21 5 (dk_at dksX1_next_1 17 rfl rfl)
theorem dX1_next_42 : decode cX1_next 42 = .ok (.iconst 0, 1) := dk_3 (dk_at dksX1_next_1 19 rfl rfl)
theorem dX1_next_43 : decode cX1_next 43 = .ok (.iconst 1, 1) := dk_4 (dk_at dksX1_next_1 20 rfl rfl)
theorem dX1_next_44 : decode cX1_next 44 = .ok (.invokestatic 30, 3) := dk_184 0 30 (dk_at dksX1_next_1 21 rfl rfl)
theorem dX1_next_47 : decode cX1_next 47 = .ok (.ifCond .ne 5, 3) := dk_154 0 5 (dk_at dksX1_next_2 0 rfl rfl)
theorem dX1_next_50 : decode cX1_next 50 = .ok (.iconst (-1), 1) := dk_2 (dk_at dksX1_next_2 3 rfl rfl)
theorem dX1_next_51 : decode cX1_next 51 = .ok (.ireturn, 1) := dk_172 (dk_at dksX1_next_2 4 rfl rfl)
theorem dX1_next_52 : decode cX1_next 52 = .ok (.aload_n 0, 1) := dk_42 (dk_at dksX1_next_2 5 rfl rfl)
theorem dX1_next_53 : decode cX1_next 53 = .ok (.getfield 105, 3) := dk_180 0 105 (dk_at dksX1_next_2 6 rfl rfl)
theorem dX1_next_56 : decode cX1_next 56 = .ok (.iload_n 1, 1) := dk_27 (dk_at dksX1_next_2 9 rfl rfl)
theorem dX1_next_57 : decode cX1_next 57 = .ok (.iload_n 2, 1) := dk_28 (dk_at dksX1_next_2 10 rfl rfl)
theorem dX1_next_58 : decode cX1_next 58 = .ok (.iload_n 3, 1) := dk_29 (dk_at dksX1_next_2 11 rfl rfl)
theorem dX1_next_59 : decode cX1_next 59 = .ok (.invokevirtual 213, 3) := dk_182 0 213 (dk_at dksX1_next_2 12 rfl rfl)
theorem dX1_next_62 : decode cX1_next 62 = .ok (.ifCond .ne 6, 3) := dk_154 0 6 (dk_at dksX1_next_2 15 rfl rfl)
theorem dX1_next_65 : decode cX1_next 65 = .ok (.bipush (-4), 2) := dk_16 252 (dk_at dksX1_next_2 18 rfl rfl)
theorem dX1_next_67 : decode cX1_next 67 = .ok (.ireturn, 1) := dk_172 (dk_at dksX1_next_2 20 rfl rfl)
theorem dX1_next_68 : decode cX1_next 68 = .ok (.iload 4, 2) := dk_21 4 (dk_at dksX1_next_2 21 rfl rfl)
theorem dX1_next_70 : decode cX1_next 70 = .ok (.bipush 100, 2) := dk_16 100 (dk_at dksX1_next_3 0 rfl rfl)
theorem dX1_next_72 : decode cX1_next 72 = .ok (.idiv, 1) := dk_108 (dk_at dksX1_next_3 2 rfl rfl)
theorem dX1_next_73 : decode cX1_next 73 = .ok (.aload_n 0, 1) := dk_42 (dk_at dksX1_next_3 3 rfl rfl)
theorem dX1_next_74 : decode cX1_next 74 = .ok (.getfield 105, 3) := dk_180 0 105 (dk_at dksX1_next_3 4 rfl rfl)
theorem dX1_next_77 : decode cX1_next 77 = .ok (.iload_n 1, 1) := dk_27 (dk_at dksX1_next_3 7 rfl rfl)
theorem dX1_next_78 : decode cX1_next 78 = .ok (.iload_n 2, 1) := dk_28 (dk_at dksX1_next_3 8 rfl rfl)
theorem dX1_next_79 : decode cX1_next 79 = .ok (.iload_n 3, 1) := dk_29 (dk_at dksX1_next_3 9 rfl rfl)
theorem dX1_next_80 : decode cX1_next 80 = .ok (.invokevirtual 190, 3) := dk_182 0 190 (dk_at dksX1_next_3 10 rfl rfl)
theorem dX1_next_83 : decode cX1_next 83 = .ok (.aload_n 0, 1) := dk_42 (dk_at dksX1_next_3 13 rfl rfl)
theorem dX1_next_84 : decode cX1_next 84 = .ok (.getfield 105, 3) := dk_180 0 105 (dk_at dksX1_next_3 14 rfl rfl)
theorem dX1_next_87 : decode cX1_next 87 = .ok (.iload_n 1, 1) := dk_27 (dk_at dksX1_next_3 17 rfl rfl)
theorem dX1_next_88 : decode cX1_next 88 = .ok (.iload_n 2, 1) := dk_28 (dk_at dksX1_next_3 18 rfl rfl)
theorem dX1_next_89 : decode cX1_next 89 = .ok (.iload_n 3, 1) := dk_29 (dk_at dksX1_next_3 19 rfl rfl)
theorem dX1_next_90 : decode cX1_next 90 = .ok (.invokevirtual 190, 3) := dk_182 0 190 (dk_at dksX1_next_3 20 rfl rfl)
theorem dX1_next_93 : decode cX1_next 93 = .ok (.aload_n 0, 1) := dk_42 (dk_at dksX1_next_3 23 rfl rfl)
theorem dX1_next_94 : decode cX1_next 94 = .ok (.getfield 105, 3) := dk_180 0 105 (dk_at dksX1_next_4 0 rfl rfl)
theorem dX1_next_97 : decode cX1_next 97 = .ok (.iload_n 1, 1) := dk_27 (dk_at dksX1_next_4 3 rfl rfl)
theorem dX1_next_98 : decode cX1_next 98 = .ok (.iload_n 2, 1) := dk_28 (dk_at dksX1_next_4 4 rfl rfl)
theorem dX1_next_99 : decode cX1_next 99 = .ok (.iload_n 3, 1) := dk_29 (dk_at dksX1_next_4 5 rfl rfl)
theorem dX1_next_100 : decode cX1_next 100 = .ok (.invokevirtual 231, 3) := dk_182 0 231 (dk_at dksX1_next_4 6 rfl rfl)
theorem dX1_next_103 : decode cX1_next 103 = .ok (.iadd, 1) := dk_96 (dk_at dksX1_next_4 9 rfl rfl)
theorem dX1_next_104 : decode cX1_next 104 = .ok (.iconst 1, 1) := dk_4 (dk_at dksX1_next_4 10 rfl rfl)
theorem dX1_next_105 : decode cX1_next 105 = .ok (.isub, 1) := dk_100 (dk_at dksX1_next_4 11 rfl rfl)
theorem dX1_next_106 : decode cX1_next 106 = .ok (.invokestatic 234, 3) := dk_184 0 234 (dk_at dksX1_next_4 12 rfl rfl)
theorem dX1_next_109 : decode cX1_next 109 = .ok (.istore 6, 2) := dk_54 6 (dk_at dksX1_next_4 15 rfl rfl)
theorem dX1_next_111 : decode cX1_next 111 = .ok (.iload 4, 2) := dk_21 4 (dk_at dksX1_next_4 17 rfl rfl)
theorem dX1_next_113 : decode cX1_next 113 = .ok (.bipush 100, 2) := dk_16 100 (dk_at dksX1_next_4 19 rfl rfl)
theorem dX1_next_115 : decode cX1_next 115 = .ok (.irem, 1) := dk_112 (dk_at dksX1_next_4 21 rfl rfl)
theorem dX1_next_116 : decode cX1_next 116 = .ok (.aload_n 0, 1) := dk_42 (dk_at dksX1_next_4 22 rfl rfl)
theorem dX1_next_117 : decode cX1_next 117 = .ok (.getfield 105, 3) := dk_180 0 105 (dk_at dksX1_next_5 0 rfl rfl)
theorem dX1_next_120 : decode cX1_next 120 = .ok (.iload_n 2, 1) := dk_28 (dk_at dksX1_next_5 3 rfl rfl)
theorem dX1_next_121 : decode cX1_next 121 = .ok (.iload_n 3, 1) := dk_29 (dk_at dksX1_next_5 4 rfl rfl)
theorem dX1_next_122 : decode cX1_next 122 = .ok (.invokevirtual 196, 3) := dk_182 0 196 (dk_at dksX1_next_5 5 rfl rfl)
theorem dX1_next_125 : decode cX1_next 125 = .ok (.aload_n 0, 1) := dk_42 (dk_at dksX1_next_5 8 rfl rfl)
theorem dX1_next_126 : decode cX1_next 126 = .ok (.getfield 105, 3) := dk_180 0 105 (dk_at dksX1_next_5 9 rfl rfl)
theorem dX1_next_129 : decode cX1_next 129 = .ok (.iload_n 2, 1) := dk_28 (dk_at dksX1_next_5 12 rfl rfl)
theorem dX1_next_130 : decode cX1_next 130 = .ok (.iload_n 3, 1) := dk_29 (dk_at dksX1_next_5 13 rfl rfl)
theorem dX1_next_131 : decode cX1_next 131 = .ok (.invokevirtual 196, 3) := dk_182 0 196 (dk_at dksX1_next_5 14 rfl rfl)
theorem dX1_next_134 : decode cX1_next 134 = .ok (.aload_n 0, 1) := dk_42 (dk_at dksX1_next_5 17 rfl rfl)
theorem dX1_next_135 : decode cX1_next 135 = .ok (.getfield 105, 3) := dk_180 0 105 (dk_at dksX1_next_5 18 rfl rfl)
theorem dX1_next_138 : decode cX1_next 138 = .ok (.iload_n 2, 1) := dk_28 (dk_at dksX1_next_5 21 rfl rfl)
theorem dX1_next_139 : decode cX1_next 139 = .ok (.iload_n 3, 1) := dk_29 (dk_at dksX1_next_5 22 rfl rfl)
theorem dX1_next_140 : decode cX1_next 140 = .ok (.invokevirtual 236, 3) := dk_182 0 236 (dk_at dksX1_next_6 0 rfl rfl)
theorem dX1_next_143 : decode cX1_next 143 = .ok (.iadd, 1) := dk_96 (dk_at dksX1_next_6 3 rfl rfl)
theorem dX1_next_144 : decode cX1_next 144 = .ok (.iconst 1, 1) := dk_4 (dk_at dksX1_next_6 4 rfl rfl)
theorem dX1_next_145 : decode cX1_next 145 = .ok (.isub, 1) := dk_100 (dk_at dksX1_next_6 5 rfl rfl)
theorem dX1_next_146 : decode cX1_next 146 = .ok (.invokestatic 234, 3) := dk_184 0 234 (dk_at dksX1_next_6 6 rfl rfl)
theorem dX1_next_149 : decode cX1_next 149 = .ok (.istore 7, 2) := dk_54 7 (dk_at dksX1_next_6 9 rfl rfl)
theorem dX1_next_151 : decode cX1_next 151 = .ok (.iload 5, 2) := dk_21 5 (dk_at dksX1_next_6 11 rfl rfl)
theorem dX1_next_153 : decode cX1_next 153 = .ok (.ifCond .ne 14, 3) := dk_154 0 14 (dk_at dksX1_next_6 13 rfl rfl)
theorem dX1_next_156 : decode cX1_next 156 = .ok (.bipush 100, 2) := dk_16 100 (dk_at dksX1_next_6 16 rfl rfl)
theorem dX1_next_158 : decode cX1_next 158 = .ok (.iload 6, 2) := dk_21 6 (dk_at dksX1_next_6 18 rfl rfl)
theorem dX1_next_160 : decode cX1_next 160 = .ok (.imul, 1) := dk_104 (dk_at dksX1_next_6 20 rfl rfl)
theorem dX1_next_161 : decode cX1_next 161 = .ok (.iload 7, 2) := dk_21 7 (dk_at dksX1_next_6 21 rfl rfl)
theorem dX1_next_163 : decode cX1_next 163 = .ok (.iadd, 1) := dk_96 (dk_at dksX1_next_6 23 rfl rfl)
theorem dX1_next_164 : decode cX1_next 164 = .ok (.goto 26, 3) := dk_167 0 26 (dk_at dksX1_next_7 0 rfl rfl)
theorem dX1_next_167 : decode cX1_next 167 = .ok (.iload 6, 2) := dk_21 6 (dk_at dksX1_next_7 3 rfl rfl)
theorem dX1_next_169 : decode cX1_next 169 = .ok (.iload 4, 2) := dk_21 4 (dk_at dksX1_next_7 5 rfl rfl)
theorem dX1_next_171 : decode cX1_next 171 = .ok (.bipush 100, 2) := dk_16 100 (dk_at dksX1_next_7 7 rfl rfl)
theorem dX1_next_173 : decode cX1_next 173 = .ok (.idiv, 1) := dk_108 (dk_at dksX1_next_7 9 rfl rfl)
theorem dX1_next_174 : decode cX1_next 174 = .ok (.isub, 1) := dk_100 (dk_at dksX1_next_7 10 rfl rfl)
theorem dX1_next_175 : decode cX1_next 175 = .ok (.invokestatic 239, 3) := dk_184 0 239 (dk_at dksX1_next_7 11 rfl rfl)
theorem dX1_next_178 : decode cX1_next 178 = .ok (.iload 7, 2) := dk_21 7 (dk_at dksX1_next_7 14 rfl rfl)
theorem dX1_next_180 : decode cX1_next 180 = .ok (.iload 4, 2) := dk_21 4 (dk_at dksX1_next_7 16 rfl rfl)
theorem dX1_next_182 : decode cX1_next 182 = .ok (.bipush 100, 2) := dk_16 100 (dk_at dksX1_next_7 18 rfl rfl)
theorem dX1_next_184 : decode cX1_next 184 = .ok (.irem, 1) := dk_112 (dk_at dksX1_next_7 20 rfl rfl)
theorem dX1_next_185 : decode cX1_next 185 = .ok (.isub, 1) := dk_100 (dk_at dksX1_next_7 21 rfl rfl)
theorem dX1_next_186 : decode cX1_next 186 = .ok (.invokestatic 239, 3) := dk_184 0 239 (dk_at dksX1_next_8 0 rfl rfl)
theorem dX1_next_189 : decode cX1_next 189 = .ok (.iadd, 1) := dk_96 (dk_at dksX1_next_8 3 rfl rfl)
theorem dX1_next_190 : decode cX1_next 190 = .ok (.ireturn, 1) := dk_172 (dk_at dksX1_next_8 4 rfl rfl)
abbrev cX1_held : ByteArray := prog_1_method_28_code
def yX1_held : MethodName := ⟨RX1, "held", "(III)I"⟩
def dkwX1_held_0 : List UInt8 := [27, 28, 26, 184, 0, 223, 184, 0, 228, 172]
abbrev dktX1_held_0 : List UInt8 := dkwX1_held_0 ++ []
theorem dksX1_held_0 : cX1_held.data.toList.drop 0 = dktX1_held_0 := by decide +kernel
theorem dX1_held_0 : decode cX1_held 0 = .ok (.iload_n 1, 1) := dk_27 (dk_at dksX1_held_0 0 rfl rfl)
theorem dX1_held_1 : decode cX1_held 1 = .ok (.iload_n 2, 1) := dk_28 (dk_at dksX1_held_0 1 rfl rfl)
theorem dX1_held_2 : decode cX1_held 2 = .ok (.iload_n 0, 1) := dk_26 (dk_at dksX1_held_0 2 rfl rfl)
theorem dX1_held_3 : decode cX1_held 3 = .ok (.invokestatic 223, 3) := dk_184 0 223 (dk_at dksX1_held_0 3 rfl rfl)
theorem dX1_held_6 : decode cX1_held 6 = .ok (.invokestatic 228, 3) := dk_184 0 228 (dk_at dksX1_held_0 6 rfl rfl)
theorem dX1_held_9 : decode cX1_held 9 = .ok (.ireturn, 1) := dk_172 (dk_at dksX1_held_0 9 rfl rfl)
abbrev cX1_halves : ByteArray := prog_1_method_30_code
def yX1_halves : MethodName := ⟨RX1, "halves", "(III)I"⟩
def dkwX1_halves_5 : List UInt8 := [167, 255, 208, 21, 8, 172]
abbrev dktX1_halves_5 : List UInt8 := dkwX1_halves_5 ++ []
def dkwX1_halves_4 : List UInt8 := [54, 6, 167, 0, 9, 21, 9, 4, 100, 54, 7, 21, 6, 21, 7, 96, 5, 108, 54, 9, 132, 8, 1]
abbrev dktX1_halves_4 : List UInt8 := dkwX1_halves_4 ++ dktX1_halves_5
def dkwX1_halves_3 : List UInt8 := [21, 4, 161, 0, 10, 21, 9, 21, 5, 164, 0, 40, 21, 9, 21, 4, 162, 0, 12, 21, 9, 4, 96]
abbrev dktX1_halves_3 : List UInt8 := dkwX1_halves_3 ++ dktX1_halves_4
def dkwX1_halves_2 : List UInt8 := [16, 252, 172, 3, 54, 6, 16, 60, 54, 7, 4, 54, 8, 21, 6, 21, 7, 96, 5, 108, 54, 9, 21, 9]
abbrev dktX1_halves_2 : List UInt8 := dkwX1_halves_2 ++ dktX1_halves_3
def dkwX1_halves_1 : List UInt8 := [182, 0, 190, 54, 4, 42, 180, 0, 105, 27, 28, 29, 182, 0, 193, 54, 5, 21, 4, 16, 60, 164, 0, 6]
abbrev dktX1_halves_1 : List UInt8 := dkwX1_halves_1 ++ dktX1_halves_2
def dkwX1_halves_0 : List UInt8 := [42, 180, 0, 105, 27, 28, 29, 182, 0, 82, 154, 0, 5, 2, 172, 42, 180, 0, 105, 27, 28, 29]
abbrev dktX1_halves_0 : List UInt8 := dkwX1_halves_0 ++ dktX1_halves_1
theorem dksX1_halves_0 : cX1_halves.data.toList.drop 0 = dktX1_halves_0 := by decide +kernel
theorem dksX1_halves_1 : cX1_halves.data.toList.drop 22 = dktX1_halves_1 := dk_seg dksX1_halves_0 22 rfl rfl
theorem dksX1_halves_2 : cX1_halves.data.toList.drop 46 = dktX1_halves_2 := dk_seg dksX1_halves_1 24 rfl rfl
theorem dksX1_halves_3 : cX1_halves.data.toList.drop 70 = dktX1_halves_3 := dk_seg dksX1_halves_2 24 rfl rfl
theorem dksX1_halves_4 : cX1_halves.data.toList.drop 93 = dktX1_halves_4 := dk_seg dksX1_halves_3 23 rfl rfl
theorem dksX1_halves_5 : cX1_halves.data.toList.drop 116 = dktX1_halves_5 := dk_seg dksX1_halves_4 23 rfl rfl
theorem dX1_halves_0 : decode cX1_halves 0 = .ok (.aload_n 0, 1) := dk_42 (dk_at dksX1_halves_0 0 rfl rfl)
theorem dX1_halves_1 : decode cX1_halves 1 = .ok (.getfield 105, 3) := dk_180 0 105 (dk_at dksX1_halves_0 1 rfl rfl)
theorem dX1_halves_4 : decode cX1_halves 4 = .ok (.iload_n 1, 1) := dk_27 (dk_at dksX1_halves_0 4 rfl rfl)
theorem dX1_halves_5 : decode cX1_halves 5 = .ok (.iload_n 2, 1) := dk_28 (dk_at dksX1_halves_0 5 rfl rfl)
theorem dX1_halves_6 : decode cX1_halves 6 = .ok (.iload_n 3, 1) := dk_29 (dk_at dksX1_halves_0 6 rfl rfl)
theorem dX1_halves_7 : decode cX1_halves 7 = .ok (.invokevirtual 82, 3) := dk_182 0 82 (dk_at dksX1_halves_0 7 rfl rfl)
theorem dX1_halves_10 : decode cX1_halves 10 = .ok (.ifCond .ne 5, 3) := dk_154 0 5 (dk_at dksX1_halves_0 10 rfl rfl)
theorem dX1_halves_13 : decode cX1_halves 13 = .ok (.iconst (-1), 1) := dk_2 (dk_at dksX1_halves_0 13 rfl rfl)
theorem dX1_halves_14 : decode cX1_halves 14 = .ok (.ireturn, 1) := dk_172 (dk_at dksX1_halves_0 14 rfl rfl)
theorem dX1_halves_15 : decode cX1_halves 15 = .ok (.aload_n 0, 1) := dk_42 (dk_at dksX1_halves_0 15 rfl rfl)
theorem dX1_halves_16 : decode cX1_halves 16 = .ok (.getfield 105, 3) := dk_180 0 105 (dk_at dksX1_halves_0 16 rfl rfl)
theorem dX1_halves_19 : decode cX1_halves 19 = .ok (.iload_n 1, 1) := dk_27 (dk_at dksX1_halves_0 19 rfl rfl)
theorem dX1_halves_20 : decode cX1_halves 20 = .ok (.iload_n 2, 1) := dk_28 (dk_at dksX1_halves_0 20 rfl rfl)
theorem dX1_halves_21 : decode cX1_halves 21 = .ok (.iload_n 3, 1) := dk_29 (dk_at dksX1_halves_0 21 rfl rfl)
theorem dX1_halves_22 : decode cX1_halves 22 = .ok (.invokevirtual 190, 3) := dk_182 0 190 (dk_at dksX1_halves_1 0 rfl rfl)
theorem dX1_halves_25 : decode cX1_halves 25 = .ok (.istore 4, 2) := dk_54 4 (dk_at dksX1_halves_1 3 rfl rfl)
theorem dX1_halves_27 : decode cX1_halves 27 = .ok (.aload_n 0, 1) := dk_42 (dk_at dksX1_halves_1 5 rfl rfl)
theorem dX1_halves_28 : decode cX1_halves 28 = .ok (.getfield 105, 3) := dk_180 0 105 (dk_at dksX1_halves_1 6 rfl rfl)
theorem dX1_halves_31 : decode cX1_halves 31 = .ok (.iload_n 1, 1) := dk_27 (dk_at dksX1_halves_1 9 rfl rfl)
theorem dX1_halves_32 : decode cX1_halves 32 = .ok (.iload_n 2, 1) := dk_28 (dk_at dksX1_halves_1 10 rfl rfl)
theorem dX1_halves_33 : decode cX1_halves 33 = .ok (.iload_n 3, 1) := dk_29 (dk_at dksX1_halves_1 11 rfl rfl)
theorem dX1_halves_34 : decode cX1_halves 34 = .ok (.invokevirtual 193, 3) := dk_182 0 193 (dk_at dksX1_halves_1 12 rfl rfl)
theorem dX1_halves_37 : decode cX1_halves 37 = .ok (.istore 5, 2) := dk_54 5 (dk_at dksX1_halves_1 15 rfl rfl)
theorem dX1_halves_39 : decode cX1_halves 39 = .ok (.iload 4, 2) := dk_21 4 (dk_at dksX1_halves_1 17 rfl rfl)
theorem dX1_halves_41 : decode cX1_halves 41 = .ok (.bipush 60, 2) := dk_16 60 (dk_at dksX1_halves_1 19 rfl rfl)
theorem dX1_halves_43 : decode cX1_halves 43 = .ok (.if_icmp .le 6, 3) := dk_164 0 6 (dk_at dksX1_halves_1 21 rfl rfl)
theorem dX1_halves_46 : decode cX1_halves 46 = .ok (.bipush (-4), 2) := dk_16 252 (dk_at dksX1_halves_2 0 rfl rfl)
theorem dX1_halves_48 : decode cX1_halves 48 = .ok (.ireturn, 1) := dk_172 (dk_at dksX1_halves_2 2 rfl rfl)
theorem dX1_halves_49 : decode cX1_halves 49 = .ok (.iconst 0, 1) := dk_3 (dk_at dksX1_halves_2 3 rfl rfl)
theorem dX1_halves_50 : decode cX1_halves 50 = .ok (.istore 6, 2) := dk_54 6 (dk_at dksX1_halves_2 4 rfl rfl)
theorem dX1_halves_52 : decode cX1_halves 52 = .ok (.bipush 60, 2) := dk_16 60 (dk_at dksX1_halves_2 6 rfl rfl)
theorem dX1_halves_54 : decode cX1_halves 54 = .ok (.istore 7, 2) := dk_54 7 (dk_at dksX1_halves_2 8 rfl rfl)
theorem dX1_halves_56 : decode cX1_halves 56 = .ok (.iconst 1, 1) := dk_4 (dk_at dksX1_halves_2 10 rfl rfl)
theorem dX1_halves_57 : decode cX1_halves 57 = .ok (.istore 8, 2) := dk_54 8 (dk_at dksX1_halves_2 11 rfl rfl)
theorem dX1_halves_59 : decode cX1_halves 59 = .ok (.iload 6, 2) := dk_21 6 (dk_at dksX1_halves_2 13 rfl rfl)
theorem dX1_halves_61 : decode cX1_halves 61 = .ok (.iload 7, 2) := dk_21 7 (dk_at dksX1_halves_2 15 rfl rfl)
theorem dX1_halves_63 : decode cX1_halves 63 = .ok (.iadd, 1) := dk_96 (dk_at dksX1_halves_2 17 rfl rfl)
theorem dX1_halves_64 : decode cX1_halves 64 = .ok (.iconst 2, 1) := dk_5 (dk_at dksX1_halves_2 18 rfl rfl)
theorem dX1_halves_65 : decode cX1_halves 65 = .ok (.idiv, 1) := dk_108 (dk_at dksX1_halves_2 19 rfl rfl)
theorem dX1_halves_66 : decode cX1_halves 66 = .ok (.istore 9, 2) := dk_54 9 (dk_at dksX1_halves_2 20 rfl rfl)
theorem dX1_halves_68 : decode cX1_halves 68 = .ok (.iload 9, 2) := dk_21 9 (dk_at dksX1_halves_2 22 rfl rfl)
theorem dX1_halves_70 : decode cX1_halves 70 = .ok (.iload 4, 2) := dk_21 4 (dk_at dksX1_halves_3 0 rfl rfl)
theorem dX1_halves_72 : decode cX1_halves 72 = .ok (.if_icmp .lt 10, 3) := dk_161 0 10 (dk_at dksX1_halves_3 2 rfl rfl)
theorem dX1_halves_75 : decode cX1_halves 75 = .ok (.iload 9, 2) := dk_21 9 (dk_at dksX1_halves_3 5 rfl rfl)
theorem dX1_halves_77 : decode cX1_halves 77 = .ok (.iload 5, 2) := dk_21 5 (dk_at dksX1_halves_3 7 rfl rfl)
theorem dX1_halves_79 : decode cX1_halves 79 = .ok (.if_icmp .le 40, 3) := dk_164 0 40 (dk_at dksX1_halves_3 9 rfl rfl)
theorem dX1_halves_82 : decode cX1_halves 82 = .ok (.iload 9, 2) := dk_21 9 (dk_at dksX1_halves_3 12 rfl rfl)
theorem dX1_halves_84 : decode cX1_halves 84 = .ok (.iload 4, 2) := dk_21 4 (dk_at dksX1_halves_3 14 rfl rfl)
theorem dX1_halves_86 : decode cX1_halves 86 = .ok (.if_icmp .ge 12, 3) := dk_162 0 12 (dk_at dksX1_halves_3 16 rfl rfl)
theorem dX1_halves_89 : decode cX1_halves 89 = .ok (.iload 9, 2) := dk_21 9 (dk_at dksX1_halves_3 19 rfl rfl)
theorem dX1_halves_91 : decode cX1_halves 91 = .ok (.iconst 1, 1) := dk_4 (dk_at dksX1_halves_3 21 rfl rfl)
theorem dX1_halves_92 : decode cX1_halves 92 = .ok (.iadd, 1) := dk_96 (dk_at dksX1_halves_3 22 rfl rfl)
theorem dX1_halves_93 : decode cX1_halves 93 = .ok (.istore 6, 2) := dk_54 6 (dk_at dksX1_halves_4 0 rfl rfl)
theorem dX1_halves_95 : decode cX1_halves 95 = .ok (.goto 9, 3) := dk_167 0 9 (dk_at dksX1_halves_4 2 rfl rfl)
theorem dX1_halves_98 : decode cX1_halves 98 = .ok (.iload 9, 2) := dk_21 9 (dk_at dksX1_halves_4 5 rfl rfl)
theorem dX1_halves_100 : decode cX1_halves 100 = .ok (.iconst 1, 1) := dk_4 (dk_at dksX1_halves_4 7 rfl rfl)
theorem dX1_halves_101 : decode cX1_halves 101 = .ok (.isub, 1) := dk_100 (dk_at dksX1_halves_4 8 rfl rfl)
theorem dX1_halves_102 : decode cX1_halves 102 = .ok (.istore 7, 2) := dk_54 7 (dk_at dksX1_halves_4 9 rfl rfl)
theorem dX1_halves_104 : decode cX1_halves 104 = .ok (.iload 6, 2) := dk_21 6 (dk_at dksX1_halves_4 11 rfl rfl)
theorem dX1_halves_106 : decode cX1_halves 106 = .ok (.iload 7, 2) := dk_21 7 (dk_at dksX1_halves_4 13 rfl rfl)
theorem dX1_halves_108 : decode cX1_halves 108 = .ok (.iadd, 1) := dk_96 (dk_at dksX1_halves_4 15 rfl rfl)
theorem dX1_halves_109 : decode cX1_halves 109 = .ok (.iconst 2, 1) := dk_5 (dk_at dksX1_halves_4 16 rfl rfl)
theorem dX1_halves_110 : decode cX1_halves 110 = .ok (.idiv, 1) := dk_108 (dk_at dksX1_halves_4 17 rfl rfl)
theorem dX1_halves_111 : decode cX1_halves 111 = .ok (.istore 9, 2) := dk_54 9 (dk_at dksX1_halves_4 18 rfl rfl)
theorem dX1_halves_113 : decode cX1_halves 113 = .ok (.iinc 8 1, 3) := dk_132 8 1 (dk_at dksX1_halves_4 20 rfl rfl)
theorem dX1_halves_116 : decode cX1_halves 116 = .ok (.goto (-48), 3) := dk_167 255 208 (dk_at dksX1_halves_5 0 rfl rfl)
theorem dX1_halves_119 : decode cX1_halves 119 = .ok (.iload 8, 2) := dk_21 8 (dk_at dksX1_halves_5 3 rfl rfl)
theorem dX1_halves_121 : decode cX1_halves 121 = .ok (.ireturn, 1) := dk_172 (dk_at dksX1_halves_5 5 rfl rfl)
abbrev cX1_ways : ByteArray := prog_1_method_33_code
def yX1_ways : MethodName := ⟨RX1, "ways", "(II)I"⟩
def dkwX1_ways_2 : List UInt8 := [62, 132, 4, 1, 167, 255, 230, 29, 172]
abbrev dktX1_ways_2 : List UInt8 := dkwX1_ways_2 ++ []
def dkwX1_ways_1 : List UInt8 := [54, 4, 21, 4, 42, 180, 0, 105, 180, 0, 52, 162, 0, 20, 29, 42, 21, 4, 27, 28, 182, 0, 245, 96]
abbrev dktX1_ways_1 : List UInt8 := dkwX1_ways_1 ++ dktX1_ways_2
def dkwX1_ways_0 : List UInt8 := [42, 180, 0, 105, 27, 182, 0, 160, 153, 0, 10, 28, 184, 0, 242, 154, 0, 5, 2, 172, 3, 62, 3]
abbrev dktX1_ways_0 : List UInt8 := dkwX1_ways_0 ++ dktX1_ways_1
theorem dksX1_ways_0 : cX1_ways.data.toList.drop 0 = dktX1_ways_0 := by decide +kernel
theorem dksX1_ways_1 : cX1_ways.data.toList.drop 23 = dktX1_ways_1 := dk_seg dksX1_ways_0 23 rfl rfl
theorem dksX1_ways_2 : cX1_ways.data.toList.drop 47 = dktX1_ways_2 := dk_seg dksX1_ways_1 24 rfl rfl
theorem dX1_ways_0 : decode cX1_ways 0 = .ok (.aload_n 0, 1) := dk_42 (dk_at dksX1_ways_0 0 rfl rfl)
theorem dX1_ways_1 : decode cX1_ways 1 = .ok (.getfield 105, 3) := dk_180 0 105 (dk_at dksX1_ways_0 1 rfl rfl)
theorem dX1_ways_4 : decode cX1_ways 4 = .ok (.iload_n 1, 1) := dk_27 (dk_at dksX1_ways_0 4 rfl rfl)
theorem dX1_ways_5 : decode cX1_ways 5 = .ok (.invokevirtual 160, 3) := dk_182 0 160 (dk_at dksX1_ways_0 5 rfl rfl)
theorem dX1_ways_8 : decode cX1_ways 8 = .ok (.ifCond .eq 10, 3) := dk_153 0 10 (dk_at dksX1_ways_0 8 rfl rfl)
theorem dX1_ways_11 : decode cX1_ways 11 = .ok (.iload_n 2, 1) := dk_28 (dk_at dksX1_ways_0 11 rfl rfl)
theorem dX1_ways_12 : decode cX1_ways 12 = .ok (.invokestatic 242, 3) := dk_184 0 242 (dk_at dksX1_ways_0 12 rfl rfl)
theorem dX1_ways_15 : decode cX1_ways 15 = .ok (.ifCond .ne 5, 3) := dk_154 0 5 (dk_at dksX1_ways_0 15 rfl rfl)
theorem dX1_ways_18 : decode cX1_ways 18 = .ok (.iconst (-1), 1) := dk_2 (dk_at dksX1_ways_0 18 rfl rfl)
theorem dX1_ways_19 : decode cX1_ways 19 = .ok (.ireturn, 1) := dk_172 (dk_at dksX1_ways_0 19 rfl rfl)
theorem dX1_ways_20 : decode cX1_ways 20 = .ok (.iconst 0, 1) := dk_3 (dk_at dksX1_ways_0 20 rfl rfl)
theorem dX1_ways_21 : decode cX1_ways 21 = .ok (.istore_n 3, 1) := dk_62 (dk_at dksX1_ways_0 21 rfl rfl)
theorem dX1_ways_22 : decode cX1_ways 22 = .ok (.iconst 0, 1) := dk_3 (dk_at dksX1_ways_0 22 rfl rfl)
theorem dX1_ways_23 : decode cX1_ways 23 = .ok (.istore 4, 2) := dk_54 4 (dk_at dksX1_ways_1 0 rfl rfl)
theorem dX1_ways_25 : decode cX1_ways 25 = .ok (.iload 4, 2) := dk_21 4 (dk_at dksX1_ways_1 2 rfl rfl)
theorem dX1_ways_27 : decode cX1_ways 27 = .ok (.aload_n 0, 1) := dk_42 (dk_at dksX1_ways_1 4 rfl rfl)
theorem dX1_ways_28 : decode cX1_ways 28 = .ok (.getfield 105, 3) := dk_180 0 105 (dk_at dksX1_ways_1 5 rfl rfl)
theorem dX1_ways_31 : decode cX1_ways 31 = .ok (.getfield 52, 3) := dk_180 0 52 (dk_at dksX1_ways_1 8 rfl rfl)
theorem dX1_ways_34 : decode cX1_ways 34 = .ok (.if_icmp .ge 20, 3) := dk_162 0 20 (dk_at dksX1_ways_1 11 rfl rfl)
theorem dX1_ways_37 : decode cX1_ways 37 = .ok (.iload_n 3, 1) := dk_29 (dk_at dksX1_ways_1 14 rfl rfl)
theorem dX1_ways_38 : decode cX1_ways 38 = .ok (.aload_n 0, 1) := dk_42 (dk_at dksX1_ways_1 15 rfl rfl)
theorem dX1_ways_39 : decode cX1_ways 39 = .ok (.iload 4, 2) := dk_21 4 (dk_at dksX1_ways_1 16 rfl rfl)
theorem dX1_ways_41 : decode cX1_ways 41 = .ok (.iload_n 1, 1) := dk_27 (dk_at dksX1_ways_1 18 rfl rfl)
theorem dX1_ways_42 : decode cX1_ways 42 = .ok (.iload_n 2, 1) := dk_28 (dk_at dksX1_ways_1 19 rfl rfl)
theorem dX1_ways_43 : decode cX1_ways 43 = .ok (.invokevirtual 245, 3) := dk_182 0 245 (dk_at dksX1_ways_1 20 rfl rfl)
theorem dX1_ways_46 : decode cX1_ways 46 = .ok (.iadd, 1) := dk_96 (dk_at dksX1_ways_1 23 rfl rfl)
theorem dX1_ways_47 : decode cX1_ways 47 = .ok (.istore_n 3, 1) := dk_62 (dk_at dksX1_ways_2 0 rfl rfl)
theorem dX1_ways_48 : decode cX1_ways 48 = .ok (.iinc 4 1, 3) := dk_132 4 1 (dk_at dksX1_ways_2 1 rfl rfl)
theorem dX1_ways_51 : decode cX1_ways 51 = .ok (.goto (-26), 3) := dk_167 255 230 (dk_at dksX1_ways_2 4 rfl rfl)
theorem dX1_ways_54 : decode cX1_ways 54 = .ok (.iload_n 3, 1) := dk_29 (dk_at dksX1_ways_2 7 rfl rfl)
theorem dX1_ways_55 : decode cX1_ways 55 = .ok (.ireturn, 1) := dk_172 (dk_at dksX1_ways_2 8 rfl rfl)
abbrev cX1_isPitch : ByteArray := prog_1_method_32_code
def yX1_isPitch : MethodName := ⟨RX1, "isPitch", "(I)Z"⟩
def dkwX1_isPitch_0 : List UInt8 := [26, 3, 16, 99, 184, 0, 30, 172]
abbrev dktX1_isPitch_0 : List UInt8 := dkwX1_isPitch_0 ++ []
theorem dksX1_isPitch_0 : cX1_isPitch.data.toList.drop 0 = dktX1_isPitch_0 := by decide +kernel
theorem dX1_isPitch_0 : decode cX1_isPitch 0 = .ok (.iload_n 0, 1) := dk_26 (dk_at dksX1_isPitch_0 0 rfl rfl)
theorem dX1_isPitch_1 : decode cX1_isPitch 1 = .ok (.iconst 0, 1) := dk_3 (dk_at dksX1_isPitch_0 1 rfl rfl)
theorem dX1_isPitch_2 : decode cX1_isPitch 2 = .ok (.bipush 99, 2) := dk_16 99 (dk_at dksX1_isPitch_0 2 rfl rfl)
theorem dX1_isPitch_4 : decode cX1_isPitch 4 = .ok (.invokestatic 30, 3) := dk_184 0 30 (dk_at dksX1_isPitch_0 4 rfl rfl)
theorem dX1_isPitch_7 : decode cX1_isPitch 7 = .ok (.ireturn, 1) := dk_172 (dk_at dksX1_isPitch_0 7 rfl rfl)
abbrev cX1_waysOf : ByteArray := prog_1_method_31_code
def yX1_waysOf : MethodName := ⟨RX1, "waysOf", "(III)I"⟩
def dkwX1_waysOf_6 : List UInt8 := [167, 255, 138, 21, 4, 172]
abbrev dktX1_waysOf_6 : List UInt8 := dkwX1_waysOf_6 ++ []
def dkwX1_waysOf_5 : List UInt8 := [167, 0, 4, 3, 96, 54, 4, 132, 8, 1, 167, 255, 218, 132, 7, 1, 167, 255, 190, 132, 5, 1]
abbrev dktX1_waysOf_5 : List UInt8 := dkwX1_waysOf_5 ++ dktX1_waysOf_6
def dkwX1_waysOf_4 : List UInt8 := [163, 0, 37, 21, 4, 42, 180, 0, 105, 27, 21, 5, 21, 7, 21, 8, 182, 0, 209, 29, 160, 0, 7, 4]
abbrev dktX1_waysOf_4 : List UInt8 := dkwX1_waysOf_4 ++ dktX1_waysOf_5
def dkwX1_waysOf_3 : List UInt8 := [42, 180, 0, 105, 27, 28, 21, 5, 182, 0, 231, 96, 162, 0, 53, 3, 54, 8, 21, 8, 16, 9]
abbrev dktX1_waysOf_3 : List UInt8 := dkwX1_waysOf_3 ++ dktX1_waysOf_4
def dkwX1_waysOf_2 : List UInt8 := [167, 0, 89, 42, 180, 0, 105, 27, 28, 21, 5, 182, 0, 190, 54, 6, 21, 6, 54, 7, 21, 7, 21, 6]
abbrev dktX1_waysOf_2 : List UInt8 := dkwX1_waysOf_2 ++ dktX1_waysOf_3
def dkwX1_waysOf_1 : List UInt8 := [180, 0, 105, 180, 0, 71, 162, 0, 112, 42, 180, 0, 105, 27, 28, 21, 5, 182, 0, 213, 154, 0, 6]
abbrev dktX1_waysOf_1 : List UInt8 := dkwX1_waysOf_1 ++ dktX1_waysOf_2
def dkwX1_waysOf_0 : List UInt8 := [3, 54, 4, 42, 180, 0, 105, 27, 182, 0, 85, 153, 0, 5, 3, 172, 3, 54, 5, 21, 5, 42]
abbrev dktX1_waysOf_0 : List UInt8 := dkwX1_waysOf_0 ++ dktX1_waysOf_1
theorem dksX1_waysOf_0 : cX1_waysOf.data.toList.drop 0 = dktX1_waysOf_0 := by decide +kernel
theorem dksX1_waysOf_1 : cX1_waysOf.data.toList.drop 22 = dktX1_waysOf_1 := dk_seg dksX1_waysOf_0 22 rfl rfl
theorem dksX1_waysOf_2 : cX1_waysOf.data.toList.drop 45 = dktX1_waysOf_2 := dk_seg dksX1_waysOf_1 23 rfl rfl
theorem dksX1_waysOf_3 : cX1_waysOf.data.toList.drop 69 = dktX1_waysOf_3 := dk_seg dksX1_waysOf_2 24 rfl rfl
theorem dksX1_waysOf_4 : cX1_waysOf.data.toList.drop 91 = dktX1_waysOf_4 := dk_seg dksX1_waysOf_3 22 rfl rfl
theorem dksX1_waysOf_5 : cX1_waysOf.data.toList.drop 115 = dktX1_waysOf_5 := dk_seg dksX1_waysOf_4 24 rfl rfl
theorem dksX1_waysOf_6 : cX1_waysOf.data.toList.drop 137 = dktX1_waysOf_6 := dk_seg dksX1_waysOf_5 22 rfl rfl
theorem dX1_waysOf_0 : decode cX1_waysOf 0 = .ok (.iconst 0, 1) := dk_3 (dk_at dksX1_waysOf_0 0 rfl rfl)
theorem dX1_waysOf_1 : decode cX1_waysOf 1 = .ok (.istore 4, 2) := dk_54 4 (dk_at dksX1_waysOf_0 1 rfl rfl)
theorem dX1_waysOf_3 : decode cX1_waysOf 3 = .ok (.aload_n 0, 1) := dk_42 (dk_at dksX1_waysOf_0 3 rfl rfl)
theorem dX1_waysOf_4 : decode cX1_waysOf 4 = .ok (.getfield 105, 3) := dk_180 0 105 (dk_at dksX1_waysOf_0 4 rfl rfl)
theorem dX1_waysOf_7 : decode cX1_waysOf 7 = .ok (.iload_n 1, 1) := dk_27 (dk_at dksX1_waysOf_0 7 rfl rfl)
theorem dX1_waysOf_8 : decode cX1_waysOf 8 = .ok (.invokevirtual 85, 3) := dk_182 0 85 (dk_at dksX1_waysOf_0 8 rfl rfl)
theorem dX1_waysOf_11 : decode cX1_waysOf 11 = .ok (.ifCond .eq 5, 3) := dk_153 0 5 (dk_at dksX1_waysOf_0 11 rfl rfl)
theorem dX1_waysOf_14 : decode cX1_waysOf 14 = .ok (.iconst 0, 1) := dk_3 (dk_at dksX1_waysOf_0 14 rfl rfl)
theorem dX1_waysOf_15 : decode cX1_waysOf 15 = .ok (.ireturn, 1) := dk_172 (dk_at dksX1_waysOf_0 15 rfl rfl)
theorem dX1_waysOf_16 : decode cX1_waysOf 16 = .ok (.iconst 0, 1) := dk_3 (dk_at dksX1_waysOf_0 16 rfl rfl)
theorem dX1_waysOf_17 : decode cX1_waysOf 17 = .ok (.istore 5, 2) := dk_54 5 (dk_at dksX1_waysOf_0 17 rfl rfl)
theorem dX1_waysOf_19 : decode cX1_waysOf 19 = .ok (.iload 5, 2) := dk_21 5 (dk_at dksX1_waysOf_0 19 rfl rfl)
theorem dX1_waysOf_21 : decode cX1_waysOf 21 = .ok (.aload_n 0, 1) := dk_42 (dk_at dksX1_waysOf_0 21 rfl rfl)
theorem dX1_waysOf_22 : decode cX1_waysOf 22 = .ok (.getfield 105, 3) := dk_180 0 105 (dk_at dksX1_waysOf_1 0 rfl rfl)
theorem dX1_waysOf_25 : decode cX1_waysOf 25 = .ok (.getfield 71, 3) := dk_180 0 71 (dk_at dksX1_waysOf_1 3 rfl rfl)
theorem dX1_waysOf_28 : decode cX1_waysOf 28 = .ok (.if_icmp .ge 112, 3) := dk_162 0 112 (dk_at dksX1_waysOf_1 6 rfl rfl)
theorem dX1_waysOf_31 : decode cX1_waysOf 31 = .ok (.aload_n 0, 1) := dk_42 (dk_at dksX1_waysOf_1 9 rfl rfl)
theorem dX1_waysOf_32 : decode cX1_waysOf 32 = .ok (.getfield 105, 3) := dk_180 0 105 (dk_at dksX1_waysOf_1 10 rfl rfl)
theorem dX1_waysOf_35 : decode cX1_waysOf 35 = .ok (.iload_n 1, 1) := dk_27 (dk_at dksX1_waysOf_1 13 rfl rfl)
theorem dX1_waysOf_36 : decode cX1_waysOf 36 = .ok (.iload_n 2, 1) := dk_28 (dk_at dksX1_waysOf_1 14 rfl rfl)
theorem dX1_waysOf_37 : decode cX1_waysOf 37 = .ok (.iload 5, 2) := dk_21 5 (dk_at dksX1_waysOf_1 15 rfl rfl)
theorem dX1_waysOf_39 : decode cX1_waysOf 39 = .ok (.invokevirtual 213, 3) := dk_182 0 213 (dk_at dksX1_waysOf_1 17 rfl rfl)
theorem dX1_waysOf_42 : decode cX1_waysOf 42 = .ok (.ifCond .ne 6, 3) := dk_154 0 6 (dk_at dksX1_waysOf_1 20 rfl rfl)
theorem dX1_waysOf_45 : decode cX1_waysOf 45 = .ok (.goto 89, 3) := dk_167 0 89 (dk_at dksX1_waysOf_2 0 rfl rfl)
theorem dX1_waysOf_48 : decode cX1_waysOf 48 = .ok (.aload_n 0, 1) := dk_42 (dk_at dksX1_waysOf_2 3 rfl rfl)
theorem dX1_waysOf_49 : decode cX1_waysOf 49 = .ok (.getfield 105, 3) := dk_180 0 105 (dk_at dksX1_waysOf_2 4 rfl rfl)
theorem dX1_waysOf_52 : decode cX1_waysOf 52 = .ok (.iload_n 1, 1) := dk_27 (dk_at dksX1_waysOf_2 7 rfl rfl)
theorem dX1_waysOf_53 : decode cX1_waysOf 53 = .ok (.iload_n 2, 1) := dk_28 (dk_at dksX1_waysOf_2 8 rfl rfl)
theorem dX1_waysOf_54 : decode cX1_waysOf 54 = .ok (.iload 5, 2) := dk_21 5 (dk_at dksX1_waysOf_2 9 rfl rfl)
theorem dX1_waysOf_56 : decode cX1_waysOf 56 = .ok (.invokevirtual 190, 3) := dk_182 0 190 (dk_at dksX1_waysOf_2 11 rfl rfl)
theorem dX1_waysOf_59 : decode cX1_waysOf 59 = .ok (.istore 6, 2) := dk_54 6 (dk_at dksX1_waysOf_2 14 rfl rfl)
theorem dX1_waysOf_61 : decode cX1_waysOf 61 = .ok (.iload 6, 2) := dk_21 6 (dk_at dksX1_waysOf_2 16 rfl rfl)
theorem dX1_waysOf_63 : decode cX1_waysOf 63 = .ok (.istore 7, 2) := dk_54 7 (dk_at dksX1_waysOf_2 18 rfl rfl)
theorem dX1_waysOf_65 : decode cX1_waysOf 65 = .ok (.iload 7, 2) := dk_21 7 (dk_at dksX1_waysOf_2 20 rfl rfl)
theorem dX1_waysOf_67 : decode cX1_waysOf 67 = .ok (.iload 6, 2) := dk_21 6 (dk_at dksX1_waysOf_2 22 rfl rfl)
theorem dX1_waysOf_69 : decode cX1_waysOf 69 = .ok (.aload_n 0, 1) := dk_42 (dk_at dksX1_waysOf_3 0 rfl rfl)
theorem dX1_waysOf_70 : decode cX1_waysOf 70 = .ok (.getfield 105, 3) := dk_180 0 105 (dk_at dksX1_waysOf_3 1 rfl rfl)
theorem dX1_waysOf_73 : decode cX1_waysOf 73 = .ok (.iload_n 1, 1) := dk_27 (dk_at dksX1_waysOf_3 4 rfl rfl)
theorem dX1_waysOf_74 : decode cX1_waysOf 74 = .ok (.iload_n 2, 1) := dk_28 (dk_at dksX1_waysOf_3 5 rfl rfl)
theorem dX1_waysOf_75 : decode cX1_waysOf 75 = .ok (.iload 5, 2) := dk_21 5 (dk_at dksX1_waysOf_3 6 rfl rfl)
theorem dX1_waysOf_77 : decode cX1_waysOf 77 = .ok (.invokevirtual 231, 3) := dk_182 0 231 (dk_at dksX1_waysOf_3 8 rfl rfl)
theorem dX1_waysOf_80 : decode cX1_waysOf 80 = .ok (.iadd, 1) := dk_96 (dk_at dksX1_waysOf_3 11 rfl rfl)
theorem dX1_waysOf_81 : decode cX1_waysOf 81 = .ok (.if_icmp .ge 53, 3) := dk_162 0 53 (dk_at dksX1_waysOf_3 12 rfl rfl)
theorem dX1_waysOf_84 : decode cX1_waysOf 84 = .ok (.iconst 0, 1) := dk_3 (dk_at dksX1_waysOf_3 15 rfl rfl)
theorem dX1_waysOf_85 : decode cX1_waysOf 85 = .ok (.istore 8, 2) := dk_54 8 (dk_at dksX1_waysOf_3 16 rfl rfl)
theorem dX1_waysOf_87 : decode cX1_waysOf 87 = .ok (.iload 8, 2) := dk_21 8 (dk_at dksX1_waysOf_3 18 rfl rfl)
theorem dX1_waysOf_89 : decode cX1_waysOf 89 = .ok (.bipush 9, 2) := dk_16 9 (dk_at dksX1_waysOf_3 20 rfl rfl)
theorem dX1_waysOf_91 : decode cX1_waysOf 91 = .ok (.if_icmp .gt 37, 3) := dk_163 0 37 (dk_at dksX1_waysOf_4 0 rfl rfl)
theorem dX1_waysOf_94 : decode cX1_waysOf 94 = .ok (.iload 4, 2) := dk_21 4 (dk_at dksX1_waysOf_4 3 rfl rfl)
theorem dX1_waysOf_96 : decode cX1_waysOf 96 = .ok (.aload_n 0, 1) := dk_42 (dk_at dksX1_waysOf_4 5 rfl rfl)
theorem dX1_waysOf_97 : decode cX1_waysOf 97 = .ok (.getfield 105, 3) := dk_180 0 105 (dk_at dksX1_waysOf_4 6 rfl rfl)
theorem dX1_waysOf_100 : decode cX1_waysOf 100 = .ok (.iload_n 1, 1) := dk_27 (dk_at dksX1_waysOf_4 9 rfl rfl)
theorem dX1_waysOf_101 : decode cX1_waysOf 101 = .ok (.iload 5, 2) := dk_21 5 (dk_at dksX1_waysOf_4 10 rfl rfl)
theorem dX1_waysOf_103 : decode cX1_waysOf 103 = .ok (.iload 7, 2) := dk_21 7 (dk_at dksX1_waysOf_4 12 rfl rfl)
theorem dX1_waysOf_105 : decode cX1_waysOf 105 = .ok (.iload 8, 2) := dk_21 8 (dk_at dksX1_waysOf_4 14 rfl rfl)
theorem dX1_waysOf_107 : decode cX1_waysOf 107 = .ok (.invokevirtual 209, 3) := dk_182 0 209 (dk_at dksX1_waysOf_4 16 rfl rfl)
theorem dX1_waysOf_110 : decode cX1_waysOf 110 = .ok (.iload_n 3, 1) := dk_29 (dk_at dksX1_waysOf_4 19 rfl rfl)
theorem dX1_waysOf_111 : decode cX1_waysOf 111 = .ok (.if_icmp .ne 7, 3) := dk_160 0 7 (dk_at dksX1_waysOf_4 20 rfl rfl)
theorem dX1_waysOf_114 : decode cX1_waysOf 114 = .ok (.iconst 1, 1) := dk_4 (dk_at dksX1_waysOf_4 23 rfl rfl)
theorem dX1_waysOf_115 : decode cX1_waysOf 115 = .ok (.goto 4, 3) := dk_167 0 4 (dk_at dksX1_waysOf_5 0 rfl rfl)
theorem dX1_waysOf_118 : decode cX1_waysOf 118 = .ok (.iconst 0, 1) := dk_3 (dk_at dksX1_waysOf_5 3 rfl rfl)
theorem dX1_waysOf_119 : decode cX1_waysOf 119 = .ok (.iadd, 1) := dk_96 (dk_at dksX1_waysOf_5 4 rfl rfl)
theorem dX1_waysOf_120 : decode cX1_waysOf 120 = .ok (.istore 4, 2) := dk_54 4 (dk_at dksX1_waysOf_5 5 rfl rfl)
theorem dX1_waysOf_122 : decode cX1_waysOf 122 = .ok (.iinc 8 1, 3) := dk_132 8 1 (dk_at dksX1_waysOf_5 7 rfl rfl)
theorem dX1_waysOf_125 : decode cX1_waysOf 125 = .ok (.goto (-38), 3) := dk_167 255 218 (dk_at dksX1_waysOf_5 10 rfl rfl)
theorem dX1_waysOf_128 : decode cX1_waysOf 128 = .ok (.iinc 7 1, 3) := dk_132 7 1 (dk_at dksX1_waysOf_5 13 rfl rfl)
theorem dX1_waysOf_131 : decode cX1_waysOf 131 = .ok (.goto (-66), 3) := dk_167 255 190 (dk_at dksX1_waysOf_5 16 rfl rfl)
theorem dX1_waysOf_134 : decode cX1_waysOf 134 = .ok (.iinc 5 1, 3) := dk_132 5 1 (dk_at dksX1_waysOf_5 19 rfl rfl)
theorem dX1_waysOf_137 : decode cX1_waysOf 137 = .ok (.goto (-118), 3) := dk_167 255 138 (dk_at dksX1_waysOf_6 0 rfl rfl)
theorem dX1_waysOf_140 : decode cX1_waysOf 140 = .ok (.iload 4, 2) := dk_21 4 (dk_at dksX1_waysOf_6 3 rfl rfl)
theorem dX1_waysOf_142 : decode cX1_waysOf 142 = .ok (.ireturn, 1) := dk_172 (dk_at dksX1_waysOf_6 5 rfl rfl)
abbrev cX1_tune : ByteArray := prog_1_method_36_code
def yX1_tune : MethodName := ⟨RX1, "tune", "(III)I"⟩
def dkwX1_tune_6 : List UInt8 := [96, 54, 4, 132, 7, 1, 167, 255, 224, 21, 4, 172]
abbrev dktX1_tune_6 : List UInt8 := dkwX1_tune_6 ++ []
def dkwX1_tune_5 : List UInt8 := [21, 6, 162, 0, 31, 25, 5, 21, 7, 46, 54, 8, 21, 4, 21, 8, 153, 0, 7, 4, 167, 0, 4, 3]
abbrev dktX1_tune_5 : List UInt8 := dkwX1_tune_5 ++ dktX1_tune_6
def dkwX1_tune_4 : List UInt8 := [167, 0, 4, 3, 172, 3, 54, 4, 42, 180, 0, 248, 58, 5, 25, 5, 190, 54, 6, 3, 54, 7, 21, 7]
abbrev dktX1_tune_4 : List UInt8 := dkwX1_tune_4 ++ dktX1_tune_5
def dkwX1_tune_3 : List UInt8 := [42, 27, 28, 16, 100, 112, 182, 1, 3, 79, 29, 154, 0, 18, 42, 3, 3, 182, 0, 255, 153, 0, 7, 4]
abbrev dktX1_tune_3 : List UInt8 := dkwX1_tune_3 ++ dktX1_tune_4
def dkwX1_tune_2 : List UInt8 := [79, 42, 180, 0, 248, 4, 42, 27, 28, 16, 100, 108, 16, 100, 112, 182, 1, 3, 79, 42, 180, 0, 248, 5]
abbrev dktX1_tune_2 : List UInt8 := dkwX1_tune_2 ++ dktX1_tune_3
def dkwX1_tune_1 : List UInt8 := [4, 184, 0, 30, 154, 0, 5, 2, 172, 42, 180, 0, 248, 3, 42, 27, 28, 17, 39, 16, 108, 182, 1, 3]
abbrev dktX1_tune_1 : List UInt8 := dkwX1_tune_1 ++ dktX1_tune_2
def dkwX1_tune_0 : List UInt8 := [42, 180, 0, 105, 27, 182, 0, 160, 153, 0, 23, 28, 3, 19, 1, 2, 184, 0, 30, 153, 0, 12, 29, 3]
abbrev dktX1_tune_0 : List UInt8 := dkwX1_tune_0 ++ dktX1_tune_1
theorem dksX1_tune_0 : cX1_tune.data.toList.drop 0 = dktX1_tune_0 := by decide +kernel
theorem dksX1_tune_1 : cX1_tune.data.toList.drop 24 = dktX1_tune_1 := dk_seg dksX1_tune_0 24 rfl rfl
theorem dksX1_tune_2 : cX1_tune.data.toList.drop 48 = dktX1_tune_2 := dk_seg dksX1_tune_1 24 rfl rfl
theorem dksX1_tune_3 : cX1_tune.data.toList.drop 72 = dktX1_tune_3 := dk_seg dksX1_tune_2 24 rfl rfl
theorem dksX1_tune_4 : cX1_tune.data.toList.drop 96 = dktX1_tune_4 := dk_seg dksX1_tune_3 24 rfl rfl
theorem dksX1_tune_5 : cX1_tune.data.toList.drop 120 = dktX1_tune_5 := dk_seg dksX1_tune_4 24 rfl rfl
theorem dksX1_tune_6 : cX1_tune.data.toList.drop 144 = dktX1_tune_6 := dk_seg dksX1_tune_5 24 rfl rfl
theorem dX1_tune_0 : decode cX1_tune 0 = .ok (.aload_n 0, 1) := dk_42 (dk_at dksX1_tune_0 0 rfl rfl)
theorem dX1_tune_1 : decode cX1_tune 1 = .ok (.getfield 105, 3) := dk_180 0 105 (dk_at dksX1_tune_0 1 rfl rfl)
theorem dX1_tune_4 : decode cX1_tune 4 = .ok (.iload_n 1, 1) := dk_27 (dk_at dksX1_tune_0 4 rfl rfl)
theorem dX1_tune_5 : decode cX1_tune 5 = .ok (.invokevirtual 160, 3) := dk_182 0 160 (dk_at dksX1_tune_0 5 rfl rfl)
theorem dX1_tune_8 : decode cX1_tune 8 = .ok (.ifCond .eq 23, 3) := dk_153 0 23 (dk_at dksX1_tune_0 8 rfl rfl)
theorem dX1_tune_11 : decode cX1_tune 11 = .ok (.iload_n 2, 1) := dk_28 (dk_at dksX1_tune_0 11 rfl rfl)
theorem dX1_tune_12 : decode cX1_tune 12 = .ok (.iconst 0, 1) := dk_3 (dk_at dksX1_tune_0 12 rfl rfl)
theorem dX1_tune_13 : decode cX1_tune 13 = .ok (.ldc_w 258, 3) := dk_19 1 2 (dk_at dksX1_tune_0 13 rfl rfl)
theorem dX1_tune_16 : decode cX1_tune 16 = .ok (.invokestatic 30, 3) := dk_184 0 30 (dk_at dksX1_tune_0 16 rfl rfl)
theorem dX1_tune_19 : decode cX1_tune 19 = .ok (.ifCond .eq 12, 3) := dk_153 0 12 (dk_at dksX1_tune_0 19 rfl rfl)
theorem dX1_tune_22 : decode cX1_tune 22 = .ok (.iload_n 3, 1) := dk_29 (dk_at dksX1_tune_0 22 rfl rfl)
theorem dX1_tune_23 : decode cX1_tune 23 = .ok (.iconst 0, 1) := dk_3 (dk_at dksX1_tune_0 23 rfl rfl)
theorem dX1_tune_24 : decode cX1_tune 24 = .ok (.iconst 1, 1) := dk_4 (dk_at dksX1_tune_1 0 rfl rfl)
theorem dX1_tune_25 : decode cX1_tune 25 = .ok (.invokestatic 30, 3) := dk_184 0 30 (dk_at dksX1_tune_1 1 rfl rfl)
theorem dX1_tune_28 : decode cX1_tune 28 = .ok (.ifCond .ne 5, 3) := dk_154 0 5 (dk_at dksX1_tune_1 4 rfl rfl)
theorem dX1_tune_31 : decode cX1_tune 31 = .ok (.iconst (-1), 1) := dk_2 (dk_at dksX1_tune_1 7 rfl rfl)
theorem dX1_tune_32 : decode cX1_tune 32 = .ok (.ireturn, 1) := dk_172 (dk_at dksX1_tune_1 8 rfl rfl)
theorem dX1_tune_33 : decode cX1_tune 33 = .ok (.aload_n 0, 1) := dk_42 (dk_at dksX1_tune_1 9 rfl rfl)
theorem dX1_tune_34 : decode cX1_tune 34 = .ok (.getfield 248, 3) := dk_180 0 248 (dk_at dksX1_tune_1 10 rfl rfl)
theorem dX1_tune_37 : decode cX1_tune 37 = .ok (.iconst 0, 1) := dk_3 (dk_at dksX1_tune_1 13 rfl rfl)
theorem dX1_tune_38 : decode cX1_tune 38 = .ok (.aload_n 0, 1) := dk_42 (dk_at dksX1_tune_1 14 rfl rfl)
theorem dX1_tune_39 : decode cX1_tune 39 = .ok (.iload_n 1, 1) := dk_27 (dk_at dksX1_tune_1 15 rfl rfl)
theorem dX1_tune_40 : decode cX1_tune 40 = .ok (.iload_n 2, 1) := dk_28 (dk_at dksX1_tune_1 16 rfl rfl)
theorem dX1_tune_41 : decode cX1_tune 41 = .ok (.sipush 10000, 3) := dk_17 39 16 (dk_at dksX1_tune_1 17 rfl rfl)
theorem dX1_tune_44 : decode cX1_tune 44 = .ok (.idiv, 1) := dk_108 (dk_at dksX1_tune_1 20 rfl rfl)
theorem dX1_tune_45 : decode cX1_tune 45 = .ok (.invokevirtual 259, 3) := dk_182 1 3 (dk_at dksX1_tune_1 21 rfl rfl)
theorem dX1_tune_48 : decode cX1_tune 48 = .ok (.iastore, 1) := dk_79 (dk_at dksX1_tune_2 0 rfl rfl)
theorem dX1_tune_49 : decode cX1_tune 49 = .ok (.aload_n 0, 1) := dk_42 (dk_at dksX1_tune_2 1 rfl rfl)
theorem dX1_tune_50 : decode cX1_tune 50 = .ok (.getfield 248, 3) := dk_180 0 248 (dk_at dksX1_tune_2 2 rfl rfl)
theorem dX1_tune_53 : decode cX1_tune 53 = .ok (.iconst 1, 1) := dk_4 (dk_at dksX1_tune_2 5 rfl rfl)
theorem dX1_tune_54 : decode cX1_tune 54 = .ok (.aload_n 0, 1) := dk_42 (dk_at dksX1_tune_2 6 rfl rfl)
theorem dX1_tune_55 : decode cX1_tune 55 = .ok (.iload_n 1, 1) := dk_27 (dk_at dksX1_tune_2 7 rfl rfl)
theorem dX1_tune_56 : decode cX1_tune 56 = .ok (.iload_n 2, 1) := dk_28 (dk_at dksX1_tune_2 8 rfl rfl)
theorem dX1_tune_57 : decode cX1_tune 57 = .ok (.bipush 100, 2) := dk_16 100 (dk_at dksX1_tune_2 9 rfl rfl)
theorem dX1_tune_59 : decode cX1_tune 59 = .ok (.idiv, 1) := dk_108 (dk_at dksX1_tune_2 11 rfl rfl)
theorem dX1_tune_60 : decode cX1_tune 60 = .ok (.bipush 100, 2) := dk_16 100 (dk_at dksX1_tune_2 12 rfl rfl)
theorem dX1_tune_62 : decode cX1_tune 62 = .ok (.irem, 1) := dk_112 (dk_at dksX1_tune_2 14 rfl rfl)
theorem dX1_tune_63 : decode cX1_tune 63 = .ok (.invokevirtual 259, 3) := dk_182 1 3 (dk_at dksX1_tune_2 15 rfl rfl)
theorem dX1_tune_66 : decode cX1_tune 66 = .ok (.iastore, 1) := dk_79 (dk_at dksX1_tune_2 18 rfl rfl)
theorem dX1_tune_67 : decode cX1_tune 67 = .ok (.aload_n 0, 1) := dk_42 (dk_at dksX1_tune_2 19 rfl rfl)
theorem dX1_tune_68 : decode cX1_tune 68 = .ok (.getfield 248, 3) := dk_180 0 248 (dk_at dksX1_tune_2 20 rfl rfl)
theorem dX1_tune_71 : decode cX1_tune 71 = .ok (.iconst 2, 1) := dk_5 (dk_at dksX1_tune_2 23 rfl rfl)
theorem dX1_tune_72 : decode cX1_tune 72 = .ok (.aload_n 0, 1) := dk_42 (dk_at dksX1_tune_3 0 rfl rfl)
theorem dX1_tune_73 : decode cX1_tune 73 = .ok (.iload_n 1, 1) := dk_27 (dk_at dksX1_tune_3 1 rfl rfl)
theorem dX1_tune_74 : decode cX1_tune 74 = .ok (.iload_n 2, 1) := dk_28 (dk_at dksX1_tune_3 2 rfl rfl)
theorem dX1_tune_75 : decode cX1_tune 75 = .ok (.bipush 100, 2) := dk_16 100 (dk_at dksX1_tune_3 3 rfl rfl)
theorem dX1_tune_77 : decode cX1_tune 77 = .ok (.irem, 1) := dk_112 (dk_at dksX1_tune_3 5 rfl rfl)
theorem dX1_tune_78 : decode cX1_tune 78 = .ok (.invokevirtual 259, 3) := dk_182 1 3 (dk_at dksX1_tune_3 6 rfl rfl)
theorem dX1_tune_81 : decode cX1_tune 81 = .ok (.iastore, 1) := dk_79 (dk_at dksX1_tune_3 9 rfl rfl)
theorem dX1_tune_82 : decode cX1_tune 82 = .ok (.iload_n 3, 1) := dk_29 (dk_at dksX1_tune_3 10 rfl rfl)
theorem dX1_tune_83 : decode cX1_tune 83 = .ok (.ifCond .ne 18, 3) := dk_154 0 18 (dk_at dksX1_tune_3 11 rfl rfl)
theorem dX1_tune_86 : decode cX1_tune 86 = .ok (.aload_n 0, 1) := dk_42 (dk_at dksX1_tune_3 14 rfl rfl)
theorem dX1_tune_87 : decode cX1_tune 87 = .ok (.iconst 0, 1) := dk_3 (dk_at dksX1_tune_3 15 rfl rfl)
theorem dX1_tune_88 : decode cX1_tune 88 = .ok (.iconst 0, 1) := dk_3 (dk_at dksX1_tune_3 16 rfl rfl)
theorem dX1_tune_89 : decode cX1_tune 89 = .ok (.invokevirtual 255, 3) := dk_182 0 255 (dk_at dksX1_tune_3 17 rfl rfl)
theorem dX1_tune_92 : decode cX1_tune 92 = .ok (.ifCond .eq 7, 3) := dk_153 0 7 (dk_at dksX1_tune_3 20 rfl rfl)
theorem dX1_tune_95 : decode cX1_tune 95 = .ok (.iconst 1, 1) := dk_4 (dk_at dksX1_tune_3 23 rfl rfl)
theorem dX1_tune_96 : decode cX1_tune 96 = .ok (.goto 4, 3) := dk_167 0 4 (dk_at dksX1_tune_4 0 rfl rfl)
theorem dX1_tune_99 : decode cX1_tune 99 = .ok (.iconst 0, 1) := dk_3 (dk_at dksX1_tune_4 3 rfl rfl)
theorem dX1_tune_100 : decode cX1_tune 100 = .ok (.ireturn, 1) := dk_172 (dk_at dksX1_tune_4 4 rfl rfl)
theorem dX1_tune_101 : decode cX1_tune 101 = .ok (.iconst 0, 1) := dk_3 (dk_at dksX1_tune_4 5 rfl rfl)
theorem dX1_tune_102 : decode cX1_tune 102 = .ok (.istore 4, 2) := dk_54 4 (dk_at dksX1_tune_4 6 rfl rfl)
theorem dX1_tune_104 : decode cX1_tune 104 = .ok (.aload_n 0, 1) := dk_42 (dk_at dksX1_tune_4 8 rfl rfl)
theorem dX1_tune_105 : decode cX1_tune 105 = .ok (.getfield 248, 3) := dk_180 0 248 (dk_at dksX1_tune_4 9 rfl rfl)
theorem dX1_tune_108 : decode cX1_tune 108 = .ok (.astore 5, 2) := dk_58 5 (dk_at dksX1_tune_4 12 rfl rfl)
theorem dX1_tune_110 : decode cX1_tune 110 = .ok (.aload 5, 2) := dk_25 5 (dk_at dksX1_tune_4 14 rfl rfl)
theorem dX1_tune_112 : decode cX1_tune 112 = .ok (.arraylength, 1) := dk_190 (dk_at dksX1_tune_4 16 rfl rfl)
theorem dX1_tune_113 : decode cX1_tune 113 = .ok (.istore 6, 2) := dk_54 6 (dk_at dksX1_tune_4 17 rfl rfl)
theorem dX1_tune_115 : decode cX1_tune 115 = .ok (.iconst 0, 1) := dk_3 (dk_at dksX1_tune_4 19 rfl rfl)
theorem dX1_tune_116 : decode cX1_tune 116 = .ok (.istore 7, 2) := dk_54 7 (dk_at dksX1_tune_4 20 rfl rfl)
theorem dX1_tune_118 : decode cX1_tune 118 = .ok (.iload 7, 2) := dk_21 7 (dk_at dksX1_tune_4 22 rfl rfl)
theorem dX1_tune_120 : decode cX1_tune 120 = .ok (.iload 6, 2) := dk_21 6 (dk_at dksX1_tune_5 0 rfl rfl)
theorem dX1_tune_122 : decode cX1_tune 122 = .ok (.if_icmp .ge 31, 3) := dk_162 0 31 (dk_at dksX1_tune_5 2 rfl rfl)
theorem dX1_tune_125 : decode cX1_tune 125 = .ok (.aload 5, 2) := dk_25 5 (dk_at dksX1_tune_5 5 rfl rfl)
theorem dX1_tune_127 : decode cX1_tune 127 = .ok (.iload 7, 2) := dk_21 7 (dk_at dksX1_tune_5 7 rfl rfl)
theorem dX1_tune_129 : decode cX1_tune 129 = .ok (.iaload, 1) := dk_46 (dk_at dksX1_tune_5 9 rfl rfl)
theorem dX1_tune_130 : decode cX1_tune 130 = .ok (.istore 8, 2) := dk_54 8 (dk_at dksX1_tune_5 10 rfl rfl)
theorem dX1_tune_132 : decode cX1_tune 132 = .ok (.iload 4, 2) := dk_21 4 (dk_at dksX1_tune_5 12 rfl rfl)
theorem dX1_tune_134 : decode cX1_tune 134 = .ok (.iload 8, 2) := dk_21 8 (dk_at dksX1_tune_5 14 rfl rfl)
theorem dX1_tune_136 : decode cX1_tune 136 = .ok (.ifCond .eq 7, 3) := dk_153 0 7 (dk_at dksX1_tune_5 16 rfl rfl)
theorem dX1_tune_139 : decode cX1_tune 139 = .ok (.iconst 1, 1) := dk_4 (dk_at dksX1_tune_5 19 rfl rfl)
theorem dX1_tune_140 : decode cX1_tune 140 = .ok (.goto 4, 3) := dk_167 0 4 (dk_at dksX1_tune_5 20 rfl rfl)
theorem dX1_tune_143 : decode cX1_tune 143 = .ok (.iconst 0, 1) := dk_3 (dk_at dksX1_tune_5 23 rfl rfl)
theorem dX1_tune_144 : decode cX1_tune 144 = .ok (.iadd, 1) := dk_96 (dk_at dksX1_tune_6 0 rfl rfl)
theorem dX1_tune_145 : decode cX1_tune 145 = .ok (.istore 4, 2) := dk_54 4 (dk_at dksX1_tune_6 1 rfl rfl)
theorem dX1_tune_147 : decode cX1_tune 147 = .ok (.iinc 7 1, 3) := dk_132 7 1 (dk_at dksX1_tune_6 3 rfl rfl)
theorem dX1_tune_150 : decode cX1_tune 150 = .ok (.goto (-32), 3) := dk_167 255 224 (dk_at dksX1_tune_6 6 rfl rfl)
theorem dX1_tune_153 : decode cX1_tune 153 = .ok (.iload 4, 2) := dk_21 4 (dk_at dksX1_tune_6 9 rfl rfl)
theorem dX1_tune_155 : decode cX1_tune 155 = .ok (.ireturn, 1) := dk_172 (dk_at dksX1_tune_6 11 rfl rfl)
abbrev cX1_bladesFor : ByteArray := prog_1_method_34_code
def yX1_bladesFor : MethodName := ⟨RX1, "bladesFor", "(II)I"⟩
def dkwX1_bladesFor_1 : List UInt8 := [182, 0, 245, 158, 0, 10, 4, 21, 4, 120, 167, 0, 4, 3, 128, 62, 132, 4, 1, 167, 255, 219, 29, 172]
abbrev dktX1_bladesFor_1 : List UInt8 := dkwX1_bladesFor_1 ++ []
def dkwX1_bladesFor_0 : List UInt8 := [3, 62, 3, 54, 4, 21, 4, 42, 180, 0, 105, 180, 0, 52, 162, 0, 31, 29, 42, 21, 4, 27, 28]
abbrev dktX1_bladesFor_0 : List UInt8 := dkwX1_bladesFor_0 ++ dktX1_bladesFor_1
theorem dksX1_bladesFor_0 : cX1_bladesFor.data.toList.drop 0 = dktX1_bladesFor_0 := by decide +kernel
theorem dksX1_bladesFor_1 : cX1_bladesFor.data.toList.drop 23 = dktX1_bladesFor_1 := dk_seg dksX1_bladesFor_0 23 rfl rfl
theorem dX1_bladesFor_0 : decode cX1_bladesFor 0 = .ok (.iconst 0, 1) := dk_3 (dk_at dksX1_bladesFor_0 0 rfl rfl)
theorem dX1_bladesFor_1 : decode cX1_bladesFor 1 = .ok (.istore_n 3, 1) := dk_62 (dk_at dksX1_bladesFor_0 1 rfl rfl)
theorem dX1_bladesFor_2 : decode cX1_bladesFor 2 = .ok (.iconst 0, 1) := dk_3 (dk_at dksX1_bladesFor_0 2 rfl rfl)
theorem dX1_bladesFor_3 : decode cX1_bladesFor 3 = .ok (.istore 4, 2) := dk_54 4 (dk_at dksX1_bladesFor_0 3 rfl rfl)
theorem dX1_bladesFor_5 : decode cX1_bladesFor 5 = .ok (.iload 4, 2) := dk_21 4 (dk_at dksX1_bladesFor_0 5 rfl rfl)
theorem dX1_bladesFor_7 : decode cX1_bladesFor 7 = .ok (.aload_n 0, 1) := dk_42 (dk_at dksX1_bladesFor_0 7 rfl rfl)
theorem dX1_bladesFor_8 : decode cX1_bladesFor 8 = .ok (.getfield 105, 3) := dk_180 0 105 (dk_at dksX1_bladesFor_0 8 rfl rfl)
theorem dX1_bladesFor_11 : decode cX1_bladesFor 11 = .ok (.getfield 52, 3) := dk_180 0 52 (dk_at dksX1_bladesFor_0 11 rfl rfl)
theorem dX1_bladesFor_14 : decode cX1_bladesFor 14 = .ok (.if_icmp .ge 31, 3) := dk_162 0 31 (dk_at dksX1_bladesFor_0 14 rfl rfl)
theorem dX1_bladesFor_17 : decode cX1_bladesFor 17 = .ok (.iload_n 3, 1) := dk_29 (dk_at dksX1_bladesFor_0 17 rfl rfl)
theorem dX1_bladesFor_18 : decode cX1_bladesFor 18 = .ok (.aload_n 0, 1) := dk_42 (dk_at dksX1_bladesFor_0 18 rfl rfl)
theorem dX1_bladesFor_19 : decode cX1_bladesFor 19 = .ok (.iload 4, 2) := dk_21 4 (dk_at dksX1_bladesFor_0 19 rfl rfl)
theorem dX1_bladesFor_21 : decode cX1_bladesFor 21 = .ok (.iload_n 1, 1) := dk_27 (dk_at dksX1_bladesFor_0 21 rfl rfl)
theorem dX1_bladesFor_22 : decode cX1_bladesFor 22 = .ok (.iload_n 2, 1) := dk_28 (dk_at dksX1_bladesFor_0 22 rfl rfl)
theorem dX1_bladesFor_23 : decode cX1_bladesFor 23 = .ok (.invokevirtual 245, 3) := dk_182 0 245 (dk_at dksX1_bladesFor_1 0 rfl rfl)
theorem dX1_bladesFor_26 : decode cX1_bladesFor 26 = .ok (.ifCond .le 10, 3) := dk_158 0 10 (dk_at dksX1_bladesFor_1 3 rfl rfl)
theorem dX1_bladesFor_29 : decode cX1_bladesFor 29 = .ok (.iconst 1, 1) := dk_4 (dk_at dksX1_bladesFor_1 6 rfl rfl)
theorem dX1_bladesFor_30 : decode cX1_bladesFor 30 = .ok (.iload 4, 2) := dk_21 4 (dk_at dksX1_bladesFor_1 7 rfl rfl)
theorem dX1_bladesFor_32 : decode cX1_bladesFor 32 = .ok (.ishl, 1) := dk_120 (dk_at dksX1_bladesFor_1 9 rfl rfl)
theorem dX1_bladesFor_33 : decode cX1_bladesFor 33 = .ok (.goto 4, 3) := dk_167 0 4 (dk_at dksX1_bladesFor_1 10 rfl rfl)
theorem dX1_bladesFor_36 : decode cX1_bladesFor 36 = .ok (.iconst 0, 1) := dk_3 (dk_at dksX1_bladesFor_1 13 rfl rfl)
theorem dX1_bladesFor_37 : decode cX1_bladesFor 37 = .ok (.ior, 1) := dk_128 (dk_at dksX1_bladesFor_1 14 rfl rfl)
theorem dX1_bladesFor_38 : decode cX1_bladesFor 38 = .ok (.istore_n 3, 1) := dk_62 (dk_at dksX1_bladesFor_1 15 rfl rfl)
theorem dX1_bladesFor_39 : decode cX1_bladesFor 39 = .ok (.iinc 4 1, 3) := dk_132 4 1 (dk_at dksX1_bladesFor_1 16 rfl rfl)
theorem dX1_bladesFor_42 : decode cX1_bladesFor 42 = .ok (.goto (-37), 3) := dk_167 255 219 (dk_at dksX1_bladesFor_1 19 rfl rfl)
theorem dX1_bladesFor_45 : decode cX1_bladesFor 45 = .ok (.iload_n 3, 1) := dk_29 (dk_at dksX1_bladesFor_1 22 rfl rfl)
theorem dX1_bladesFor_46 : decode cX1_bladesFor 46 = .ok (.ireturn, 1) := dk_172 (dk_at dksX1_bladesFor_1 23 rfl rfl)
abbrev cX1_canAll : ByteArray := prog_1_method_35_code
def yX1_canAll : MethodName := ⟨RX1, "canAll", "(II)Z"⟩
def dkwX1_canAll_2 : List UInt8 := [182, 0, 255, 153, 0, 5, 4, 172, 132, 3, 1, 167, 255, 208, 3, 172]
abbrev dktX1_canAll_2 : List UInt8 := dkwX1_canAll_2 ++ []
def dkwX1_canAll_1 : List UInt8 := [27, 46, 28, 2, 130, 126, 29, 184, 0, 251, 153, 0, 20, 42, 27, 4, 96, 28, 4, 29, 120, 128]
abbrev dktX1_canAll_1 : List UInt8 := dkwX1_canAll_1 ++ dktX1_canAll_2
def dkwX1_canAll_0 : List UInt8 := [27, 6, 160, 0, 5, 4, 172, 3, 62, 29, 42, 180, 0, 105, 180, 0, 52, 162, 0, 43, 42, 180, 0, 248]
abbrev dktX1_canAll_0 : List UInt8 := dkwX1_canAll_0 ++ dktX1_canAll_1
theorem dksX1_canAll_0 : cX1_canAll.data.toList.drop 0 = dktX1_canAll_0 := by decide +kernel
theorem dksX1_canAll_1 : cX1_canAll.data.toList.drop 24 = dktX1_canAll_1 := dk_seg dksX1_canAll_0 24 rfl rfl
theorem dksX1_canAll_2 : cX1_canAll.data.toList.drop 46 = dktX1_canAll_2 := dk_seg dksX1_canAll_1 22 rfl rfl
theorem dX1_canAll_0 : decode cX1_canAll 0 = .ok (.iload_n 1, 1) := dk_27 (dk_at dksX1_canAll_0 0 rfl rfl)
theorem dX1_canAll_1 : decode cX1_canAll 1 = .ok (.iconst 3, 1) := dk_6 (dk_at dksX1_canAll_0 1 rfl rfl)
theorem dX1_canAll_2 : decode cX1_canAll 2 = .ok (.if_icmp .ne 5, 3) := dk_160 0 5 (dk_at dksX1_canAll_0 2 rfl rfl)
theorem dX1_canAll_5 : decode cX1_canAll 5 = .ok (.iconst 1, 1) := dk_4 (dk_at dksX1_canAll_0 5 rfl rfl)
theorem dX1_canAll_6 : decode cX1_canAll 6 = .ok (.ireturn, 1) := dk_172 (dk_at dksX1_canAll_0 6 rfl rfl)
theorem dX1_canAll_7 : decode cX1_canAll 7 = .ok (.iconst 0, 1) := dk_3 (dk_at dksX1_canAll_0 7 rfl rfl)
theorem dX1_canAll_8 : decode cX1_canAll 8 = .ok (.istore_n 3, 1) := dk_62 (dk_at dksX1_canAll_0 8 rfl rfl)
theorem dX1_canAll_9 : decode cX1_canAll 9 = .ok (.iload_n 3, 1) := dk_29 (dk_at dksX1_canAll_0 9 rfl rfl)
theorem dX1_canAll_10 : decode cX1_canAll 10 = .ok (.aload_n 0, 1) := dk_42 (dk_at dksX1_canAll_0 10 rfl rfl)
theorem dX1_canAll_11 : decode cX1_canAll 11 = .ok (.getfield 105, 3) := dk_180 0 105 (dk_at dksX1_canAll_0 11 rfl rfl)
theorem dX1_canAll_14 : decode cX1_canAll 14 = .ok (.getfield 52, 3) := dk_180 0 52 (dk_at dksX1_canAll_0 14 rfl rfl)
theorem dX1_canAll_17 : decode cX1_canAll 17 = .ok (.if_icmp .ge 43, 3) := dk_162 0 43 (dk_at dksX1_canAll_0 17 rfl rfl)
theorem dX1_canAll_20 : decode cX1_canAll 20 = .ok (.aload_n 0, 1) := dk_42 (dk_at dksX1_canAll_0 20 rfl rfl)
theorem dX1_canAll_21 : decode cX1_canAll 21 = .ok (.getfield 248, 3) := dk_180 0 248 (dk_at dksX1_canAll_0 21 rfl rfl)
theorem dX1_canAll_24 : decode cX1_canAll 24 = .ok (.iload_n 1, 1) := dk_27 (dk_at dksX1_canAll_1 0 rfl rfl)
theorem dX1_canAll_25 : decode cX1_canAll 25 = .ok (.iaload, 1) := dk_46 (dk_at dksX1_canAll_1 1 rfl rfl)
theorem dX1_canAll_26 : decode cX1_canAll 26 = .ok (.iload_n 2, 1) := dk_28 (dk_at dksX1_canAll_1 2 rfl rfl)
theorem dX1_canAll_27 : decode cX1_canAll 27 = .ok (.iconst (-1), 1) := dk_2 (dk_at dksX1_canAll_1 3 rfl rfl)
theorem dX1_canAll_28 : decode cX1_canAll 28 = .ok (.ixor, 1) := dk_130 (dk_at dksX1_canAll_1 4 rfl rfl)
theorem dX1_canAll_29 : decode cX1_canAll 29 = .ok (.iand, 1) := dk_126 (dk_at dksX1_canAll_1 5 rfl rfl)
theorem dX1_canAll_30 : decode cX1_canAll 30 = .ok (.iload_n 3, 1) := dk_29 (dk_at dksX1_canAll_1 6 rfl rfl)
theorem dX1_canAll_31 : decode cX1_canAll 31 = .ok (.invokestatic 251, 3) := dk_184 0 251 (dk_at dksX1_canAll_1 7 rfl rfl)
theorem dX1_canAll_34 : decode cX1_canAll 34 = .ok (.ifCond .eq 20, 3) := dk_153 0 20 (dk_at dksX1_canAll_1 10 rfl rfl)
theorem dX1_canAll_37 : decode cX1_canAll 37 = .ok (.aload_n 0, 1) := dk_42 (dk_at dksX1_canAll_1 13 rfl rfl)
theorem dX1_canAll_38 : decode cX1_canAll 38 = .ok (.iload_n 1, 1) := dk_27 (dk_at dksX1_canAll_1 14 rfl rfl)
theorem dX1_canAll_39 : decode cX1_canAll 39 = .ok (.iconst 1, 1) := dk_4 (dk_at dksX1_canAll_1 15 rfl rfl)
theorem dX1_canAll_40 : decode cX1_canAll 40 = .ok (.iadd, 1) := dk_96 (dk_at dksX1_canAll_1 16 rfl rfl)
theorem dX1_canAll_41 : decode cX1_canAll 41 = .ok (.iload_n 2, 1) := dk_28 (dk_at dksX1_canAll_1 17 rfl rfl)
theorem dX1_canAll_42 : decode cX1_canAll 42 = .ok (.iconst 1, 1) := dk_4 (dk_at dksX1_canAll_1 18 rfl rfl)
theorem dX1_canAll_43 : decode cX1_canAll 43 = .ok (.iload_n 3, 1) := dk_29 (dk_at dksX1_canAll_1 19 rfl rfl)
theorem dX1_canAll_44 : decode cX1_canAll 44 = .ok (.ishl, 1) := dk_120 (dk_at dksX1_canAll_1 20 rfl rfl)
theorem dX1_canAll_45 : decode cX1_canAll 45 = .ok (.ior, 1) := dk_128 (dk_at dksX1_canAll_1 21 rfl rfl)
theorem dX1_canAll_46 : decode cX1_canAll 46 = .ok (.invokevirtual 255, 3) := dk_182 0 255 (dk_at dksX1_canAll_2 0 rfl rfl)
theorem dX1_canAll_49 : decode cX1_canAll 49 = .ok (.ifCond .eq 5, 3) := dk_153 0 5 (dk_at dksX1_canAll_2 3 rfl rfl)
theorem dX1_canAll_52 : decode cX1_canAll 52 = .ok (.iconst 1, 1) := dk_4 (dk_at dksX1_canAll_2 6 rfl rfl)
theorem dX1_canAll_53 : decode cX1_canAll 53 = .ok (.ireturn, 1) := dk_172 (dk_at dksX1_canAll_2 7 rfl rfl)
theorem dX1_canAll_54 : decode cX1_canAll 54 = .ok (.iinc 3 1, 3) := dk_132 3 1 (dk_at dksX1_canAll_2 8 rfl rfl)
theorem dX1_canAll_57 : decode cX1_canAll 57 = .ok (.goto (-48), 3) := dk_167 255 208 (dk_at dksX1_canAll_2 11 rfl rfl)
theorem dX1_canAll_60 : decode cX1_canAll 60 = .ok (.iconst 0, 1) := dk_3 (dk_at dksX1_canAll_2 14 rfl rfl)
theorem dX1_canAll_61 : decode cX1_canAll 61 = .ok (.ireturn, 1) := dk_172 (dk_at dksX1_canAll_2 15 rfl rfl)
abbrev cX1_has : ByteArray := prog_1_method_2_code
def yX1_has : MethodName := ⟨RX1, "has", "(II)Z"⟩
def dkwX1_has_0 : List UInt8 := [26, 27, 122, 4, 126, 4, 160, 0, 7, 4, 167, 0, 4, 3, 172]
abbrev dktX1_has_0 : List UInt8 := dkwX1_has_0 ++ []
theorem dksX1_has_0 : cX1_has.data.toList.drop 0 = dktX1_has_0 := by decide +kernel
theorem dX1_has_0 : decode cX1_has 0 = .ok (.iload_n 0, 1) := dk_26 (dk_at dksX1_has_0 0 rfl rfl)
theorem dX1_has_1 : decode cX1_has 1 = .ok (.iload_n 1, 1) := dk_27 (dk_at dksX1_has_0 1 rfl rfl)
theorem dX1_has_2 : decode cX1_has 2 = .ok (.ishr, 1) := dk_122 (dk_at dksX1_has_0 2 rfl rfl)
theorem dX1_has_3 : decode cX1_has 3 = .ok (.iconst 1, 1) := dk_4 (dk_at dksX1_has_0 3 rfl rfl)
theorem dX1_has_4 : decode cX1_has 4 = .ok (.iand, 1) := dk_126 (dk_at dksX1_has_0 4 rfl rfl)
theorem dX1_has_5 : decode cX1_has 5 = .ok (.iconst 1, 1) := dk_4 (dk_at dksX1_has_0 5 rfl rfl)
theorem dX1_has_6 : decode cX1_has 6 = .ok (.if_icmp .ne 7, 3) := dk_160 0 7 (dk_at dksX1_has_0 6 rfl rfl)
theorem dX1_has_9 : decode cX1_has 9 = .ok (.iconst 1, 1) := dk_4 (dk_at dksX1_has_0 9 rfl rfl)
theorem dX1_has_10 : decode cX1_has 10 = .ok (.goto 4, 3) := dk_167 0 4 (dk_at dksX1_has_0 10 rfl rfl)
theorem dX1_has_13 : decode cX1_has 13 = .ok (.iconst 0, 1) := dk_3 (dk_at dksX1_has_0 13 rfl rfl)
theorem dX1_has_14 : decode cX1_has 14 = .ok (.ireturn, 1) := dk_172 (dk_at dksX1_has_0 14 rfl rfl)
abbrev cX1_lasts : ByteArray := prog_1_method_39_code
def yX1_lasts : MethodName := ⟨RX1, "lasts", "(III)I"⟩
def dkwX1_lasts_2 : List UInt8 := [42, 27, 28, 29, 182, 1, 10, 172]
abbrev dktX1_lasts_2 : List UInt8 := dkwX1_lasts_2 ++ []
def dkwX1_lasts_1 : List UInt8 := [184, 0, 61, 154, 0, 5, 2, 172, 42, 180, 0, 105, 27, 182, 0, 85, 153, 0, 8, 16, 253, 167, 0, 10]
abbrev dktX1_lasts_1 : List UInt8 := dkwX1_lasts_1 ++ dktX1_lasts_2
def dkwX1_lasts_0 : List UInt8 := [42, 180, 0, 105, 27, 182, 0, 145, 153, 0, 21, 42, 180, 0, 105, 28, 182, 0, 169, 153, 0, 10, 29]
abbrev dktX1_lasts_0 : List UInt8 := dkwX1_lasts_0 ++ dktX1_lasts_1
theorem dksX1_lasts_0 : cX1_lasts.data.toList.drop 0 = dktX1_lasts_0 := by decide +kernel
theorem dksX1_lasts_1 : cX1_lasts.data.toList.drop 23 = dktX1_lasts_1 := dk_seg dksX1_lasts_0 23 rfl rfl
theorem dksX1_lasts_2 : cX1_lasts.data.toList.drop 47 = dktX1_lasts_2 := dk_seg dksX1_lasts_1 24 rfl rfl
theorem dX1_lasts_0 : decode cX1_lasts 0 = .ok (.aload_n 0, 1) := dk_42 (dk_at dksX1_lasts_0 0 rfl rfl)
theorem dX1_lasts_1 : decode cX1_lasts 1 = .ok (.getfield 105, 3) := dk_180 0 105 (dk_at dksX1_lasts_0 1 rfl rfl)
theorem dX1_lasts_4 : decode cX1_lasts 4 = .ok (.iload_n 1, 1) := dk_27 (dk_at dksX1_lasts_0 4 rfl rfl)
theorem dX1_lasts_5 : decode cX1_lasts 5 = .ok (.invokevirtual 145, 3) := dk_182 0 145 (dk_at dksX1_lasts_0 5 rfl rfl)
theorem dX1_lasts_8 : decode cX1_lasts 8 = .ok (.ifCond .eq 21, 3) := dk_153 0 21 (dk_at dksX1_lasts_0 8 rfl rfl)
theorem dX1_lasts_11 : decode cX1_lasts 11 = .ok (.aload_n 0, 1) := dk_42 (dk_at dksX1_lasts_0 11 rfl rfl)
theorem dX1_lasts_12 : decode cX1_lasts 12 = .ok (.getfield 105, 3) := dk_180 0 105 (dk_at dksX1_lasts_0 12 rfl rfl)
theorem dX1_lasts_15 : decode cX1_lasts 15 = .ok (.iload_n 2, 1) := dk_28 (dk_at dksX1_lasts_0 15 rfl rfl)
theorem dX1_lasts_16 : decode cX1_lasts 16 = .ok (.invokevirtual 169, 3) := dk_182 0 169 (dk_at dksX1_lasts_0 16 rfl rfl)
theorem dX1_lasts_19 : decode cX1_lasts 19 = .ok (.ifCond .eq 10, 3) := dk_153 0 10 (dk_at dksX1_lasts_0 19 rfl rfl)
theorem dX1_lasts_22 : decode cX1_lasts 22 = .ok (.iload_n 3, 1) := dk_29 (dk_at dksX1_lasts_0 22 rfl rfl)
theorem dX1_lasts_23 : decode cX1_lasts 23 = .ok (.invokestatic 61, 3) := dk_184 0 61 (dk_at dksX1_lasts_1 0 rfl rfl)
theorem dX1_lasts_26 : decode cX1_lasts 26 = .ok (.ifCond .ne 5, 3) := dk_154 0 5 (dk_at dksX1_lasts_1 3 rfl rfl)
theorem dX1_lasts_29 : decode cX1_lasts 29 = .ok (.iconst (-1), 1) := dk_2 (dk_at dksX1_lasts_1 6 rfl rfl)
theorem dX1_lasts_30 : decode cX1_lasts 30 = .ok (.ireturn, 1) := dk_172 (dk_at dksX1_lasts_1 7 rfl rfl)
theorem dX1_lasts_31 : decode cX1_lasts 31 = .ok (.aload_n 0, 1) := dk_42 (dk_at dksX1_lasts_1 8 rfl rfl)
theorem dX1_lasts_32 : decode cX1_lasts 32 = .ok (.getfield 105, 3) := dk_180 0 105 (dk_at dksX1_lasts_1 9 rfl rfl)
theorem dX1_lasts_35 : decode cX1_lasts 35 = .ok (.iload_n 1, 1) := dk_27 (dk_at dksX1_lasts_1 12 rfl rfl)
theorem dX1_lasts_36 : decode cX1_lasts 36 = .ok (.invokevirtual 85, 3) := dk_182 0 85 (dk_at dksX1_lasts_1 13 rfl rfl)
theorem dX1_lasts_39 : decode cX1_lasts 39 = .ok (.ifCond .eq 8, 3) := dk_153 0 8 (dk_at dksX1_lasts_1 16 rfl rfl)
theorem dX1_lasts_42 : decode cX1_lasts 42 = .ok (.bipush (-3), 2) := dk_16 253 (dk_at dksX1_lasts_1 19 rfl rfl)
theorem dX1_lasts_44 : decode cX1_lasts 44 = .ok (.goto 10, 3) := dk_167 0 10 (dk_at dksX1_lasts_1 21 rfl rfl)
theorem dX1_lasts_47 : decode cX1_lasts 47 = .ok (.aload_n 0, 1) := dk_42 (dk_at dksX1_lasts_2 0 rfl rfl)
theorem dX1_lasts_48 : decode cX1_lasts 48 = .ok (.iload_n 1, 1) := dk_27 (dk_at dksX1_lasts_2 1 rfl rfl)
theorem dX1_lasts_49 : decode cX1_lasts 49 = .ok (.iload_n 2, 1) := dk_28 (dk_at dksX1_lasts_2 2 rfl rfl)
theorem dX1_lasts_50 : decode cX1_lasts 50 = .ok (.iload_n 3, 1) := dk_29 (dk_at dksX1_lasts_2 3 rfl rfl)
theorem dX1_lasts_51 : decode cX1_lasts 51 = .ok (.invokevirtual 266, 3) := dk_182 1 10 (dk_at dksX1_lasts_2 4 rfl rfl)
theorem dX1_lasts_54 : decode cX1_lasts 54 = .ok (.ireturn, 1) := dk_172 (dk_at dksX1_lasts_2 7 rfl rfl)
abbrev cX1_lastsBy : ByteArray := prog_1_method_37_code
def yX1_lastsBy : MethodName := ⟨RX1, "lastsBy", "(III)I"⟩
def dkwX1_lastsBy_2 : List UInt8 := [182, 0, 183, 96, 79, 132, 4, 1, 167, 255, 210, 21, 4, 172]
abbrev dktX1_lastsBy_2 : List UInt8 := dkwX1_lastsBy_2 ++ []
def dkwX1_lastsBy_1 : List UInt8 := [154, 0, 34, 42, 180, 0, 48, 180, 0, 157, 27, 92, 46, 42, 180, 0, 48, 180, 0, 172, 28, 50, 29]
abbrev dktX1_lastsBy_1 : List UInt8 := dkwX1_lastsBy_1 ++ dktX1_lastsBy_2
def dkwX1_lastsBy_0 : List UInt8 := [42, 182, 1, 6, 3, 54, 4, 21, 4, 16, 99, 162, 0, 45, 42, 180, 0, 48, 27, 182, 0, 85]
abbrev dktX1_lastsBy_0 : List UInt8 := dkwX1_lastsBy_0 ++ dktX1_lastsBy_1
theorem dksX1_lastsBy_0 : cX1_lastsBy.data.toList.drop 0 = dktX1_lastsBy_0 := by decide +kernel
theorem dksX1_lastsBy_1 : cX1_lastsBy.data.toList.drop 22 = dktX1_lastsBy_1 := dk_seg dksX1_lastsBy_0 22 rfl rfl
theorem dksX1_lastsBy_2 : cX1_lastsBy.data.toList.drop 45 = dktX1_lastsBy_2 := dk_seg dksX1_lastsBy_1 23 rfl rfl
theorem dX1_lastsBy_0 : decode cX1_lastsBy 0 = .ok (.aload_n 0, 1) := dk_42 (dk_at dksX1_lastsBy_0 0 rfl rfl)
theorem dX1_lastsBy_1 : decode cX1_lastsBy 1 = .ok (.invokevirtual 262, 3) := dk_182 1 6 (dk_at dksX1_lastsBy_0 1 rfl rfl)
theorem dX1_lastsBy_4 : decode cX1_lastsBy 4 = .ok (.iconst 0, 1) := dk_3 (dk_at dksX1_lastsBy_0 4 rfl rfl)
theorem dX1_lastsBy_5 : decode cX1_lastsBy 5 = .ok (.istore 4, 2) := dk_54 4 (dk_at dksX1_lastsBy_0 5 rfl rfl)
theorem dX1_lastsBy_7 : decode cX1_lastsBy 7 = .ok (.iload 4, 2) := dk_21 4 (dk_at dksX1_lastsBy_0 7 rfl rfl)
theorem dX1_lastsBy_9 : decode cX1_lastsBy 9 = .ok (.bipush 99, 2) := dk_16 99 (dk_at dksX1_lastsBy_0 9 rfl rfl)
theorem dX1_lastsBy_11 : decode cX1_lastsBy 11 = .ok (.if_icmp .ge 45, 3) := dk_162 0 45 (dk_at dksX1_lastsBy_0 11 rfl rfl)
theorem dX1_lastsBy_14 : decode cX1_lastsBy 14 = .ok (.aload_n 0, 1) := dk_42 (dk_at dksX1_lastsBy_0 14 rfl rfl)
theorem dX1_lastsBy_15 : decode cX1_lastsBy 15 = .ok (.getfield 48, 3) := dk_180 0 48 (dk_at dksX1_lastsBy_0 15 rfl rfl)
theorem dX1_lastsBy_18 : decode cX1_lastsBy 18 = .ok (.iload_n 1, 1) := dk_27 (dk_at dksX1_lastsBy_0 18 rfl rfl)
theorem dX1_lastsBy_19 : decode cX1_lastsBy 19 = .ok (.invokevirtual 85, 3) := dk_182 0 85 (dk_at dksX1_lastsBy_0 19 rfl rfl)
theorem dX1_lastsBy_22 : decode cX1_lastsBy 22 = .ok (.ifCond .ne 34, 3) := dk_154 0 34 (dk_at dksX1_lastsBy_1 0 rfl rfl)
theorem dX1_lastsBy_25 : decode cX1_lastsBy 25 = .ok (.aload_n 0, 1) := dk_42 (dk_at dksX1_lastsBy_1 3 rfl rfl)
theorem dX1_lastsBy_26 : decode cX1_lastsBy 26 = .ok (.getfield 48, 3) := dk_180 0 48 (dk_at dksX1_lastsBy_1 4 rfl rfl)
theorem dX1_lastsBy_29 : decode cX1_lastsBy 29 = .ok (.getfield 157, 3) := dk_180 0 157 (dk_at dksX1_lastsBy_1 7 rfl rfl)
theorem dX1_lastsBy_32 : decode cX1_lastsBy 32 = .ok (.iload_n 1, 1) := dk_27 (dk_at dksX1_lastsBy_1 10 rfl rfl)
theorem dX1_lastsBy_33 : decode cX1_lastsBy 33 = .ok (.dup2, 1) := dk_92 (dk_at dksX1_lastsBy_1 11 rfl rfl)
theorem dX1_lastsBy_34 : decode cX1_lastsBy 34 = .ok (.iaload, 1) := dk_46 (dk_at dksX1_lastsBy_1 12 rfl rfl)
theorem dX1_lastsBy_35 : decode cX1_lastsBy 35 = .ok (.aload_n 0, 1) := dk_42 (dk_at dksX1_lastsBy_1 13 rfl rfl)
theorem dX1_lastsBy_36 : decode cX1_lastsBy 36 = .ok (.getfield 48, 3) := dk_180 0 48 (dk_at dksX1_lastsBy_1 14 rfl rfl)
theorem dX1_lastsBy_39 : decode cX1_lastsBy 39 = .ok (.getfield 172, 3) := dk_180 0 172 (dk_at dksX1_lastsBy_1 17 rfl rfl)
theorem dX1_lastsBy_42 : decode cX1_lastsBy 42 = .ok (.iload_n 2, 1) := dk_28 (dk_at dksX1_lastsBy_1 20 rfl rfl)
theorem dX1_lastsBy_43 : decode cX1_lastsBy 43 = .ok (.aaload, 1) := dk_50 (dk_at dksX1_lastsBy_1 21 rfl rfl)
theorem dX1_lastsBy_44 : decode cX1_lastsBy 44 = .ok (.iload_n 3, 1) := dk_29 (dk_at dksX1_lastsBy_1 22 rfl rfl)
theorem dX1_lastsBy_45 : decode cX1_lastsBy 45 = .ok (.invokevirtual 183, 3) := dk_182 0 183 (dk_at dksX1_lastsBy_2 0 rfl rfl)
theorem dX1_lastsBy_48 : decode cX1_lastsBy 48 = .ok (.iadd, 1) := dk_96 (dk_at dksX1_lastsBy_2 3 rfl rfl)
theorem dX1_lastsBy_49 : decode cX1_lastsBy 49 = .ok (.iastore, 1) := dk_79 (dk_at dksX1_lastsBy_2 4 rfl rfl)
theorem dX1_lastsBy_50 : decode cX1_lastsBy 50 = .ok (.iinc 4 1, 3) := dk_132 4 1 (dk_at dksX1_lastsBy_2 5 rfl rfl)
theorem dX1_lastsBy_53 : decode cX1_lastsBy 53 = .ok (.goto (-46), 3) := dk_167 255 210 (dk_at dksX1_lastsBy_2 8 rfl rfl)
theorem dX1_lastsBy_56 : decode cX1_lastsBy 56 = .ok (.iload 4, 2) := dk_21 4 (dk_at dksX1_lastsBy_2 11 rfl rfl)
theorem dX1_lastsBy_58 : decode cX1_lastsBy 58 = .ok (.ireturn, 1) := dk_172 (dk_at dksX1_lastsBy_2 13 rfl rfl)
abbrev cX1_minds : ByteArray := prog_1_method_38_code
def yX1_minds : MethodName := ⟨RX1, "minds", "()V"⟩
def dkwX1_minds_0 : List UInt8 := [42, 180, 0, 48, 42, 180, 0, 105, 182, 0, 108, 177]
abbrev dktX1_minds_0 : List UInt8 := dkwX1_minds_0 ++ []
theorem dksX1_minds_0 : cX1_minds.data.toList.drop 0 = dktX1_minds_0 := by decide +kernel
theorem dX1_minds_0 : decode cX1_minds 0 = .ok (.aload_n 0, 1) := dk_42 (dk_at dksX1_minds_0 0 rfl rfl)
theorem dX1_minds_1 : decode cX1_minds 1 = .ok (.getfield 48, 3) := dk_180 0 48 (dk_at dksX1_minds_0 1 rfl rfl)
theorem dX1_minds_4 : decode cX1_minds 4 = .ok (.aload_n 0, 1) := dk_42 (dk_at dksX1_minds_0 4 rfl rfl)
theorem dX1_minds_5 : decode cX1_minds 5 = .ok (.getfield 105, 3) := dk_180 0 105 (dk_at dksX1_minds_0 5 rfl rfl)
theorem dX1_minds_8 : decode cX1_minds 8 = .ok (.invokevirtual 108, 3) := dk_182 0 108 (dk_at dksX1_minds_0 8 rfl rfl)
theorem dX1_minds_11 : decode cX1_minds 11 = .ok (.return_, 1) := dk_177 (dk_at dksX1_minds_0 11 rfl rfl)
abbrev cX1_bestForce : ByteArray := prog_1_method_40_code
def yX1_bestForce : MethodName := ⟨RX1, "bestForce", "(III)I"⟩
def dkwX1_bestForce_5 : List UInt8 := [21, 5, 172]
abbrev dktX1_bestForce_5 : List UInt8 := dkwX1_bestForce_5 ++ []
def dkwX1_bestForce_4 : List UInt8 := [21, 5, 182, 1, 10, 164, 0, 8, 21, 6, 167, 0, 5, 21, 5, 54, 5, 132, 6, 1, 167, 255, 208]
abbrev dktX1_bestForce_4 : List UInt8 := dkwX1_bestForce_4 ++ dktX1_bestForce_5
def dkwX1_bestForce_3 : List UInt8 := [42, 180, 0, 105, 28, 29, 182, 0, 236, 96, 162, 0, 37, 42, 27, 29, 21, 6, 182, 1, 10, 42, 27, 29]
abbrev dktX1_bestForce_3 : List UInt8 := dkwX1_bestForce_3 ++ dktX1_bestForce_4
def dkwX1_bestForce_2 : List UInt8 := [180, 0, 105, 28, 29, 182, 0, 196, 54, 4, 21, 4, 54, 5, 21, 4, 4, 96, 54, 6, 21, 6, 21, 4]
abbrev dktX1_bestForce_2 : List UInt8 := dkwX1_bestForce_2 ++ dktX1_bestForce_3
def dkwX1_bestForce_1 : List UInt8 := [153, 0, 6, 16, 253, 172, 42, 180, 0, 105, 27, 28, 29, 182, 0, 213, 154, 0, 6, 16, 252, 172, 42]
abbrev dktX1_bestForce_1 : List UInt8 := dkwX1_bestForce_1 ++ dktX1_bestForce_2
def dkwX1_bestForce_0 : List UInt8 := [42, 180, 0, 105, 27, 28, 29, 182, 0, 82, 154, 0, 5, 2, 172, 42, 180, 0, 105, 27, 182, 0, 85]
abbrev dktX1_bestForce_0 : List UInt8 := dkwX1_bestForce_0 ++ dktX1_bestForce_1
theorem dksX1_bestForce_0 : cX1_bestForce.data.toList.drop 0 = dktX1_bestForce_0 := by decide +kernel
theorem dksX1_bestForce_1 : cX1_bestForce.data.toList.drop 23 = dktX1_bestForce_1 := dk_seg dksX1_bestForce_0 23 rfl rfl
theorem dksX1_bestForce_2 : cX1_bestForce.data.toList.drop 46 = dktX1_bestForce_2 := dk_seg dksX1_bestForce_1 23 rfl rfl
theorem dksX1_bestForce_3 : cX1_bestForce.data.toList.drop 70 = dktX1_bestForce_3 := dk_seg dksX1_bestForce_2 24 rfl rfl
theorem dksX1_bestForce_4 : cX1_bestForce.data.toList.drop 94 = dktX1_bestForce_4 := dk_seg dksX1_bestForce_3 24 rfl rfl
theorem dksX1_bestForce_5 : cX1_bestForce.data.toList.drop 117 = dktX1_bestForce_5 := dk_seg dksX1_bestForce_4 23 rfl rfl
theorem dX1_bestForce_0 : decode cX1_bestForce 0 = .ok (.aload_n 0, 1) := dk_42 (dk_at dksX1_bestForce_0 0 rfl rfl)
theorem dX1_bestForce_1 : decode cX1_bestForce 1 = .ok (.getfield 105, 3) := dk_180 0 105 (dk_at dksX1_bestForce_0 1 rfl rfl)
theorem dX1_bestForce_4 : decode cX1_bestForce 4 = .ok (.iload_n 1, 1) := dk_27 (dk_at dksX1_bestForce_0 4 rfl rfl)
theorem dX1_bestForce_5 : decode cX1_bestForce 5 = .ok (.iload_n 2, 1) := dk_28 (dk_at dksX1_bestForce_0 5 rfl rfl)
theorem dX1_bestForce_6 : decode cX1_bestForce 6 = .ok (.iload_n 3, 1) := dk_29 (dk_at dksX1_bestForce_0 6 rfl rfl)
theorem dX1_bestForce_7 : decode cX1_bestForce 7 = .ok (.invokevirtual 82, 3) := dk_182 0 82 (dk_at dksX1_bestForce_0 7 rfl rfl)
theorem dX1_bestForce_10 : decode cX1_bestForce 10 = .ok (.ifCond .ne 5, 3) := dk_154 0 5 (dk_at dksX1_bestForce_0 10 rfl rfl)
theorem dX1_bestForce_13 : decode cX1_bestForce 13 = .ok (.iconst (-1), 1) := dk_2 (dk_at dksX1_bestForce_0 13 rfl rfl)
theorem dX1_bestForce_14 : decode cX1_bestForce 14 = .ok (.ireturn, 1) := dk_172 (dk_at dksX1_bestForce_0 14 rfl rfl)
theorem dX1_bestForce_15 : decode cX1_bestForce 15 = .ok (.aload_n 0, 1) := dk_42 (dk_at dksX1_bestForce_0 15 rfl rfl)
theorem dX1_bestForce_16 : decode cX1_bestForce 16 = .ok (.getfield 105, 3) := dk_180 0 105 (dk_at dksX1_bestForce_0 16 rfl rfl)
theorem dX1_bestForce_19 : decode cX1_bestForce 19 = .ok (.iload_n 1, 1) := dk_27 (dk_at dksX1_bestForce_0 19 rfl rfl)
theorem dX1_bestForce_20 : decode cX1_bestForce 20 = .ok (.invokevirtual 85, 3) := dk_182 0 85 (dk_at dksX1_bestForce_0 20 rfl rfl)
theorem dX1_bestForce_23 : decode cX1_bestForce 23 = .ok (.ifCond .eq 6, 3) := dk_153 0 6 (dk_at dksX1_bestForce_1 0 rfl rfl)
theorem dX1_bestForce_26 : decode cX1_bestForce 26 = .ok (.bipush (-3), 2) := dk_16 253 (dk_at dksX1_bestForce_1 3 rfl rfl)
theorem dX1_bestForce_28 : decode cX1_bestForce 28 = .ok (.ireturn, 1) := dk_172 (dk_at dksX1_bestForce_1 5 rfl rfl)
theorem dX1_bestForce_29 : decode cX1_bestForce 29 = .ok (.aload_n 0, 1) := dk_42 (dk_at dksX1_bestForce_1 6 rfl rfl)
theorem dX1_bestForce_30 : decode cX1_bestForce 30 = .ok (.getfield 105, 3) := dk_180 0 105 (dk_at dksX1_bestForce_1 7 rfl rfl)
theorem dX1_bestForce_33 : decode cX1_bestForce 33 = .ok (.iload_n 1, 1) := dk_27 (dk_at dksX1_bestForce_1 10 rfl rfl)
theorem dX1_bestForce_34 : decode cX1_bestForce 34 = .ok (.iload_n 2, 1) := dk_28 (dk_at dksX1_bestForce_1 11 rfl rfl)
theorem dX1_bestForce_35 : decode cX1_bestForce 35 = .ok (.iload_n 3, 1) := dk_29 (dk_at dksX1_bestForce_1 12 rfl rfl)
theorem dX1_bestForce_36 : decode cX1_bestForce 36 = .ok (.invokevirtual 213, 3) := dk_182 0 213 (dk_at dksX1_bestForce_1 13 rfl rfl)
theorem dX1_bestForce_39 : decode cX1_bestForce 39 = .ok (.ifCond .ne 6, 3) := dk_154 0 6 (dk_at dksX1_bestForce_1 16 rfl rfl)
theorem dX1_bestForce_42 : decode cX1_bestForce 42 = .ok (.bipush (-4), 2) := dk_16 252 (dk_at dksX1_bestForce_1 19 rfl rfl)
theorem dX1_bestForce_44 : decode cX1_bestForce 44 = .ok (.ireturn, 1) := dk_172 (dk_at dksX1_bestForce_1 21 rfl rfl)
theorem dX1_bestForce_45 : decode cX1_bestForce 45 = .ok (.aload_n 0, 1) := dk_42 (dk_at dksX1_bestForce_1 22 rfl rfl)
theorem dX1_bestForce_46 : decode cX1_bestForce 46 = .ok (.getfield 105, 3) := dk_180 0 105 (dk_at dksX1_bestForce_2 0 rfl rfl)
theorem dX1_bestForce_49 : decode cX1_bestForce 49 = .ok (.iload_n 2, 1) := dk_28 (dk_at dksX1_bestForce_2 3 rfl rfl)
theorem dX1_bestForce_50 : decode cX1_bestForce 50 = .ok (.iload_n 3, 1) := dk_29 (dk_at dksX1_bestForce_2 4 rfl rfl)
theorem dX1_bestForce_51 : decode cX1_bestForce 51 = .ok (.invokevirtual 196, 3) := dk_182 0 196 (dk_at dksX1_bestForce_2 5 rfl rfl)
theorem dX1_bestForce_54 : decode cX1_bestForce 54 = .ok (.istore 4, 2) := dk_54 4 (dk_at dksX1_bestForce_2 8 rfl rfl)
theorem dX1_bestForce_56 : decode cX1_bestForce 56 = .ok (.iload 4, 2) := dk_21 4 (dk_at dksX1_bestForce_2 10 rfl rfl)
theorem dX1_bestForce_58 : decode cX1_bestForce 58 = .ok (.istore 5, 2) := dk_54 5 (dk_at dksX1_bestForce_2 12 rfl rfl)
theorem dX1_bestForce_60 : decode cX1_bestForce 60 = .ok (.iload 4, 2) := dk_21 4 (dk_at dksX1_bestForce_2 14 rfl rfl)
theorem dX1_bestForce_62 : decode cX1_bestForce 62 = .ok (.iconst 1, 1) := dk_4 (dk_at dksX1_bestForce_2 16 rfl rfl)
theorem dX1_bestForce_63 : decode cX1_bestForce 63 = .ok (.iadd, 1) := dk_96 (dk_at dksX1_bestForce_2 17 rfl rfl)
theorem dX1_bestForce_64 : decode cX1_bestForce 64 = .ok (.istore 6, 2) := dk_54 6 (dk_at dksX1_bestForce_2 18 rfl rfl)
theorem dX1_bestForce_66 : decode cX1_bestForce 66 = .ok (.iload 6, 2) := dk_21 6 (dk_at dksX1_bestForce_2 20 rfl rfl)
theorem dX1_bestForce_68 : decode cX1_bestForce 68 = .ok (.iload 4, 2) := dk_21 4 (dk_at dksX1_bestForce_2 22 rfl rfl)
theorem dX1_bestForce_70 : decode cX1_bestForce 70 = .ok (.aload_n 0, 1) := dk_42 (dk_at dksX1_bestForce_3 0 rfl rfl)
theorem dX1_bestForce_71 : decode cX1_bestForce 71 = .ok (.getfield 105, 3) := dk_180 0 105 (dk_at dksX1_bestForce_3 1 rfl rfl)
theorem dX1_bestForce_74 : decode cX1_bestForce 74 = .ok (.iload_n 2, 1) := dk_28 (dk_at dksX1_bestForce_3 4 rfl rfl)
theorem dX1_bestForce_75 : decode cX1_bestForce 75 = .ok (.iload_n 3, 1) := dk_29 (dk_at dksX1_bestForce_3 5 rfl rfl)
theorem dX1_bestForce_76 : decode cX1_bestForce 76 = .ok (.invokevirtual 236, 3) := dk_182 0 236 (dk_at dksX1_bestForce_3 6 rfl rfl)
theorem dX1_bestForce_79 : decode cX1_bestForce 79 = .ok (.iadd, 1) := dk_96 (dk_at dksX1_bestForce_3 9 rfl rfl)
theorem dX1_bestForce_80 : decode cX1_bestForce 80 = .ok (.if_icmp .ge 37, 3) := dk_162 0 37 (dk_at dksX1_bestForce_3 10 rfl rfl)
theorem dX1_bestForce_83 : decode cX1_bestForce 83 = .ok (.aload_n 0, 1) := dk_42 (dk_at dksX1_bestForce_3 13 rfl rfl)
theorem dX1_bestForce_84 : decode cX1_bestForce 84 = .ok (.iload_n 1, 1) := dk_27 (dk_at dksX1_bestForce_3 14 rfl rfl)
theorem dX1_bestForce_85 : decode cX1_bestForce 85 = .ok (.iload_n 3, 1) := dk_29 (dk_at dksX1_bestForce_3 15 rfl rfl)
theorem dX1_bestForce_86 : decode cX1_bestForce 86 = .ok (.iload 6, 2) := dk_21 6 (dk_at dksX1_bestForce_3 16 rfl rfl)
theorem dX1_bestForce_88 : decode cX1_bestForce 88 = .ok (.invokevirtual 266, 3) := dk_182 1 10 (dk_at dksX1_bestForce_3 18 rfl rfl)
theorem dX1_bestForce_91 : decode cX1_bestForce 91 = .ok (.aload_n 0, 1) := dk_42 (dk_at dksX1_bestForce_3 21 rfl rfl)
theorem dX1_bestForce_92 : decode cX1_bestForce 92 = .ok (.iload_n 1, 1) := dk_27 (dk_at dksX1_bestForce_3 22 rfl rfl)
theorem dX1_bestForce_93 : decode cX1_bestForce 93 = .ok (.iload_n 3, 1) := dk_29 (dk_at dksX1_bestForce_3 23 rfl rfl)
theorem dX1_bestForce_94 : decode cX1_bestForce 94 = .ok (.iload 5, 2) := dk_21 5 (dk_at dksX1_bestForce_4 0 rfl rfl)
theorem dX1_bestForce_96 : decode cX1_bestForce 96 = .ok (.invokevirtual 266, 3) := dk_182 1 10 (dk_at dksX1_bestForce_4 2 rfl rfl)
theorem dX1_bestForce_99 : decode cX1_bestForce 99 = .ok (.if_icmp .le 8, 3) := dk_164 0 8 (dk_at dksX1_bestForce_4 5 rfl rfl)
theorem dX1_bestForce_102 : decode cX1_bestForce 102 = .ok (.iload 6, 2) := dk_21 6 (dk_at dksX1_bestForce_4 8 rfl rfl)
theorem dX1_bestForce_104 : decode cX1_bestForce 104 = .ok (.goto 5, 3) := dk_167 0 5 (dk_at dksX1_bestForce_4 10 rfl rfl)
theorem dX1_bestForce_107 : decode cX1_bestForce 107 = .ok (.iload 5, 2) := dk_21 5 (dk_at dksX1_bestForce_4 13 rfl rfl)
theorem dX1_bestForce_109 : decode cX1_bestForce 109 = .ok (.istore 5, 2) := dk_54 5 (dk_at dksX1_bestForce_4 15 rfl rfl)
theorem dX1_bestForce_111 : decode cX1_bestForce 111 = .ok (.iinc 6 1, 3) := dk_132 6 1 (dk_at dksX1_bestForce_4 17 rfl rfl)
theorem dX1_bestForce_114 : decode cX1_bestForce 114 = .ok (.goto (-48), 3) := dk_167 255 208 (dk_at dksX1_bestForce_4 20 rfl rfl)
theorem dX1_bestForce_117 : decode cX1_bestForce 117 = .ok (.iload 5, 2) := dk_21 5 (dk_at dksX1_bestForce_5 0 rfl rfl)
theorem dX1_bestForce_119 : decode cX1_bestForce 119 = .ok (.ireturn, 1) := dk_172 (dk_at dksX1_bestForce_5 2 rfl rfl)
abbrev cX1_clash : ByteArray := prog_1_method_41_code
def yX1_clash : MethodName := ⟨RX1, "clash", "(III)I"⟩
def dkwX1_clash_6 : List UInt8 := [21, 4, 167, 0, 5, 21, 5, 172]
abbrev dktX1_clash_6 : List UInt8 := dkwX1_clash_6 ++ []
def dkwX1_clash_5 : List UInt8 := [21, 6, 104, 21, 7, 96, 54, 5, 132, 7, 255, 167, 255, 190, 132, 6, 255, 167, 255, 168, 29, 154, 0, 8]
abbrev dktX1_clash_5 : List UInt8 := dkwX1_clash_5 ++ dktX1_clash_6
def dkwX1_clash_4 : List UInt8 := [184, 0, 239, 54, 8, 21, 8, 4, 5, 184, 0, 30, 154, 0, 6, 167, 0, 16, 132, 4, 1, 16, 10]
abbrev dktX1_clash_4 : List UInt8 := dkwX1_clash_4 ++ dktX1_clash_5
def dkwX1_clash_3 : List UInt8 := [180, 0, 105, 21, 6, 27, 28, 3, 182, 0, 209, 42, 180, 0, 105, 21, 7, 27, 28, 3, 182, 0, 209, 100]
abbrev dktX1_clash_3 : List UInt8 := dkwX1_clash_3 ++ dktX1_clash_4
def dkwX1_clash_2 : List UInt8 := [21, 6, 155, 0, 89, 42, 180, 0, 105, 180, 0, 52, 4, 100, 54, 7, 21, 7, 21, 6, 164, 0, 65, 42]
abbrev dktX1_clash_2 : List UInt8 := dkwX1_clash_2 ++ dktX1_clash_3
def dkwX1_clash_1 : List UInt8 := [154, 0, 5, 2, 172, 3, 54, 4, 16, 252, 54, 5, 42, 180, 0, 105, 180, 0, 52, 4, 100, 54, 6]
abbrev dktX1_clash_1 : List UInt8 := dkwX1_clash_1 ++ dktX1_clash_2
def dkwX1_clash_0 : List UInt8 := [42, 180, 0, 105, 27, 182, 0, 169, 153, 0, 19, 28, 184, 0, 61, 153, 0, 12, 29, 3, 4, 184, 0, 30]
abbrev dktX1_clash_0 : List UInt8 := dkwX1_clash_0 ++ dktX1_clash_1
theorem dksX1_clash_0 : cX1_clash.data.toList.drop 0 = dktX1_clash_0 := by decide +kernel
theorem dksX1_clash_1 : cX1_clash.data.toList.drop 24 = dktX1_clash_1 := dk_seg dksX1_clash_0 24 rfl rfl
theorem dksX1_clash_2 : cX1_clash.data.toList.drop 47 = dktX1_clash_2 := dk_seg dksX1_clash_1 23 rfl rfl
theorem dksX1_clash_3 : cX1_clash.data.toList.drop 71 = dktX1_clash_3 := dk_seg dksX1_clash_2 24 rfl rfl
theorem dksX1_clash_4 : cX1_clash.data.toList.drop 95 = dktX1_clash_4 := dk_seg dksX1_clash_3 24 rfl rfl
theorem dksX1_clash_5 : cX1_clash.data.toList.drop 118 = dktX1_clash_5 := dk_seg dksX1_clash_4 23 rfl rfl
theorem dksX1_clash_6 : cX1_clash.data.toList.drop 142 = dktX1_clash_6 := dk_seg dksX1_clash_5 24 rfl rfl
theorem dX1_clash_0 : decode cX1_clash 0 = .ok (.aload_n 0, 1) := dk_42 (dk_at dksX1_clash_0 0 rfl rfl)
theorem dX1_clash_1 : decode cX1_clash 1 = .ok (.getfield 105, 3) := dk_180 0 105 (dk_at dksX1_clash_0 1 rfl rfl)
theorem dX1_clash_4 : decode cX1_clash 4 = .ok (.iload_n 1, 1) := dk_27 (dk_at dksX1_clash_0 4 rfl rfl)
theorem dX1_clash_5 : decode cX1_clash 5 = .ok (.invokevirtual 169, 3) := dk_182 0 169 (dk_at dksX1_clash_0 5 rfl rfl)
theorem dX1_clash_8 : decode cX1_clash 8 = .ok (.ifCond .eq 19, 3) := dk_153 0 19 (dk_at dksX1_clash_0 8 rfl rfl)
theorem dX1_clash_11 : decode cX1_clash 11 = .ok (.iload_n 2, 1) := dk_28 (dk_at dksX1_clash_0 11 rfl rfl)
theorem dX1_clash_12 : decode cX1_clash 12 = .ok (.invokestatic 61, 3) := dk_184 0 61 (dk_at dksX1_clash_0 12 rfl rfl)
theorem dX1_clash_15 : decode cX1_clash 15 = .ok (.ifCond .eq 12, 3) := dk_153 0 12 (dk_at dksX1_clash_0 15 rfl rfl)
theorem dX1_clash_18 : decode cX1_clash 18 = .ok (.iload_n 3, 1) := dk_29 (dk_at dksX1_clash_0 18 rfl rfl)
theorem dX1_clash_19 : decode cX1_clash 19 = .ok (.iconst 0, 1) := dk_3 (dk_at dksX1_clash_0 19 rfl rfl)
theorem dX1_clash_20 : decode cX1_clash 20 = .ok (.iconst 1, 1) := dk_4 (dk_at dksX1_clash_0 20 rfl rfl)
theorem dX1_clash_21 : decode cX1_clash 21 = .ok (.invokestatic 30, 3) := dk_184 0 30 (dk_at dksX1_clash_0 21 rfl rfl)
theorem dX1_clash_24 : decode cX1_clash 24 = .ok (.ifCond .ne 5, 3) := dk_154 0 5 (dk_at dksX1_clash_1 0 rfl rfl)
theorem dX1_clash_27 : decode cX1_clash 27 = .ok (.iconst (-1), 1) := dk_2 (dk_at dksX1_clash_1 3 rfl rfl)
theorem dX1_clash_28 : decode cX1_clash 28 = .ok (.ireturn, 1) := dk_172 (dk_at dksX1_clash_1 4 rfl rfl)
theorem dX1_clash_29 : decode cX1_clash 29 = .ok (.iconst 0, 1) := dk_3 (dk_at dksX1_clash_1 5 rfl rfl)
theorem dX1_clash_30 : decode cX1_clash 30 = .ok (.istore 4, 2) := dk_54 4 (dk_at dksX1_clash_1 6 rfl rfl)
theorem dX1_clash_32 : decode cX1_clash 32 = .ok (.bipush (-4), 2) := dk_16 252 (dk_at dksX1_clash_1 8 rfl rfl)
theorem dX1_clash_34 : decode cX1_clash 34 = .ok (.istore 5, 2) := dk_54 5 (dk_at dksX1_clash_1 10 rfl rfl)
theorem dX1_clash_36 : decode cX1_clash 36 = .ok (.aload_n 0, 1) := dk_42 (dk_at dksX1_clash_1 12 rfl rfl)
theorem dX1_clash_37 : decode cX1_clash 37 = .ok (.getfield 105, 3) := dk_180 0 105 (dk_at dksX1_clash_1 13 rfl rfl)
theorem dX1_clash_40 : decode cX1_clash 40 = .ok (.getfield 52, 3) := dk_180 0 52 (dk_at dksX1_clash_1 16 rfl rfl)
theorem dX1_clash_43 : decode cX1_clash 43 = .ok (.iconst 1, 1) := dk_4 (dk_at dksX1_clash_1 19 rfl rfl)
theorem dX1_clash_44 : decode cX1_clash 44 = .ok (.isub, 1) := dk_100 (dk_at dksX1_clash_1 20 rfl rfl)
theorem dX1_clash_45 : decode cX1_clash 45 = .ok (.istore 6, 2) := dk_54 6 (dk_at dksX1_clash_1 21 rfl rfl)
theorem dX1_clash_47 : decode cX1_clash 47 = .ok (.iload 6, 2) := dk_21 6 (dk_at dksX1_clash_2 0 rfl rfl)
theorem dX1_clash_49 : decode cX1_clash 49 = .ok (.ifCond .lt 89, 3) := dk_155 0 89 (dk_at dksX1_clash_2 2 rfl rfl)
theorem dX1_clash_52 : decode cX1_clash 52 = .ok (.aload_n 0, 1) := dk_42 (dk_at dksX1_clash_2 5 rfl rfl)
theorem dX1_clash_53 : decode cX1_clash 53 = .ok (.getfield 105, 3) := dk_180 0 105 (dk_at dksX1_clash_2 6 rfl rfl)
theorem dX1_clash_56 : decode cX1_clash 56 = .ok (.getfield 52, 3) := dk_180 0 52 (dk_at dksX1_clash_2 9 rfl rfl)
theorem dX1_clash_59 : decode cX1_clash 59 = .ok (.iconst 1, 1) := dk_4 (dk_at dksX1_clash_2 12 rfl rfl)
theorem dX1_clash_60 : decode cX1_clash 60 = .ok (.isub, 1) := dk_100 (dk_at dksX1_clash_2 13 rfl rfl)
theorem dX1_clash_61 : decode cX1_clash 61 = .ok (.istore 7, 2) := dk_54 7 (dk_at dksX1_clash_2 14 rfl rfl)
theorem dX1_clash_63 : decode cX1_clash 63 = .ok (.iload 7, 2) := dk_21 7 (dk_at dksX1_clash_2 16 rfl rfl)
theorem dX1_clash_65 : decode cX1_clash 65 = .ok (.iload 6, 2) := dk_21 6 (dk_at dksX1_clash_2 18 rfl rfl)
theorem dX1_clash_67 : decode cX1_clash 67 = .ok (.if_icmp .le 65, 3) := dk_164 0 65 (dk_at dksX1_clash_2 20 rfl rfl)
theorem dX1_clash_70 : decode cX1_clash 70 = .ok (.aload_n 0, 1) := dk_42 (dk_at dksX1_clash_2 23 rfl rfl)
theorem dX1_clash_71 : decode cX1_clash 71 = .ok (.getfield 105, 3) := dk_180 0 105 (dk_at dksX1_clash_3 0 rfl rfl)
theorem dX1_clash_74 : decode cX1_clash 74 = .ok (.iload 6, 2) := dk_21 6 (dk_at dksX1_clash_3 3 rfl rfl)
theorem dX1_clash_76 : decode cX1_clash 76 = .ok (.iload_n 1, 1) := dk_27 (dk_at dksX1_clash_3 5 rfl rfl)
theorem dX1_clash_77 : decode cX1_clash 77 = .ok (.iload_n 2, 1) := dk_28 (dk_at dksX1_clash_3 6 rfl rfl)
theorem dX1_clash_78 : decode cX1_clash 78 = .ok (.iconst 0, 1) := dk_3 (dk_at dksX1_clash_3 7 rfl rfl)
theorem dX1_clash_79 : decode cX1_clash 79 = .ok (.invokevirtual 209, 3) := dk_182 0 209 (dk_at dksX1_clash_3 8 rfl rfl)
theorem dX1_clash_82 : decode cX1_clash 82 = .ok (.aload_n 0, 1) := dk_42 (dk_at dksX1_clash_3 11 rfl rfl)
theorem dX1_clash_83 : decode cX1_clash 83 = .ok (.getfield 105, 3) := dk_180 0 105 (dk_at dksX1_clash_3 12 rfl rfl)
theorem dX1_clash_86 : decode cX1_clash 86 = .ok (.iload 7, 2) := dk_21 7 (dk_at dksX1_clash_3 15 rfl rfl)
theorem dX1_clash_88 : decode cX1_clash 88 = .ok (.iload_n 1, 1) := dk_27 (dk_at dksX1_clash_3 17 rfl rfl)
theorem dX1_clash_89 : decode cX1_clash 89 = .ok (.iload_n 2, 1) := dk_28 (dk_at dksX1_clash_3 18 rfl rfl)
theorem dX1_clash_90 : decode cX1_clash 90 = .ok (.iconst 0, 1) := dk_3 (dk_at dksX1_clash_3 19 rfl rfl)
theorem dX1_clash_91 : decode cX1_clash 91 = .ok (.invokevirtual 209, 3) := dk_182 0 209 (dk_at dksX1_clash_3 20 rfl rfl)
theorem dX1_clash_94 : decode cX1_clash 94 = .ok (.isub, 1) := dk_100 (dk_at dksX1_clash_3 23 rfl rfl)
theorem dX1_clash_95 : decode cX1_clash 95 = .ok (.invokestatic 239, 3) := dk_184 0 239 (dk_at dksX1_clash_4 0 rfl rfl)
theorem dX1_clash_98 : decode cX1_clash 98 = .ok (.istore 8, 2) := dk_54 8 (dk_at dksX1_clash_4 3 rfl rfl)
theorem dX1_clash_100 : decode cX1_clash 100 = .ok (.iload 8, 2) := dk_21 8 (dk_at dksX1_clash_4 5 rfl rfl)
theorem dX1_clash_102 : decode cX1_clash 102 = .ok (.iconst 1, 1) := dk_4 (dk_at dksX1_clash_4 7 rfl rfl)
theorem dX1_clash_103 : decode cX1_clash 103 = .ok (.iconst 2, 1) := dk_5 (dk_at dksX1_clash_4 8 rfl rfl)
theorem dX1_clash_104 : decode cX1_clash 104 = .ok (.invokestatic 30, 3) := dk_184 0 30 (dk_at dksX1_clash_4 9 rfl rfl)
theorem dX1_clash_107 : decode cX1_clash 107 = .ok (.ifCond .ne 6, 3) := dk_154 0 6 (dk_at dksX1_clash_4 12 rfl rfl)
theorem dX1_clash_110 : decode cX1_clash 110 = .ok (.goto 16, 3) := dk_167 0 16 (dk_at dksX1_clash_4 15 rfl rfl)
theorem dX1_clash_113 : decode cX1_clash 113 = .ok (.iinc 4 1, 3) := dk_132 4 1 (dk_at dksX1_clash_4 18 rfl rfl)
theorem dX1_clash_116 : decode cX1_clash 116 = .ok (.bipush 10, 2) := dk_16 10 (dk_at dksX1_clash_4 21 rfl rfl)
theorem dX1_clash_118 : decode cX1_clash 118 = .ok (.iload 6, 2) := dk_21 6 (dk_at dksX1_clash_5 0 rfl rfl)
theorem dX1_clash_120 : decode cX1_clash 120 = .ok (.imul, 1) := dk_104 (dk_at dksX1_clash_5 2 rfl rfl)
theorem dX1_clash_121 : decode cX1_clash 121 = .ok (.iload 7, 2) := dk_21 7 (dk_at dksX1_clash_5 3 rfl rfl)
theorem dX1_clash_123 : decode cX1_clash 123 = .ok (.iadd, 1) := dk_96 (dk_at dksX1_clash_5 5 rfl rfl)
theorem dX1_clash_124 : decode cX1_clash 124 = .ok (.istore 5, 2) := dk_54 5 (dk_at dksX1_clash_5 6 rfl rfl)
theorem dX1_clash_126 : decode cX1_clash 126 = .ok (.iinc 7 (-1), 3) := dk_132 7 255 (dk_at dksX1_clash_5 8 rfl rfl)
theorem dX1_clash_129 : decode cX1_clash 129 = .ok (.goto (-66), 3) := dk_167 255 190 (dk_at dksX1_clash_5 11 rfl rfl)
theorem dX1_clash_132 : decode cX1_clash 132 = .ok (.iinc 6 (-1), 3) := dk_132 6 255 (dk_at dksX1_clash_5 14 rfl rfl)
theorem dX1_clash_135 : decode cX1_clash 135 = .ok (.goto (-88), 3) := dk_167 255 168 (dk_at dksX1_clash_5 17 rfl rfl)
theorem dX1_clash_138 : decode cX1_clash 138 = .ok (.iload_n 3, 1) := dk_29 (dk_at dksX1_clash_5 20 rfl rfl)
theorem dX1_clash_139 : decode cX1_clash 139 = .ok (.ifCond .ne 8, 3) := dk_154 0 8 (dk_at dksX1_clash_5 21 rfl rfl)
theorem dX1_clash_142 : decode cX1_clash 142 = .ok (.iload 4, 2) := dk_21 4 (dk_at dksX1_clash_6 0 rfl rfl)
theorem dX1_clash_144 : decode cX1_clash 144 = .ok (.goto 5, 3) := dk_167 0 5 (dk_at dksX1_clash_6 2 rfl rfl)
theorem dX1_clash_147 : decode cX1_clash 147 = .ok (.iload 5, 2) := dk_21 5 (dk_at dksX1_clash_6 5 rfl rfl)
theorem dX1_clash_149 : decode cX1_clash 149 = .ok (.ireturn, 1) := dk_172 (dk_at dksX1_clash_6 7 rfl rfl)
abbrev cX1_heard : ByteArray := prog_1_method_42_code
def yX1_heard : MethodName := ⟨RX1, "heard", "(II)I"⟩
def dkwX1_heard_3 : List UInt8 := [128, 62, 29, 27, 16, 7, 112, 6, 160, 0, 8, 16, 8, 167, 0, 4, 3, 128, 172]
abbrev dktX1_heard_3 : List UInt8 := dkwX1_heard_3 ++ []
def dkwX1_heard_2 : List UInt8 := [167, 0, 4, 3, 128, 62, 29, 27, 16, 60, 164, 0, 13, 28, 16, 20, 164, 0, 7, 7, 167, 0, 4, 3]
abbrev dktX1_heard_2 : List UInt8 := dkwX1_heard_2 ++ dktX1_heard_3
def dkwX1_heard_1 : List UInt8 := [167, 0, 4, 3, 62, 29, 27, 16, 50, 16, 70, 184, 0, 30, 153, 0, 13, 28, 16, 20, 163, 0, 7, 5]
abbrev dktX1_heard_1 : List UInt8 := dkwX1_heard_1 ++ dktX1_heard_2
def dkwX1_heard_0 : List UInt8 := [27, 184, 0, 242, 153, 0, 10, 28, 184, 0, 61, 154, 0, 5, 2, 172, 27, 16, 70, 164, 0, 7, 4]
abbrev dktX1_heard_0 : List UInt8 := dkwX1_heard_0 ++ dktX1_heard_1
theorem dksX1_heard_0 : cX1_heard.data.toList.drop 0 = dktX1_heard_0 := by decide +kernel
theorem dksX1_heard_1 : cX1_heard.data.toList.drop 23 = dktX1_heard_1 := dk_seg dksX1_heard_0 23 rfl rfl
theorem dksX1_heard_2 : cX1_heard.data.toList.drop 47 = dktX1_heard_2 := dk_seg dksX1_heard_1 24 rfl rfl
theorem dksX1_heard_3 : cX1_heard.data.toList.drop 71 = dktX1_heard_3 := dk_seg dksX1_heard_2 24 rfl rfl
theorem dX1_heard_0 : decode cX1_heard 0 = .ok (.iload_n 1, 1) := dk_27 (dk_at dksX1_heard_0 0 rfl rfl)
theorem dX1_heard_1 : decode cX1_heard 1 = .ok (.invokestatic 242, 3) := dk_184 0 242 (dk_at dksX1_heard_0 1 rfl rfl)
theorem dX1_heard_4 : decode cX1_heard 4 = .ok (.ifCond .eq 10, 3) := dk_153 0 10 (dk_at dksX1_heard_0 4 rfl rfl)
theorem dX1_heard_7 : decode cX1_heard 7 = .ok (.iload_n 2, 1) := dk_28 (dk_at dksX1_heard_0 7 rfl rfl)
theorem dX1_heard_8 : decode cX1_heard 8 = .ok (.invokestatic 61, 3) := dk_184 0 61 (dk_at dksX1_heard_0 8 rfl rfl)
theorem dX1_heard_11 : decode cX1_heard 11 = .ok (.ifCond .ne 5, 3) := dk_154 0 5 (dk_at dksX1_heard_0 11 rfl rfl)
theorem dX1_heard_14 : decode cX1_heard 14 = .ok (.iconst (-1), 1) := dk_2 (dk_at dksX1_heard_0 14 rfl rfl)
theorem dX1_heard_15 : decode cX1_heard 15 = .ok (.ireturn, 1) := dk_172 (dk_at dksX1_heard_0 15 rfl rfl)
theorem dX1_heard_16 : decode cX1_heard 16 = .ok (.iload_n 1, 1) := dk_27 (dk_at dksX1_heard_0 16 rfl rfl)
theorem dX1_heard_17 : decode cX1_heard 17 = .ok (.bipush 70, 2) := dk_16 70 (dk_at dksX1_heard_0 17 rfl rfl)
theorem dX1_heard_19 : decode cX1_heard 19 = .ok (.if_icmp .le 7, 3) := dk_164 0 7 (dk_at dksX1_heard_0 19 rfl rfl)
theorem dX1_heard_22 : decode cX1_heard 22 = .ok (.iconst 1, 1) := dk_4 (dk_at dksX1_heard_0 22 rfl rfl)
theorem dX1_heard_23 : decode cX1_heard 23 = .ok (.goto 4, 3) := dk_167 0 4 (dk_at dksX1_heard_1 0 rfl rfl)
theorem dX1_heard_26 : decode cX1_heard 26 = .ok (.iconst 0, 1) := dk_3 (dk_at dksX1_heard_1 3 rfl rfl)
theorem dX1_heard_27 : decode cX1_heard 27 = .ok (.istore_n 3, 1) := dk_62 (dk_at dksX1_heard_1 4 rfl rfl)
theorem dX1_heard_28 : decode cX1_heard 28 = .ok (.iload_n 3, 1) := dk_29 (dk_at dksX1_heard_1 5 rfl rfl)
theorem dX1_heard_29 : decode cX1_heard 29 = .ok (.iload_n 1, 1) := dk_27 (dk_at dksX1_heard_1 6 rfl rfl)
theorem dX1_heard_30 : decode cX1_heard 30 = .ok (.bipush 50, 2) := dk_16 50 (dk_at dksX1_heard_1 7 rfl rfl)
theorem dX1_heard_32 : decode cX1_heard 32 = .ok (.bipush 70, 2) := dk_16 70 (dk_at dksX1_heard_1 9 rfl rfl)
theorem dX1_heard_34 : decode cX1_heard 34 = .ok (.invokestatic 30, 3) := dk_184 0 30 (dk_at dksX1_heard_1 11 rfl rfl)
theorem dX1_heard_37 : decode cX1_heard 37 = .ok (.ifCond .eq 13, 3) := dk_153 0 13 (dk_at dksX1_heard_1 14 rfl rfl)
theorem dX1_heard_40 : decode cX1_heard 40 = .ok (.iload_n 2, 1) := dk_28 (dk_at dksX1_heard_1 17 rfl rfl)
theorem dX1_heard_41 : decode cX1_heard 41 = .ok (.bipush 20, 2) := dk_16 20 (dk_at dksX1_heard_1 18 rfl rfl)
theorem dX1_heard_43 : decode cX1_heard 43 = .ok (.if_icmp .gt 7, 3) := dk_163 0 7 (dk_at dksX1_heard_1 20 rfl rfl)
theorem dX1_heard_46 : decode cX1_heard 46 = .ok (.iconst 2, 1) := dk_5 (dk_at dksX1_heard_1 23 rfl rfl)
theorem dX1_heard_47 : decode cX1_heard 47 = .ok (.goto 4, 3) := dk_167 0 4 (dk_at dksX1_heard_2 0 rfl rfl)
theorem dX1_heard_50 : decode cX1_heard 50 = .ok (.iconst 0, 1) := dk_3 (dk_at dksX1_heard_2 3 rfl rfl)
theorem dX1_heard_51 : decode cX1_heard 51 = .ok (.ior, 1) := dk_128 (dk_at dksX1_heard_2 4 rfl rfl)
theorem dX1_heard_52 : decode cX1_heard 52 = .ok (.istore_n 3, 1) := dk_62 (dk_at dksX1_heard_2 5 rfl rfl)
theorem dX1_heard_53 : decode cX1_heard 53 = .ok (.iload_n 3, 1) := dk_29 (dk_at dksX1_heard_2 6 rfl rfl)
theorem dX1_heard_54 : decode cX1_heard 54 = .ok (.iload_n 1, 1) := dk_27 (dk_at dksX1_heard_2 7 rfl rfl)
theorem dX1_heard_55 : decode cX1_heard 55 = .ok (.bipush 60, 2) := dk_16 60 (dk_at dksX1_heard_2 8 rfl rfl)
theorem dX1_heard_57 : decode cX1_heard 57 = .ok (.if_icmp .le 13, 3) := dk_164 0 13 (dk_at dksX1_heard_2 10 rfl rfl)
theorem dX1_heard_60 : decode cX1_heard 60 = .ok (.iload_n 2, 1) := dk_28 (dk_at dksX1_heard_2 13 rfl rfl)
theorem dX1_heard_61 : decode cX1_heard 61 = .ok (.bipush 20, 2) := dk_16 20 (dk_at dksX1_heard_2 14 rfl rfl)
theorem dX1_heard_63 : decode cX1_heard 63 = .ok (.if_icmp .le 7, 3) := dk_164 0 7 (dk_at dksX1_heard_2 16 rfl rfl)
theorem dX1_heard_66 : decode cX1_heard 66 = .ok (.iconst 4, 1) := dk_7 (dk_at dksX1_heard_2 19 rfl rfl)
theorem dX1_heard_67 : decode cX1_heard 67 = .ok (.goto 4, 3) := dk_167 0 4 (dk_at dksX1_heard_2 20 rfl rfl)
theorem dX1_heard_70 : decode cX1_heard 70 = .ok (.iconst 0, 1) := dk_3 (dk_at dksX1_heard_2 23 rfl rfl)
theorem dX1_heard_71 : decode cX1_heard 71 = .ok (.ior, 1) := dk_128 (dk_at dksX1_heard_3 0 rfl rfl)
theorem dX1_heard_72 : decode cX1_heard 72 = .ok (.istore_n 3, 1) := dk_62 (dk_at dksX1_heard_3 1 rfl rfl)
theorem dX1_heard_73 : decode cX1_heard 73 = .ok (.iload_n 3, 1) := dk_29 (dk_at dksX1_heard_3 2 rfl rfl)
theorem dX1_heard_74 : decode cX1_heard 74 = .ok (.iload_n 1, 1) := dk_27 (dk_at dksX1_heard_3 3 rfl rfl)
theorem dX1_heard_75 : decode cX1_heard 75 = .ok (.bipush 7, 2) := dk_16 7 (dk_at dksX1_heard_3 4 rfl rfl)
theorem dX1_heard_77 : decode cX1_heard 77 = .ok (.irem, 1) := dk_112 (dk_at dksX1_heard_3 6 rfl rfl)
theorem dX1_heard_78 : decode cX1_heard 78 = .ok (.iconst 3, 1) := dk_6 (dk_at dksX1_heard_3 7 rfl rfl)
theorem dX1_heard_79 : decode cX1_heard 79 = .ok (.if_icmp .ne 8, 3) := dk_160 0 8 (dk_at dksX1_heard_3 8 rfl rfl)
theorem dX1_heard_82 : decode cX1_heard 82 = .ok (.bipush 8, 2) := dk_16 8 (dk_at dksX1_heard_3 11 rfl rfl)
theorem dX1_heard_84 : decode cX1_heard 84 = .ok (.goto 4, 3) := dk_167 0 4 (dk_at dksX1_heard_3 13 rfl rfl)
theorem dX1_heard_87 : decode cX1_heard 87 = .ok (.iconst 0, 1) := dk_3 (dk_at dksX1_heard_3 16 rfl rfl)
theorem dX1_heard_88 : decode cX1_heard 88 = .ok (.ior, 1) := dk_128 (dk_at dksX1_heard_3 17 rfl rfl)
theorem dX1_heard_89 : decode cX1_heard 89 = .ok (.ireturn, 1) := dk_172 (dk_at dksX1_heard_3 18 rfl rfl)
abbrev cX1_nearer : ByteArray := prog_1_method_48_code
def yX1_nearer : MethodName := ⟨RX1, "nearer", "(IIII)J"⟩
def dkwX1_nearer_2 : List UInt8 := [184, 1, 45, 173]
abbrev dktX1_nearer_2 : List UInt8 := dkwX1_nearer_2 ++ []
def dkwX1_nearer_1 : List UInt8 := [184, 0, 30, 154, 0, 7, 20, 1, 35, 173, 42, 27, 28, 29, 182, 1, 37, 29, 184, 1, 41, 21, 4]
abbrev dktX1_nearer_1 : List UInt8 := dkwX1_nearer_1 ++ dktX1_nearer_2
def dkwX1_nearer_0 : List UInt8 := [27, 28, 184, 1, 32, 153, 0, 23, 29, 3, 16, 9, 184, 0, 30, 153, 0, 13, 21, 4, 3, 4]
abbrev dktX1_nearer_0 : List UInt8 := dkwX1_nearer_0 ++ dktX1_nearer_1
theorem dksX1_nearer_0 : cX1_nearer.data.toList.drop 0 = dktX1_nearer_0 := by decide +kernel
theorem dksX1_nearer_1 : cX1_nearer.data.toList.drop 22 = dktX1_nearer_1 := dk_seg dksX1_nearer_0 22 rfl rfl
theorem dksX1_nearer_2 : cX1_nearer.data.toList.drop 45 = dktX1_nearer_2 := dk_seg dksX1_nearer_1 23 rfl rfl
theorem dX1_nearer_0 : decode cX1_nearer 0 = .ok (.iload_n 1, 1) := dk_27 (dk_at dksX1_nearer_0 0 rfl rfl)
theorem dX1_nearer_1 : decode cX1_nearer 1 = .ok (.iload_n 2, 1) := dk_28 (dk_at dksX1_nearer_0 1 rfl rfl)
theorem dX1_nearer_2 : decode cX1_nearer 2 = .ok (.invokestatic 288, 3) := dk_184 1 32 (dk_at dksX1_nearer_0 2 rfl rfl)
theorem dX1_nearer_5 : decode cX1_nearer 5 = .ok (.ifCond .eq 23, 3) := dk_153 0 23 (dk_at dksX1_nearer_0 5 rfl rfl)
theorem dX1_nearer_8 : decode cX1_nearer 8 = .ok (.iload_n 3, 1) := dk_29 (dk_at dksX1_nearer_0 8 rfl rfl)
theorem dX1_nearer_9 : decode cX1_nearer 9 = .ok (.iconst 0, 1) := dk_3 (dk_at dksX1_nearer_0 9 rfl rfl)
theorem dX1_nearer_10 : decode cX1_nearer 10 = .ok (.bipush 9, 2) := dk_16 9 (dk_at dksX1_nearer_0 10 rfl rfl)
theorem dX1_nearer_12 : decode cX1_nearer 12 = .ok (.invokestatic 30, 3) := dk_184 0 30 (dk_at dksX1_nearer_0 12 rfl rfl)
theorem dX1_nearer_15 : decode cX1_nearer 15 = .ok (.ifCond .eq 13, 3) := dk_153 0 13 (dk_at dksX1_nearer_0 15 rfl rfl)
theorem dX1_nearer_18 : decode cX1_nearer 18 = .ok (.iload 4, 2) := dk_21 4 (dk_at dksX1_nearer_0 18 rfl rfl)
theorem dX1_nearer_20 : decode cX1_nearer 20 = .ok (.iconst 0, 1) := dk_3 (dk_at dksX1_nearer_0 20 rfl rfl)
theorem dX1_nearer_21 : decode cX1_nearer 21 = .ok (.iconst 1, 1) := dk_4 (dk_at dksX1_nearer_0 21 rfl rfl)
theorem dX1_nearer_22 : decode cX1_nearer 22 = .ok (.invokestatic 30, 3) := dk_184 0 30 (dk_at dksX1_nearer_1 0 rfl rfl)
theorem dX1_nearer_25 : decode cX1_nearer 25 = .ok (.ifCond .ne 7, 3) := dk_154 0 7 (dk_at dksX1_nearer_1 3 rfl rfl)
theorem dX1_nearer_28 : decode cX1_nearer 28 = .ok (.ldc2_w 291, 3) := dk_20 1 35 (dk_at dksX1_nearer_1 6 rfl rfl)
theorem dX1_nearer_31 : decode cX1_nearer 31 = .ok (.lreturn, 1) := dk_173 (dk_at dksX1_nearer_1 9 rfl rfl)
theorem dX1_nearer_32 : decode cX1_nearer 32 = .ok (.aload_n 0, 1) := dk_42 (dk_at dksX1_nearer_1 10 rfl rfl)
theorem dX1_nearer_33 : decode cX1_nearer 33 = .ok (.iload_n 1, 1) := dk_27 (dk_at dksX1_nearer_1 11 rfl rfl)
theorem dX1_nearer_34 : decode cX1_nearer 34 = .ok (.iload_n 2, 1) := dk_28 (dk_at dksX1_nearer_1 12 rfl rfl)
theorem dX1_nearer_35 : decode cX1_nearer 35 = .ok (.iload_n 3, 1) := dk_29 (dk_at dksX1_nearer_1 13 rfl rfl)
theorem dX1_nearer_36 : decode cX1_nearer 36 = .ok (.invokevirtual 293, 3) := dk_182 1 37 (dk_at dksX1_nearer_1 14 rfl rfl)
theorem dX1_nearer_39 : decode cX1_nearer 39 = .ok (.iload_n 3, 1) := dk_29 (dk_at dksX1_nearer_1 17 rfl rfl)
theorem dX1_nearer_40 : decode cX1_nearer 40 = .ok (.invokestatic 297, 3) := dk_184 1 41 (dk_at dksX1_nearer_1 18 rfl rfl)
theorem dX1_nearer_43 : decode cX1_nearer 43 = .ok (.iload 4, 2) := dk_21 4 (dk_at dksX1_nearer_1 21 rfl rfl)
theorem dX1_nearer_45 : decode cX1_nearer 45 = .ok (.invokestatic 301, 3) := dk_184 1 45 (dk_at dksX1_nearer_2 0 rfl rfl)
theorem dX1_nearer_48 : decode cX1_nearer 48 = .ok (.lreturn, 1) := dk_173 (dk_at dksX1_nearer_2 3 rfl rfl)
abbrev cX1_areOdds : ByteArray := prog_1_method_45_code
def yX1_areOdds : MethodName := ⟨RX1, "areOdds", "(II)Z"⟩
def dkwX1_areOdds_1 : List UInt8 := [153, 0, 21, 27, 16, 100, 108, 27, 16, 100, 112, 96, 16, 10, 163, 0, 7, 4, 167, 0, 4, 3, 172]
abbrev dktX1_areOdds_1 : List UInt8 := dkwX1_areOdds_1 ++ []
def dkwX1_areOdds_0 : List UInt8 := [26, 3, 16, 12, 184, 0, 30, 153, 0, 38, 27, 155, 0, 34, 27, 16, 100, 108, 3, 16, 10, 184, 0, 30]
abbrev dktX1_areOdds_0 : List UInt8 := dkwX1_areOdds_0 ++ dktX1_areOdds_1
theorem dksX1_areOdds_0 : cX1_areOdds.data.toList.drop 0 = dktX1_areOdds_0 := by decide +kernel
theorem dksX1_areOdds_1 : cX1_areOdds.data.toList.drop 24 = dktX1_areOdds_1 := dk_seg dksX1_areOdds_0 24 rfl rfl
theorem dX1_areOdds_0 : decode cX1_areOdds 0 = .ok (.iload_n 0, 1) := dk_26 (dk_at dksX1_areOdds_0 0 rfl rfl)
theorem dX1_areOdds_1 : decode cX1_areOdds 1 = .ok (.iconst 0, 1) := dk_3 (dk_at dksX1_areOdds_0 1 rfl rfl)
theorem dX1_areOdds_2 : decode cX1_areOdds 2 = .ok (.bipush 12, 2) := dk_16 12 (dk_at dksX1_areOdds_0 2 rfl rfl)
theorem dX1_areOdds_4 : decode cX1_areOdds 4 = .ok (.invokestatic 30, 3) := dk_184 0 30 (dk_at dksX1_areOdds_0 4 rfl rfl)
theorem dX1_areOdds_7 : decode cX1_areOdds 7 = .ok (.ifCond .eq 38, 3) := dk_153 0 38 (dk_at dksX1_areOdds_0 7 rfl rfl)
theorem dX1_areOdds_10 : decode cX1_areOdds 10 = .ok (.iload_n 1, 1) := dk_27 (dk_at dksX1_areOdds_0 10 rfl rfl)
theorem dX1_areOdds_11 : decode cX1_areOdds 11 = .ok (.ifCond .lt 34, 3) := dk_155 0 34 (dk_at dksX1_areOdds_0 11 rfl rfl)
theorem dX1_areOdds_14 : decode cX1_areOdds 14 = .ok (.iload_n 1, 1) := dk_27 (dk_at dksX1_areOdds_0 14 rfl rfl)
theorem dX1_areOdds_15 : decode cX1_areOdds 15 = .ok (.bipush 100, 2) := dk_16 100 (dk_at dksX1_areOdds_0 15 rfl rfl)
theorem dX1_areOdds_17 : decode cX1_areOdds 17 = .ok (.idiv, 1) := dk_108 (dk_at dksX1_areOdds_0 17 rfl rfl)
theorem dX1_areOdds_18 : decode cX1_areOdds 18 = .ok (.iconst 0, 1) := dk_3 (dk_at dksX1_areOdds_0 18 rfl rfl)
theorem dX1_areOdds_19 : decode cX1_areOdds 19 = .ok (.bipush 10, 2) := dk_16 10 (dk_at dksX1_areOdds_0 19 rfl rfl)
theorem dX1_areOdds_21 : decode cX1_areOdds 21 = .ok (.invokestatic 30, 3) := dk_184 0 30 (dk_at dksX1_areOdds_0 21 rfl rfl)
theorem dX1_areOdds_24 : decode cX1_areOdds 24 = .ok (.ifCond .eq 21, 3) := dk_153 0 21 (dk_at dksX1_areOdds_1 0 rfl rfl)
theorem dX1_areOdds_27 : decode cX1_areOdds 27 = .ok (.iload_n 1, 1) := dk_27 (dk_at dksX1_areOdds_1 3 rfl rfl)
theorem dX1_areOdds_28 : decode cX1_areOdds 28 = .ok (.bipush 100, 2) := dk_16 100 (dk_at dksX1_areOdds_1 4 rfl rfl)
theorem dX1_areOdds_30 : decode cX1_areOdds 30 = .ok (.idiv, 1) := dk_108 (dk_at dksX1_areOdds_1 6 rfl rfl)
theorem dX1_areOdds_31 : decode cX1_areOdds 31 = .ok (.iload_n 1, 1) := dk_27 (dk_at dksX1_areOdds_1 7 rfl rfl)
theorem dX1_areOdds_32 : decode cX1_areOdds 32 = .ok (.bipush 100, 2) := dk_16 100 (dk_at dksX1_areOdds_1 8 rfl rfl)
theorem dX1_areOdds_34 : decode cX1_areOdds 34 = .ok (.irem, 1) := dk_112 (dk_at dksX1_areOdds_1 10 rfl rfl)
theorem dX1_areOdds_35 : decode cX1_areOdds 35 = .ok (.iadd, 1) := dk_96 (dk_at dksX1_areOdds_1 11 rfl rfl)
theorem dX1_areOdds_36 : decode cX1_areOdds 36 = .ok (.bipush 10, 2) := dk_16 10 (dk_at dksX1_areOdds_1 12 rfl rfl)
theorem dX1_areOdds_38 : decode cX1_areOdds 38 = .ok (.if_icmp .gt 7, 3) := dk_163 0 7 (dk_at dksX1_areOdds_1 14 rfl rfl)
theorem dX1_areOdds_41 : decode cX1_areOdds 41 = .ok (.iconst 1, 1) := dk_4 (dk_at dksX1_areOdds_1 17 rfl rfl)
theorem dX1_areOdds_42 : decode cX1_areOdds 42 = .ok (.goto 4, 3) := dk_167 0 4 (dk_at dksX1_areOdds_1 18 rfl rfl)
theorem dX1_areOdds_45 : decode cX1_areOdds 45 = .ok (.iconst 0, 1) := dk_3 (dk_at dksX1_areOdds_1 21 rfl rfl)
theorem dX1_areOdds_46 : decode cX1_areOdds 46 = .ok (.ireturn, 1) := dk_172 (dk_at dksX1_areOdds_1 22 rfl rfl)
abbrev cX1_partsAt : ByteArray := prog_1_method_46_code
def yX1_partsAt : MethodName := ⟨RX1, "partsAt", "(III)J"⟩
def dkwX1_partsAt_7 : List UInt8 := [181, 1, 17, 42, 25, 7, 181, 1, 27, 132, 6, 1, 167, 255, 109, 42, 180, 1, 17, 3, 47, 173]
abbrev dktX1_partsAt_7 : List UInt8 := dkwX1_partsAt_7 ++ []
def dkwX1_partsAt_6 : List UInt8 := [21, 7, 47, 105, 97, 80, 132, 7, 1, 167, 255, 168, 42, 180, 1, 17, 58, 7, 42, 42, 180, 1, 27]
abbrev dktX1_partsAt_6 : List UInt8 := dkwX1_partsAt_6 ++ dktX1_partsAt_7
def dkwX1_partsAt_5 : List UInt8 := [105, 97, 80, 42, 180, 1, 27, 21, 7, 92, 47, 16, 10, 21, 4, 100, 21, 5, 100, 133, 42, 180, 1, 17]
abbrev dktX1_partsAt_5 : List UInt8 := dkwX1_partsAt_5 ++ dktX1_partsAt_6
def dkwX1_partsAt_4 : List UInt8 := [180, 1, 27, 16, 12, 21, 7, 4, 96, 184, 0, 223, 92, 47, 21, 5, 133, 42, 180, 1, 17, 21, 7, 47]
abbrev dktX1_partsAt_4 : List UInt8 := dkwX1_partsAt_4 ++ dktX1_partsAt_5
def dkwX1_partsAt_3 : List UInt8 := [180, 1, 27, 21, 7, 4, 100, 92, 47, 21, 4, 133, 42, 180, 1, 17, 21, 7, 47, 105, 97, 80, 42]
abbrev dktX1_partsAt_3 : List UInt8 := dkwX1_partsAt_3 ++ dktX1_partsAt_4
def dkwX1_partsAt_2 : List UInt8 := [3, 20, 1, 30, 42, 180, 1, 17, 3, 47, 105, 80, 4, 54, 7, 21, 7, 16, 12, 163, 0, 87, 42]
abbrev dktX1_partsAt_2 : List UInt8 := dkwX1_partsAt_2 ++ dktX1_partsAt_3
def dkwX1_partsAt_1 : List UInt8 := [27, 10, 80, 3, 54, 6, 21, 6, 29, 162, 0, 147, 42, 180, 1, 27, 9, 184, 1, 21, 42, 180, 1, 27]
abbrev dktX1_partsAt_1 : List UInt8 := dkwX1_partsAt_1 ++ dktX1_partsAt_2
def dkwX1_partsAt_0 : List UInt8 := [28, 16, 100, 108, 54, 4, 28, 16, 100, 112, 54, 5, 42, 180, 1, 17, 9, 184, 1, 21, 42, 180, 1, 17]
abbrev dktX1_partsAt_0 : List UInt8 := dkwX1_partsAt_0 ++ dktX1_partsAt_1
theorem dksX1_partsAt_0 : cX1_partsAt.data.toList.drop 0 = dktX1_partsAt_0 := by decide +kernel
theorem dksX1_partsAt_1 : cX1_partsAt.data.toList.drop 24 = dktX1_partsAt_1 := dk_seg dksX1_partsAt_0 24 rfl rfl
theorem dksX1_partsAt_2 : cX1_partsAt.data.toList.drop 48 = dktX1_partsAt_2 := dk_seg dksX1_partsAt_1 24 rfl rfl
theorem dksX1_partsAt_3 : cX1_partsAt.data.toList.drop 71 = dktX1_partsAt_3 := dk_seg dksX1_partsAt_2 23 rfl rfl
theorem dksX1_partsAt_4 : cX1_partsAt.data.toList.drop 94 = dktX1_partsAt_4 := dk_seg dksX1_partsAt_3 23 rfl rfl
theorem dksX1_partsAt_5 : cX1_partsAt.data.toList.drop 118 = dktX1_partsAt_5 := dk_seg dksX1_partsAt_4 24 rfl rfl
theorem dksX1_partsAt_6 : cX1_partsAt.data.toList.drop 142 = dktX1_partsAt_6 := dk_seg dksX1_partsAt_5 24 rfl rfl
theorem dksX1_partsAt_7 : cX1_partsAt.data.toList.drop 165 = dktX1_partsAt_7 := dk_seg dksX1_partsAt_6 23 rfl rfl
theorem dX1_partsAt_0 : decode cX1_partsAt 0 = .ok (.iload_n 2, 1) := dk_28 (dk_at dksX1_partsAt_0 0 rfl rfl)
theorem dX1_partsAt_1 : decode cX1_partsAt 1 = .ok (.bipush 100, 2) := dk_16 100 (dk_at dksX1_partsAt_0 1 rfl rfl)
theorem dX1_partsAt_3 : decode cX1_partsAt 3 = .ok (.idiv, 1) := dk_108 (dk_at dksX1_partsAt_0 3 rfl rfl)
theorem dX1_partsAt_4 : decode cX1_partsAt 4 = .ok (.istore 4, 2) := dk_54 4 (dk_at dksX1_partsAt_0 4 rfl rfl)
theorem dX1_partsAt_6 : decode cX1_partsAt 6 = .ok (.iload_n 2, 1) := dk_28 (dk_at dksX1_partsAt_0 6 rfl rfl)
theorem dX1_partsAt_7 : decode cX1_partsAt 7 = .ok (.bipush 100, 2) := dk_16 100 (dk_at dksX1_partsAt_0 7 rfl rfl)
theorem dX1_partsAt_9 : decode cX1_partsAt 9 = .ok (.irem, 1) := dk_112 (dk_at dksX1_partsAt_0 9 rfl rfl)
theorem dX1_partsAt_10 : decode cX1_partsAt 10 = .ok (.istore 5, 2) := dk_54 5 (dk_at dksX1_partsAt_0 10 rfl rfl)
theorem dX1_partsAt_12 : decode cX1_partsAt 12 = .ok (.aload_n 0, 1) := dk_42 (dk_at dksX1_partsAt_0 12 rfl rfl)
theorem dX1_partsAt_13 : decode cX1_partsAt 13 = .ok (.getfield 273, 3) := dk_180 1 17 (dk_at dksX1_partsAt_0 13 rfl rfl)
theorem dX1_partsAt_16 : decode cX1_partsAt 16 = .ok (.lconst 0, 1) := dk_9 (dk_at dksX1_partsAt_0 16 rfl rfl)
theorem dX1_partsAt_17 : decode cX1_partsAt 17 = .ok (.invokestatic 277, 3) := dk_184 1 21 (dk_at dksX1_partsAt_0 17 rfl rfl)
theorem dX1_partsAt_20 : decode cX1_partsAt 20 = .ok (.aload_n 0, 1) := dk_42 (dk_at dksX1_partsAt_0 20 rfl rfl)
theorem dX1_partsAt_21 : decode cX1_partsAt 21 = .ok (.getfield 273, 3) := dk_180 1 17 (dk_at dksX1_partsAt_0 21 rfl rfl)
theorem dX1_partsAt_24 : decode cX1_partsAt 24 = .ok (.iload_n 1, 1) := dk_27 (dk_at dksX1_partsAt_1 0 rfl rfl)
theorem dX1_partsAt_25 : decode cX1_partsAt 25 = .ok (.lconst 1, 1) := dk_10 (dk_at dksX1_partsAt_1 1 rfl rfl)
theorem dX1_partsAt_26 : decode cX1_partsAt 26 = .ok (.lastore, 1) := dk_80 (dk_at dksX1_partsAt_1 2 rfl rfl)
theorem dX1_partsAt_27 : decode cX1_partsAt 27 = .ok (.iconst 0, 1) := dk_3 (dk_at dksX1_partsAt_1 3 rfl rfl)
theorem dX1_partsAt_28 : decode cX1_partsAt 28 = .ok (.istore 6, 2) := dk_54 6 (dk_at dksX1_partsAt_1 4 rfl rfl)
theorem dX1_partsAt_30 : decode cX1_partsAt 30 = .ok (.iload 6, 2) := dk_21 6 (dk_at dksX1_partsAt_1 6 rfl rfl)
theorem dX1_partsAt_32 : decode cX1_partsAt 32 = .ok (.iload_n 3, 1) := dk_29 (dk_at dksX1_partsAt_1 8 rfl rfl)
theorem dX1_partsAt_33 : decode cX1_partsAt 33 = .ok (.if_icmp .ge 147, 3) := dk_162 0 147 (dk_at dksX1_partsAt_1 9 rfl rfl)
theorem dX1_partsAt_36 : decode cX1_partsAt 36 = .ok (.aload_n 0, 1) := dk_42 (dk_at dksX1_partsAt_1 12 rfl rfl)
theorem dX1_partsAt_37 : decode cX1_partsAt 37 = .ok (.getfield 283, 3) := dk_180 1 27 (dk_at dksX1_partsAt_1 13 rfl rfl)
theorem dX1_partsAt_40 : decode cX1_partsAt 40 = .ok (.lconst 0, 1) := dk_9 (dk_at dksX1_partsAt_1 16 rfl rfl)
theorem dX1_partsAt_41 : decode cX1_partsAt 41 = .ok (.invokestatic 277, 3) := dk_184 1 21 (dk_at dksX1_partsAt_1 17 rfl rfl)
theorem dX1_partsAt_44 : decode cX1_partsAt 44 = .ok (.aload_n 0, 1) := dk_42 (dk_at dksX1_partsAt_1 20 rfl rfl)
theorem dX1_partsAt_45 : decode cX1_partsAt 45 = .ok (.getfield 283, 3) := dk_180 1 27 (dk_at dksX1_partsAt_1 21 rfl rfl)
theorem dX1_partsAt_48 : decode cX1_partsAt 48 = .ok (.iconst 0, 1) := dk_3 (dk_at dksX1_partsAt_2 0 rfl rfl)
theorem dX1_partsAt_49 : decode cX1_partsAt 49 = .ok (.ldc2_w 286, 3) := dk_20 1 30 (dk_at dksX1_partsAt_2 1 rfl rfl)
theorem dX1_partsAt_52 : decode cX1_partsAt 52 = .ok (.aload_n 0, 1) := dk_42 (dk_at dksX1_partsAt_2 4 rfl rfl)
theorem dX1_partsAt_53 : decode cX1_partsAt 53 = .ok (.getfield 273, 3) := dk_180 1 17 (dk_at dksX1_partsAt_2 5 rfl rfl)
theorem dX1_partsAt_56 : decode cX1_partsAt 56 = .ok (.iconst 0, 1) := dk_3 (dk_at dksX1_partsAt_2 8 rfl rfl)
theorem dX1_partsAt_57 : decode cX1_partsAt 57 = .ok (.laload, 1) := dk_47 (dk_at dksX1_partsAt_2 9 rfl rfl)
theorem dX1_partsAt_58 : decode cX1_partsAt 58 = .ok (.lmul, 1) := dk_105 (dk_at dksX1_partsAt_2 10 rfl rfl)
theorem dX1_partsAt_59 : decode cX1_partsAt 59 = .ok (.lastore, 1) := dk_80 (dk_at dksX1_partsAt_2 11 rfl rfl)
theorem dX1_partsAt_60 : decode cX1_partsAt 60 = .ok (.iconst 1, 1) := dk_4 (dk_at dksX1_partsAt_2 12 rfl rfl)
theorem dX1_partsAt_61 : decode cX1_partsAt 61 = .ok (.istore 7, 2) := dk_54 7 (dk_at dksX1_partsAt_2 13 rfl rfl)
theorem dX1_partsAt_63 : decode cX1_partsAt 63 = .ok (.iload 7, 2) := dk_21 7 (dk_at dksX1_partsAt_2 15 rfl rfl)
theorem dX1_partsAt_65 : decode cX1_partsAt 65 = .ok (.bipush 12, 2) := dk_16 12 (dk_at dksX1_partsAt_2 17 rfl rfl)
theorem dX1_partsAt_67 : decode cX1_partsAt 67 = .ok (.if_icmp .gt 87, 3) := dk_163 0 87 (dk_at dksX1_partsAt_2 19 rfl rfl)
theorem dX1_partsAt_70 : decode cX1_partsAt 70 = .ok (.aload_n 0, 1) := dk_42 (dk_at dksX1_partsAt_2 22 rfl rfl)
theorem dX1_partsAt_71 : decode cX1_partsAt 71 = .ok (.getfield 283, 3) := dk_180 1 27 (dk_at dksX1_partsAt_3 0 rfl rfl)
theorem dX1_partsAt_74 : decode cX1_partsAt 74 = .ok (.iload 7, 2) := dk_21 7 (dk_at dksX1_partsAt_3 3 rfl rfl)
theorem dX1_partsAt_76 : decode cX1_partsAt 76 = .ok (.iconst 1, 1) := dk_4 (dk_at dksX1_partsAt_3 5 rfl rfl)
theorem dX1_partsAt_77 : decode cX1_partsAt 77 = .ok (.isub, 1) := dk_100 (dk_at dksX1_partsAt_3 6 rfl rfl)
theorem dX1_partsAt_78 : decode cX1_partsAt 78 = .ok (.dup2, 1) := dk_92 (dk_at dksX1_partsAt_3 7 rfl rfl)
theorem dX1_partsAt_79 : decode cX1_partsAt 79 = .ok (.laload, 1) := dk_47 (dk_at dksX1_partsAt_3 8 rfl rfl)
theorem dX1_partsAt_80 : decode cX1_partsAt 80 = .ok (.iload 4, 2) := dk_21 4 (dk_at dksX1_partsAt_3 9 rfl rfl)
theorem dX1_partsAt_82 : decode cX1_partsAt 82 = .ok (.i2l, 1) := dk_133 (dk_at dksX1_partsAt_3 11 rfl rfl)
theorem dX1_partsAt_83 : decode cX1_partsAt 83 = .ok (.aload_n 0, 1) := dk_42 (dk_at dksX1_partsAt_3 12 rfl rfl)
theorem dX1_partsAt_84 : decode cX1_partsAt 84 = .ok (.getfield 273, 3) := dk_180 1 17 (dk_at dksX1_partsAt_3 13 rfl rfl)
theorem dX1_partsAt_87 : decode cX1_partsAt 87 = .ok (.iload 7, 2) := dk_21 7 (dk_at dksX1_partsAt_3 16 rfl rfl)
theorem dX1_partsAt_89 : decode cX1_partsAt 89 = .ok (.laload, 1) := dk_47 (dk_at dksX1_partsAt_3 18 rfl rfl)
theorem dX1_partsAt_90 : decode cX1_partsAt 90 = .ok (.lmul, 1) := dk_105 (dk_at dksX1_partsAt_3 19 rfl rfl)
theorem dX1_partsAt_91 : decode cX1_partsAt 91 = .ok (.ladd, 1) := dk_97 (dk_at dksX1_partsAt_3 20 rfl rfl)
theorem dX1_partsAt_92 : decode cX1_partsAt 92 = .ok (.lastore, 1) := dk_80 (dk_at dksX1_partsAt_3 21 rfl rfl)
theorem dX1_partsAt_93 : decode cX1_partsAt 93 = .ok (.aload_n 0, 1) := dk_42 (dk_at dksX1_partsAt_3 22 rfl rfl)
theorem dX1_partsAt_94 : decode cX1_partsAt 94 = .ok (.getfield 283, 3) := dk_180 1 27 (dk_at dksX1_partsAt_4 0 rfl rfl)
theorem dX1_partsAt_97 : decode cX1_partsAt 97 = .ok (.bipush 12, 2) := dk_16 12 (dk_at dksX1_partsAt_4 3 rfl rfl)
theorem dX1_partsAt_99 : decode cX1_partsAt 99 = .ok (.iload 7, 2) := dk_21 7 (dk_at dksX1_partsAt_4 5 rfl rfl)
theorem dX1_partsAt_101 : decode cX1_partsAt 101 = .ok (.iconst 1, 1) := dk_4 (dk_at dksX1_partsAt_4 7 rfl rfl)
theorem dX1_partsAt_102 : decode cX1_partsAt 102 = .ok (.iadd, 1) := dk_96 (dk_at dksX1_partsAt_4 8 rfl rfl)
theorem dX1_partsAt_103 : decode cX1_partsAt 103 = .ok (.invokestatic 223, 3) := dk_184 0 223 (dk_at dksX1_partsAt_4 9 rfl rfl)
theorem dX1_partsAt_106 : decode cX1_partsAt 106 = .ok (.dup2, 1) := dk_92 (dk_at dksX1_partsAt_4 12 rfl rfl)
theorem dX1_partsAt_107 : decode cX1_partsAt 107 = .ok (.laload, 1) := dk_47 (dk_at dksX1_partsAt_4 13 rfl rfl)
theorem dX1_partsAt_108 : decode cX1_partsAt 108 = .ok (.iload 5, 2) := dk_21 5 (dk_at dksX1_partsAt_4 14 rfl rfl)
theorem dX1_partsAt_110 : decode cX1_partsAt 110 = .ok (.i2l, 1) := dk_133 (dk_at dksX1_partsAt_4 16 rfl rfl)
theorem dX1_partsAt_111 : decode cX1_partsAt 111 = .ok (.aload_n 0, 1) := dk_42 (dk_at dksX1_partsAt_4 17 rfl rfl)
theorem dX1_partsAt_112 : decode cX1_partsAt 112 = .ok (.getfield 273, 3) := dk_180 1 17 (dk_at dksX1_partsAt_4 18 rfl rfl)
theorem dX1_partsAt_115 : decode cX1_partsAt 115 = .ok (.iload 7, 2) := dk_21 7 (dk_at dksX1_partsAt_4 21 rfl rfl)
theorem dX1_partsAt_117 : decode cX1_partsAt 117 = .ok (.laload, 1) := dk_47 (dk_at dksX1_partsAt_4 23 rfl rfl)
theorem dX1_partsAt_118 : decode cX1_partsAt 118 = .ok (.lmul, 1) := dk_105 (dk_at dksX1_partsAt_5 0 rfl rfl)
theorem dX1_partsAt_119 : decode cX1_partsAt 119 = .ok (.ladd, 1) := dk_97 (dk_at dksX1_partsAt_5 1 rfl rfl)
theorem dX1_partsAt_120 : decode cX1_partsAt 120 = .ok (.lastore, 1) := dk_80 (dk_at dksX1_partsAt_5 2 rfl rfl)
theorem dX1_partsAt_121 : decode cX1_partsAt 121 = .ok (.aload_n 0, 1) := dk_42 (dk_at dksX1_partsAt_5 3 rfl rfl)
theorem dX1_partsAt_122 : decode cX1_partsAt 122 = .ok (.getfield 283, 3) := dk_180 1 27 (dk_at dksX1_partsAt_5 4 rfl rfl)
theorem dX1_partsAt_125 : decode cX1_partsAt 125 = .ok (.iload 7, 2) := dk_21 7 (dk_at dksX1_partsAt_5 7 rfl rfl)
theorem dX1_partsAt_127 : decode cX1_partsAt 127 = .ok (.dup2, 1) := dk_92 (dk_at dksX1_partsAt_5 9 rfl rfl)
theorem dX1_partsAt_128 : decode cX1_partsAt 128 = .ok (.laload, 1) := dk_47 (dk_at dksX1_partsAt_5 10 rfl rfl)
theorem dX1_partsAt_129 : decode cX1_partsAt 129 = .ok (.bipush 10, 2) := dk_16 10 (dk_at dksX1_partsAt_5 11 rfl rfl)
theorem dX1_partsAt_131 : decode cX1_partsAt 131 = .ok (.iload 4, 2) := dk_21 4 (dk_at dksX1_partsAt_5 13 rfl rfl)
theorem dX1_partsAt_133 : decode cX1_partsAt 133 = .ok (.isub, 1) := dk_100 (dk_at dksX1_partsAt_5 15 rfl rfl)
theorem dX1_partsAt_134 : decode cX1_partsAt 134 = .ok (.iload 5, 2) := dk_21 5 (dk_at dksX1_partsAt_5 16 rfl rfl)
theorem dX1_partsAt_136 : decode cX1_partsAt 136 = .ok (.isub, 1) := dk_100 (dk_at dksX1_partsAt_5 18 rfl rfl)
theorem dX1_partsAt_137 : decode cX1_partsAt 137 = .ok (.i2l, 1) := dk_133 (dk_at dksX1_partsAt_5 19 rfl rfl)
theorem dX1_partsAt_138 : decode cX1_partsAt 138 = .ok (.aload_n 0, 1) := dk_42 (dk_at dksX1_partsAt_5 20 rfl rfl)
theorem dX1_partsAt_139 : decode cX1_partsAt 139 = .ok (.getfield 273, 3) := dk_180 1 17 (dk_at dksX1_partsAt_5 21 rfl rfl)
theorem dX1_partsAt_142 : decode cX1_partsAt 142 = .ok (.iload 7, 2) := dk_21 7 (dk_at dksX1_partsAt_6 0 rfl rfl)
theorem dX1_partsAt_144 : decode cX1_partsAt 144 = .ok (.laload, 1) := dk_47 (dk_at dksX1_partsAt_6 2 rfl rfl)
theorem dX1_partsAt_145 : decode cX1_partsAt 145 = .ok (.lmul, 1) := dk_105 (dk_at dksX1_partsAt_6 3 rfl rfl)
theorem dX1_partsAt_146 : decode cX1_partsAt 146 = .ok (.ladd, 1) := dk_97 (dk_at dksX1_partsAt_6 4 rfl rfl)
theorem dX1_partsAt_147 : decode cX1_partsAt 147 = .ok (.lastore, 1) := dk_80 (dk_at dksX1_partsAt_6 5 rfl rfl)
theorem dX1_partsAt_148 : decode cX1_partsAt 148 = .ok (.iinc 7 1, 3) := dk_132 7 1 (dk_at dksX1_partsAt_6 6 rfl rfl)
theorem dX1_partsAt_151 : decode cX1_partsAt 151 = .ok (.goto (-88), 3) := dk_167 255 168 (dk_at dksX1_partsAt_6 9 rfl rfl)
theorem dX1_partsAt_154 : decode cX1_partsAt 154 = .ok (.aload_n 0, 1) := dk_42 (dk_at dksX1_partsAt_6 12 rfl rfl)
theorem dX1_partsAt_155 : decode cX1_partsAt 155 = .ok (.getfield 273, 3) := dk_180 1 17 (dk_at dksX1_partsAt_6 13 rfl rfl)
theorem dX1_partsAt_158 : decode cX1_partsAt 158 = .ok (.astore 7, 2) := dk_58 7 (dk_at dksX1_partsAt_6 16 rfl rfl)
theorem dX1_partsAt_160 : decode cX1_partsAt 160 = .ok (.aload_n 0, 1) := dk_42 (dk_at dksX1_partsAt_6 18 rfl rfl)
theorem dX1_partsAt_161 : decode cX1_partsAt 161 = .ok (.aload_n 0, 1) := dk_42 (dk_at dksX1_partsAt_6 19 rfl rfl)
theorem dX1_partsAt_162 : decode cX1_partsAt 162 = .ok (.getfield 283, 3) := dk_180 1 27 (dk_at dksX1_partsAt_6 20 rfl rfl)
theorem dX1_partsAt_165 : decode cX1_partsAt 165 = .ok (.putfield 273, 3) := dk_181 1 17 (dk_at dksX1_partsAt_7 0 rfl rfl)
theorem dX1_partsAt_168 : decode cX1_partsAt 168 = .ok (.aload_n 0, 1) := dk_42 (dk_at dksX1_partsAt_7 3 rfl rfl)
theorem dX1_partsAt_169 : decode cX1_partsAt 169 = .ok (.aload 7, 2) := dk_25 7 (dk_at dksX1_partsAt_7 4 rfl rfl)
theorem dX1_partsAt_171 : decode cX1_partsAt 171 = .ok (.putfield 283, 3) := dk_181 1 27 (dk_at dksX1_partsAt_7 6 rfl rfl)
theorem dX1_partsAt_174 : decode cX1_partsAt 174 = .ok (.iinc 6 1, 3) := dk_132 6 1 (dk_at dksX1_partsAt_7 9 rfl rfl)
theorem dX1_partsAt_177 : decode cX1_partsAt 177 = .ok (.goto (-147), 3) := dk_167 255 109 (dk_at dksX1_partsAt_7 12 rfl rfl)
theorem dX1_partsAt_180 : decode cX1_partsAt 180 = .ok (.aload_n 0, 1) := dk_42 (dk_at dksX1_partsAt_7 15 rfl rfl)
theorem dX1_partsAt_181 : decode cX1_partsAt 181 = .ok (.getfield 273, 3) := dk_180 1 17 (dk_at dksX1_partsAt_7 16 rfl rfl)
theorem dX1_partsAt_184 : decode cX1_partsAt 184 = .ok (.iconst 0, 1) := dk_3 (dk_at dksX1_partsAt_7 19 rfl rfl)
theorem dX1_partsAt_185 : decode cX1_partsAt 185 = .ok (.laload, 1) := dk_47 (dk_at dksX1_partsAt_7 20 rfl rfl)
theorem dX1_partsAt_186 : decode cX1_partsAt 186 = .ok (.lreturn, 1) := dk_173 (dk_at dksX1_partsAt_7 21 rfl rfl)
abbrev cX1_tens : ByteArray := prog_1_method_47_code
def yX1_tens : MethodName := ⟨RX1, "tens", "(I)J"⟩
def dkwX1_tens_0 : List UInt8 := [10, 64, 3, 62, 29, 26, 162, 0, 15, 31, 20, 1, 30, 105, 64, 132, 3, 1, 167, 255, 242, 31, 173]
abbrev dktX1_tens_0 : List UInt8 := dkwX1_tens_0 ++ []
theorem dksX1_tens_0 : cX1_tens.data.toList.drop 0 = dktX1_tens_0 := by decide +kernel
theorem dX1_tens_0 : decode cX1_tens 0 = .ok (.lconst 1, 1) := dk_10 (dk_at dksX1_tens_0 0 rfl rfl)
theorem dX1_tens_1 : decode cX1_tens 1 = .ok (.lstore_n 1, 1) := dk_64 (dk_at dksX1_tens_0 1 rfl rfl)
theorem dX1_tens_2 : decode cX1_tens 2 = .ok (.iconst 0, 1) := dk_3 (dk_at dksX1_tens_0 2 rfl rfl)
theorem dX1_tens_3 : decode cX1_tens 3 = .ok (.istore_n 3, 1) := dk_62 (dk_at dksX1_tens_0 3 rfl rfl)
theorem dX1_tens_4 : decode cX1_tens 4 = .ok (.iload_n 3, 1) := dk_29 (dk_at dksX1_tens_0 4 rfl rfl)
theorem dX1_tens_5 : decode cX1_tens 5 = .ok (.iload_n 0, 1) := dk_26 (dk_at dksX1_tens_0 5 rfl rfl)
theorem dX1_tens_6 : decode cX1_tens 6 = .ok (.if_icmp .ge 15, 3) := dk_162 0 15 (dk_at dksX1_tens_0 6 rfl rfl)
theorem dX1_tens_9 : decode cX1_tens 9 = .ok (.lload_n 1, 1) := dk_31 (dk_at dksX1_tens_0 9 rfl rfl)
theorem dX1_tens_10 : decode cX1_tens 10 = .ok (.ldc2_w 286, 3) := dk_20 1 30 (dk_at dksX1_tens_0 10 rfl rfl)
theorem dX1_tens_13 : decode cX1_tens 13 = .ok (.lmul, 1) := dk_105 (dk_at dksX1_tens_0 13 rfl rfl)
theorem dX1_tens_14 : decode cX1_tens 14 = .ok (.lstore_n 1, 1) := dk_64 (dk_at dksX1_tens_0 14 rfl rfl)
theorem dX1_tens_15 : decode cX1_tens 15 = .ok (.iinc 3 1, 3) := dk_132 3 1 (dk_at dksX1_tens_0 15 rfl rfl)
theorem dX1_tens_18 : decode cX1_tens 18 = .ok (.goto (-14), 3) := dk_167 255 242 (dk_at dksX1_tens_0 18 rfl rfl)
theorem dX1_tens_21 : decode cX1_tens 21 = .ok (.lload_n 1, 1) := dk_31 (dk_at dksX1_tens_0 21 rfl rfl)
theorem dX1_tens_22 : decode cX1_tens 22 = .ok (.lreturn, 1) := dk_173 (dk_at dksX1_tens_0 22 rfl rfl)
abbrev cX1_partOf : ByteArray := prog_1_method_44_code
def yX1_partOf : MethodName := ⟨RX1, "partOf", "(JJI)J"⟩
def dkwX1_partOf_0 : List UInt8 := [21, 4, 154, 0, 7, 30, 167, 0, 4, 32, 30, 32, 184, 1, 13, 109, 173]
abbrev dktX1_partOf_0 : List UInt8 := dkwX1_partOf_0 ++ []
theorem dksX1_partOf_0 : cX1_partOf.data.toList.drop 0 = dktX1_partOf_0 := by decide +kernel
theorem dX1_partOf_0 : decode cX1_partOf 0 = .ok (.iload 4, 2) := dk_21 4 (dk_at dksX1_partOf_0 0 rfl rfl)
theorem dX1_partOf_2 : decode cX1_partOf 2 = .ok (.ifCond .ne 7, 3) := dk_154 0 7 (dk_at dksX1_partOf_0 2 rfl rfl)
theorem dX1_partOf_5 : decode cX1_partOf 5 = .ok (.lload_n 0, 1) := dk_30 (dk_at dksX1_partOf_0 5 rfl rfl)
theorem dX1_partOf_6 : decode cX1_partOf 6 = .ok (.goto 4, 3) := dk_167 0 4 (dk_at dksX1_partOf_0 6 rfl rfl)
theorem dX1_partOf_9 : decode cX1_partOf 9 = .ok (.lload_n 2, 1) := dk_32 (dk_at dksX1_partOf_0 9 rfl rfl)
theorem dX1_partOf_10 : decode cX1_partOf 10 = .ok (.lload_n 0, 1) := dk_30 (dk_at dksX1_partOf_0 10 rfl rfl)
theorem dX1_partOf_11 : decode cX1_partOf 11 = .ok (.lload_n 2, 1) := dk_32 (dk_at dksX1_partOf_0 11 rfl rfl)
theorem dX1_partOf_12 : decode cX1_partOf 12 = .ok (.invokestatic 269, 3) := dk_184 1 13 (dk_at dksX1_partOf_0 12 rfl rfl)
theorem dX1_partOf_15 : decode cX1_partOf 15 = .ok (.ldiv, 1) := dk_109 (dk_at dksX1_partOf_0 15 rfl rfl)
theorem dX1_partOf_16 : decode cX1_partOf 16 = .ok (.lreturn, 1) := dk_173 (dk_at dksX1_partOf_0 16 rfl rfl)
abbrev cX1_divisor : ByteArray := prog_1_method_43_code
def yX1_divisor : MethodName := ⟨RX1, "divisor", "(JJ)J"⟩
def dkwX1_divisor_0 : List UInt8 := [32, 9, 148, 154, 0, 7, 30, 167, 0, 10, 32, 30, 32, 113, 184, 1, 13, 173]
abbrev dktX1_divisor_0 : List UInt8 := dkwX1_divisor_0 ++ []
theorem dksX1_divisor_0 : cX1_divisor.data.toList.drop 0 = dktX1_divisor_0 := by decide +kernel
theorem dX1_divisor_0 : decode cX1_divisor 0 = .ok (.lload_n 2, 1) := dk_32 (dk_at dksX1_divisor_0 0 rfl rfl)
theorem dX1_divisor_1 : decode cX1_divisor 1 = .ok (.lconst 0, 1) := dk_9 (dk_at dksX1_divisor_0 1 rfl rfl)
theorem dX1_divisor_2 : decode cX1_divisor 2 = .ok (.lcmp, 1) := dk_148 (dk_at dksX1_divisor_0 2 rfl rfl)
theorem dX1_divisor_3 : decode cX1_divisor 3 = .ok (.ifCond .ne 7, 3) := dk_154 0 7 (dk_at dksX1_divisor_0 3 rfl rfl)
theorem dX1_divisor_6 : decode cX1_divisor 6 = .ok (.lload_n 0, 1) := dk_30 (dk_at dksX1_divisor_0 6 rfl rfl)
theorem dX1_divisor_7 : decode cX1_divisor 7 = .ok (.goto 10, 3) := dk_167 0 10 (dk_at dksX1_divisor_0 7 rfl rfl)
theorem dX1_divisor_10 : decode cX1_divisor 10 = .ok (.lload_n 2, 1) := dk_32 (dk_at dksX1_divisor_0 10 rfl rfl)
theorem dX1_divisor_11 : decode cX1_divisor 11 = .ok (.lload_n 0, 1) := dk_30 (dk_at dksX1_divisor_0 11 rfl rfl)
theorem dX1_divisor_12 : decode cX1_divisor 12 = .ok (.lload_n 2, 1) := dk_32 (dk_at dksX1_divisor_0 12 rfl rfl)
theorem dX1_divisor_13 : decode cX1_divisor 13 = .ok (.lrem, 1) := dk_113 (dk_at dksX1_divisor_0 13 rfl rfl)
theorem dX1_divisor_14 : decode cX1_divisor 14 = .ok (.invokestatic 269, 3) := dk_184 1 13 (dk_at dksX1_divisor_0 14 rfl rfl)
theorem dX1_divisor_17 : decode cX1_divisor 17 = .ok (.lreturn, 1) := dk_173 (dk_at dksX1_divisor_0 17 rfl rfl)
abbrev cX1_often : ByteArray := prog_1_method_49_code
def yX1_often : MethodName := ⟨RX1, "often", "(II)I"⟩
def dkwX1_often_1 : List UInt8 := [29, 182, 1, 37, 105, 29, 184, 1, 41, 148, 155, 0, 5, 29, 172, 132, 3, 1, 167, 255, 226, 16, 252, 172]
abbrev dktX1_often_1 : List UInt8 := dkwX1_often_1 ++ []
def dkwX1_often_0 : List UInt8 := [27, 28, 184, 1, 32, 154, 0, 5, 2, 172, 3, 62, 29, 16, 9, 163, 0, 30, 20, 1, 49, 42, 27, 28]
abbrev dktX1_often_0 : List UInt8 := dkwX1_often_0 ++ dktX1_often_1
theorem dksX1_often_0 : cX1_often.data.toList.drop 0 = dktX1_often_0 := by decide +kernel
theorem dksX1_often_1 : cX1_often.data.toList.drop 24 = dktX1_often_1 := dk_seg dksX1_often_0 24 rfl rfl
theorem dX1_often_0 : decode cX1_often 0 = .ok (.iload_n 1, 1) := dk_27 (dk_at dksX1_often_0 0 rfl rfl)
theorem dX1_often_1 : decode cX1_often 1 = .ok (.iload_n 2, 1) := dk_28 (dk_at dksX1_often_0 1 rfl rfl)
theorem dX1_often_2 : decode cX1_often 2 = .ok (.invokestatic 288, 3) := dk_184 1 32 (dk_at dksX1_often_0 2 rfl rfl)
theorem dX1_often_5 : decode cX1_often 5 = .ok (.ifCond .ne 5, 3) := dk_154 0 5 (dk_at dksX1_often_0 5 rfl rfl)
theorem dX1_often_8 : decode cX1_often 8 = .ok (.iconst (-1), 1) := dk_2 (dk_at dksX1_often_0 8 rfl rfl)
theorem dX1_often_9 : decode cX1_often 9 = .ok (.ireturn, 1) := dk_172 (dk_at dksX1_often_0 9 rfl rfl)
theorem dX1_often_10 : decode cX1_often 10 = .ok (.iconst 0, 1) := dk_3 (dk_at dksX1_often_0 10 rfl rfl)
theorem dX1_often_11 : decode cX1_often 11 = .ok (.istore_n 3, 1) := dk_62 (dk_at dksX1_often_0 11 rfl rfl)
theorem dX1_often_12 : decode cX1_often 12 = .ok (.iload_n 3, 1) := dk_29 (dk_at dksX1_often_0 12 rfl rfl)
theorem dX1_often_13 : decode cX1_often 13 = .ok (.bipush 9, 2) := dk_16 9 (dk_at dksX1_often_0 13 rfl rfl)
theorem dX1_often_15 : decode cX1_often 15 = .ok (.if_icmp .gt 30, 3) := dk_163 0 30 (dk_at dksX1_often_0 15 rfl rfl)
theorem dX1_often_18 : decode cX1_often 18 = .ok (.ldc2_w 305, 3) := dk_20 1 49 (dk_at dksX1_often_0 18 rfl rfl)
theorem dX1_often_21 : decode cX1_often 21 = .ok (.aload_n 0, 1) := dk_42 (dk_at dksX1_often_0 21 rfl rfl)
theorem dX1_often_22 : decode cX1_often 22 = .ok (.iload_n 1, 1) := dk_27 (dk_at dksX1_often_0 22 rfl rfl)
theorem dX1_often_23 : decode cX1_often 23 = .ok (.iload_n 2, 1) := dk_28 (dk_at dksX1_often_0 23 rfl rfl)
theorem dX1_often_24 : decode cX1_often 24 = .ok (.iload_n 3, 1) := dk_29 (dk_at dksX1_often_1 0 rfl rfl)
theorem dX1_often_25 : decode cX1_often 25 = .ok (.invokevirtual 293, 3) := dk_182 1 37 (dk_at dksX1_often_1 1 rfl rfl)
theorem dX1_often_28 : decode cX1_often 28 = .ok (.lmul, 1) := dk_105 (dk_at dksX1_often_1 4 rfl rfl)
theorem dX1_often_29 : decode cX1_often 29 = .ok (.iload_n 3, 1) := dk_29 (dk_at dksX1_often_1 5 rfl rfl)
theorem dX1_often_30 : decode cX1_often 30 = .ok (.invokestatic 297, 3) := dk_184 1 41 (dk_at dksX1_often_1 6 rfl rfl)
theorem dX1_often_33 : decode cX1_often 33 = .ok (.lcmp, 1) := dk_148 (dk_at dksX1_often_1 9 rfl rfl)
theorem dX1_often_34 : decode cX1_often 34 = .ok (.ifCond .lt 5, 3) := dk_155 0 5 (dk_at dksX1_often_1 10 rfl rfl)
theorem dX1_often_37 : decode cX1_often 37 = .ok (.iload_n 3, 1) := dk_29 (dk_at dksX1_often_1 13 rfl rfl)
theorem dX1_often_38 : decode cX1_often 38 = .ok (.ireturn, 1) := dk_172 (dk_at dksX1_often_1 14 rfl rfl)
theorem dX1_often_39 : decode cX1_often 39 = .ok (.iinc 3 1, 3) := dk_132 3 1 (dk_at dksX1_often_1 15 rfl rfl)
theorem dX1_often_42 : decode cX1_often 42 = .ok (.goto (-30), 3) := dk_167 255 226 (dk_at dksX1_often_1 18 rfl rfl)
theorem dX1_often_45 : decode cX1_often 45 = .ok (.bipush (-4), 2) := dk_16 252 (dk_at dksX1_often_1 21 rfl rfl)
theorem dX1_often_47 : decode cX1_often 47 = .ok (.ireturn, 1) := dk_172 (dk_at dksX1_often_1 23 rfl rfl)
abbrev cX1_answer : ByteArray := prog_1_method_50_code
def yX1_answer : MethodName := ⟨RX1, "answer", "(III)J"⟩
def dkwX1_answer_3 : List UInt8 := [21, 5, 96, 6, 96, 133, 29, 184, 1, 45, 173]
abbrev dktX1_answer_3 : List UInt8 := dkwX1_answer_3 ++ []
def dkwX1_answer_2 : List UInt8 := [160, 0, 8, 16, 10, 167, 0, 12, 28, 154, 0, 7, 8, 167, 0, 4, 3, 54, 5, 21, 5, 133, 21, 4]
abbrev dktX1_answer_2 : List UInt8 := dkwX1_answer_2 ++ dktX1_answer_3
def dkwX1_answer_1 : List UInt8 := [20, 1, 35, 173, 28, 154, 0, 13, 27, 5, 160, 0, 8, 16, 10, 167, 0, 4, 3, 54, 4, 28, 4]
abbrev dktX1_answer_1 : List UInt8 := dkwX1_answer_1 ++ dktX1_answer_2
def dkwX1_answer_0 : List UInt8 := [27, 184, 0, 187, 153, 0, 19, 28, 184, 0, 187, 153, 0, 12, 29, 3, 4, 184, 0, 30, 154, 0, 7]
abbrev dktX1_answer_0 : List UInt8 := dkwX1_answer_0 ++ dktX1_answer_1
theorem dksX1_answer_0 : cX1_answer.data.toList.drop 0 = dktX1_answer_0 := by decide +kernel
theorem dksX1_answer_1 : cX1_answer.data.toList.drop 23 = dktX1_answer_1 := dk_seg dksX1_answer_0 23 rfl rfl
theorem dksX1_answer_2 : cX1_answer.data.toList.drop 46 = dktX1_answer_2 := dk_seg dksX1_answer_1 23 rfl rfl
theorem dksX1_answer_3 : cX1_answer.data.toList.drop 70 = dktX1_answer_3 := dk_seg dksX1_answer_2 24 rfl rfl
theorem dX1_answer_0 : decode cX1_answer 0 = .ok (.iload_n 1, 1) := dk_27 (dk_at dksX1_answer_0 0 rfl rfl)
theorem dX1_answer_1 : decode cX1_answer 1 = .ok (.invokestatic 187, 3) := dk_184 0 187 (dk_at dksX1_answer_0 1 rfl rfl)
theorem dX1_answer_4 : decode cX1_answer 4 = .ok (.ifCond .eq 19, 3) := dk_153 0 19 (dk_at dksX1_answer_0 4 rfl rfl)
theorem dX1_answer_7 : decode cX1_answer 7 = .ok (.iload_n 2, 1) := dk_28 (dk_at dksX1_answer_0 7 rfl rfl)
theorem dX1_answer_8 : decode cX1_answer 8 = .ok (.invokestatic 187, 3) := dk_184 0 187 (dk_at dksX1_answer_0 8 rfl rfl)
theorem dX1_answer_11 : decode cX1_answer 11 = .ok (.ifCond .eq 12, 3) := dk_153 0 12 (dk_at dksX1_answer_0 11 rfl rfl)
theorem dX1_answer_14 : decode cX1_answer 14 = .ok (.iload_n 3, 1) := dk_29 (dk_at dksX1_answer_0 14 rfl rfl)
theorem dX1_answer_15 : decode cX1_answer 15 = .ok (.iconst 0, 1) := dk_3 (dk_at dksX1_answer_0 15 rfl rfl)
theorem dX1_answer_16 : decode cX1_answer 16 = .ok (.iconst 1, 1) := dk_4 (dk_at dksX1_answer_0 16 rfl rfl)
theorem dX1_answer_17 : decode cX1_answer 17 = .ok (.invokestatic 30, 3) := dk_184 0 30 (dk_at dksX1_answer_0 17 rfl rfl)
theorem dX1_answer_20 : decode cX1_answer 20 = .ok (.ifCond .ne 7, 3) := dk_154 0 7 (dk_at dksX1_answer_0 20 rfl rfl)
theorem dX1_answer_23 : decode cX1_answer 23 = .ok (.ldc2_w 291, 3) := dk_20 1 35 (dk_at dksX1_answer_1 0 rfl rfl)
theorem dX1_answer_26 : decode cX1_answer 26 = .ok (.lreturn, 1) := dk_173 (dk_at dksX1_answer_1 3 rfl rfl)
theorem dX1_answer_27 : decode cX1_answer 27 = .ok (.iload_n 2, 1) := dk_28 (dk_at dksX1_answer_1 4 rfl rfl)
theorem dX1_answer_28 : decode cX1_answer 28 = .ok (.ifCond .ne 13, 3) := dk_154 0 13 (dk_at dksX1_answer_1 5 rfl rfl)
theorem dX1_answer_31 : decode cX1_answer 31 = .ok (.iload_n 1, 1) := dk_27 (dk_at dksX1_answer_1 8 rfl rfl)
theorem dX1_answer_32 : decode cX1_answer 32 = .ok (.iconst 2, 1) := dk_5 (dk_at dksX1_answer_1 9 rfl rfl)
theorem dX1_answer_33 : decode cX1_answer 33 = .ok (.if_icmp .ne 8, 3) := dk_160 0 8 (dk_at dksX1_answer_1 10 rfl rfl)
theorem dX1_answer_36 : decode cX1_answer 36 = .ok (.bipush 10, 2) := dk_16 10 (dk_at dksX1_answer_1 13 rfl rfl)
theorem dX1_answer_38 : decode cX1_answer 38 = .ok (.goto 4, 3) := dk_167 0 4 (dk_at dksX1_answer_1 15 rfl rfl)
theorem dX1_answer_41 : decode cX1_answer 41 = .ok (.iconst 0, 1) := dk_3 (dk_at dksX1_answer_1 18 rfl rfl)
theorem dX1_answer_42 : decode cX1_answer 42 = .ok (.istore 4, 2) := dk_54 4 (dk_at dksX1_answer_1 19 rfl rfl)
theorem dX1_answer_44 : decode cX1_answer 44 = .ok (.iload_n 2, 1) := dk_28 (dk_at dksX1_answer_1 21 rfl rfl)
theorem dX1_answer_45 : decode cX1_answer 45 = .ok (.iconst 1, 1) := dk_4 (dk_at dksX1_answer_1 22 rfl rfl)
theorem dX1_answer_46 : decode cX1_answer 46 = .ok (.if_icmp .ne 8, 3) := dk_160 0 8 (dk_at dksX1_answer_2 0 rfl rfl)
theorem dX1_answer_49 : decode cX1_answer 49 = .ok (.bipush 10, 2) := dk_16 10 (dk_at dksX1_answer_2 3 rfl rfl)
theorem dX1_answer_51 : decode cX1_answer 51 = .ok (.goto 12, 3) := dk_167 0 12 (dk_at dksX1_answer_2 5 rfl rfl)
theorem dX1_answer_54 : decode cX1_answer 54 = .ok (.iload_n 2, 1) := dk_28 (dk_at dksX1_answer_2 8 rfl rfl)
theorem dX1_answer_55 : decode cX1_answer 55 = .ok (.ifCond .ne 7, 3) := dk_154 0 7 (dk_at dksX1_answer_2 9 rfl rfl)
theorem dX1_answer_58 : decode cX1_answer 58 = .ok (.iconst 5, 1) := dk_8 (dk_at dksX1_answer_2 12 rfl rfl)
theorem dX1_answer_59 : decode cX1_answer 59 = .ok (.goto 4, 3) := dk_167 0 4 (dk_at dksX1_answer_2 13 rfl rfl)
theorem dX1_answer_62 : decode cX1_answer 62 = .ok (.iconst 0, 1) := dk_3 (dk_at dksX1_answer_2 16 rfl rfl)
theorem dX1_answer_63 : decode cX1_answer 63 = .ok (.istore 5, 2) := dk_54 5 (dk_at dksX1_answer_2 17 rfl rfl)
theorem dX1_answer_65 : decode cX1_answer 65 = .ok (.iload 5, 2) := dk_21 5 (dk_at dksX1_answer_2 19 rfl rfl)
theorem dX1_answer_67 : decode cX1_answer 67 = .ok (.i2l, 1) := dk_133 (dk_at dksX1_answer_2 21 rfl rfl)
theorem dX1_answer_68 : decode cX1_answer 68 = .ok (.iload 4, 2) := dk_21 4 (dk_at dksX1_answer_2 22 rfl rfl)
theorem dX1_answer_70 : decode cX1_answer 70 = .ok (.iload 5, 2) := dk_21 5 (dk_at dksX1_answer_3 0 rfl rfl)
theorem dX1_answer_72 : decode cX1_answer 72 = .ok (.iadd, 1) := dk_96 (dk_at dksX1_answer_3 2 rfl rfl)
theorem dX1_answer_73 : decode cX1_answer 73 = .ok (.iconst 3, 1) := dk_6 (dk_at dksX1_answer_3 3 rfl rfl)
theorem dX1_answer_74 : decode cX1_answer 74 = .ok (.iadd, 1) := dk_96 (dk_at dksX1_answer_3 4 rfl rfl)
theorem dX1_answer_75 : decode cX1_answer 75 = .ok (.i2l, 1) := dk_133 (dk_at dksX1_answer_3 5 rfl rfl)
theorem dX1_answer_76 : decode cX1_answer 76 = .ok (.iload_n 3, 1) := dk_29 (dk_at dksX1_answer_3 6 rfl rfl)
theorem dX1_answer_77 : decode cX1_answer 77 = .ok (.invokestatic 301, 3) := dk_184 1 45 (dk_at dksX1_answer_3 7 rfl rfl)
theorem dX1_answer_80 : decode cX1_answer 80 = .ok (.lreturn, 1) := dk_173 (dk_at dksX1_answer_3 10 rfl rfl)
abbrev cX1_telling : ByteArray := prog_1_method_52_code
def yX1_telling : MethodName := ⟨RX1, "telling", "(IIII)I"⟩
def dkwX1_telling_4 : List UInt8 := [182, 1, 54, 154, 0, 8, 16, 252, 167, 0, 5, 21, 5, 172]
abbrev dktX1_telling_4 : List UInt8 := dkwX1_telling_4 ++ []
def dkwX1_telling_3 : List UInt8 := [164, 0, 8, 21, 6, 167, 0, 5, 21, 5, 54, 5, 132, 6, 1, 167, 255, 217, 42, 27, 28, 29, 21, 5]
abbrev dktX1_telling_3 : List UInt8 := dkwX1_telling_3 ++ dktX1_telling_4
def dkwX1_telling_2 : List UInt8 := [21, 6, 6, 162, 0, 39, 42, 27, 28, 29, 21, 6, 182, 1, 54, 42, 27, 28, 29, 21, 5, 182, 1, 54]
abbrev dktX1_telling_2 : List UInt8 := dkwX1_telling_2 ++ dktX1_telling_3
def dkwX1_telling_1 : List UInt8 := [172, 21, 4, 6, 162, 0, 13, 42, 27, 28, 29, 21, 4, 182, 1, 54, 172, 3, 54, 5, 4, 54, 6]
abbrev dktX1_telling_1 : List UInt8 := dkwX1_telling_1 ++ dktX1_telling_2
def dkwX1_telling_0 : List UInt8 := [42, 180, 0, 105, 27, 28, 29, 182, 0, 82, 153, 0, 13, 21, 4, 3, 6, 184, 0, 30, 154, 0, 5, 2]
abbrev dktX1_telling_0 : List UInt8 := dkwX1_telling_0 ++ dktX1_telling_1
theorem dksX1_telling_0 : cX1_telling.data.toList.drop 0 = dktX1_telling_0 := by decide +kernel
theorem dksX1_telling_1 : cX1_telling.data.toList.drop 24 = dktX1_telling_1 := dk_seg dksX1_telling_0 24 rfl rfl
theorem dksX1_telling_2 : cX1_telling.data.toList.drop 47 = dktX1_telling_2 := dk_seg dksX1_telling_1 23 rfl rfl
theorem dksX1_telling_3 : cX1_telling.data.toList.drop 71 = dktX1_telling_3 := dk_seg dksX1_telling_2 24 rfl rfl
theorem dksX1_telling_4 : cX1_telling.data.toList.drop 95 = dktX1_telling_4 := dk_seg dksX1_telling_3 24 rfl rfl
theorem dX1_telling_0 : decode cX1_telling 0 = .ok (.aload_n 0, 1) := dk_42 (dk_at dksX1_telling_0 0 rfl rfl)
theorem dX1_telling_1 : decode cX1_telling 1 = .ok (.getfield 105, 3) := dk_180 0 105 (dk_at dksX1_telling_0 1 rfl rfl)
theorem dX1_telling_4 : decode cX1_telling 4 = .ok (.iload_n 1, 1) := dk_27 (dk_at dksX1_telling_0 4 rfl rfl)
theorem dX1_telling_5 : decode cX1_telling 5 = .ok (.iload_n 2, 1) := dk_28 (dk_at dksX1_telling_0 5 rfl rfl)
theorem dX1_telling_6 : decode cX1_telling 6 = .ok (.iload_n 3, 1) := dk_29 (dk_at dksX1_telling_0 6 rfl rfl)
theorem dX1_telling_7 : decode cX1_telling 7 = .ok (.invokevirtual 82, 3) := dk_182 0 82 (dk_at dksX1_telling_0 7 rfl rfl)
theorem dX1_telling_10 : decode cX1_telling 10 = .ok (.ifCond .eq 13, 3) := dk_153 0 13 (dk_at dksX1_telling_0 10 rfl rfl)
theorem dX1_telling_13 : decode cX1_telling 13 = .ok (.iload 4, 2) := dk_21 4 (dk_at dksX1_telling_0 13 rfl rfl)
theorem dX1_telling_15 : decode cX1_telling 15 = .ok (.iconst 0, 1) := dk_3 (dk_at dksX1_telling_0 15 rfl rfl)
theorem dX1_telling_16 : decode cX1_telling 16 = .ok (.iconst 3, 1) := dk_6 (dk_at dksX1_telling_0 16 rfl rfl)
theorem dX1_telling_17 : decode cX1_telling 17 = .ok (.invokestatic 30, 3) := dk_184 0 30 (dk_at dksX1_telling_0 17 rfl rfl)
theorem dX1_telling_20 : decode cX1_telling 20 = .ok (.ifCond .ne 5, 3) := dk_154 0 5 (dk_at dksX1_telling_0 20 rfl rfl)
theorem dX1_telling_23 : decode cX1_telling 23 = .ok (.iconst (-1), 1) := dk_2 (dk_at dksX1_telling_0 23 rfl rfl)
theorem dX1_telling_24 : decode cX1_telling 24 = .ok (.ireturn, 1) := dk_172 (dk_at dksX1_telling_1 0 rfl rfl)
theorem dX1_telling_25 : decode cX1_telling 25 = .ok (.iload 4, 2) := dk_21 4 (dk_at dksX1_telling_1 1 rfl rfl)
theorem dX1_telling_27 : decode cX1_telling 27 = .ok (.iconst 3, 1) := dk_6 (dk_at dksX1_telling_1 3 rfl rfl)
theorem dX1_telling_28 : decode cX1_telling 28 = .ok (.if_icmp .ge 13, 3) := dk_162 0 13 (dk_at dksX1_telling_1 4 rfl rfl)
theorem dX1_telling_31 : decode cX1_telling 31 = .ok (.aload_n 0, 1) := dk_42 (dk_at dksX1_telling_1 7 rfl rfl)
theorem dX1_telling_32 : decode cX1_telling 32 = .ok (.iload_n 1, 1) := dk_27 (dk_at dksX1_telling_1 8 rfl rfl)
theorem dX1_telling_33 : decode cX1_telling 33 = .ok (.iload_n 2, 1) := dk_28 (dk_at dksX1_telling_1 9 rfl rfl)
theorem dX1_telling_34 : decode cX1_telling 34 = .ok (.iload_n 3, 1) := dk_29 (dk_at dksX1_telling_1 10 rfl rfl)
theorem dX1_telling_35 : decode cX1_telling 35 = .ok (.iload 4, 2) := dk_21 4 (dk_at dksX1_telling_1 11 rfl rfl)
theorem dX1_telling_37 : decode cX1_telling 37 = .ok (.invokevirtual 310, 3) := dk_182 1 54 (dk_at dksX1_telling_1 13 rfl rfl)
theorem dX1_telling_40 : decode cX1_telling 40 = .ok (.ireturn, 1) := dk_172 (dk_at dksX1_telling_1 16 rfl rfl)
theorem dX1_telling_41 : decode cX1_telling 41 = .ok (.iconst 0, 1) := dk_3 (dk_at dksX1_telling_1 17 rfl rfl)
theorem dX1_telling_42 : decode cX1_telling 42 = .ok (.istore 5, 2) := dk_54 5 (dk_at dksX1_telling_1 18 rfl rfl)
theorem dX1_telling_44 : decode cX1_telling 44 = .ok (.iconst 1, 1) := dk_4 (dk_at dksX1_telling_1 20 rfl rfl)
theorem dX1_telling_45 : decode cX1_telling 45 = .ok (.istore 6, 2) := dk_54 6 (dk_at dksX1_telling_1 21 rfl rfl)
theorem dX1_telling_47 : decode cX1_telling 47 = .ok (.iload 6, 2) := dk_21 6 (dk_at dksX1_telling_2 0 rfl rfl)
theorem dX1_telling_49 : decode cX1_telling 49 = .ok (.iconst 3, 1) := dk_6 (dk_at dksX1_telling_2 2 rfl rfl)
theorem dX1_telling_50 : decode cX1_telling 50 = .ok (.if_icmp .ge 39, 3) := dk_162 0 39 (dk_at dksX1_telling_2 3 rfl rfl)
theorem dX1_telling_53 : decode cX1_telling 53 = .ok (.aload_n 0, 1) := dk_42 (dk_at dksX1_telling_2 6 rfl rfl)
theorem dX1_telling_54 : decode cX1_telling 54 = .ok (.iload_n 1, 1) := dk_27 (dk_at dksX1_telling_2 7 rfl rfl)
theorem dX1_telling_55 : decode cX1_telling 55 = .ok (.iload_n 2, 1) := dk_28 (dk_at dksX1_telling_2 8 rfl rfl)
theorem dX1_telling_56 : decode cX1_telling 56 = .ok (.iload_n 3, 1) := dk_29 (dk_at dksX1_telling_2 9 rfl rfl)
theorem dX1_telling_57 : decode cX1_telling 57 = .ok (.iload 6, 2) := dk_21 6 (dk_at dksX1_telling_2 10 rfl rfl)
theorem dX1_telling_59 : decode cX1_telling 59 = .ok (.invokevirtual 310, 3) := dk_182 1 54 (dk_at dksX1_telling_2 12 rfl rfl)
theorem dX1_telling_62 : decode cX1_telling 62 = .ok (.aload_n 0, 1) := dk_42 (dk_at dksX1_telling_2 15 rfl rfl)
theorem dX1_telling_63 : decode cX1_telling 63 = .ok (.iload_n 1, 1) := dk_27 (dk_at dksX1_telling_2 16 rfl rfl)
theorem dX1_telling_64 : decode cX1_telling 64 = .ok (.iload_n 2, 1) := dk_28 (dk_at dksX1_telling_2 17 rfl rfl)
theorem dX1_telling_65 : decode cX1_telling 65 = .ok (.iload_n 3, 1) := dk_29 (dk_at dksX1_telling_2 18 rfl rfl)
theorem dX1_telling_66 : decode cX1_telling 66 = .ok (.iload 5, 2) := dk_21 5 (dk_at dksX1_telling_2 19 rfl rfl)
theorem dX1_telling_68 : decode cX1_telling 68 = .ok (.invokevirtual 310, 3) := dk_182 1 54 (dk_at dksX1_telling_2 21 rfl rfl)
theorem dX1_telling_71 : decode cX1_telling 71 = .ok (.if_icmp .le 8, 3) := dk_164 0 8 (dk_at dksX1_telling_3 0 rfl rfl)
theorem dX1_telling_74 : decode cX1_telling 74 = .ok (.iload 6, 2) := dk_21 6 (dk_at dksX1_telling_3 3 rfl rfl)
theorem dX1_telling_76 : decode cX1_telling 76 = .ok (.goto 5, 3) := dk_167 0 5 (dk_at dksX1_telling_3 5 rfl rfl)
theorem dX1_telling_79 : decode cX1_telling 79 = .ok (.iload 5, 2) := dk_21 5 (dk_at dksX1_telling_3 8 rfl rfl)
theorem dX1_telling_81 : decode cX1_telling 81 = .ok (.istore 5, 2) := dk_54 5 (dk_at dksX1_telling_3 10 rfl rfl)
theorem dX1_telling_83 : decode cX1_telling 83 = .ok (.iinc 6 1, 3) := dk_132 6 1 (dk_at dksX1_telling_3 12 rfl rfl)
theorem dX1_telling_86 : decode cX1_telling 86 = .ok (.goto (-39), 3) := dk_167 255 217 (dk_at dksX1_telling_3 15 rfl rfl)
theorem dX1_telling_89 : decode cX1_telling 89 = .ok (.aload_n 0, 1) := dk_42 (dk_at dksX1_telling_3 18 rfl rfl)
theorem dX1_telling_90 : decode cX1_telling 90 = .ok (.iload_n 1, 1) := dk_27 (dk_at dksX1_telling_3 19 rfl rfl)
theorem dX1_telling_91 : decode cX1_telling 91 = .ok (.iload_n 2, 1) := dk_28 (dk_at dksX1_telling_3 20 rfl rfl)
theorem dX1_telling_92 : decode cX1_telling 92 = .ok (.iload_n 3, 1) := dk_29 (dk_at dksX1_telling_3 21 rfl rfl)
theorem dX1_telling_93 : decode cX1_telling 93 = .ok (.iload 5, 2) := dk_21 5 (dk_at dksX1_telling_3 22 rfl rfl)
theorem dX1_telling_95 : decode cX1_telling 95 = .ok (.invokevirtual 310, 3) := dk_182 1 54 (dk_at dksX1_telling_4 0 rfl rfl)
theorem dX1_telling_98 : decode cX1_telling 98 = .ok (.ifCond .ne 8, 3) := dk_154 0 8 (dk_at dksX1_telling_4 3 rfl rfl)
theorem dX1_telling_101 : decode cX1_telling 101 = .ok (.bipush (-4), 2) := dk_16 252 (dk_at dksX1_telling_4 6 rfl rfl)
theorem dX1_telling_103 : decode cX1_telling 103 = .ok (.goto 5, 3) := dk_167 0 5 (dk_at dksX1_telling_4 8 rfl rfl)
theorem dX1_telling_106 : decode cX1_telling 106 = .ok (.iload 5, 2) := dk_21 5 (dk_at dksX1_telling_4 11 rfl rfl)
theorem dX1_telling_108 : decode cX1_telling 108 = .ok (.ireturn, 1) := dk_172 (dk_at dksX1_telling_4 13 rfl rfl)
abbrev cX1_whereTold : ByteArray := prog_1_method_51_code
def yX1_whereTold : MethodName := ⟨RX1, "whereTold", "(IIII)I"⟩
def dkwX1_whereTold_3 : List UInt8 := [4, 100, 184, 0, 228, 79, 42, 180, 0, 48, 27, 28, 29, 182, 0, 213, 172]
abbrev dktX1_whereTold_3 : List UInt8 := dkwX1_whereTold_3 ++ []
def dkwX1_whereTold_2 : List UInt8 := [21, 4, 5, 160, 0, 27, 42, 180, 0, 48, 180, 0, 163, 28, 3, 42, 180, 0, 48, 180, 0, 163, 28, 46]
abbrev dktX1_whereTold_2 : List UInt8 := dkwX1_whereTold_2 ++ dktX1_whereTold_3
def dkwX1_whereTold_1 : List UInt8 := [180, 0, 48, 180, 0, 166, 28, 16, 60, 42, 180, 0, 48, 180, 0, 166, 28, 46, 8, 96, 184, 0, 223, 79]
abbrev dktX1_whereTold_1 : List UInt8 := dkwX1_whereTold_1 ++ dktX1_whereTold_2
def dkwX1_whereTold_0 : List UInt8 := [42, 182, 1, 6, 21, 4, 154, 0, 11, 42, 180, 0, 48, 5, 181, 1, 51, 21, 4, 4, 160, 0, 28, 42]
abbrev dktX1_whereTold_0 : List UInt8 := dkwX1_whereTold_0 ++ dktX1_whereTold_1
theorem dksX1_whereTold_0 : cX1_whereTold.data.toList.drop 0 = dktX1_whereTold_0 := by decide +kernel
theorem dksX1_whereTold_1 : cX1_whereTold.data.toList.drop 24 = dktX1_whereTold_1 := dk_seg dksX1_whereTold_0 24 rfl rfl
theorem dksX1_whereTold_2 : cX1_whereTold.data.toList.drop 48 = dktX1_whereTold_2 := dk_seg dksX1_whereTold_1 24 rfl rfl
theorem dksX1_whereTold_3 : cX1_whereTold.data.toList.drop 72 = dktX1_whereTold_3 := dk_seg dksX1_whereTold_2 24 rfl rfl
theorem dX1_whereTold_0 : decode cX1_whereTold 0 = .ok (.aload_n 0, 1) := dk_42 (dk_at dksX1_whereTold_0 0 rfl rfl)
theorem dX1_whereTold_1 : decode cX1_whereTold 1 = .ok (.invokevirtual 262, 3) := dk_182 1 6 (dk_at dksX1_whereTold_0 1 rfl rfl)
theorem dX1_whereTold_4 : decode cX1_whereTold 4 = .ok (.iload 4, 2) := dk_21 4 (dk_at dksX1_whereTold_0 4 rfl rfl)
theorem dX1_whereTold_6 : decode cX1_whereTold 6 = .ok (.ifCond .ne 11, 3) := dk_154 0 11 (dk_at dksX1_whereTold_0 6 rfl rfl)
theorem dX1_whereTold_9 : decode cX1_whereTold 9 = .ok (.aload_n 0, 1) := dk_42 (dk_at dksX1_whereTold_0 9 rfl rfl)
theorem dX1_whereTold_10 : decode cX1_whereTold 10 = .ok (.getfield 48, 3) := dk_180 0 48 (dk_at dksX1_whereTold_0 10 rfl rfl)
theorem dX1_whereTold_13 : decode cX1_whereTold 13 = .ok (.iconst 2, 1) := dk_5 (dk_at dksX1_whereTold_0 13 rfl rfl)
theorem dX1_whereTold_14 : decode cX1_whereTold 14 = .ok (.putfield 307, 3) := dk_181 1 51 (dk_at dksX1_whereTold_0 14 rfl rfl)
theorem dX1_whereTold_17 : decode cX1_whereTold 17 = .ok (.iload 4, 2) := dk_21 4 (dk_at dksX1_whereTold_0 17 rfl rfl)
theorem dX1_whereTold_19 : decode cX1_whereTold 19 = .ok (.iconst 1, 1) := dk_4 (dk_at dksX1_whereTold_0 19 rfl rfl)
theorem dX1_whereTold_20 : decode cX1_whereTold 20 = .ok (.if_icmp .ne 28, 3) := dk_160 0 28 (dk_at dksX1_whereTold_0 20 rfl rfl)
theorem dX1_whereTold_23 : decode cX1_whereTold 23 = .ok (.aload_n 0, 1) := dk_42 (dk_at dksX1_whereTold_0 23 rfl rfl)
theorem dX1_whereTold_24 : decode cX1_whereTold 24 = .ok (.getfield 48, 3) := dk_180 0 48 (dk_at dksX1_whereTold_1 0 rfl rfl)
theorem dX1_whereTold_27 : decode cX1_whereTold 27 = .ok (.getfield 166, 3) := dk_180 0 166 (dk_at dksX1_whereTold_1 3 rfl rfl)
theorem dX1_whereTold_30 : decode cX1_whereTold 30 = .ok (.iload_n 2, 1) := dk_28 (dk_at dksX1_whereTold_1 6 rfl rfl)
theorem dX1_whereTold_31 : decode cX1_whereTold 31 = .ok (.bipush 60, 2) := dk_16 60 (dk_at dksX1_whereTold_1 7 rfl rfl)
theorem dX1_whereTold_33 : decode cX1_whereTold 33 = .ok (.aload_n 0, 1) := dk_42 (dk_at dksX1_whereTold_1 9 rfl rfl)
theorem dX1_whereTold_34 : decode cX1_whereTold 34 = .ok (.getfield 48, 3) := dk_180 0 48 (dk_at dksX1_whereTold_1 10 rfl rfl)
theorem dX1_whereTold_37 : decode cX1_whereTold 37 = .ok (.getfield 166, 3) := dk_180 0 166 (dk_at dksX1_whereTold_1 13 rfl rfl)
theorem dX1_whereTold_40 : decode cX1_whereTold 40 = .ok (.iload_n 2, 1) := dk_28 (dk_at dksX1_whereTold_1 16 rfl rfl)
theorem dX1_whereTold_41 : decode cX1_whereTold 41 = .ok (.iaload, 1) := dk_46 (dk_at dksX1_whereTold_1 17 rfl rfl)
theorem dX1_whereTold_42 : decode cX1_whereTold 42 = .ok (.iconst 5, 1) := dk_8 (dk_at dksX1_whereTold_1 18 rfl rfl)
theorem dX1_whereTold_43 : decode cX1_whereTold 43 = .ok (.iadd, 1) := dk_96 (dk_at dksX1_whereTold_1 19 rfl rfl)
theorem dX1_whereTold_44 : decode cX1_whereTold 44 = .ok (.invokestatic 223, 3) := dk_184 0 223 (dk_at dksX1_whereTold_1 20 rfl rfl)
theorem dX1_whereTold_47 : decode cX1_whereTold 47 = .ok (.iastore, 1) := dk_79 (dk_at dksX1_whereTold_1 23 rfl rfl)
theorem dX1_whereTold_48 : decode cX1_whereTold 48 = .ok (.iload 4, 2) := dk_21 4 (dk_at dksX1_whereTold_2 0 rfl rfl)
theorem dX1_whereTold_50 : decode cX1_whereTold 50 = .ok (.iconst 2, 1) := dk_5 (dk_at dksX1_whereTold_2 2 rfl rfl)
theorem dX1_whereTold_51 : decode cX1_whereTold 51 = .ok (.if_icmp .ne 27, 3) := dk_160 0 27 (dk_at dksX1_whereTold_2 3 rfl rfl)
theorem dX1_whereTold_54 : decode cX1_whereTold 54 = .ok (.aload_n 0, 1) := dk_42 (dk_at dksX1_whereTold_2 6 rfl rfl)
theorem dX1_whereTold_55 : decode cX1_whereTold 55 = .ok (.getfield 48, 3) := dk_180 0 48 (dk_at dksX1_whereTold_2 7 rfl rfl)
theorem dX1_whereTold_58 : decode cX1_whereTold 58 = .ok (.getfield 163, 3) := dk_180 0 163 (dk_at dksX1_whereTold_2 10 rfl rfl)
theorem dX1_whereTold_61 : decode cX1_whereTold 61 = .ok (.iload_n 2, 1) := dk_28 (dk_at dksX1_whereTold_2 13 rfl rfl)
theorem dX1_whereTold_62 : decode cX1_whereTold 62 = .ok (.iconst 0, 1) := dk_3 (dk_at dksX1_whereTold_2 14 rfl rfl)
theorem dX1_whereTold_63 : decode cX1_whereTold 63 = .ok (.aload_n 0, 1) := dk_42 (dk_at dksX1_whereTold_2 15 rfl rfl)
theorem dX1_whereTold_64 : decode cX1_whereTold 64 = .ok (.getfield 48, 3) := dk_180 0 48 (dk_at dksX1_whereTold_2 16 rfl rfl)
theorem dX1_whereTold_67 : decode cX1_whereTold 67 = .ok (.getfield 163, 3) := dk_180 0 163 (dk_at dksX1_whereTold_2 19 rfl rfl)
theorem dX1_whereTold_70 : decode cX1_whereTold 70 = .ok (.iload_n 2, 1) := dk_28 (dk_at dksX1_whereTold_2 22 rfl rfl)
theorem dX1_whereTold_71 : decode cX1_whereTold 71 = .ok (.iaload, 1) := dk_46 (dk_at dksX1_whereTold_2 23 rfl rfl)
theorem dX1_whereTold_72 : decode cX1_whereTold 72 = .ok (.iconst 1, 1) := dk_4 (dk_at dksX1_whereTold_3 0 rfl rfl)
theorem dX1_whereTold_73 : decode cX1_whereTold 73 = .ok (.isub, 1) := dk_100 (dk_at dksX1_whereTold_3 1 rfl rfl)
theorem dX1_whereTold_74 : decode cX1_whereTold 74 = .ok (.invokestatic 228, 3) := dk_184 0 228 (dk_at dksX1_whereTold_3 2 rfl rfl)
theorem dX1_whereTold_77 : decode cX1_whereTold 77 = .ok (.iastore, 1) := dk_79 (dk_at dksX1_whereTold_3 5 rfl rfl)
theorem dX1_whereTold_78 : decode cX1_whereTold 78 = .ok (.aload_n 0, 1) := dk_42 (dk_at dksX1_whereTold_3 6 rfl rfl)
theorem dX1_whereTold_79 : decode cX1_whereTold 79 = .ok (.getfield 48, 3) := dk_180 0 48 (dk_at dksX1_whereTold_3 7 rfl rfl)
theorem dX1_whereTold_82 : decode cX1_whereTold 82 = .ok (.iload_n 1, 1) := dk_27 (dk_at dksX1_whereTold_3 10 rfl rfl)
theorem dX1_whereTold_83 : decode cX1_whereTold 83 = .ok (.iload_n 2, 1) := dk_28 (dk_at dksX1_whereTold_3 11 rfl rfl)
theorem dX1_whereTold_84 : decode cX1_whereTold 84 = .ok (.iload_n 3, 1) := dk_29 (dk_at dksX1_whereTold_3 12 rfl rfl)
theorem dX1_whereTold_85 : decode cX1_whereTold 85 = .ok (.invokevirtual 213, 3) := dk_182 0 213 (dk_at dksX1_whereTold_3 13 rfl rfl)
theorem dX1_whereTold_88 : decode cX1_whereTold 88 = .ok (.ireturn, 1) := dk_172 (dk_at dksX1_whereTold_3 16 rfl rfl)
abbrev cX1_odds : ByteArray := prog_1_method_54_code
def yX1_odds : MethodName := ⟨RX1, "odds", "(IIII)J"⟩
def dkwX1_odds_2 : List UInt8 := [184, 1, 45, 173]
abbrev dktX1_odds_2 : List UInt8 := dkwX1_odds_2 ++ []
def dkwX1_odds_1 : List UInt8 := [20, 1, 35, 173, 42, 180, 0, 105, 27, 28, 29, 182, 0, 213, 133, 42, 28, 182, 1, 57, 133, 21, 4]
abbrev dktX1_odds_1 : List UInt8 := dkwX1_odds_1 ++ dktX1_odds_2
def dkwX1_odds_0 : List UInt8 := [42, 180, 0, 105, 27, 28, 29, 182, 0, 82, 153, 0, 13, 21, 4, 3, 4, 184, 0, 30, 154, 0, 7]
abbrev dktX1_odds_0 : List UInt8 := dkwX1_odds_0 ++ dktX1_odds_1
theorem dksX1_odds_0 : cX1_odds.data.toList.drop 0 = dktX1_odds_0 := by decide +kernel
theorem dksX1_odds_1 : cX1_odds.data.toList.drop 23 = dktX1_odds_1 := dk_seg dksX1_odds_0 23 rfl rfl
theorem dksX1_odds_2 : cX1_odds.data.toList.drop 46 = dktX1_odds_2 := dk_seg dksX1_odds_1 23 rfl rfl
theorem dX1_odds_0 : decode cX1_odds 0 = .ok (.aload_n 0, 1) := dk_42 (dk_at dksX1_odds_0 0 rfl rfl)
theorem dX1_odds_1 : decode cX1_odds 1 = .ok (.getfield 105, 3) := dk_180 0 105 (dk_at dksX1_odds_0 1 rfl rfl)
theorem dX1_odds_4 : decode cX1_odds 4 = .ok (.iload_n 1, 1) := dk_27 (dk_at dksX1_odds_0 4 rfl rfl)
theorem dX1_odds_5 : decode cX1_odds 5 = .ok (.iload_n 2, 1) := dk_28 (dk_at dksX1_odds_0 5 rfl rfl)
theorem dX1_odds_6 : decode cX1_odds 6 = .ok (.iload_n 3, 1) := dk_29 (dk_at dksX1_odds_0 6 rfl rfl)
theorem dX1_odds_7 : decode cX1_odds 7 = .ok (.invokevirtual 82, 3) := dk_182 0 82 (dk_at dksX1_odds_0 7 rfl rfl)
theorem dX1_odds_10 : decode cX1_odds 10 = .ok (.ifCond .eq 13, 3) := dk_153 0 13 (dk_at dksX1_odds_0 10 rfl rfl)
theorem dX1_odds_13 : decode cX1_odds 13 = .ok (.iload 4, 2) := dk_21 4 (dk_at dksX1_odds_0 13 rfl rfl)
theorem dX1_odds_15 : decode cX1_odds 15 = .ok (.iconst 0, 1) := dk_3 (dk_at dksX1_odds_0 15 rfl rfl)
theorem dX1_odds_16 : decode cX1_odds 16 = .ok (.iconst 1, 1) := dk_4 (dk_at dksX1_odds_0 16 rfl rfl)
theorem dX1_odds_17 : decode cX1_odds 17 = .ok (.invokestatic 30, 3) := dk_184 0 30 (dk_at dksX1_odds_0 17 rfl rfl)
theorem dX1_odds_20 : decode cX1_odds 20 = .ok (.ifCond .ne 7, 3) := dk_154 0 7 (dk_at dksX1_odds_0 20 rfl rfl)
theorem dX1_odds_23 : decode cX1_odds 23 = .ok (.ldc2_w 291, 3) := dk_20 1 35 (dk_at dksX1_odds_1 0 rfl rfl)
theorem dX1_odds_26 : decode cX1_odds 26 = .ok (.lreturn, 1) := dk_173 (dk_at dksX1_odds_1 3 rfl rfl)
theorem dX1_odds_27 : decode cX1_odds 27 = .ok (.aload_n 0, 1) := dk_42 (dk_at dksX1_odds_1 4 rfl rfl)
theorem dX1_odds_28 : decode cX1_odds 28 = .ok (.getfield 105, 3) := dk_180 0 105 (dk_at dksX1_odds_1 5 rfl rfl)
theorem dX1_odds_31 : decode cX1_odds 31 = .ok (.iload_n 1, 1) := dk_27 (dk_at dksX1_odds_1 8 rfl rfl)
theorem dX1_odds_32 : decode cX1_odds 32 = .ok (.iload_n 2, 1) := dk_28 (dk_at dksX1_odds_1 9 rfl rfl)
theorem dX1_odds_33 : decode cX1_odds 33 = .ok (.iload_n 3, 1) := dk_29 (dk_at dksX1_odds_1 10 rfl rfl)
theorem dX1_odds_34 : decode cX1_odds 34 = .ok (.invokevirtual 213, 3) := dk_182 0 213 (dk_at dksX1_odds_1 11 rfl rfl)
theorem dX1_odds_37 : decode cX1_odds 37 = .ok (.i2l, 1) := dk_133 (dk_at dksX1_odds_1 14 rfl rfl)
theorem dX1_odds_38 : decode cX1_odds 38 = .ok (.aload_n 0, 1) := dk_42 (dk_at dksX1_odds_1 15 rfl rfl)
theorem dX1_odds_39 : decode cX1_odds 39 = .ok (.iload_n 2, 1) := dk_28 (dk_at dksX1_odds_1 16 rfl rfl)
theorem dX1_odds_40 : decode cX1_odds 40 = .ok (.invokevirtual 313, 3) := dk_182 1 57 (dk_at dksX1_odds_1 17 rfl rfl)
theorem dX1_odds_43 : decode cX1_odds 43 = .ok (.i2l, 1) := dk_133 (dk_at dksX1_odds_1 20 rfl rfl)
theorem dX1_odds_44 : decode cX1_odds 44 = .ok (.iload 4, 2) := dk_21 4 (dk_at dksX1_odds_1 21 rfl rfl)
theorem dX1_odds_46 : decode cX1_odds 46 = .ok (.invokestatic 301, 3) := dk_184 1 45 (dk_at dksX1_odds_2 0 rfl rfl)
theorem dX1_odds_49 : decode cX1_odds 49 = .ok (.lreturn, 1) := dk_173 (dk_at dksX1_odds_2 3 rfl rfl)
abbrev cX1_allTries : ByteArray := prog_1_method_53_code
def yX1_allTries : MethodName := ⟨RX1, "allTries", "(I)I"⟩
def dkwX1_allTries_0 : List UInt8 := [42, 180, 0, 105, 180, 0, 166, 27, 46, 4, 96, 16, 61, 104, 172]
abbrev dktX1_allTries_0 : List UInt8 := dkwX1_allTries_0 ++ []
theorem dksX1_allTries_0 : cX1_allTries.data.toList.drop 0 = dktX1_allTries_0 := by decide +kernel
theorem dX1_allTries_0 : decode cX1_allTries 0 = .ok (.aload_n 0, 1) := dk_42 (dk_at dksX1_allTries_0 0 rfl rfl)
theorem dX1_allTries_1 : decode cX1_allTries 1 = .ok (.getfield 105, 3) := dk_180 0 105 (dk_at dksX1_allTries_0 1 rfl rfl)
theorem dX1_allTries_4 : decode cX1_allTries 4 = .ok (.getfield 166, 3) := dk_180 0 166 (dk_at dksX1_allTries_0 4 rfl rfl)
theorem dX1_allTries_7 : decode cX1_allTries 7 = .ok (.iload_n 1, 1) := dk_27 (dk_at dksX1_allTries_0 7 rfl rfl)
theorem dX1_allTries_8 : decode cX1_allTries 8 = .ok (.iaload, 1) := dk_46 (dk_at dksX1_allTries_0 8 rfl rfl)
theorem dX1_allTries_9 : decode cX1_allTries 9 = .ok (.iconst 1, 1) := dk_4 (dk_at dksX1_allTries_0 9 rfl rfl)
theorem dX1_allTries_10 : decode cX1_allTries 10 = .ok (.iadd, 1) := dk_96 (dk_at dksX1_allTries_0 10 rfl rfl)
theorem dX1_allTries_11 : decode cX1_allTries 11 = .ok (.bipush 61, 2) := dk_16 61 (dk_at dksX1_allTries_0 11 rfl rfl)
theorem dX1_allTries_13 : decode cX1_allTries 13 = .ok (.imul, 1) := dk_104 (dk_at dksX1_allTries_0 13 rfl rfl)
theorem dX1_allTries_14 : decode cX1_allTries 14 = .ok (.ireturn, 1) := dk_172 (dk_at dksX1_allTries_0 14 rfl rfl)
abbrev cX1_enough : ByteArray := prog_1_method_55_code
def yX1_enough : MethodName := ⟨RX1, "enough", "(III)I"⟩
def dkwX1_enough_2 : List UInt8 := [21, 4, 172, 132, 4, 1, 167, 255, 222, 16, 252, 172]
abbrev dktX1_enough_2 : List UInt8 := dkwX1_enough_2 ++ []
def dkwX1_enough_1 : List UInt8 := [163, 0, 33, 21, 4, 42, 180, 0, 105, 27, 28, 29, 182, 0, 213, 104, 42, 28, 182, 1, 57, 161, 0, 6]
abbrev dktX1_enough_1 : List UInt8 := dkwX1_enough_1 ++ dktX1_enough_2
def dkwX1_enough_0 : List UInt8 := [42, 180, 0, 105, 27, 28, 29, 182, 0, 82, 154, 0, 5, 2, 172, 4, 54, 4, 21, 4, 16, 50]
abbrev dktX1_enough_0 : List UInt8 := dkwX1_enough_0 ++ dktX1_enough_1
theorem dksX1_enough_0 : cX1_enough.data.toList.drop 0 = dktX1_enough_0 := by decide +kernel
theorem dksX1_enough_1 : cX1_enough.data.toList.drop 22 = dktX1_enough_1 := dk_seg dksX1_enough_0 22 rfl rfl
theorem dksX1_enough_2 : cX1_enough.data.toList.drop 46 = dktX1_enough_2 := dk_seg dksX1_enough_1 24 rfl rfl
theorem dX1_enough_0 : decode cX1_enough 0 = .ok (.aload_n 0, 1) := dk_42 (dk_at dksX1_enough_0 0 rfl rfl)
theorem dX1_enough_1 : decode cX1_enough 1 = .ok (.getfield 105, 3) := dk_180 0 105 (dk_at dksX1_enough_0 1 rfl rfl)
theorem dX1_enough_4 : decode cX1_enough 4 = .ok (.iload_n 1, 1) := dk_27 (dk_at dksX1_enough_0 4 rfl rfl)
theorem dX1_enough_5 : decode cX1_enough 5 = .ok (.iload_n 2, 1) := dk_28 (dk_at dksX1_enough_0 5 rfl rfl)
theorem dX1_enough_6 : decode cX1_enough 6 = .ok (.iload_n 3, 1) := dk_29 (dk_at dksX1_enough_0 6 rfl rfl)
theorem dX1_enough_7 : decode cX1_enough 7 = .ok (.invokevirtual 82, 3) := dk_182 0 82 (dk_at dksX1_enough_0 7 rfl rfl)
theorem dX1_enough_10 : decode cX1_enough 10 = .ok (.ifCond .ne 5, 3) := dk_154 0 5 (dk_at dksX1_enough_0 10 rfl rfl)
theorem dX1_enough_13 : decode cX1_enough 13 = .ok (.iconst (-1), 1) := dk_2 (dk_at dksX1_enough_0 13 rfl rfl)
theorem dX1_enough_14 : decode cX1_enough 14 = .ok (.ireturn, 1) := dk_172 (dk_at dksX1_enough_0 14 rfl rfl)
theorem dX1_enough_15 : decode cX1_enough 15 = .ok (.iconst 1, 1) := dk_4 (dk_at dksX1_enough_0 15 rfl rfl)
theorem dX1_enough_16 : decode cX1_enough 16 = .ok (.istore 4, 2) := dk_54 4 (dk_at dksX1_enough_0 16 rfl rfl)
theorem dX1_enough_18 : decode cX1_enough 18 = .ok (.iload 4, 2) := dk_21 4 (dk_at dksX1_enough_0 18 rfl rfl)
theorem dX1_enough_20 : decode cX1_enough 20 = .ok (.bipush 50, 2) := dk_16 50 (dk_at dksX1_enough_0 20 rfl rfl)
theorem dX1_enough_22 : decode cX1_enough 22 = .ok (.if_icmp .gt 33, 3) := dk_163 0 33 (dk_at dksX1_enough_1 0 rfl rfl)
theorem dX1_enough_25 : decode cX1_enough 25 = .ok (.iload 4, 2) := dk_21 4 (dk_at dksX1_enough_1 3 rfl rfl)
theorem dX1_enough_27 : decode cX1_enough 27 = .ok (.aload_n 0, 1) := dk_42 (dk_at dksX1_enough_1 5 rfl rfl)
theorem dX1_enough_28 : decode cX1_enough 28 = .ok (.getfield 105, 3) := dk_180 0 105 (dk_at dksX1_enough_1 6 rfl rfl)
theorem dX1_enough_31 : decode cX1_enough 31 = .ok (.iload_n 1, 1) := dk_27 (dk_at dksX1_enough_1 9 rfl rfl)
theorem dX1_enough_32 : decode cX1_enough 32 = .ok (.iload_n 2, 1) := dk_28 (dk_at dksX1_enough_1 10 rfl rfl)
theorem dX1_enough_33 : decode cX1_enough 33 = .ok (.iload_n 3, 1) := dk_29 (dk_at dksX1_enough_1 11 rfl rfl)
theorem dX1_enough_34 : decode cX1_enough 34 = .ok (.invokevirtual 213, 3) := dk_182 0 213 (dk_at dksX1_enough_1 12 rfl rfl)
theorem dX1_enough_37 : decode cX1_enough 37 = .ok (.imul, 1) := dk_104 (dk_at dksX1_enough_1 15 rfl rfl)
theorem dX1_enough_38 : decode cX1_enough 38 = .ok (.aload_n 0, 1) := dk_42 (dk_at dksX1_enough_1 16 rfl rfl)
theorem dX1_enough_39 : decode cX1_enough 39 = .ok (.iload_n 2, 1) := dk_28 (dk_at dksX1_enough_1 17 rfl rfl)
theorem dX1_enough_40 : decode cX1_enough 40 = .ok (.invokevirtual 313, 3) := dk_182 1 57 (dk_at dksX1_enough_1 18 rfl rfl)
theorem dX1_enough_43 : decode cX1_enough 43 = .ok (.if_icmp .lt 6, 3) := dk_161 0 6 (dk_at dksX1_enough_1 21 rfl rfl)
theorem dX1_enough_46 : decode cX1_enough 46 = .ok (.iload 4, 2) := dk_21 4 (dk_at dksX1_enough_2 0 rfl rfl)
theorem dX1_enough_48 : decode cX1_enough 48 = .ok (.ireturn, 1) := dk_172 (dk_at dksX1_enough_2 2 rfl rfl)
theorem dX1_enough_49 : decode cX1_enough 49 = .ok (.iinc 4 1, 3) := dk_132 4 1 (dk_at dksX1_enough_2 3 rfl rfl)
theorem dX1_enough_52 : decode cX1_enough 52 = .ok (.goto (-34), 3) := dk_167 255 222 (dk_at dksX1_enough_2 6 rfl rfl)
theorem dX1_enough_55 : decode cX1_enough 55 = .ok (.bipush (-4), 2) := dk_16 252 (dk_at dksX1_enough_2 9 rfl rfl)
theorem dX1_enough_57 : decode cX1_enough 57 = .ok (.ireturn, 1) := dk_172 (dk_at dksX1_enough_2 11 rfl rfl)
abbrev cX1_heap : ByteArray := prog_1_method_64_code
def yX1_heap : MethodName := ⟨RX1, "heap", "(III)I"⟩
def dkwX1_heap_6 : List UInt8 := [21, 6, 167, 0, 5, 21, 7, 172]
abbrev dktX1_heap_6 : List UInt8 := dkwX1_heap_6 ++ []
def dkwX1_heap_5 : List UInt8 := [167, 0, 4, 3, 96, 54, 6, 42, 180, 1, 81, 54, 7, 132, 8, 255, 167, 255, 208, 29, 154, 0, 8]
abbrev dktX1_heap_5 : List UInt8 := dkwX1_heap_5 ++ dktX1_heap_6
def dkwX1_heap_4 : List UInt8 := [180, 0, 105, 180, 0, 172, 27, 50, 25, 5, 21, 8, 184, 1, 70, 182, 1, 87, 4, 160, 0, 7, 4]
abbrev dktX1_heap_4 : List UInt8 := dkwX1_heap_4 ++ dktX1_heap_5
def dkwX1_heap_3 : List UInt8 := [16, 252, 54, 7, 25, 5, 184, 1, 84, 4, 100, 54, 8, 21, 8, 155, 0, 49, 21, 6, 42, 42]
abbrev dktX1_heap_3 : List UInt8 := dkwX1_heap_3 ++ dktX1_heap_4
def dkwX1_heap_2 : List UInt8 := [42, 25, 5, 42, 180, 0, 105, 180, 0, 172, 27, 50, 182, 1, 94, 155, 0, 6, 16, 252, 172, 3, 54, 6]
abbrev dktX1_heap_2 : List UInt8 := dkwX1_heap_2 ++ dktX1_heap_3
def dkwX1_heap_1 : List UInt8 := [182, 1, 91, 54, 4, 21, 4, 153, 0, 6, 21, 4, 172, 42, 180, 0, 124, 28, 50, 180, 0, 128, 58, 5]
abbrev dktX1_heap_1 : List UInt8 := dkwX1_heap_1 ++ dktX1_heap_2
def dkwX1_heap_0 : List UInt8 := [42, 180, 0, 105, 27, 182, 0, 169, 153, 0, 12, 29, 3, 4, 184, 0, 30, 154, 0, 5, 2, 172, 42, 28]
abbrev dktX1_heap_0 : List UInt8 := dkwX1_heap_0 ++ dktX1_heap_1
theorem dksX1_heap_0 : cX1_heap.data.toList.drop 0 = dktX1_heap_0 := by decide +kernel
theorem dksX1_heap_1 : cX1_heap.data.toList.drop 24 = dktX1_heap_1 := dk_seg dksX1_heap_0 24 rfl rfl
theorem dksX1_heap_2 : cX1_heap.data.toList.drop 48 = dktX1_heap_2 := dk_seg dksX1_heap_1 24 rfl rfl
theorem dksX1_heap_3 : cX1_heap.data.toList.drop 72 = dktX1_heap_3 := dk_seg dksX1_heap_2 24 rfl rfl
theorem dksX1_heap_4 : cX1_heap.data.toList.drop 94 = dktX1_heap_4 := dk_seg dksX1_heap_3 22 rfl rfl
theorem dksX1_heap_5 : cX1_heap.data.toList.drop 117 = dktX1_heap_5 := dk_seg dksX1_heap_4 23 rfl rfl
theorem dksX1_heap_6 : cX1_heap.data.toList.drop 140 = dktX1_heap_6 := dk_seg dksX1_heap_5 23 rfl rfl
theorem dX1_heap_0 : decode cX1_heap 0 = .ok (.aload_n 0, 1) := dk_42 (dk_at dksX1_heap_0 0 rfl rfl)
theorem dX1_heap_1 : decode cX1_heap 1 = .ok (.getfield 105, 3) := dk_180 0 105 (dk_at dksX1_heap_0 1 rfl rfl)
theorem dX1_heap_4 : decode cX1_heap 4 = .ok (.iload_n 1, 1) := dk_27 (dk_at dksX1_heap_0 4 rfl rfl)
theorem dX1_heap_5 : decode cX1_heap 5 = .ok (.invokevirtual 169, 3) := dk_182 0 169 (dk_at dksX1_heap_0 5 rfl rfl)
theorem dX1_heap_8 : decode cX1_heap 8 = .ok (.ifCond .eq 12, 3) := dk_153 0 12 (dk_at dksX1_heap_0 8 rfl rfl)
theorem dX1_heap_11 : decode cX1_heap 11 = .ok (.iload_n 3, 1) := dk_29 (dk_at dksX1_heap_0 11 rfl rfl)
theorem dX1_heap_12 : decode cX1_heap 12 = .ok (.iconst 0, 1) := dk_3 (dk_at dksX1_heap_0 12 rfl rfl)
theorem dX1_heap_13 : decode cX1_heap 13 = .ok (.iconst 1, 1) := dk_4 (dk_at dksX1_heap_0 13 rfl rfl)
theorem dX1_heap_14 : decode cX1_heap 14 = .ok (.invokestatic 30, 3) := dk_184 0 30 (dk_at dksX1_heap_0 14 rfl rfl)
theorem dX1_heap_17 : decode cX1_heap 17 = .ok (.ifCond .ne 5, 3) := dk_154 0 5 (dk_at dksX1_heap_0 17 rfl rfl)
theorem dX1_heap_20 : decode cX1_heap 20 = .ok (.iconst (-1), 1) := dk_2 (dk_at dksX1_heap_0 20 rfl rfl)
theorem dX1_heap_21 : decode cX1_heap 21 = .ok (.ireturn, 1) := dk_172 (dk_at dksX1_heap_0 21 rfl rfl)
theorem dX1_heap_22 : decode cX1_heap 22 = .ok (.aload_n 0, 1) := dk_42 (dk_at dksX1_heap_0 22 rfl rfl)
theorem dX1_heap_23 : decode cX1_heap 23 = .ok (.iload_n 2, 1) := dk_28 (dk_at dksX1_heap_0 23 rfl rfl)
theorem dX1_heap_24 : decode cX1_heap 24 = .ok (.invokevirtual 347, 3) := dk_182 1 91 (dk_at dksX1_heap_1 0 rfl rfl)
theorem dX1_heap_27 : decode cX1_heap 27 = .ok (.istore 4, 2) := dk_54 4 (dk_at dksX1_heap_1 3 rfl rfl)
theorem dX1_heap_29 : decode cX1_heap 29 = .ok (.iload 4, 2) := dk_21 4 (dk_at dksX1_heap_1 5 rfl rfl)
theorem dX1_heap_31 : decode cX1_heap 31 = .ok (.ifCond .eq 6, 3) := dk_153 0 6 (dk_at dksX1_heap_1 7 rfl rfl)
theorem dX1_heap_34 : decode cX1_heap 34 = .ok (.iload 4, 2) := dk_21 4 (dk_at dksX1_heap_1 10 rfl rfl)
theorem dX1_heap_36 : decode cX1_heap 36 = .ok (.ireturn, 1) := dk_172 (dk_at dksX1_heap_1 12 rfl rfl)
theorem dX1_heap_37 : decode cX1_heap 37 = .ok (.aload_n 0, 1) := dk_42 (dk_at dksX1_heap_1 13 rfl rfl)
theorem dX1_heap_38 : decode cX1_heap 38 = .ok (.getfield 124, 3) := dk_180 0 124 (dk_at dksX1_heap_1 14 rfl rfl)
theorem dX1_heap_41 : decode cX1_heap 41 = .ok (.iload_n 2, 1) := dk_28 (dk_at dksX1_heap_1 17 rfl rfl)
theorem dX1_heap_42 : decode cX1_heap 42 = .ok (.aaload, 1) := dk_50 (dk_at dksX1_heap_1 18 rfl rfl)
theorem dX1_heap_43 : decode cX1_heap 43 = .ok (.getfield 128, 3) := dk_180 0 128 (dk_at dksX1_heap_1 19 rfl rfl)
theorem dX1_heap_46 : decode cX1_heap 46 = .ok (.astore 5, 2) := dk_58 5 (dk_at dksX1_heap_1 22 rfl rfl)
theorem dX1_heap_48 : decode cX1_heap 48 = .ok (.aload_n 0, 1) := dk_42 (dk_at dksX1_heap_2 0 rfl rfl)
theorem dX1_heap_49 : decode cX1_heap 49 = .ok (.aload 5, 2) := dk_25 5 (dk_at dksX1_heap_2 1 rfl rfl)
theorem dX1_heap_51 : decode cX1_heap 51 = .ok (.aload_n 0, 1) := dk_42 (dk_at dksX1_heap_2 3 rfl rfl)
theorem dX1_heap_52 : decode cX1_heap 52 = .ok (.getfield 105, 3) := dk_180 0 105 (dk_at dksX1_heap_2 4 rfl rfl)
theorem dX1_heap_55 : decode cX1_heap 55 = .ok (.getfield 172, 3) := dk_180 0 172 (dk_at dksX1_heap_2 7 rfl rfl)
theorem dX1_heap_58 : decode cX1_heap 58 = .ok (.iload_n 1, 1) := dk_27 (dk_at dksX1_heap_2 10 rfl rfl)
theorem dX1_heap_59 : decode cX1_heap 59 = .ok (.aaload, 1) := dk_50 (dk_at dksX1_heap_2 11 rfl rfl)
theorem dX1_heap_60 : decode cX1_heap 60 = .ok (.invokevirtual 350, 3) := dk_182 1 94 (dk_at dksX1_heap_2 12 rfl rfl)
theorem dX1_heap_63 : decode cX1_heap 63 = .ok (.ifCond .lt 6, 3) := dk_155 0 6 (dk_at dksX1_heap_2 15 rfl rfl)
theorem dX1_heap_66 : decode cX1_heap 66 = .ok (.bipush (-4), 2) := dk_16 252 (dk_at dksX1_heap_2 18 rfl rfl)
theorem dX1_heap_68 : decode cX1_heap 68 = .ok (.ireturn, 1) := dk_172 (dk_at dksX1_heap_2 20 rfl rfl)
theorem dX1_heap_69 : decode cX1_heap 69 = .ok (.iconst 0, 1) := dk_3 (dk_at dksX1_heap_2 21 rfl rfl)
theorem dX1_heap_70 : decode cX1_heap 70 = .ok (.istore 6, 2) := dk_54 6 (dk_at dksX1_heap_2 22 rfl rfl)
theorem dX1_heap_72 : decode cX1_heap 72 = .ok (.bipush (-4), 2) := dk_16 252 (dk_at dksX1_heap_3 0 rfl rfl)
theorem dX1_heap_74 : decode cX1_heap 74 = .ok (.istore 7, 2) := dk_54 7 (dk_at dksX1_heap_3 2 rfl rfl)
theorem dX1_heap_76 : decode cX1_heap 76 = .ok (.aload 5, 2) := dk_25 5 (dk_at dksX1_heap_3 4 rfl rfl)
theorem dX1_heap_78 : decode cX1_heap 78 = .ok (.invokestatic 340, 3) := dk_184 1 84 (dk_at dksX1_heap_3 6 rfl rfl)
theorem dX1_heap_81 : decode cX1_heap 81 = .ok (.iconst 1, 1) := dk_4 (dk_at dksX1_heap_3 9 rfl rfl)
theorem dX1_heap_82 : decode cX1_heap 82 = .ok (.isub, 1) := dk_100 (dk_at dksX1_heap_3 10 rfl rfl)
theorem dX1_heap_83 : decode cX1_heap 83 = .ok (.istore 8, 2) := dk_54 8 (dk_at dksX1_heap_3 11 rfl rfl)
theorem dX1_heap_85 : decode cX1_heap 85 = .ok (.iload 8, 2) := dk_21 8 (dk_at dksX1_heap_3 13 rfl rfl)
theorem dX1_heap_87 : decode cX1_heap 87 = .ok (.ifCond .lt 49, 3) := dk_155 0 49 (dk_at dksX1_heap_3 15 rfl rfl)
theorem dX1_heap_90 : decode cX1_heap 90 = .ok (.iload 6, 2) := dk_21 6 (dk_at dksX1_heap_3 18 rfl rfl)
theorem dX1_heap_92 : decode cX1_heap 92 = .ok (.aload_n 0, 1) := dk_42 (dk_at dksX1_heap_3 20 rfl rfl)
theorem dX1_heap_93 : decode cX1_heap 93 = .ok (.aload_n 0, 1) := dk_42 (dk_at dksX1_heap_3 21 rfl rfl)
theorem dX1_heap_94 : decode cX1_heap 94 = .ok (.getfield 105, 3) := dk_180 0 105 (dk_at dksX1_heap_4 0 rfl rfl)
theorem dX1_heap_97 : decode cX1_heap 97 = .ok (.getfield 172, 3) := dk_180 0 172 (dk_at dksX1_heap_4 3 rfl rfl)
theorem dX1_heap_100 : decode cX1_heap 100 = .ok (.iload_n 1, 1) := dk_27 (dk_at dksX1_heap_4 6 rfl rfl)
theorem dX1_heap_101 : decode cX1_heap 101 = .ok (.aaload, 1) := dk_50 (dk_at dksX1_heap_4 7 rfl rfl)
theorem dX1_heap_102 : decode cX1_heap 102 = .ok (.aload 5, 2) := dk_25 5 (dk_at dksX1_heap_4 8 rfl rfl)
theorem dX1_heap_104 : decode cX1_heap 104 = .ok (.iload 8, 2) := dk_21 8 (dk_at dksX1_heap_4 10 rfl rfl)
theorem dX1_heap_106 : decode cX1_heap 106 = .ok (.invokestatic 326, 3) := dk_184 1 70 (dk_at dksX1_heap_4 12 rfl rfl)
theorem dX1_heap_109 : decode cX1_heap 109 = .ok (.invokevirtual 343, 3) := dk_182 1 87 (dk_at dksX1_heap_4 15 rfl rfl)
theorem dX1_heap_112 : decode cX1_heap 112 = .ok (.iconst 1, 1) := dk_4 (dk_at dksX1_heap_4 18 rfl rfl)
theorem dX1_heap_113 : decode cX1_heap 113 = .ok (.if_icmp .ne 7, 3) := dk_160 0 7 (dk_at dksX1_heap_4 19 rfl rfl)
theorem dX1_heap_116 : decode cX1_heap 116 = .ok (.iconst 1, 1) := dk_4 (dk_at dksX1_heap_4 22 rfl rfl)
theorem dX1_heap_117 : decode cX1_heap 117 = .ok (.goto 4, 3) := dk_167 0 4 (dk_at dksX1_heap_5 0 rfl rfl)
theorem dX1_heap_120 : decode cX1_heap 120 = .ok (.iconst 0, 1) := dk_3 (dk_at dksX1_heap_5 3 rfl rfl)
theorem dX1_heap_121 : decode cX1_heap 121 = .ok (.iadd, 1) := dk_96 (dk_at dksX1_heap_5 4 rfl rfl)
theorem dX1_heap_122 : decode cX1_heap 122 = .ok (.istore 6, 2) := dk_54 6 (dk_at dksX1_heap_5 5 rfl rfl)
theorem dX1_heap_124 : decode cX1_heap 124 = .ok (.aload_n 0, 1) := dk_42 (dk_at dksX1_heap_5 7 rfl rfl)
theorem dX1_heap_125 : decode cX1_heap 125 = .ok (.getfield 337, 3) := dk_180 1 81 (dk_at dksX1_heap_5 8 rfl rfl)
theorem dX1_heap_128 : decode cX1_heap 128 = .ok (.istore 7, 2) := dk_54 7 (dk_at dksX1_heap_5 11 rfl rfl)
theorem dX1_heap_130 : decode cX1_heap 130 = .ok (.iinc 8 (-1), 3) := dk_132 8 255 (dk_at dksX1_heap_5 13 rfl rfl)
theorem dX1_heap_133 : decode cX1_heap 133 = .ok (.goto (-48), 3) := dk_167 255 208 (dk_at dksX1_heap_5 16 rfl rfl)
theorem dX1_heap_136 : decode cX1_heap 136 = .ok (.iload_n 3, 1) := dk_29 (dk_at dksX1_heap_5 19 rfl rfl)
theorem dX1_heap_137 : decode cX1_heap 137 = .ok (.ifCond .ne 8, 3) := dk_154 0 8 (dk_at dksX1_heap_5 20 rfl rfl)
theorem dX1_heap_140 : decode cX1_heap 140 = .ok (.iload 6, 2) := dk_21 6 (dk_at dksX1_heap_6 0 rfl rfl)
theorem dX1_heap_142 : decode cX1_heap 142 = .ok (.goto 5, 3) := dk_167 0 5 (dk_at dksX1_heap_6 2 rfl rfl)
theorem dX1_heap_145 : decode cX1_heap 145 = .ok (.iload 7, 2) := dk_21 7 (dk_at dksX1_heap_6 5 rfl rfl)
theorem dX1_heap_147 : decode cX1_heap 147 = .ok (.ireturn, 1) := dk_172 (dk_at dksX1_heap_6 7 rfl rfl)
abbrev cX1_notRow : ByteArray := prog_1_method_61_code
def yX1_notRow : MethodName := ⟨RX1, "notRow", "(I)I"⟩
def dkwX1_notRow_1 : List UInt8 := [16, 245, 167, 0, 17, 44, 184, 1, 78, 2, 160, 0, 8, 16, 244, 167, 0, 4, 3, 172]
abbrev dktX1_notRow_1 : List UInt8 := dkwX1_notRow_1 ++ []
def dkwX1_notRow_0 : List UInt8 := [42, 27, 182, 0, 121, 154, 0, 5, 2, 172, 42, 180, 0, 124, 27, 50, 180, 0, 128, 77, 44, 199, 0, 8]
abbrev dktX1_notRow_0 : List UInt8 := dkwX1_notRow_0 ++ dktX1_notRow_1
theorem dksX1_notRow_0 : cX1_notRow.data.toList.drop 0 = dktX1_notRow_0 := by decide +kernel
theorem dksX1_notRow_1 : cX1_notRow.data.toList.drop 24 = dktX1_notRow_1 := dk_seg dksX1_notRow_0 24 rfl rfl
theorem dX1_notRow_0 : decode cX1_notRow 0 = .ok (.aload_n 0, 1) := dk_42 (dk_at dksX1_notRow_0 0 rfl rfl)
theorem dX1_notRow_1 : decode cX1_notRow 1 = .ok (.iload_n 1, 1) := dk_27 (dk_at dksX1_notRow_0 1 rfl rfl)
theorem dX1_notRow_2 : decode cX1_notRow 2 = .ok (.invokevirtual 121, 3) := dk_182 0 121 (dk_at dksX1_notRow_0 2 rfl rfl)
theorem dX1_notRow_5 : decode cX1_notRow 5 = .ok (.ifCond .ne 5, 3) := dk_154 0 5 (dk_at dksX1_notRow_0 5 rfl rfl)
theorem dX1_notRow_8 : decode cX1_notRow 8 = .ok (.iconst (-1), 1) := dk_2 (dk_at dksX1_notRow_0 8 rfl rfl)
theorem dX1_notRow_9 : decode cX1_notRow 9 = .ok (.ireturn, 1) := dk_172 (dk_at dksX1_notRow_0 9 rfl rfl)
theorem dX1_notRow_10 : decode cX1_notRow 10 = .ok (.aload_n 0, 1) := dk_42 (dk_at dksX1_notRow_0 10 rfl rfl)
theorem dX1_notRow_11 : decode cX1_notRow 11 = .ok (.getfield 124, 3) := dk_180 0 124 (dk_at dksX1_notRow_0 11 rfl rfl)
theorem dX1_notRow_14 : decode cX1_notRow 14 = .ok (.iload_n 1, 1) := dk_27 (dk_at dksX1_notRow_0 14 rfl rfl)
theorem dX1_notRow_15 : decode cX1_notRow 15 = .ok (.aaload, 1) := dk_50 (dk_at dksX1_notRow_0 15 rfl rfl)
theorem dX1_notRow_16 : decode cX1_notRow 16 = .ok (.getfield 128, 3) := dk_180 0 128 (dk_at dksX1_notRow_0 16 rfl rfl)
theorem dX1_notRow_19 : decode cX1_notRow 19 = .ok (.astore_n 2, 1) := dk_77 (dk_at dksX1_notRow_0 19 rfl rfl)
theorem dX1_notRow_20 : decode cX1_notRow 20 = .ok (.aload_n 2, 1) := dk_44 (dk_at dksX1_notRow_0 20 rfl rfl)
theorem dX1_notRow_21 : decode cX1_notRow 21 = .ok (.ifnonnull 8, 3) := dk_199 0 8 (dk_at dksX1_notRow_0 21 rfl rfl)
theorem dX1_notRow_24 : decode cX1_notRow 24 = .ok (.bipush (-11), 2) := dk_16 245 (dk_at dksX1_notRow_1 0 rfl rfl)
theorem dX1_notRow_26 : decode cX1_notRow 26 = .ok (.goto 17, 3) := dk_167 0 17 (dk_at dksX1_notRow_1 2 rfl rfl)
theorem dX1_notRow_29 : decode cX1_notRow 29 = .ok (.aload_n 2, 1) := dk_44 (dk_at dksX1_notRow_1 5 rfl rfl)
theorem dX1_notRow_30 : decode cX1_notRow 30 = .ok (.invokestatic 334, 3) := dk_184 1 78 (dk_at dksX1_notRow_1 6 rfl rfl)
theorem dX1_notRow_33 : decode cX1_notRow 33 = .ok (.iconst (-1), 1) := dk_2 (dk_at dksX1_notRow_1 9 rfl rfl)
theorem dX1_notRow_34 : decode cX1_notRow 34 = .ok (.if_icmp .ne 8, 3) := dk_160 0 8 (dk_at dksX1_notRow_1 10 rfl rfl)
theorem dX1_notRow_37 : decode cX1_notRow 37 = .ok (.bipush (-12), 2) := dk_16 244 (dk_at dksX1_notRow_1 13 rfl rfl)
theorem dX1_notRow_39 : decode cX1_notRow 39 = .ok (.goto 4, 3) := dk_167 0 4 (dk_at dksX1_notRow_1 15 rfl rfl)
theorem dX1_notRow_42 : decode cX1_notRow 42 = .ok (.iconst 0, 1) := dk_3 (dk_at dksX1_notRow_1 18 rfl rfl)
theorem dX1_notRow_43 : decode cX1_notRow 43 = .ok (.ireturn, 1) := dk_172 (dk_at dksX1_notRow_1 19 rfl rfl)
abbrev cX1_sortOf : ByteArray := prog_1_method_59_code
def yX1_sortOf : MethodName := ⟨RX1, "sortOf", "(Ljava/lang/Object;)I"⟩
def dkwX1_sortOf_1 : List UInt8 := [193, 1, 62, 153, 0, 7, 5, 167, 0, 4, 2, 172]
abbrev dktX1_sortOf_1 : List UInt8 := dkwX1_sortOf_1 ++ []
def dkwX1_sortOf_0 : List UInt8 := [42, 193, 0, 134, 153, 0, 7, 3, 167, 0, 26, 42, 193, 1, 60, 153, 0, 7, 4, 167, 0, 15, 42]
abbrev dktX1_sortOf_0 : List UInt8 := dkwX1_sortOf_0 ++ dktX1_sortOf_1
theorem dksX1_sortOf_0 : cX1_sortOf.data.toList.drop 0 = dktX1_sortOf_0 := by decide +kernel
theorem dksX1_sortOf_1 : cX1_sortOf.data.toList.drop 23 = dktX1_sortOf_1 := dk_seg dksX1_sortOf_0 23 rfl rfl
theorem dX1_sortOf_0 : decode cX1_sortOf 0 = .ok (.aload_n 0, 1) := dk_42 (dk_at dksX1_sortOf_0 0 rfl rfl)
theorem dX1_sortOf_1 : decode cX1_sortOf 1 = .ok (.instanceof 134, 3) := dk_193 0 134 (dk_at dksX1_sortOf_0 1 rfl rfl)
theorem dX1_sortOf_4 : decode cX1_sortOf 4 = .ok (.ifCond .eq 7, 3) := dk_153 0 7 (dk_at dksX1_sortOf_0 4 rfl rfl)
theorem dX1_sortOf_7 : decode cX1_sortOf 7 = .ok (.iconst 0, 1) := dk_3 (dk_at dksX1_sortOf_0 7 rfl rfl)
theorem dX1_sortOf_8 : decode cX1_sortOf 8 = .ok (.goto 26, 3) := dk_167 0 26 (dk_at dksX1_sortOf_0 8 rfl rfl)
theorem dX1_sortOf_11 : decode cX1_sortOf 11 = .ok (.aload_n 0, 1) := dk_42 (dk_at dksX1_sortOf_0 11 rfl rfl)
theorem dX1_sortOf_12 : decode cX1_sortOf 12 = .ok (.instanceof 316, 3) := dk_193 1 60 (dk_at dksX1_sortOf_0 12 rfl rfl)
theorem dX1_sortOf_15 : decode cX1_sortOf 15 = .ok (.ifCond .eq 7, 3) := dk_153 0 7 (dk_at dksX1_sortOf_0 15 rfl rfl)
theorem dX1_sortOf_18 : decode cX1_sortOf 18 = .ok (.iconst 1, 1) := dk_4 (dk_at dksX1_sortOf_0 18 rfl rfl)
theorem dX1_sortOf_19 : decode cX1_sortOf 19 = .ok (.goto 15, 3) := dk_167 0 15 (dk_at dksX1_sortOf_0 19 rfl rfl)
theorem dX1_sortOf_22 : decode cX1_sortOf 22 = .ok (.aload_n 0, 1) := dk_42 (dk_at dksX1_sortOf_0 22 rfl rfl)
theorem dX1_sortOf_23 : decode cX1_sortOf 23 = .ok (.instanceof 318, 3) := dk_193 1 62 (dk_at dksX1_sortOf_1 0 rfl rfl)
theorem dX1_sortOf_26 : decode cX1_sortOf 26 = .ok (.ifCond .eq 7, 3) := dk_153 0 7 (dk_at dksX1_sortOf_1 3 rfl rfl)
theorem dX1_sortOf_29 : decode cX1_sortOf 29 = .ok (.iconst 2, 1) := dk_5 (dk_at dksX1_sortOf_1 6 rfl rfl)
theorem dX1_sortOf_30 : decode cX1_sortOf 30 = .ok (.goto 4, 3) := dk_167 0 4 (dk_at dksX1_sortOf_1 7 rfl rfl)
theorem dX1_sortOf_33 : decode cX1_sortOf 33 = .ok (.iconst (-1), 1) := dk_2 (dk_at dksX1_sortOf_1 10 rfl rfl)
theorem dX1_sortOf_34 : decode cX1_sortOf 34 = .ok (.ireturn, 1) := dk_172 (dk_at dksX1_sortOf_1 11 rfl rfl)
abbrev cX1_firstForged : ByteArray := prog_1_method_63_code
def yX1_firstForged : MethodName := ⟨RX1, "firstForged", "(Ljava/lang/Object;LBladeBetweenThumbs$Blow;)I"⟩
def dkwX1_firstForged_1 : List UInt8 := [172, 132, 3, 1, 167, 255, 230, 16, 252, 172]
abbrev dktX1_firstForged_1 : List UInt8 := dkwX1_firstForged_1 ++ []
def dkwX1_firstForged_0 : List UInt8 := [3, 62, 29, 43, 184, 1, 84, 162, 0, 24, 42, 44, 43, 29, 184, 1, 70, 182, 1, 87, 154, 0, 5, 29]
abbrev dktX1_firstForged_0 : List UInt8 := dkwX1_firstForged_0 ++ dktX1_firstForged_1
theorem dksX1_firstForged_0 : cX1_firstForged.data.toList.drop 0 = dktX1_firstForged_0 := by decide +kernel
theorem dksX1_firstForged_1 : cX1_firstForged.data.toList.drop 24 = dktX1_firstForged_1 := dk_seg dksX1_firstForged_0 24 rfl rfl
theorem dX1_firstForged_0 : decode cX1_firstForged 0 = .ok (.iconst 0, 1) := dk_3 (dk_at dksX1_firstForged_0 0 rfl rfl)
theorem dX1_firstForged_1 : decode cX1_firstForged 1 = .ok (.istore_n 3, 1) := dk_62 (dk_at dksX1_firstForged_0 1 rfl rfl)
theorem dX1_firstForged_2 : decode cX1_firstForged 2 = .ok (.iload_n 3, 1) := dk_29 (dk_at dksX1_firstForged_0 2 rfl rfl)
theorem dX1_firstForged_3 : decode cX1_firstForged 3 = .ok (.aload_n 1, 1) := dk_43 (dk_at dksX1_firstForged_0 3 rfl rfl)
theorem dX1_firstForged_4 : decode cX1_firstForged 4 = .ok (.invokestatic 340, 3) := dk_184 1 84 (dk_at dksX1_firstForged_0 4 rfl rfl)
theorem dX1_firstForged_7 : decode cX1_firstForged 7 = .ok (.if_icmp .ge 24, 3) := dk_162 0 24 (dk_at dksX1_firstForged_0 7 rfl rfl)
theorem dX1_firstForged_10 : decode cX1_firstForged 10 = .ok (.aload_n 0, 1) := dk_42 (dk_at dksX1_firstForged_0 10 rfl rfl)
theorem dX1_firstForged_11 : decode cX1_firstForged 11 = .ok (.aload_n 2, 1) := dk_44 (dk_at dksX1_firstForged_0 11 rfl rfl)
theorem dX1_firstForged_12 : decode cX1_firstForged 12 = .ok (.aload_n 1, 1) := dk_43 (dk_at dksX1_firstForged_0 12 rfl rfl)
theorem dX1_firstForged_13 : decode cX1_firstForged 13 = .ok (.iload_n 3, 1) := dk_29 (dk_at dksX1_firstForged_0 13 rfl rfl)
theorem dX1_firstForged_14 : decode cX1_firstForged 14 = .ok (.invokestatic 326, 3) := dk_184 1 70 (dk_at dksX1_firstForged_0 14 rfl rfl)
theorem dX1_firstForged_17 : decode cX1_firstForged 17 = .ok (.invokevirtual 343, 3) := dk_182 1 87 (dk_at dksX1_firstForged_0 17 rfl rfl)
theorem dX1_firstForged_20 : decode cX1_firstForged 20 = .ok (.ifCond .ne 5, 3) := dk_154 0 5 (dk_at dksX1_firstForged_0 20 rfl rfl)
theorem dX1_firstForged_23 : decode cX1_firstForged 23 = .ok (.iload_n 3, 1) := dk_29 (dk_at dksX1_firstForged_0 23 rfl rfl)
theorem dX1_firstForged_24 : decode cX1_firstForged 24 = .ok (.ireturn, 1) := dk_172 (dk_at dksX1_firstForged_1 0 rfl rfl)
theorem dX1_firstForged_25 : decode cX1_firstForged 25 = .ok (.iinc 3 1, 3) := dk_132 3 1 (dk_at dksX1_firstForged_1 1 rfl rfl)
theorem dX1_firstForged_28 : decode cX1_firstForged 28 = .ok (.goto (-26), 3) := dk_167 255 230 (dk_at dksX1_firstForged_1 4 rfl rfl)
theorem dX1_firstForged_31 : decode cX1_firstForged 31 = .ok (.bipush (-4), 2) := dk_16 252 (dk_at dksX1_firstForged_1 7 rfl rfl)
theorem dX1_firstForged_33 : decode cX1_firstForged 33 = .ok (.ireturn, 1) := dk_172 (dk_at dksX1_firstForged_1 9 rfl rfl)
abbrev cX1_sizeOf : ByteArray := prog_1_method_56_code
def yX1_sizeOf : MethodName := ⟨RX1, "sizeOf", "(Ljava/lang/Object;)I"⟩
def dkwX1_sizeOf_1 : List UInt8 := [192, 1, 60, 190, 167, 0, 8, 42, 192, 1, 62, 190, 172]
abbrev dktX1_sizeOf_1 : List UInt8 := dkwX1_sizeOf_1 ++ []
def dkwX1_sizeOf_0 : List UInt8 := [42, 193, 0, 134, 153, 0, 11, 42, 192, 0, 134, 190, 167, 0, 23, 42, 193, 1, 60, 153, 0, 11, 42]
abbrev dktX1_sizeOf_0 : List UInt8 := dkwX1_sizeOf_0 ++ dktX1_sizeOf_1
theorem dksX1_sizeOf_0 : cX1_sizeOf.data.toList.drop 0 = dktX1_sizeOf_0 := by decide +kernel
theorem dksX1_sizeOf_1 : cX1_sizeOf.data.toList.drop 23 = dktX1_sizeOf_1 := dk_seg dksX1_sizeOf_0 23 rfl rfl
theorem dX1_sizeOf_0 : decode cX1_sizeOf 0 = .ok (.aload_n 0, 1) := dk_42 (dk_at dksX1_sizeOf_0 0 rfl rfl)
theorem dX1_sizeOf_1 : decode cX1_sizeOf 1 = .ok (.instanceof 134, 3) := dk_193 0 134 (dk_at dksX1_sizeOf_0 1 rfl rfl)
theorem dX1_sizeOf_4 : decode cX1_sizeOf 4 = .ok (.ifCond .eq 11, 3) := dk_153 0 11 (dk_at dksX1_sizeOf_0 4 rfl rfl)
theorem dX1_sizeOf_7 : decode cX1_sizeOf 7 = .ok (.aload_n 0, 1) := dk_42 (dk_at dksX1_sizeOf_0 7 rfl rfl)
theorem dX1_sizeOf_8 : decode cX1_sizeOf 8 = .ok (.checkcast 134, 3) := dk_192 0 134 (dk_at dksX1_sizeOf_0 8 rfl rfl)
theorem dX1_sizeOf_11 : decode cX1_sizeOf 11 = .ok (.arraylength, 1) := dk_190 (dk_at dksX1_sizeOf_0 11 rfl rfl)
theorem dX1_sizeOf_12 : decode cX1_sizeOf 12 = .ok (.goto 23, 3) := dk_167 0 23 (dk_at dksX1_sizeOf_0 12 rfl rfl)
theorem dX1_sizeOf_15 : decode cX1_sizeOf 15 = .ok (.aload_n 0, 1) := dk_42 (dk_at dksX1_sizeOf_0 15 rfl rfl)
theorem dX1_sizeOf_16 : decode cX1_sizeOf 16 = .ok (.instanceof 316, 3) := dk_193 1 60 (dk_at dksX1_sizeOf_0 16 rfl rfl)
theorem dX1_sizeOf_19 : decode cX1_sizeOf 19 = .ok (.ifCond .eq 11, 3) := dk_153 0 11 (dk_at dksX1_sizeOf_0 19 rfl rfl)
theorem dX1_sizeOf_22 : decode cX1_sizeOf 22 = .ok (.aload_n 0, 1) := dk_42 (dk_at dksX1_sizeOf_0 22 rfl rfl)
theorem dX1_sizeOf_23 : decode cX1_sizeOf 23 = .ok (.checkcast 316, 3) := dk_192 1 60 (dk_at dksX1_sizeOf_1 0 rfl rfl)
theorem dX1_sizeOf_26 : decode cX1_sizeOf 26 = .ok (.arraylength, 1) := dk_190 (dk_at dksX1_sizeOf_1 3 rfl rfl)
theorem dX1_sizeOf_27 : decode cX1_sizeOf 27 = .ok (.goto 8, 3) := dk_167 0 8 (dk_at dksX1_sizeOf_1 4 rfl rfl)
theorem dX1_sizeOf_30 : decode cX1_sizeOf 30 = .ok (.aload_n 0, 1) := dk_42 (dk_at dksX1_sizeOf_1 7 rfl rfl)
theorem dX1_sizeOf_31 : decode cX1_sizeOf 31 = .ok (.checkcast 318, 3) := dk_192 1 62 (dk_at dksX1_sizeOf_1 8 rfl rfl)
theorem dX1_sizeOf_34 : decode cX1_sizeOf 34 = .ok (.arraylength, 1) := dk_190 (dk_at dksX1_sizeOf_1 11 rfl rfl)
theorem dX1_sizeOf_35 : decode cX1_sizeOf 35 = .ok (.ireturn, 1) := dk_172 (dk_at dksX1_sizeOf_1 12 rfl rfl)
abbrev cX1_elementOf : ByteArray := prog_1_method_57_code
def yX1_elementOf : MethodName := ⟨RX1, "elementOf", "(Ljava/lang/Object;I)I"⟩
def dkwX1_elementOf_1 : List UInt8 := [192, 1, 60, 27, 53, 167, 0, 9, 42, 192, 1, 62, 27, 46, 172]
abbrev dktX1_elementOf_1 : List UInt8 := dkwX1_elementOf_1 ++ []
def dkwX1_elementOf_0 : List UInt8 := [42, 193, 0, 134, 153, 0, 12, 42, 192, 0, 134, 27, 51, 167, 0, 25, 42, 193, 1, 60, 153, 0, 12, 42]
abbrev dktX1_elementOf_0 : List UInt8 := dkwX1_elementOf_0 ++ dktX1_elementOf_1
theorem dksX1_elementOf_0 : cX1_elementOf.data.toList.drop 0 = dktX1_elementOf_0 := by decide +kernel
theorem dksX1_elementOf_1 : cX1_elementOf.data.toList.drop 24 = dktX1_elementOf_1 := dk_seg dksX1_elementOf_0 24 rfl rfl
theorem dX1_elementOf_0 : decode cX1_elementOf 0 = .ok (.aload_n 0, 1) := dk_42 (dk_at dksX1_elementOf_0 0 rfl rfl)
theorem dX1_elementOf_1 : decode cX1_elementOf 1 = .ok (.instanceof 134, 3) := dk_193 0 134 (dk_at dksX1_elementOf_0 1 rfl rfl)
theorem dX1_elementOf_4 : decode cX1_elementOf 4 = .ok (.ifCond .eq 12, 3) := dk_153 0 12 (dk_at dksX1_elementOf_0 4 rfl rfl)
theorem dX1_elementOf_7 : decode cX1_elementOf 7 = .ok (.aload_n 0, 1) := dk_42 (dk_at dksX1_elementOf_0 7 rfl rfl)
theorem dX1_elementOf_8 : decode cX1_elementOf 8 = .ok (.checkcast 134, 3) := dk_192 0 134 (dk_at dksX1_elementOf_0 8 rfl rfl)
theorem dX1_elementOf_11 : decode cX1_elementOf 11 = .ok (.iload_n 1, 1) := dk_27 (dk_at dksX1_elementOf_0 11 rfl rfl)
theorem dX1_elementOf_12 : decode cX1_elementOf 12 = .ok (.baload, 1) := dk_51 (dk_at dksX1_elementOf_0 12 rfl rfl)
theorem dX1_elementOf_13 : decode cX1_elementOf 13 = .ok (.goto 25, 3) := dk_167 0 25 (dk_at dksX1_elementOf_0 13 rfl rfl)
theorem dX1_elementOf_16 : decode cX1_elementOf 16 = .ok (.aload_n 0, 1) := dk_42 (dk_at dksX1_elementOf_0 16 rfl rfl)
theorem dX1_elementOf_17 : decode cX1_elementOf 17 = .ok (.instanceof 316, 3) := dk_193 1 60 (dk_at dksX1_elementOf_0 17 rfl rfl)
theorem dX1_elementOf_20 : decode cX1_elementOf 20 = .ok (.ifCond .eq 12, 3) := dk_153 0 12 (dk_at dksX1_elementOf_0 20 rfl rfl)
theorem dX1_elementOf_23 : decode cX1_elementOf 23 = .ok (.aload_n 0, 1) := dk_42 (dk_at dksX1_elementOf_0 23 rfl rfl)
theorem dX1_elementOf_24 : decode cX1_elementOf 24 = .ok (.checkcast 316, 3) := dk_192 1 60 (dk_at dksX1_elementOf_1 0 rfl rfl)
theorem dX1_elementOf_27 : decode cX1_elementOf 27 = .ok (.iload_n 1, 1) := dk_27 (dk_at dksX1_elementOf_1 3 rfl rfl)
theorem dX1_elementOf_28 : decode cX1_elementOf 28 = .ok (.saload, 1) := dk_53 (dk_at dksX1_elementOf_1 4 rfl rfl)
theorem dX1_elementOf_29 : decode cX1_elementOf 29 = .ok (.goto 9, 3) := dk_167 0 9 (dk_at dksX1_elementOf_1 5 rfl rfl)
theorem dX1_elementOf_32 : decode cX1_elementOf 32 = .ok (.aload_n 0, 1) := dk_42 (dk_at dksX1_elementOf_1 8 rfl rfl)
theorem dX1_elementOf_33 : decode cX1_elementOf 33 = .ok (.checkcast 318, 3) := dk_192 1 62 (dk_at dksX1_elementOf_1 9 rfl rfl)
theorem dX1_elementOf_36 : decode cX1_elementOf 36 = .ok (.iload_n 1, 1) := dk_27 (dk_at dksX1_elementOf_1 12 rfl rfl)
theorem dX1_elementOf_37 : decode cX1_elementOf 37 = .ok (.iaload, 1) := dk_46 (dk_at dksX1_elementOf_1 13 rfl rfl)
theorem dX1_elementOf_38 : decode cX1_elementOf 38 = .ok (.ireturn, 1) := dk_172 (dk_at dksX1_elementOf_1 14 rfl rfl)
abbrev cX1_forcesOf : ByteArray := prog_1_method_62_code
def yX1_forcesOf : MethodName := ⟨RX1, "forcesOf", "(LBladeBetweenThumbs$Blow;I)I"⟩
def dkwX1_forcesOf_1 : List UInt8 := [159, 0, 6, 167, 0, 12, 132, 3, 1, 42, 21, 4, 181, 1, 81, 132, 4, 255, 167, 255, 226, 29, 172]
abbrev dktX1_forcesOf_1 : List UInt8 := dkwX1_forcesOf_1 ++ []
def dkwX1_forcesOf_0 : List UInt8 := [3, 62, 42, 16, 252, 181, 1, 81, 16, 60, 54, 4, 21, 4, 155, 0, 31, 43, 21, 4, 182, 0, 183, 28]
abbrev dktX1_forcesOf_0 : List UInt8 := dkwX1_forcesOf_0 ++ dktX1_forcesOf_1
theorem dksX1_forcesOf_0 : cX1_forcesOf.data.toList.drop 0 = dktX1_forcesOf_0 := by decide +kernel
theorem dksX1_forcesOf_1 : cX1_forcesOf.data.toList.drop 24 = dktX1_forcesOf_1 := dk_seg dksX1_forcesOf_0 24 rfl rfl
theorem dX1_forcesOf_0 : decode cX1_forcesOf 0 = .ok (.iconst 0, 1) := dk_3 (dk_at dksX1_forcesOf_0 0 rfl rfl)
theorem dX1_forcesOf_1 : decode cX1_forcesOf 1 = .ok (.istore_n 3, 1) := dk_62 (dk_at dksX1_forcesOf_0 1 rfl rfl)
theorem dX1_forcesOf_2 : decode cX1_forcesOf 2 = .ok (.aload_n 0, 1) := dk_42 (dk_at dksX1_forcesOf_0 2 rfl rfl)
theorem dX1_forcesOf_3 : decode cX1_forcesOf 3 = .ok (.bipush (-4), 2) := dk_16 252 (dk_at dksX1_forcesOf_0 3 rfl rfl)
theorem dX1_forcesOf_5 : decode cX1_forcesOf 5 = .ok (.putfield 337, 3) := dk_181 1 81 (dk_at dksX1_forcesOf_0 5 rfl rfl)
theorem dX1_forcesOf_8 : decode cX1_forcesOf 8 = .ok (.bipush 60, 2) := dk_16 60 (dk_at dksX1_forcesOf_0 8 rfl rfl)
theorem dX1_forcesOf_10 : decode cX1_forcesOf 10 = .ok (.istore 4, 2) := dk_54 4 (dk_at dksX1_forcesOf_0 10 rfl rfl)
theorem dX1_forcesOf_12 : decode cX1_forcesOf 12 = .ok (.iload 4, 2) := dk_21 4 (dk_at dksX1_forcesOf_0 12 rfl rfl)
theorem dX1_forcesOf_14 : decode cX1_forcesOf 14 = .ok (.ifCond .lt 31, 3) := dk_155 0 31 (dk_at dksX1_forcesOf_0 14 rfl rfl)
theorem dX1_forcesOf_17 : decode cX1_forcesOf 17 = .ok (.aload_n 1, 1) := dk_43 (dk_at dksX1_forcesOf_0 17 rfl rfl)
theorem dX1_forcesOf_18 : decode cX1_forcesOf 18 = .ok (.iload 4, 2) := dk_21 4 (dk_at dksX1_forcesOf_0 18 rfl rfl)
theorem dX1_forcesOf_20 : decode cX1_forcesOf 20 = .ok (.invokevirtual 183, 3) := dk_182 0 183 (dk_at dksX1_forcesOf_0 20 rfl rfl)
theorem dX1_forcesOf_23 : decode cX1_forcesOf 23 = .ok (.iload_n 2, 1) := dk_28 (dk_at dksX1_forcesOf_0 23 rfl rfl)
theorem dX1_forcesOf_24 : decode cX1_forcesOf 24 = .ok (.if_icmp .eq 6, 3) := dk_159 0 6 (dk_at dksX1_forcesOf_1 0 rfl rfl)
theorem dX1_forcesOf_27 : decode cX1_forcesOf 27 = .ok (.goto 12, 3) := dk_167 0 12 (dk_at dksX1_forcesOf_1 3 rfl rfl)
theorem dX1_forcesOf_30 : decode cX1_forcesOf 30 = .ok (.iinc 3 1, 3) := dk_132 3 1 (dk_at dksX1_forcesOf_1 6 rfl rfl)
theorem dX1_forcesOf_33 : decode cX1_forcesOf 33 = .ok (.aload_n 0, 1) := dk_42 (dk_at dksX1_forcesOf_1 9 rfl rfl)
theorem dX1_forcesOf_34 : decode cX1_forcesOf 34 = .ok (.iload 4, 2) := dk_21 4 (dk_at dksX1_forcesOf_1 10 rfl rfl)
theorem dX1_forcesOf_36 : decode cX1_forcesOf 36 = .ok (.putfield 337, 3) := dk_181 1 81 (dk_at dksX1_forcesOf_1 12 rfl rfl)
theorem dX1_forcesOf_39 : decode cX1_forcesOf 39 = .ok (.iinc 4 (-1), 3) := dk_132 4 255 (dk_at dksX1_forcesOf_1 15 rfl rfl)
theorem dX1_forcesOf_42 : decode cX1_forcesOf 42 = .ok (.goto (-30), 3) := dk_167 255 226 (dk_at dksX1_forcesOf_1 18 rfl rfl)
theorem dX1_forcesOf_45 : decode cX1_forcesOf 45 = .ok (.iload_n 3, 1) := dk_29 (dk_at dksX1_forcesOf_1 21 rfl rfl)
theorem dX1_forcesOf_46 : decode cX1_forcesOf 46 = .ok (.ireturn, 1) := dk_172 (dk_at dksX1_forcesOf_1 22 rfl rfl)
abbrev cX1_forged : ByteArray := prog_1_method_65_code
def yX1_forged : MethodName := ⟨RX1, "forged", "(II)I"⟩
def dkwX1_forged_2 : List UInt8 := [182, 1, 94, 172]
abbrev dktX1_forged_2 : List UInt8 := dkwX1_forged_2 ++ []
def dkwX1_forged_1 : List UInt8 := [167, 0, 25, 42, 42, 180, 0, 124, 28, 50, 180, 0, 128, 42, 180, 0, 105, 180, 0, 172, 27, 50]
abbrev dktX1_forged_1 : List UInt8 := dkwX1_forged_1 ++ dktX1_forged_2
def dkwX1_forged_0 : List UInt8 := [42, 180, 0, 105, 27, 182, 0, 169, 154, 0, 5, 2, 172, 42, 28, 182, 1, 91, 62, 29, 153, 0, 7, 29]
abbrev dktX1_forged_0 : List UInt8 := dkwX1_forged_0 ++ dktX1_forged_1
theorem dksX1_forged_0 : cX1_forged.data.toList.drop 0 = dktX1_forged_0 := by decide +kernel
theorem dksX1_forged_1 : cX1_forged.data.toList.drop 24 = dktX1_forged_1 := dk_seg dksX1_forged_0 24 rfl rfl
theorem dksX1_forged_2 : cX1_forged.data.toList.drop 46 = dktX1_forged_2 := dk_seg dksX1_forged_1 22 rfl rfl
theorem dX1_forged_0 : decode cX1_forged 0 = .ok (.aload_n 0, 1) := dk_42 (dk_at dksX1_forged_0 0 rfl rfl)
theorem dX1_forged_1 : decode cX1_forged 1 = .ok (.getfield 105, 3) := dk_180 0 105 (dk_at dksX1_forged_0 1 rfl rfl)
theorem dX1_forged_4 : decode cX1_forged 4 = .ok (.iload_n 1, 1) := dk_27 (dk_at dksX1_forged_0 4 rfl rfl)
theorem dX1_forged_5 : decode cX1_forged 5 = .ok (.invokevirtual 169, 3) := dk_182 0 169 (dk_at dksX1_forged_0 5 rfl rfl)
theorem dX1_forged_8 : decode cX1_forged 8 = .ok (.ifCond .ne 5, 3) := dk_154 0 5 (dk_at dksX1_forged_0 8 rfl rfl)
theorem dX1_forged_11 : decode cX1_forged 11 = .ok (.iconst (-1), 1) := dk_2 (dk_at dksX1_forged_0 11 rfl rfl)
theorem dX1_forged_12 : decode cX1_forged 12 = .ok (.ireturn, 1) := dk_172 (dk_at dksX1_forged_0 12 rfl rfl)
theorem dX1_forged_13 : decode cX1_forged 13 = .ok (.aload_n 0, 1) := dk_42 (dk_at dksX1_forged_0 13 rfl rfl)
theorem dX1_forged_14 : decode cX1_forged 14 = .ok (.iload_n 2, 1) := dk_28 (dk_at dksX1_forged_0 14 rfl rfl)
theorem dX1_forged_15 : decode cX1_forged 15 = .ok (.invokevirtual 347, 3) := dk_182 1 91 (dk_at dksX1_forged_0 15 rfl rfl)
theorem dX1_forged_18 : decode cX1_forged 18 = .ok (.istore_n 3, 1) := dk_62 (dk_at dksX1_forged_0 18 rfl rfl)
theorem dX1_forged_19 : decode cX1_forged 19 = .ok (.iload_n 3, 1) := dk_29 (dk_at dksX1_forged_0 19 rfl rfl)
theorem dX1_forged_20 : decode cX1_forged 20 = .ok (.ifCond .eq 7, 3) := dk_153 0 7 (dk_at dksX1_forged_0 20 rfl rfl)
theorem dX1_forged_23 : decode cX1_forged 23 = .ok (.iload_n 3, 1) := dk_29 (dk_at dksX1_forged_0 23 rfl rfl)
theorem dX1_forged_24 : decode cX1_forged 24 = .ok (.goto 25, 3) := dk_167 0 25 (dk_at dksX1_forged_1 0 rfl rfl)
theorem dX1_forged_27 : decode cX1_forged 27 = .ok (.aload_n 0, 1) := dk_42 (dk_at dksX1_forged_1 3 rfl rfl)
theorem dX1_forged_28 : decode cX1_forged 28 = .ok (.aload_n 0, 1) := dk_42 (dk_at dksX1_forged_1 4 rfl rfl)
theorem dX1_forged_29 : decode cX1_forged 29 = .ok (.getfield 124, 3) := dk_180 0 124 (dk_at dksX1_forged_1 5 rfl rfl)
theorem dX1_forged_32 : decode cX1_forged 32 = .ok (.iload_n 2, 1) := dk_28 (dk_at dksX1_forged_1 8 rfl rfl)
theorem dX1_forged_33 : decode cX1_forged 33 = .ok (.aaload, 1) := dk_50 (dk_at dksX1_forged_1 9 rfl rfl)
theorem dX1_forged_34 : decode cX1_forged 34 = .ok (.getfield 128, 3) := dk_180 0 128 (dk_at dksX1_forged_1 10 rfl rfl)
theorem dX1_forged_37 : decode cX1_forged 37 = .ok (.aload_n 0, 1) := dk_42 (dk_at dksX1_forged_1 13 rfl rfl)
theorem dX1_forged_38 : decode cX1_forged 38 = .ok (.getfield 105, 3) := dk_180 0 105 (dk_at dksX1_forged_1 14 rfl rfl)
theorem dX1_forged_41 : decode cX1_forged 41 = .ok (.getfield 172, 3) := dk_180 0 172 (dk_at dksX1_forged_1 17 rfl rfl)
theorem dX1_forged_44 : decode cX1_forged 44 = .ok (.iload_n 1, 1) := dk_27 (dk_at dksX1_forged_1 20 rfl rfl)
theorem dX1_forged_45 : decode cX1_forged 45 = .ok (.aaload, 1) := dk_50 (dk_at dksX1_forged_1 21 rfl rfl)
theorem dX1_forged_46 : decode cX1_forged 46 = .ok (.invokevirtual 350, 3) := dk_182 1 94 (dk_at dksX1_forged_2 0 rfl rfl)
theorem dX1_forged_49 : decode cX1_forged 49 = .ok (.ireturn, 1) := dk_172 (dk_at dksX1_forged_2 3 rfl rfl)
abbrev cX1_remainder : ByteArray := prog_1_method_66_code
def yX1_remainder : MethodName := ⟨RX1, "remainder", "(III)I"⟩
def dkwX1_remainder_2 : List UInt8 := [19, 1, 101, 172, 58, 6, 19, 1, 104, 172]
abbrev dktX1_remainder_2 : List UInt8 := dkwX1_remainder_2 ++ []
def dkwX1_remainder_1 : List UInt8 := [50, 180, 0, 128, 58, 5, 25, 5, 28, 184, 1, 70, 25, 5, 29, 184, 1, 70, 112, 172, 58, 6]
abbrev dktX1_remainder_1 : List UInt8 := dkwX1_remainder_1 ++ dktX1_remainder_2
def dkwX1_remainder_0 : List UInt8 := [42, 27, 182, 1, 91, 54, 4, 21, 4, 153, 0, 10, 19, 1, 98, 21, 4, 100, 172, 42, 180, 0, 124, 27]
abbrev dktX1_remainder_0 : List UInt8 := dkwX1_remainder_0 ++ dktX1_remainder_1
theorem dksX1_remainder_0 : cX1_remainder.data.toList.drop 0 = dktX1_remainder_0 := by decide +kernel
theorem dksX1_remainder_1 : cX1_remainder.data.toList.drop 24 = dktX1_remainder_1 := dk_seg dksX1_remainder_0 24 rfl rfl
theorem dksX1_remainder_2 : cX1_remainder.data.toList.drop 46 = dktX1_remainder_2 := dk_seg dksX1_remainder_1 22 rfl rfl
theorem dX1_remainder_0 : decode cX1_remainder 0 = .ok (.aload_n 0, 1) := dk_42 (dk_at dksX1_remainder_0 0 rfl rfl)
theorem dX1_remainder_1 : decode cX1_remainder 1 = .ok (.iload_n 1, 1) := dk_27 (dk_at dksX1_remainder_0 1 rfl rfl)
theorem dX1_remainder_2 : decode cX1_remainder 2 = .ok (.invokevirtual 347, 3) := dk_182 1 91 (dk_at dksX1_remainder_0 2 rfl rfl)
theorem dX1_remainder_5 : decode cX1_remainder 5 = .ok (.istore 4, 2) := dk_54 4 (dk_at dksX1_remainder_0 5 rfl rfl)
theorem dX1_remainder_7 : decode cX1_remainder 7 = .ok (.iload 4, 2) := dk_21 4 (dk_at dksX1_remainder_0 7 rfl rfl)
theorem dX1_remainder_9 : decode cX1_remainder 9 = .ok (.ifCond .eq 10, 3) := dk_153 0 10 (dk_at dksX1_remainder_0 9 rfl rfl)
theorem dX1_remainder_12 : decode cX1_remainder 12 = .ok (.ldc_w 354, 3) := dk_19 1 98 (dk_at dksX1_remainder_0 12 rfl rfl)
theorem dX1_remainder_15 : decode cX1_remainder 15 = .ok (.iload 4, 2) := dk_21 4 (dk_at dksX1_remainder_0 15 rfl rfl)
theorem dX1_remainder_17 : decode cX1_remainder 17 = .ok (.isub, 1) := dk_100 (dk_at dksX1_remainder_0 17 rfl rfl)
theorem dX1_remainder_18 : decode cX1_remainder 18 = .ok (.ireturn, 1) := dk_172 (dk_at dksX1_remainder_0 18 rfl rfl)
theorem dX1_remainder_19 : decode cX1_remainder 19 = .ok (.aload_n 0, 1) := dk_42 (dk_at dksX1_remainder_0 19 rfl rfl)
theorem dX1_remainder_20 : decode cX1_remainder 20 = .ok (.getfield 124, 3) := dk_180 0 124 (dk_at dksX1_remainder_0 20 rfl rfl)
theorem dX1_remainder_23 : decode cX1_remainder 23 = .ok (.iload_n 1, 1) := dk_27 (dk_at dksX1_remainder_0 23 rfl rfl)
theorem dX1_remainder_24 : decode cX1_remainder 24 = .ok (.aaload, 1) := dk_50 (dk_at dksX1_remainder_1 0 rfl rfl)
theorem dX1_remainder_25 : decode cX1_remainder 25 = .ok (.getfield 128, 3) := dk_180 0 128 (dk_at dksX1_remainder_1 1 rfl rfl)
theorem dX1_remainder_28 : decode cX1_remainder 28 = .ok (.astore 5, 2) := dk_58 5 (dk_at dksX1_remainder_1 4 rfl rfl)
theorem dX1_remainder_30 : decode cX1_remainder 30 = .ok (.aload 5, 2) := dk_25 5 (dk_at dksX1_remainder_1 6 rfl rfl)
theorem dX1_remainder_32 : decode cX1_remainder 32 = .ok (.iload_n 2, 1) := dk_28 (dk_at dksX1_remainder_1 8 rfl rfl)
theorem dX1_remainder_33 : decode cX1_remainder 33 = .ok (.invokestatic 326, 3) := dk_184 1 70 (dk_at dksX1_remainder_1 9 rfl rfl)
theorem dX1_remainder_36 : decode cX1_remainder 36 = .ok (.aload 5, 2) := dk_25 5 (dk_at dksX1_remainder_1 12 rfl rfl)
theorem dX1_remainder_38 : decode cX1_remainder 38 = .ok (.iload_n 3, 1) := dk_29 (dk_at dksX1_remainder_1 14 rfl rfl)
theorem dX1_remainder_39 : decode cX1_remainder 39 = .ok (.invokestatic 326, 3) := dk_184 1 70 (dk_at dksX1_remainder_1 15 rfl rfl)
theorem dX1_remainder_42 : decode cX1_remainder 42 = .ok (.irem, 1) := dk_112 (dk_at dksX1_remainder_1 18 rfl rfl)
theorem dX1_remainder_43 : decode cX1_remainder 43 = .ok (.ireturn, 1) := dk_172 (dk_at dksX1_remainder_1 19 rfl rfl)
theorem dX1_remainder_44 : decode cX1_remainder 44 = .ok (.astore 6, 2) := dk_58 6 (dk_at dksX1_remainder_1 20 rfl rfl)
theorem dX1_remainder_46 : decode cX1_remainder 46 = .ok (.ldc_w 357, 3) := dk_19 1 101 (dk_at dksX1_remainder_2 0 rfl rfl)
theorem dX1_remainder_49 : decode cX1_remainder 49 = .ok (.ireturn, 1) := dk_172 (dk_at dksX1_remainder_2 3 rfl rfl)
theorem dX1_remainder_50 : decode cX1_remainder 50 = .ok (.astore 6, 2) := dk_58 6 (dk_at dksX1_remainder_2 4 rfl rfl)
theorem dX1_remainder_52 : decode cX1_remainder 52 = .ok (.ldc_w 360, 3) := dk_19 1 104 (dk_at dksX1_remainder_2 6 rfl rfl)
theorem dX1_remainder_55 : decode cX1_remainder 55 = .ok (.ireturn, 1) := dk_172 (dk_at dksX1_remainder_2 9 rfl rfl)
abbrev cX1_judge : ByteArray := prog_1_method_70_code
def yX1_judge : MethodName := ⟨RX1, "judge", "(IIII)I"⟩
def dkwX1_judge_7 : List UInt8 := [159, 0, 6, 21, 8, 172, 132, 8, 1, 167, 255, 172, 16, 252, 172]
abbrev dktX1_judge_7 : List UInt8 := dkwX1_judge_7 ++ []
def dkwX1_judge_6 : List UInt8 := [21, 8, 184, 1, 114, 154, 0, 23, 21, 9, 153, 0, 15, 25, 6, 21, 8, 184, 1, 70, 21, 10]
abbrev dktX1_judge_6 : List UInt8 := dkwX1_judge_6 ++ dktX1_judge_7
def dkwX1_judge_5 : List UInt8 := [153, 0, 19, 42, 27, 28, 25, 7, 21, 8, 184, 1, 70, 182, 1, 111, 167, 0, 4, 2, 54, 10, 25, 6]
abbrev dktX1_judge_5 : List UInt8 := dkwX1_judge_5 ++ dktX1_judge_6
def dkwX1_judge_4 : List UInt8 := [162, 0, 80, 21, 8, 25, 7, 184, 1, 84, 162, 0, 7, 4, 167, 0, 4, 3, 54, 9, 21, 9]
abbrev dktX1_judge_4 : List UInt8 := dkwX1_judge_4 ++ dktX1_judge_5
def dkwX1_judge_3 : List UInt8 := [21, 4, 50, 180, 0, 128, 58, 7, 42, 182, 1, 6, 3, 54, 8, 21, 8, 25, 6, 184, 1, 84]
abbrev dktX1_judge_3 : List UInt8 := dkwX1_judge_3 ++ dktX1_judge_4
def dkwX1_judge_2 : List UInt8 := [21, 5, 153, 0, 6, 21, 5, 172, 42, 180, 0, 124, 29, 50, 180, 0, 128, 58, 6, 42, 180, 0, 124]
abbrev dktX1_judge_2 : List UInt8 := dkwX1_judge_2 ++ dktX1_judge_3
def dkwX1_judge_1 : List UInt8 := [182, 0, 82, 153, 0, 10, 28, 184, 0, 61, 154, 0, 5, 2, 172, 42, 29, 21, 4, 182, 1, 108, 54, 5]
abbrev dktX1_judge_1 : List UInt8 := dkwX1_judge_1 ++ dktX1_judge_2
def dkwX1_judge_0 : List UInt8 := [27, 155, 0, 35, 42, 180, 0, 105, 27, 16, 100, 108, 27, 16, 10, 108, 16, 10, 112, 27, 16, 10, 112]
abbrev dktX1_judge_0 : List UInt8 := dkwX1_judge_0 ++ dktX1_judge_1
theorem dksX1_judge_0 : cX1_judge.data.toList.drop 0 = dktX1_judge_0 := by decide +kernel
theorem dksX1_judge_1 : cX1_judge.data.toList.drop 23 = dktX1_judge_1 := dk_seg dksX1_judge_0 23 rfl rfl
theorem dksX1_judge_2 : cX1_judge.data.toList.drop 47 = dktX1_judge_2 := dk_seg dksX1_judge_1 24 rfl rfl
theorem dksX1_judge_3 : cX1_judge.data.toList.drop 70 = dktX1_judge_3 := dk_seg dksX1_judge_2 23 rfl rfl
theorem dksX1_judge_4 : cX1_judge.data.toList.drop 92 = dktX1_judge_4 := dk_seg dksX1_judge_3 22 rfl rfl
theorem dksX1_judge_5 : cX1_judge.data.toList.drop 114 = dktX1_judge_5 := dk_seg dksX1_judge_4 22 rfl rfl
theorem dksX1_judge_6 : cX1_judge.data.toList.drop 138 = dktX1_judge_6 := dk_seg dksX1_judge_5 24 rfl rfl
theorem dksX1_judge_7 : cX1_judge.data.toList.drop 160 = dktX1_judge_7 := dk_seg dksX1_judge_6 22 rfl rfl
theorem dX1_judge_0 : decode cX1_judge 0 = .ok (.iload_n 1, 1) := dk_27 (dk_at dksX1_judge_0 0 rfl rfl)
theorem dX1_judge_1 : decode cX1_judge 1 = .ok (.ifCond .lt 35, 3) := dk_155 0 35 (dk_at dksX1_judge_0 1 rfl rfl)
theorem dX1_judge_4 : decode cX1_judge 4 = .ok (.aload_n 0, 1) := dk_42 (dk_at dksX1_judge_0 4 rfl rfl)
theorem dX1_judge_5 : decode cX1_judge 5 = .ok (.getfield 105, 3) := dk_180 0 105 (dk_at dksX1_judge_0 5 rfl rfl)
theorem dX1_judge_8 : decode cX1_judge 8 = .ok (.iload_n 1, 1) := dk_27 (dk_at dksX1_judge_0 8 rfl rfl)
theorem dX1_judge_9 : decode cX1_judge 9 = .ok (.bipush 100, 2) := dk_16 100 (dk_at dksX1_judge_0 9 rfl rfl)
theorem dX1_judge_11 : decode cX1_judge 11 = .ok (.idiv, 1) := dk_108 (dk_at dksX1_judge_0 11 rfl rfl)
theorem dX1_judge_12 : decode cX1_judge 12 = .ok (.iload_n 1, 1) := dk_27 (dk_at dksX1_judge_0 12 rfl rfl)
theorem dX1_judge_13 : decode cX1_judge 13 = .ok (.bipush 10, 2) := dk_16 10 (dk_at dksX1_judge_0 13 rfl rfl)
theorem dX1_judge_15 : decode cX1_judge 15 = .ok (.idiv, 1) := dk_108 (dk_at dksX1_judge_0 15 rfl rfl)
theorem dX1_judge_16 : decode cX1_judge 16 = .ok (.bipush 10, 2) := dk_16 10 (dk_at dksX1_judge_0 16 rfl rfl)
theorem dX1_judge_18 : decode cX1_judge 18 = .ok (.irem, 1) := dk_112 (dk_at dksX1_judge_0 18 rfl rfl)
theorem dX1_judge_19 : decode cX1_judge 19 = .ok (.iload_n 1, 1) := dk_27 (dk_at dksX1_judge_0 19 rfl rfl)
theorem dX1_judge_20 : decode cX1_judge 20 = .ok (.bipush 10, 2) := dk_16 10 (dk_at dksX1_judge_0 20 rfl rfl)
theorem dX1_judge_22 : decode cX1_judge 22 = .ok (.irem, 1) := dk_112 (dk_at dksX1_judge_0 22 rfl rfl)
theorem dX1_judge_23 : decode cX1_judge 23 = .ok (.invokevirtual 82, 3) := dk_182 0 82 (dk_at dksX1_judge_1 0 rfl rfl)
theorem dX1_judge_26 : decode cX1_judge 26 = .ok (.ifCond .eq 10, 3) := dk_153 0 10 (dk_at dksX1_judge_1 3 rfl rfl)
theorem dX1_judge_29 : decode cX1_judge 29 = .ok (.iload_n 2, 1) := dk_28 (dk_at dksX1_judge_1 6 rfl rfl)
theorem dX1_judge_30 : decode cX1_judge 30 = .ok (.invokestatic 61, 3) := dk_184 0 61 (dk_at dksX1_judge_1 7 rfl rfl)
theorem dX1_judge_33 : decode cX1_judge 33 = .ok (.ifCond .ne 5, 3) := dk_154 0 5 (dk_at dksX1_judge_1 10 rfl rfl)
theorem dX1_judge_36 : decode cX1_judge 36 = .ok (.iconst (-1), 1) := dk_2 (dk_at dksX1_judge_1 13 rfl rfl)
theorem dX1_judge_37 : decode cX1_judge 37 = .ok (.ireturn, 1) := dk_172 (dk_at dksX1_judge_1 14 rfl rfl)
theorem dX1_judge_38 : decode cX1_judge 38 = .ok (.aload_n 0, 1) := dk_42 (dk_at dksX1_judge_1 15 rfl rfl)
theorem dX1_judge_39 : decode cX1_judge 39 = .ok (.iload_n 3, 1) := dk_29 (dk_at dksX1_judge_1 16 rfl rfl)
theorem dX1_judge_40 : decode cX1_judge 40 = .ok (.iload 4, 2) := dk_21 4 (dk_at dksX1_judge_1 17 rfl rfl)
theorem dX1_judge_42 : decode cX1_judge 42 = .ok (.invokevirtual 364, 3) := dk_182 1 108 (dk_at dksX1_judge_1 19 rfl rfl)
theorem dX1_judge_45 : decode cX1_judge 45 = .ok (.istore 5, 2) := dk_54 5 (dk_at dksX1_judge_1 22 rfl rfl)
theorem dX1_judge_47 : decode cX1_judge 47 = .ok (.iload 5, 2) := dk_21 5 (dk_at dksX1_judge_2 0 rfl rfl)
theorem dX1_judge_49 : decode cX1_judge 49 = .ok (.ifCond .eq 6, 3) := dk_153 0 6 (dk_at dksX1_judge_2 2 rfl rfl)
theorem dX1_judge_52 : decode cX1_judge 52 = .ok (.iload 5, 2) := dk_21 5 (dk_at dksX1_judge_2 5 rfl rfl)
theorem dX1_judge_54 : decode cX1_judge 54 = .ok (.ireturn, 1) := dk_172 (dk_at dksX1_judge_2 7 rfl rfl)
theorem dX1_judge_55 : decode cX1_judge 55 = .ok (.aload_n 0, 1) := dk_42 (dk_at dksX1_judge_2 8 rfl rfl)
theorem dX1_judge_56 : decode cX1_judge 56 = .ok (.getfield 124, 3) := dk_180 0 124 (dk_at dksX1_judge_2 9 rfl rfl)
theorem dX1_judge_59 : decode cX1_judge 59 = .ok (.iload_n 3, 1) := dk_29 (dk_at dksX1_judge_2 12 rfl rfl)
theorem dX1_judge_60 : decode cX1_judge 60 = .ok (.aaload, 1) := dk_50 (dk_at dksX1_judge_2 13 rfl rfl)
theorem dX1_judge_61 : decode cX1_judge 61 = .ok (.getfield 128, 3) := dk_180 0 128 (dk_at dksX1_judge_2 14 rfl rfl)
theorem dX1_judge_64 : decode cX1_judge 64 = .ok (.astore 6, 2) := dk_58 6 (dk_at dksX1_judge_2 17 rfl rfl)
theorem dX1_judge_66 : decode cX1_judge 66 = .ok (.aload_n 0, 1) := dk_42 (dk_at dksX1_judge_2 19 rfl rfl)
theorem dX1_judge_67 : decode cX1_judge 67 = .ok (.getfield 124, 3) := dk_180 0 124 (dk_at dksX1_judge_2 20 rfl rfl)
theorem dX1_judge_70 : decode cX1_judge 70 = .ok (.iload 4, 2) := dk_21 4 (dk_at dksX1_judge_3 0 rfl rfl)
theorem dX1_judge_72 : decode cX1_judge 72 = .ok (.aaload, 1) := dk_50 (dk_at dksX1_judge_3 2 rfl rfl)
theorem dX1_judge_73 : decode cX1_judge 73 = .ok (.getfield 128, 3) := dk_180 0 128 (dk_at dksX1_judge_3 3 rfl rfl)
theorem dX1_judge_76 : decode cX1_judge 76 = .ok (.astore 7, 2) := dk_58 7 (dk_at dksX1_judge_3 6 rfl rfl)
theorem dX1_judge_78 : decode cX1_judge 78 = .ok (.aload_n 0, 1) := dk_42 (dk_at dksX1_judge_3 8 rfl rfl)
theorem dX1_judge_79 : decode cX1_judge 79 = .ok (.invokevirtual 262, 3) := dk_182 1 6 (dk_at dksX1_judge_3 9 rfl rfl)
theorem dX1_judge_82 : decode cX1_judge 82 = .ok (.iconst 0, 1) := dk_3 (dk_at dksX1_judge_3 12 rfl rfl)
theorem dX1_judge_83 : decode cX1_judge 83 = .ok (.istore 8, 2) := dk_54 8 (dk_at dksX1_judge_3 13 rfl rfl)
theorem dX1_judge_85 : decode cX1_judge 85 = .ok (.iload 8, 2) := dk_21 8 (dk_at dksX1_judge_3 15 rfl rfl)
theorem dX1_judge_87 : decode cX1_judge 87 = .ok (.aload 6, 2) := dk_25 6 (dk_at dksX1_judge_3 17 rfl rfl)
theorem dX1_judge_89 : decode cX1_judge 89 = .ok (.invokestatic 340, 3) := dk_184 1 84 (dk_at dksX1_judge_3 19 rfl rfl)
theorem dX1_judge_92 : decode cX1_judge 92 = .ok (.if_icmp .ge 80, 3) := dk_162 0 80 (dk_at dksX1_judge_4 0 rfl rfl)
theorem dX1_judge_95 : decode cX1_judge 95 = .ok (.iload 8, 2) := dk_21 8 (dk_at dksX1_judge_4 3 rfl rfl)
theorem dX1_judge_97 : decode cX1_judge 97 = .ok (.aload 7, 2) := dk_25 7 (dk_at dksX1_judge_4 5 rfl rfl)
theorem dX1_judge_99 : decode cX1_judge 99 = .ok (.invokestatic 340, 3) := dk_184 1 84 (dk_at dksX1_judge_4 7 rfl rfl)
theorem dX1_judge_102 : decode cX1_judge 102 = .ok (.if_icmp .ge 7, 3) := dk_162 0 7 (dk_at dksX1_judge_4 10 rfl rfl)
theorem dX1_judge_105 : decode cX1_judge 105 = .ok (.iconst 1, 1) := dk_4 (dk_at dksX1_judge_4 13 rfl rfl)
theorem dX1_judge_106 : decode cX1_judge 106 = .ok (.goto 4, 3) := dk_167 0 4 (dk_at dksX1_judge_4 14 rfl rfl)
theorem dX1_judge_109 : decode cX1_judge 109 = .ok (.iconst 0, 1) := dk_3 (dk_at dksX1_judge_4 17 rfl rfl)
theorem dX1_judge_110 : decode cX1_judge 110 = .ok (.istore 9, 2) := dk_54 9 (dk_at dksX1_judge_4 18 rfl rfl)
theorem dX1_judge_112 : decode cX1_judge 112 = .ok (.iload 9, 2) := dk_21 9 (dk_at dksX1_judge_4 20 rfl rfl)
theorem dX1_judge_114 : decode cX1_judge 114 = .ok (.ifCond .eq 19, 3) := dk_153 0 19 (dk_at dksX1_judge_5 0 rfl rfl)
theorem dX1_judge_117 : decode cX1_judge 117 = .ok (.aload_n 0, 1) := dk_42 (dk_at dksX1_judge_5 3 rfl rfl)
theorem dX1_judge_118 : decode cX1_judge 118 = .ok (.iload_n 1, 1) := dk_27 (dk_at dksX1_judge_5 4 rfl rfl)
theorem dX1_judge_119 : decode cX1_judge 119 = .ok (.iload_n 2, 1) := dk_28 (dk_at dksX1_judge_5 5 rfl rfl)
theorem dX1_judge_120 : decode cX1_judge 120 = .ok (.aload 7, 2) := dk_25 7 (dk_at dksX1_judge_5 6 rfl rfl)
theorem dX1_judge_122 : decode cX1_judge 122 = .ok (.iload 8, 2) := dk_21 8 (dk_at dksX1_judge_5 8 rfl rfl)
theorem dX1_judge_124 : decode cX1_judge 124 = .ok (.invokestatic 326, 3) := dk_184 1 70 (dk_at dksX1_judge_5 10 rfl rfl)
theorem dX1_judge_127 : decode cX1_judge 127 = .ok (.invokevirtual 367, 3) := dk_182 1 111 (dk_at dksX1_judge_5 13 rfl rfl)
theorem dX1_judge_130 : decode cX1_judge 130 = .ok (.goto 4, 3) := dk_167 0 4 (dk_at dksX1_judge_5 16 rfl rfl)
theorem dX1_judge_133 : decode cX1_judge 133 = .ok (.iconst (-1), 1) := dk_2 (dk_at dksX1_judge_5 19 rfl rfl)
theorem dX1_judge_134 : decode cX1_judge 134 = .ok (.istore 10, 2) := dk_54 10 (dk_at dksX1_judge_5 20 rfl rfl)
theorem dX1_judge_136 : decode cX1_judge 136 = .ok (.aload 6, 2) := dk_25 6 (dk_at dksX1_judge_5 22 rfl rfl)
theorem dX1_judge_138 : decode cX1_judge 138 = .ok (.iload 8, 2) := dk_21 8 (dk_at dksX1_judge_6 0 rfl rfl)
theorem dX1_judge_140 : decode cX1_judge 140 = .ok (.invokestatic 370, 3) := dk_184 1 114 (dk_at dksX1_judge_6 2 rfl rfl)
theorem dX1_judge_143 : decode cX1_judge 143 = .ok (.ifCond .ne 23, 3) := dk_154 0 23 (dk_at dksX1_judge_6 5 rfl rfl)
theorem dX1_judge_146 : decode cX1_judge 146 = .ok (.iload 9, 2) := dk_21 9 (dk_at dksX1_judge_6 8 rfl rfl)
theorem dX1_judge_148 : decode cX1_judge 148 = .ok (.ifCond .eq 15, 3) := dk_153 0 15 (dk_at dksX1_judge_6 10 rfl rfl)
theorem dX1_judge_151 : decode cX1_judge 151 = .ok (.aload 6, 2) := dk_25 6 (dk_at dksX1_judge_6 13 rfl rfl)
theorem dX1_judge_153 : decode cX1_judge 153 = .ok (.iload 8, 2) := dk_21 8 (dk_at dksX1_judge_6 15 rfl rfl)
theorem dX1_judge_155 : decode cX1_judge 155 = .ok (.invokestatic 326, 3) := dk_184 1 70 (dk_at dksX1_judge_6 17 rfl rfl)
theorem dX1_judge_158 : decode cX1_judge 158 = .ok (.iload 10, 2) := dk_21 10 (dk_at dksX1_judge_6 20 rfl rfl)
theorem dX1_judge_160 : decode cX1_judge 160 = .ok (.if_icmp .eq 6, 3) := dk_159 0 6 (dk_at dksX1_judge_7 0 rfl rfl)
theorem dX1_judge_163 : decode cX1_judge 163 = .ok (.iload 8, 2) := dk_21 8 (dk_at dksX1_judge_7 3 rfl rfl)
theorem dX1_judge_165 : decode cX1_judge 165 = .ok (.ireturn, 1) := dk_172 (dk_at dksX1_judge_7 5 rfl rfl)
theorem dX1_judge_166 : decode cX1_judge 166 = .ok (.iinc 8 1, 3) := dk_132 8 1 (dk_at dksX1_judge_7 6 rfl rfl)
theorem dX1_judge_169 : decode cX1_judge 169 = .ok (.goto (-84), 3) := dk_167 255 172 (dk_at dksX1_judge_7 9 rfl rfl)
theorem dX1_judge_172 : decode cX1_judge 172 = .ok (.bipush (-4), 2) := dk_16 252 (dk_at dksX1_judge_7 12 rfl rfl)
theorem dX1_judge_174 : decode cX1_judge 174 = .ok (.ireturn, 1) := dk_172 (dk_at dksX1_judge_7 14 rfl rfl)
abbrev cX1_notRows : ByteArray := prog_1_method_68_code
def yX1_notRows : MethodName := ⟨RX1, "notRows", "(II)I"⟩
def dkwX1_notRows_3 : List UInt8 := [184, 1, 78, 2, 160, 0, 8, 16, 244, 167, 0, 8, 42, 28, 182, 1, 105, 172]
abbrev dktX1_notRows_3 : List UInt8 := dkwX1_notRows_3 ++ []
def dkwX1_notRows_2 : List UInt8 := [180, 0, 124, 27, 50, 180, 0, 128, 184, 1, 78, 2, 159, 0, 19, 42, 180, 0, 124, 28, 50, 180, 0, 128]
abbrev dktX1_notRows_2 : List UInt8 := dkwX1_notRows_2 ++ dktX1_notRows_3
def dkwX1_notRows_1 : List UInt8 := [180, 0, 128, 198, 0, 15, 42, 180, 0, 124, 28, 50, 180, 0, 128, 199, 0, 6, 16, 245, 172, 42]
abbrev dktX1_notRows_1 : List UInt8 := dkwX1_notRows_1 ++ dktX1_notRows_2
def dkwX1_notRows_0 : List UInt8 := [42, 27, 182, 0, 121, 153, 0, 11, 42, 28, 182, 0, 121, 154, 0, 5, 2, 172, 42, 180, 0, 124, 27, 50]
abbrev dktX1_notRows_0 : List UInt8 := dkwX1_notRows_0 ++ dktX1_notRows_1
theorem dksX1_notRows_0 : cX1_notRows.data.toList.drop 0 = dktX1_notRows_0 := by decide +kernel
theorem dksX1_notRows_1 : cX1_notRows.data.toList.drop 24 = dktX1_notRows_1 := dk_seg dksX1_notRows_0 24 rfl rfl
theorem dksX1_notRows_2 : cX1_notRows.data.toList.drop 46 = dktX1_notRows_2 := dk_seg dksX1_notRows_1 22 rfl rfl
theorem dksX1_notRows_3 : cX1_notRows.data.toList.drop 70 = dktX1_notRows_3 := dk_seg dksX1_notRows_2 24 rfl rfl
theorem dX1_notRows_0 : decode cX1_notRows 0 = .ok (.aload_n 0, 1) := dk_42 (dk_at dksX1_notRows_0 0 rfl rfl)
theorem dX1_notRows_1 : decode cX1_notRows 1 = .ok (.iload_n 1, 1) := dk_27 (dk_at dksX1_notRows_0 1 rfl rfl)
theorem dX1_notRows_2 : decode cX1_notRows 2 = .ok (.invokevirtual 121, 3) := dk_182 0 121 (dk_at dksX1_notRows_0 2 rfl rfl)
theorem dX1_notRows_5 : decode cX1_notRows 5 = .ok (.ifCond .eq 11, 3) := dk_153 0 11 (dk_at dksX1_notRows_0 5 rfl rfl)
theorem dX1_notRows_8 : decode cX1_notRows 8 = .ok (.aload_n 0, 1) := dk_42 (dk_at dksX1_notRows_0 8 rfl rfl)
theorem dX1_notRows_9 : decode cX1_notRows 9 = .ok (.iload_n 2, 1) := dk_28 (dk_at dksX1_notRows_0 9 rfl rfl)
theorem dX1_notRows_10 : decode cX1_notRows 10 = .ok (.invokevirtual 121, 3) := dk_182 0 121 (dk_at dksX1_notRows_0 10 rfl rfl)
theorem dX1_notRows_13 : decode cX1_notRows 13 = .ok (.ifCond .ne 5, 3) := dk_154 0 5 (dk_at dksX1_notRows_0 13 rfl rfl)
theorem dX1_notRows_16 : decode cX1_notRows 16 = .ok (.iconst (-1), 1) := dk_2 (dk_at dksX1_notRows_0 16 rfl rfl)
theorem dX1_notRows_17 : decode cX1_notRows 17 = .ok (.ireturn, 1) := dk_172 (dk_at dksX1_notRows_0 17 rfl rfl)
theorem dX1_notRows_18 : decode cX1_notRows 18 = .ok (.aload_n 0, 1) := dk_42 (dk_at dksX1_notRows_0 18 rfl rfl)
theorem dX1_notRows_19 : decode cX1_notRows 19 = .ok (.getfield 124, 3) := dk_180 0 124 (dk_at dksX1_notRows_0 19 rfl rfl)
theorem dX1_notRows_22 : decode cX1_notRows 22 = .ok (.iload_n 1, 1) := dk_27 (dk_at dksX1_notRows_0 22 rfl rfl)
theorem dX1_notRows_23 : decode cX1_notRows 23 = .ok (.aaload, 1) := dk_50 (dk_at dksX1_notRows_0 23 rfl rfl)
theorem dX1_notRows_24 : decode cX1_notRows 24 = .ok (.getfield 128, 3) := dk_180 0 128 (dk_at dksX1_notRows_1 0 rfl rfl)
theorem dX1_notRows_27 : decode cX1_notRows 27 = .ok (.ifnull 15, 3) := dk_198 0 15 (dk_at dksX1_notRows_1 3 rfl rfl)
theorem dX1_notRows_30 : decode cX1_notRows 30 = .ok (.aload_n 0, 1) := dk_42 (dk_at dksX1_notRows_1 6 rfl rfl)
theorem dX1_notRows_31 : decode cX1_notRows 31 = .ok (.getfield 124, 3) := dk_180 0 124 (dk_at dksX1_notRows_1 7 rfl rfl)
theorem dX1_notRows_34 : decode cX1_notRows 34 = .ok (.iload_n 2, 1) := dk_28 (dk_at dksX1_notRows_1 10 rfl rfl)
theorem dX1_notRows_35 : decode cX1_notRows 35 = .ok (.aaload, 1) := dk_50 (dk_at dksX1_notRows_1 11 rfl rfl)
theorem dX1_notRows_36 : decode cX1_notRows 36 = .ok (.getfield 128, 3) := dk_180 0 128 (dk_at dksX1_notRows_1 12 rfl rfl)
theorem dX1_notRows_39 : decode cX1_notRows 39 = .ok (.ifnonnull 6, 3) := dk_199 0 6 (dk_at dksX1_notRows_1 15 rfl rfl)
theorem dX1_notRows_42 : decode cX1_notRows 42 = .ok (.bipush (-11), 2) := dk_16 245 (dk_at dksX1_notRows_1 18 rfl rfl)
theorem dX1_notRows_44 : decode cX1_notRows 44 = .ok (.ireturn, 1) := dk_172 (dk_at dksX1_notRows_1 20 rfl rfl)
theorem dX1_notRows_45 : decode cX1_notRows 45 = .ok (.aload_n 0, 1) := dk_42 (dk_at dksX1_notRows_1 21 rfl rfl)
theorem dX1_notRows_46 : decode cX1_notRows 46 = .ok (.getfield 124, 3) := dk_180 0 124 (dk_at dksX1_notRows_2 0 rfl rfl)
theorem dX1_notRows_49 : decode cX1_notRows 49 = .ok (.iload_n 1, 1) := dk_27 (dk_at dksX1_notRows_2 3 rfl rfl)
theorem dX1_notRows_50 : decode cX1_notRows 50 = .ok (.aaload, 1) := dk_50 (dk_at dksX1_notRows_2 4 rfl rfl)
theorem dX1_notRows_51 : decode cX1_notRows 51 = .ok (.getfield 128, 3) := dk_180 0 128 (dk_at dksX1_notRows_2 5 rfl rfl)
theorem dX1_notRows_54 : decode cX1_notRows 54 = .ok (.invokestatic 334, 3) := dk_184 1 78 (dk_at dksX1_notRows_2 8 rfl rfl)
theorem dX1_notRows_57 : decode cX1_notRows 57 = .ok (.iconst (-1), 1) := dk_2 (dk_at dksX1_notRows_2 11 rfl rfl)
theorem dX1_notRows_58 : decode cX1_notRows 58 = .ok (.if_icmp .eq 19, 3) := dk_159 0 19 (dk_at dksX1_notRows_2 12 rfl rfl)
theorem dX1_notRows_61 : decode cX1_notRows 61 = .ok (.aload_n 0, 1) := dk_42 (dk_at dksX1_notRows_2 15 rfl rfl)
theorem dX1_notRows_62 : decode cX1_notRows 62 = .ok (.getfield 124, 3) := dk_180 0 124 (dk_at dksX1_notRows_2 16 rfl rfl)
theorem dX1_notRows_65 : decode cX1_notRows 65 = .ok (.iload_n 2, 1) := dk_28 (dk_at dksX1_notRows_2 19 rfl rfl)
theorem dX1_notRows_66 : decode cX1_notRows 66 = .ok (.aaload, 1) := dk_50 (dk_at dksX1_notRows_2 20 rfl rfl)
theorem dX1_notRows_67 : decode cX1_notRows 67 = .ok (.getfield 128, 3) := dk_180 0 128 (dk_at dksX1_notRows_2 21 rfl rfl)
theorem dX1_notRows_70 : decode cX1_notRows 70 = .ok (.invokestatic 334, 3) := dk_184 1 78 (dk_at dksX1_notRows_3 0 rfl rfl)
theorem dX1_notRows_73 : decode cX1_notRows 73 = .ok (.iconst (-1), 1) := dk_2 (dk_at dksX1_notRows_3 3 rfl rfl)
theorem dX1_notRows_74 : decode cX1_notRows 74 = .ok (.if_icmp .ne 8, 3) := dk_160 0 8 (dk_at dksX1_notRows_3 4 rfl rfl)
theorem dX1_notRows_77 : decode cX1_notRows 77 = .ok (.bipush (-12), 2) := dk_16 244 (dk_at dksX1_notRows_3 7 rfl rfl)
theorem dX1_notRows_79 : decode cX1_notRows 79 = .ok (.goto 8, 3) := dk_167 0 8 (dk_at dksX1_notRows_3 9 rfl rfl)
theorem dX1_notRows_82 : decode cX1_notRows 82 = .ok (.aload_n 0, 1) := dk_42 (dk_at dksX1_notRows_3 12 rfl rfl)
theorem dX1_notRows_83 : decode cX1_notRows 83 = .ok (.iload_n 2, 1) := dk_28 (dk_at dksX1_notRows_3 13 rfl rfl)
theorem dX1_notRows_84 : decode cX1_notRows 84 = .ok (.invokevirtual 361, 3) := dk_182 1 105 (dk_at dksX1_notRows_3 14 rfl rfl)
theorem dX1_notRows_87 : decode cX1_notRows 87 = .ok (.ireturn, 1) := dk_172 (dk_at dksX1_notRows_3 17 rfl rfl)
abbrev cX1_notForces : ByteArray := prog_1_method_67_code
def yX1_notForces : MethodName := ⟨RX1, "notForces", "(I)I"⟩
def dkwX1_notForces_1 : List UInt8 := [184, 1, 70, 184, 0, 61, 154, 0, 6, 16, 243, 172, 132, 3, 1, 167, 255, 231, 3, 172]
abbrev dktX1_notForces_1 : List UInt8 := dkwX1_notForces_1 ++ []
def dkwX1_notForces_0 : List UInt8 := [42, 180, 0, 124, 27, 50, 180, 0, 128, 77, 3, 62, 29, 44, 184, 1, 84, 162, 0, 23, 44, 29]
abbrev dktX1_notForces_0 : List UInt8 := dkwX1_notForces_0 ++ dktX1_notForces_1
theorem dksX1_notForces_0 : cX1_notForces.data.toList.drop 0 = dktX1_notForces_0 := by decide +kernel
theorem dksX1_notForces_1 : cX1_notForces.data.toList.drop 22 = dktX1_notForces_1 := dk_seg dksX1_notForces_0 22 rfl rfl
theorem dX1_notForces_0 : decode cX1_notForces 0 = .ok (.aload_n 0, 1) := dk_42 (dk_at dksX1_notForces_0 0 rfl rfl)
theorem dX1_notForces_1 : decode cX1_notForces 1 = .ok (.getfield 124, 3) := dk_180 0 124 (dk_at dksX1_notForces_0 1 rfl rfl)
theorem dX1_notForces_4 : decode cX1_notForces 4 = .ok (.iload_n 1, 1) := dk_27 (dk_at dksX1_notForces_0 4 rfl rfl)
theorem dX1_notForces_5 : decode cX1_notForces 5 = .ok (.aaload, 1) := dk_50 (dk_at dksX1_notForces_0 5 rfl rfl)
theorem dX1_notForces_6 : decode cX1_notForces 6 = .ok (.getfield 128, 3) := dk_180 0 128 (dk_at dksX1_notForces_0 6 rfl rfl)
theorem dX1_notForces_9 : decode cX1_notForces 9 = .ok (.astore_n 2, 1) := dk_77 (dk_at dksX1_notForces_0 9 rfl rfl)
theorem dX1_notForces_10 : decode cX1_notForces 10 = .ok (.iconst 0, 1) := dk_3 (dk_at dksX1_notForces_0 10 rfl rfl)
theorem dX1_notForces_11 : decode cX1_notForces 11 = .ok (.istore_n 3, 1) := dk_62 (dk_at dksX1_notForces_0 11 rfl rfl)
theorem dX1_notForces_12 : decode cX1_notForces 12 = .ok (.iload_n 3, 1) := dk_29 (dk_at dksX1_notForces_0 12 rfl rfl)
theorem dX1_notForces_13 : decode cX1_notForces 13 = .ok (.aload_n 2, 1) := dk_44 (dk_at dksX1_notForces_0 13 rfl rfl)
theorem dX1_notForces_14 : decode cX1_notForces 14 = .ok (.invokestatic 340, 3) := dk_184 1 84 (dk_at dksX1_notForces_0 14 rfl rfl)
theorem dX1_notForces_17 : decode cX1_notForces 17 = .ok (.if_icmp .ge 23, 3) := dk_162 0 23 (dk_at dksX1_notForces_0 17 rfl rfl)
theorem dX1_notForces_20 : decode cX1_notForces 20 = .ok (.aload_n 2, 1) := dk_44 (dk_at dksX1_notForces_0 20 rfl rfl)
theorem dX1_notForces_21 : decode cX1_notForces 21 = .ok (.iload_n 3, 1) := dk_29 (dk_at dksX1_notForces_0 21 rfl rfl)
theorem dX1_notForces_22 : decode cX1_notForces 22 = .ok (.invokestatic 326, 3) := dk_184 1 70 (dk_at dksX1_notForces_1 0 rfl rfl)
theorem dX1_notForces_25 : decode cX1_notForces 25 = .ok (.invokestatic 61, 3) := dk_184 0 61 (dk_at dksX1_notForces_1 3 rfl rfl)
theorem dX1_notForces_28 : decode cX1_notForces 28 = .ok (.ifCond .ne 6, 3) := dk_154 0 6 (dk_at dksX1_notForces_1 6 rfl rfl)
theorem dX1_notForces_31 : decode cX1_notForces 31 = .ok (.bipush (-13), 2) := dk_16 243 (dk_at dksX1_notForces_1 9 rfl rfl)
theorem dX1_notForces_33 : decode cX1_notForces 33 = .ok (.ireturn, 1) := dk_172 (dk_at dksX1_notForces_1 11 rfl rfl)
theorem dX1_notForces_34 : decode cX1_notForces 34 = .ok (.iinc 3 1, 3) := dk_132 3 1 (dk_at dksX1_notForces_1 12 rfl rfl)
theorem dX1_notForces_37 : decode cX1_notForces 37 = .ok (.goto (-25), 3) := dk_167 255 231 (dk_at dksX1_notForces_1 15 rfl rfl)
theorem dX1_notForces_40 : decode cX1_notForces 40 = .ok (.iconst 0, 1) := dk_3 (dk_at dksX1_notForces_1 18 rfl rfl)
theorem dX1_notForces_41 : decode cX1_notForces 41 = .ok (.ireturn, 1) := dk_172 (dk_at dksX1_notForces_1 19 rfl rfl)
abbrev cX1_does : ByteArray := prog_1_method_69_code
def yX1_does : MethodName := ⟨RX1, "does", "(III)I"⟩
def dkwX1_does_2 : List UInt8 := [167, 0, 4, 3, 172]
abbrev dktX1_does_2 : List UInt8 := dkwX1_does_2 ++ []
def dkwX1_does_1 : List UInt8 := [21, 4, 27, 16, 10, 108, 16, 10, 112, 27, 16, 10, 112, 28, 29, 182, 0, 88, 153, 0, 7, 4]
abbrev dktX1_does_1 : List UInt8 := dkwX1_does_1 ++ dktX1_does_2
def dkwX1_does_0 : List UInt8 := [27, 16, 100, 108, 54, 4, 42, 180, 0, 48, 21, 4, 182, 0, 85, 153, 0, 5, 5, 172, 42, 180, 0, 48]
abbrev dktX1_does_0 : List UInt8 := dkwX1_does_0 ++ dktX1_does_1
theorem dksX1_does_0 : cX1_does.data.toList.drop 0 = dktX1_does_0 := by decide +kernel
theorem dksX1_does_1 : cX1_does.data.toList.drop 24 = dktX1_does_1 := dk_seg dksX1_does_0 24 rfl rfl
theorem dksX1_does_2 : cX1_does.data.toList.drop 46 = dktX1_does_2 := dk_seg dksX1_does_1 22 rfl rfl
theorem dX1_does_0 : decode cX1_does 0 = .ok (.iload_n 1, 1) := dk_27 (dk_at dksX1_does_0 0 rfl rfl)
theorem dX1_does_1 : decode cX1_does 1 = .ok (.bipush 100, 2) := dk_16 100 (dk_at dksX1_does_0 1 rfl rfl)
theorem dX1_does_3 : decode cX1_does 3 = .ok (.idiv, 1) := dk_108 (dk_at dksX1_does_0 3 rfl rfl)
theorem dX1_does_4 : decode cX1_does 4 = .ok (.istore 4, 2) := dk_54 4 (dk_at dksX1_does_0 4 rfl rfl)
theorem dX1_does_6 : decode cX1_does 6 = .ok (.aload_n 0, 1) := dk_42 (dk_at dksX1_does_0 6 rfl rfl)
theorem dX1_does_7 : decode cX1_does 7 = .ok (.getfield 48, 3) := dk_180 0 48 (dk_at dksX1_does_0 7 rfl rfl)
theorem dX1_does_10 : decode cX1_does 10 = .ok (.iload 4, 2) := dk_21 4 (dk_at dksX1_does_0 10 rfl rfl)
theorem dX1_does_12 : decode cX1_does 12 = .ok (.invokevirtual 85, 3) := dk_182 0 85 (dk_at dksX1_does_0 12 rfl rfl)
theorem dX1_does_15 : decode cX1_does 15 = .ok (.ifCond .eq 5, 3) := dk_153 0 5 (dk_at dksX1_does_0 15 rfl rfl)
theorem dX1_does_18 : decode cX1_does 18 = .ok (.iconst 2, 1) := dk_5 (dk_at dksX1_does_0 18 rfl rfl)
theorem dX1_does_19 : decode cX1_does 19 = .ok (.ireturn, 1) := dk_172 (dk_at dksX1_does_0 19 rfl rfl)
theorem dX1_does_20 : decode cX1_does 20 = .ok (.aload_n 0, 1) := dk_42 (dk_at dksX1_does_0 20 rfl rfl)
theorem dX1_does_21 : decode cX1_does 21 = .ok (.getfield 48, 3) := dk_180 0 48 (dk_at dksX1_does_0 21 rfl rfl)
theorem dX1_does_24 : decode cX1_does 24 = .ok (.iload 4, 2) := dk_21 4 (dk_at dksX1_does_1 0 rfl rfl)
theorem dX1_does_26 : decode cX1_does 26 = .ok (.iload_n 1, 1) := dk_27 (dk_at dksX1_does_1 2 rfl rfl)
theorem dX1_does_27 : decode cX1_does 27 = .ok (.bipush 10, 2) := dk_16 10 (dk_at dksX1_does_1 3 rfl rfl)
theorem dX1_does_29 : decode cX1_does 29 = .ok (.idiv, 1) := dk_108 (dk_at dksX1_does_1 5 rfl rfl)
theorem dX1_does_30 : decode cX1_does 30 = .ok (.bipush 10, 2) := dk_16 10 (dk_at dksX1_does_1 6 rfl rfl)
theorem dX1_does_32 : decode cX1_does 32 = .ok (.irem, 1) := dk_112 (dk_at dksX1_does_1 8 rfl rfl)
theorem dX1_does_33 : decode cX1_does 33 = .ok (.iload_n 1, 1) := dk_27 (dk_at dksX1_does_1 9 rfl rfl)
theorem dX1_does_34 : decode cX1_does 34 = .ok (.bipush 10, 2) := dk_16 10 (dk_at dksX1_does_1 10 rfl rfl)
theorem dX1_does_36 : decode cX1_does 36 = .ok (.irem, 1) := dk_112 (dk_at dksX1_does_1 12 rfl rfl)
theorem dX1_does_37 : decode cX1_does 37 = .ok (.iload_n 2, 1) := dk_28 (dk_at dksX1_does_1 13 rfl rfl)
theorem dX1_does_38 : decode cX1_does 38 = .ok (.iload_n 3, 1) := dk_29 (dk_at dksX1_does_1 14 rfl rfl)
theorem dX1_does_39 : decode cX1_does 39 = .ok (.invokevirtual 88, 3) := dk_182 0 88 (dk_at dksX1_does_1 15 rfl rfl)
theorem dX1_does_42 : decode cX1_does 42 = .ok (.ifCond .eq 7, 3) := dk_153 0 7 (dk_at dksX1_does_1 18 rfl rfl)
theorem dX1_does_45 : decode cX1_does 45 = .ok (.iconst 1, 1) := dk_4 (dk_at dksX1_does_1 21 rfl rfl)
theorem dX1_does_46 : decode cX1_does 46 = .ok (.goto 4, 3) := dk_167 0 4 (dk_at dksX1_does_2 0 rfl rfl)
theorem dX1_does_49 : decode cX1_does 49 = .ok (.iconst 0, 1) := dk_3 (dk_at dksX1_does_2 3 rfl rfl)
theorem dX1_does_50 : decode cX1_does 50 = .ok (.ireturn, 1) := dk_172 (dk_at dksX1_does_2 4 rfl rfl)
abbrev cX1_isSkipped : ByteArray := prog_1_method_60_code
def yX1_isSkipped : MethodName := ⟨RX1, "isSkipped", "(Ljava/lang/Object;I)Z"⟩
def dkwX1_isSkipped_0 : List UInt8 := [42, 27, 184, 1, 70, 42, 184, 1, 74, 160, 0, 7, 4, 167, 0, 4, 3, 172]
abbrev dktX1_isSkipped_0 : List UInt8 := dkwX1_isSkipped_0 ++ []
theorem dksX1_isSkipped_0 : cX1_isSkipped.data.toList.drop 0 = dktX1_isSkipped_0 := by decide +kernel
theorem dX1_isSkipped_0 : decode cX1_isSkipped 0 = .ok (.aload_n 0, 1) := dk_42 (dk_at dksX1_isSkipped_0 0 rfl rfl)
theorem dX1_isSkipped_1 : decode cX1_isSkipped 1 = .ok (.iload_n 1, 1) := dk_27 (dk_at dksX1_isSkipped_0 1 rfl rfl)
theorem dX1_isSkipped_2 : decode cX1_isSkipped 2 = .ok (.invokestatic 326, 3) := dk_184 1 70 (dk_at dksX1_isSkipped_0 2 rfl rfl)
theorem dX1_isSkipped_5 : decode cX1_isSkipped 5 = .ok (.aload_n 0, 1) := dk_42 (dk_at dksX1_isSkipped_0 5 rfl rfl)
theorem dX1_isSkipped_6 : decode cX1_isSkipped 6 = .ok (.invokestatic 330, 3) := dk_184 1 74 (dk_at dksX1_isSkipped_0 6 rfl rfl)
theorem dX1_isSkipped_9 : decode cX1_isSkipped 9 = .ok (.if_icmp .ne 7, 3) := dk_160 0 7 (dk_at dksX1_isSkipped_0 9 rfl rfl)
theorem dX1_isSkipped_12 : decode cX1_isSkipped 12 = .ok (.iconst 1, 1) := dk_4 (dk_at dksX1_isSkipped_0 12 rfl rfl)
theorem dX1_isSkipped_13 : decode cX1_isSkipped 13 = .ok (.goto 4, 3) := dk_167 0 4 (dk_at dksX1_isSkipped_0 13 rfl rfl)
theorem dX1_isSkipped_16 : decode cX1_isSkipped 16 = .ok (.iconst 0, 1) := dk_3 (dk_at dksX1_isSkipped_0 16 rfl rfl)
theorem dX1_isSkipped_17 : decode cX1_isSkipped 17 = .ok (.ireturn, 1) := dk_172 (dk_at dksX1_isSkipped_0 17 rfl rfl)
abbrev cX1_leastElement : ByteArray := prog_1_method_58_code
def yX1_leastElement : MethodName := ⟨RX1, "leastElement", "(Ljava/lang/Object;)I"⟩
def dkwX1_leastElement_1 : List UInt8 := [167, 0, 6, 19, 1, 69, 172]
abbrev dktX1_leastElement_1 : List UInt8 := dkwX1_leastElement_1 ++ []
def dkwX1_leastElement_0 : List UInt8 := [42, 193, 0, 134, 153, 0, 8, 16, 128, 167, 0, 19, 42, 193, 1, 60, 153, 0, 9, 17, 128, 0]
abbrev dktX1_leastElement_0 : List UInt8 := dkwX1_leastElement_0 ++ dktX1_leastElement_1
theorem dksX1_leastElement_0 : cX1_leastElement.data.toList.drop 0 = dktX1_leastElement_0 := by decide +kernel
theorem dksX1_leastElement_1 : cX1_leastElement.data.toList.drop 22 = dktX1_leastElement_1 := dk_seg dksX1_leastElement_0 22 rfl rfl
theorem dX1_leastElement_0 : decode cX1_leastElement 0 = .ok (.aload_n 0, 1) := dk_42 (dk_at dksX1_leastElement_0 0 rfl rfl)
theorem dX1_leastElement_1 : decode cX1_leastElement 1 = .ok (.instanceof 134, 3) := dk_193 0 134 (dk_at dksX1_leastElement_0 1 rfl rfl)
theorem dX1_leastElement_4 : decode cX1_leastElement 4 = .ok (.ifCond .eq 8, 3) := dk_153 0 8 (dk_at dksX1_leastElement_0 4 rfl rfl)
theorem dX1_leastElement_7 : decode cX1_leastElement 7 = .ok (.bipush (-128), 2) := dk_16 128 (dk_at dksX1_leastElement_0 7 rfl rfl)
theorem dX1_leastElement_9 : decode cX1_leastElement 9 = .ok (.goto 19, 3) := dk_167 0 19 (dk_at dksX1_leastElement_0 9 rfl rfl)
theorem dX1_leastElement_12 : decode cX1_leastElement 12 = .ok (.aload_n 0, 1) := dk_42 (dk_at dksX1_leastElement_0 12 rfl rfl)
theorem dX1_leastElement_13 : decode cX1_leastElement 13 = .ok (.instanceof 316, 3) := dk_193 1 60 (dk_at dksX1_leastElement_0 13 rfl rfl)
theorem dX1_leastElement_16 : decode cX1_leastElement 16 = .ok (.ifCond .eq 9, 3) := dk_153 0 9 (dk_at dksX1_leastElement_0 16 rfl rfl)
theorem dX1_leastElement_19 : decode cX1_leastElement 19 = .ok (.sipush (-32768), 3) := dk_17 128 0 (dk_at dksX1_leastElement_0 19 rfl rfl)
theorem dX1_leastElement_22 : decode cX1_leastElement 22 = .ok (.goto 6, 3) := dk_167 0 6 (dk_at dksX1_leastElement_1 0 rfl rfl)
theorem dX1_leastElement_25 : decode cX1_leastElement 25 = .ok (.ldc_w 325, 3) := dk_19 1 69 (dk_at dksX1_leastElement_1 3 rfl rfl)
theorem dX1_leastElement_28 : decode cX1_leastElement 28 = .ok (.ireturn, 1) := dk_172 (dk_at dksX1_leastElement_1 6 rfl rfl)
abbrev cX1_walks : ByteArray := prog_1_method_73_code
def yX1_walks : MethodName := ⟨RX1, "walks", "(III)I"⟩
def dkwX1_walks_7 : List UInt8 := [154, 0, 8, 21, 4, 167, 0, 5, 21, 5, 172]
abbrev dktX1_walks_7 : List UInt8 := dkwX1_walks_7 ++ []
def dkwX1_walks_6 : List UInt8 := [153, 0, 7, 4, 167, 0, 4, 3, 96, 54, 5, 132, 7, 1, 167, 255, 219, 132, 6, 1, 167, 255, 167, 29]
abbrev dktX1_walks_6 : List UInt8 := dkwX1_walks_6 ++ dktX1_walks_7
def dkwX1_walks_5 : List UInt8 := [21, 7, 42, 180, 0, 105, 180, 0, 52, 162, 0, 31, 21, 5, 42, 180, 0, 48, 21, 7, 182, 0, 85]
abbrev dktX1_walks_5 : List UInt8 := dkwX1_walks_5 ++ dktX1_walks_6
def dkwX1_walks_4 : List UInt8 := [182, 1, 127, 153, 0, 7, 4, 167, 0, 4, 3, 96, 54, 4, 132, 7, 1, 167, 255, 229, 3, 54, 7]
abbrev dktX1_walks_4 : List UInt8 := dkwX1_walks_4 ++ dktX1_walks_5
def dkwX1_walks_3 : List UInt8 := [21, 6, 27, 162, 0, 89, 42, 182, 1, 6, 3, 54, 7, 21, 7, 16, 10, 162, 0, 26, 21, 4, 42]
abbrev dktX1_walks_3 : List UInt8 := dkwX1_walks_3 ++ dktX1_walks_4
def dkwX1_walks_2 : List UInt8 := [180, 0, 71, 154, 0, 6, 16, 253, 172, 42, 28, 181, 1, 118, 3, 54, 4, 3, 54, 5, 3, 54, 6]
abbrev dktX1_walks_2 : List UInt8 := dkwX1_walks_2 ++ dktX1_walks_3
def dkwX1_walks_1 : List UInt8 := [180, 0, 105, 180, 0, 52, 153, 0, 23, 42, 180, 0, 105, 180, 0, 64, 153, 0, 13, 42, 180, 0, 105]
abbrev dktX1_walks_1 : List UInt8 := dkwX1_walks_1 ++ dktX1_walks_2
def dkwX1_walks_0 : List UInt8 := [27, 4, 16, 20, 184, 0, 30, 153, 0, 12, 29, 3, 4, 184, 0, 30, 154, 0, 5, 2, 172, 42]
abbrev dktX1_walks_0 : List UInt8 := dkwX1_walks_0 ++ dktX1_walks_1
theorem dksX1_walks_0 : cX1_walks.data.toList.drop 0 = dktX1_walks_0 := by decide +kernel
theorem dksX1_walks_1 : cX1_walks.data.toList.drop 22 = dktX1_walks_1 := dk_seg dksX1_walks_0 22 rfl rfl
theorem dksX1_walks_2 : cX1_walks.data.toList.drop 45 = dktX1_walks_2 := dk_seg dksX1_walks_1 23 rfl rfl
theorem dksX1_walks_3 : cX1_walks.data.toList.drop 68 = dktX1_walks_3 := dk_seg dksX1_walks_2 23 rfl rfl
theorem dksX1_walks_4 : cX1_walks.data.toList.drop 91 = dktX1_walks_4 := dk_seg dksX1_walks_3 23 rfl rfl
theorem dksX1_walks_5 : cX1_walks.data.toList.drop 114 = dktX1_walks_5 := dk_seg dksX1_walks_4 23 rfl rfl
theorem dksX1_walks_6 : cX1_walks.data.toList.drop 137 = dktX1_walks_6 := dk_seg dksX1_walks_5 23 rfl rfl
theorem dksX1_walks_7 : cX1_walks.data.toList.drop 161 = dktX1_walks_7 := dk_seg dksX1_walks_6 24 rfl rfl
theorem dX1_walks_0 : decode cX1_walks 0 = .ok (.iload_n 1, 1) := dk_27 (dk_at dksX1_walks_0 0 rfl rfl)
theorem dX1_walks_1 : decode cX1_walks 1 = .ok (.iconst 1, 1) := dk_4 (dk_at dksX1_walks_0 1 rfl rfl)
theorem dX1_walks_2 : decode cX1_walks 2 = .ok (.bipush 20, 2) := dk_16 20 (dk_at dksX1_walks_0 2 rfl rfl)
theorem dX1_walks_4 : decode cX1_walks 4 = .ok (.invokestatic 30, 3) := dk_184 0 30 (dk_at dksX1_walks_0 4 rfl rfl)
theorem dX1_walks_7 : decode cX1_walks 7 = .ok (.ifCond .eq 12, 3) := dk_153 0 12 (dk_at dksX1_walks_0 7 rfl rfl)
theorem dX1_walks_10 : decode cX1_walks 10 = .ok (.iload_n 3, 1) := dk_29 (dk_at dksX1_walks_0 10 rfl rfl)
theorem dX1_walks_11 : decode cX1_walks 11 = .ok (.iconst 0, 1) := dk_3 (dk_at dksX1_walks_0 11 rfl rfl)
theorem dX1_walks_12 : decode cX1_walks 12 = .ok (.iconst 1, 1) := dk_4 (dk_at dksX1_walks_0 12 rfl rfl)
theorem dX1_walks_13 : decode cX1_walks 13 = .ok (.invokestatic 30, 3) := dk_184 0 30 (dk_at dksX1_walks_0 13 rfl rfl)
theorem dX1_walks_16 : decode cX1_walks 16 = .ok (.ifCond .ne 5, 3) := dk_154 0 5 (dk_at dksX1_walks_0 16 rfl rfl)
theorem dX1_walks_19 : decode cX1_walks 19 = .ok (.iconst (-1), 1) := dk_2 (dk_at dksX1_walks_0 19 rfl rfl)
theorem dX1_walks_20 : decode cX1_walks 20 = .ok (.ireturn, 1) := dk_172 (dk_at dksX1_walks_0 20 rfl rfl)
theorem dX1_walks_21 : decode cX1_walks 21 = .ok (.aload_n 0, 1) := dk_42 (dk_at dksX1_walks_0 21 rfl rfl)
theorem dX1_walks_22 : decode cX1_walks 22 = .ok (.getfield 105, 3) := dk_180 0 105 (dk_at dksX1_walks_1 0 rfl rfl)
theorem dX1_walks_25 : decode cX1_walks 25 = .ok (.getfield 52, 3) := dk_180 0 52 (dk_at dksX1_walks_1 3 rfl rfl)
theorem dX1_walks_28 : decode cX1_walks 28 = .ok (.ifCond .eq 23, 3) := dk_153 0 23 (dk_at dksX1_walks_1 6 rfl rfl)
theorem dX1_walks_31 : decode cX1_walks 31 = .ok (.aload_n 0, 1) := dk_42 (dk_at dksX1_walks_1 9 rfl rfl)
theorem dX1_walks_32 : decode cX1_walks 32 = .ok (.getfield 105, 3) := dk_180 0 105 (dk_at dksX1_walks_1 10 rfl rfl)
theorem dX1_walks_35 : decode cX1_walks 35 = .ok (.getfield 64, 3) := dk_180 0 64 (dk_at dksX1_walks_1 13 rfl rfl)
theorem dX1_walks_38 : decode cX1_walks 38 = .ok (.ifCond .eq 13, 3) := dk_153 0 13 (dk_at dksX1_walks_1 16 rfl rfl)
theorem dX1_walks_41 : decode cX1_walks 41 = .ok (.aload_n 0, 1) := dk_42 (dk_at dksX1_walks_1 19 rfl rfl)
theorem dX1_walks_42 : decode cX1_walks 42 = .ok (.getfield 105, 3) := dk_180 0 105 (dk_at dksX1_walks_1 20 rfl rfl)
theorem dX1_walks_45 : decode cX1_walks 45 = .ok (.getfield 71, 3) := dk_180 0 71 (dk_at dksX1_walks_2 0 rfl rfl)
theorem dX1_walks_48 : decode cX1_walks 48 = .ok (.ifCond .ne 6, 3) := dk_154 0 6 (dk_at dksX1_walks_2 3 rfl rfl)
theorem dX1_walks_51 : decode cX1_walks 51 = .ok (.bipush (-3), 2) := dk_16 253 (dk_at dksX1_walks_2 6 rfl rfl)
theorem dX1_walks_53 : decode cX1_walks 53 = .ok (.ireturn, 1) := dk_172 (dk_at dksX1_walks_2 8 rfl rfl)
theorem dX1_walks_54 : decode cX1_walks 54 = .ok (.aload_n 0, 1) := dk_42 (dk_at dksX1_walks_2 9 rfl rfl)
theorem dX1_walks_55 : decode cX1_walks 55 = .ok (.iload_n 2, 1) := dk_28 (dk_at dksX1_walks_2 10 rfl rfl)
theorem dX1_walks_56 : decode cX1_walks 56 = .ok (.putfield 374, 3) := dk_181 1 118 (dk_at dksX1_walks_2 11 rfl rfl)
theorem dX1_walks_59 : decode cX1_walks 59 = .ok (.iconst 0, 1) := dk_3 (dk_at dksX1_walks_2 14 rfl rfl)
theorem dX1_walks_60 : decode cX1_walks 60 = .ok (.istore 4, 2) := dk_54 4 (dk_at dksX1_walks_2 15 rfl rfl)
theorem dX1_walks_62 : decode cX1_walks 62 = .ok (.iconst 0, 1) := dk_3 (dk_at dksX1_walks_2 17 rfl rfl)
theorem dX1_walks_63 : decode cX1_walks 63 = .ok (.istore 5, 2) := dk_54 5 (dk_at dksX1_walks_2 18 rfl rfl)
theorem dX1_walks_65 : decode cX1_walks 65 = .ok (.iconst 0, 1) := dk_3 (dk_at dksX1_walks_2 20 rfl rfl)
theorem dX1_walks_66 : decode cX1_walks 66 = .ok (.istore 6, 2) := dk_54 6 (dk_at dksX1_walks_2 21 rfl rfl)
theorem dX1_walks_68 : decode cX1_walks 68 = .ok (.iload 6, 2) := dk_21 6 (dk_at dksX1_walks_3 0 rfl rfl)
theorem dX1_walks_70 : decode cX1_walks 70 = .ok (.iload_n 1, 1) := dk_27 (dk_at dksX1_walks_3 2 rfl rfl)
theorem dX1_walks_71 : decode cX1_walks 71 = .ok (.if_icmp .ge 89, 3) := dk_162 0 89 (dk_at dksX1_walks_3 3 rfl rfl)
theorem dX1_walks_74 : decode cX1_walks 74 = .ok (.aload_n 0, 1) := dk_42 (dk_at dksX1_walks_3 6 rfl rfl)
theorem dX1_walks_75 : decode cX1_walks 75 = .ok (.invokevirtual 262, 3) := dk_182 1 6 (dk_at dksX1_walks_3 7 rfl rfl)
theorem dX1_walks_78 : decode cX1_walks 78 = .ok (.iconst 0, 1) := dk_3 (dk_at dksX1_walks_3 10 rfl rfl)
theorem dX1_walks_79 : decode cX1_walks 79 = .ok (.istore 7, 2) := dk_54 7 (dk_at dksX1_walks_3 11 rfl rfl)
theorem dX1_walks_81 : decode cX1_walks 81 = .ok (.iload 7, 2) := dk_21 7 (dk_at dksX1_walks_3 13 rfl rfl)
theorem dX1_walks_83 : decode cX1_walks 83 = .ok (.bipush 10, 2) := dk_16 10 (dk_at dksX1_walks_3 15 rfl rfl)
theorem dX1_walks_85 : decode cX1_walks 85 = .ok (.if_icmp .ge 26, 3) := dk_162 0 26 (dk_at dksX1_walks_3 17 rfl rfl)
theorem dX1_walks_88 : decode cX1_walks 88 = .ok (.iload 4, 2) := dk_21 4 (dk_at dksX1_walks_3 20 rfl rfl)
theorem dX1_walks_90 : decode cX1_walks 90 = .ok (.aload_n 0, 1) := dk_42 (dk_at dksX1_walks_3 22 rfl rfl)
theorem dX1_walks_91 : decode cX1_walks 91 = .ok (.invokevirtual 383, 3) := dk_182 1 127 (dk_at dksX1_walks_4 0 rfl rfl)
theorem dX1_walks_94 : decode cX1_walks 94 = .ok (.ifCond .eq 7, 3) := dk_153 0 7 (dk_at dksX1_walks_4 3 rfl rfl)
theorem dX1_walks_97 : decode cX1_walks 97 = .ok (.iconst 1, 1) := dk_4 (dk_at dksX1_walks_4 6 rfl rfl)
theorem dX1_walks_98 : decode cX1_walks 98 = .ok (.goto 4, 3) := dk_167 0 4 (dk_at dksX1_walks_4 7 rfl rfl)
theorem dX1_walks_101 : decode cX1_walks 101 = .ok (.iconst 0, 1) := dk_3 (dk_at dksX1_walks_4 10 rfl rfl)
theorem dX1_walks_102 : decode cX1_walks 102 = .ok (.iadd, 1) := dk_96 (dk_at dksX1_walks_4 11 rfl rfl)
theorem dX1_walks_103 : decode cX1_walks 103 = .ok (.istore 4, 2) := dk_54 4 (dk_at dksX1_walks_4 12 rfl rfl)
theorem dX1_walks_105 : decode cX1_walks 105 = .ok (.iinc 7 1, 3) := dk_132 7 1 (dk_at dksX1_walks_4 14 rfl rfl)
theorem dX1_walks_108 : decode cX1_walks 108 = .ok (.goto (-27), 3) := dk_167 255 229 (dk_at dksX1_walks_4 17 rfl rfl)
theorem dX1_walks_111 : decode cX1_walks 111 = .ok (.iconst 0, 1) := dk_3 (dk_at dksX1_walks_4 20 rfl rfl)
theorem dX1_walks_112 : decode cX1_walks 112 = .ok (.istore 7, 2) := dk_54 7 (dk_at dksX1_walks_4 21 rfl rfl)
theorem dX1_walks_114 : decode cX1_walks 114 = .ok (.iload 7, 2) := dk_21 7 (dk_at dksX1_walks_5 0 rfl rfl)
theorem dX1_walks_116 : decode cX1_walks 116 = .ok (.aload_n 0, 1) := dk_42 (dk_at dksX1_walks_5 2 rfl rfl)
theorem dX1_walks_117 : decode cX1_walks 117 = .ok (.getfield 105, 3) := dk_180 0 105 (dk_at dksX1_walks_5 3 rfl rfl)
theorem dX1_walks_120 : decode cX1_walks 120 = .ok (.getfield 52, 3) := dk_180 0 52 (dk_at dksX1_walks_5 6 rfl rfl)
theorem dX1_walks_123 : decode cX1_walks 123 = .ok (.if_icmp .ge 31, 3) := dk_162 0 31 (dk_at dksX1_walks_5 9 rfl rfl)
theorem dX1_walks_126 : decode cX1_walks 126 = .ok (.iload 5, 2) := dk_21 5 (dk_at dksX1_walks_5 12 rfl rfl)
theorem dX1_walks_128 : decode cX1_walks 128 = .ok (.aload_n 0, 1) := dk_42 (dk_at dksX1_walks_5 14 rfl rfl)
theorem dX1_walks_129 : decode cX1_walks 129 = .ok (.getfield 48, 3) := dk_180 0 48 (dk_at dksX1_walks_5 15 rfl rfl)
theorem dX1_walks_132 : decode cX1_walks 132 = .ok (.iload 7, 2) := dk_21 7 (dk_at dksX1_walks_5 18 rfl rfl)
theorem dX1_walks_134 : decode cX1_walks 134 = .ok (.invokevirtual 85, 3) := dk_182 0 85 (dk_at dksX1_walks_5 20 rfl rfl)
theorem dX1_walks_137 : decode cX1_walks 137 = .ok (.ifCond .eq 7, 3) := dk_153 0 7 (dk_at dksX1_walks_6 0 rfl rfl)
theorem dX1_walks_140 : decode cX1_walks 140 = .ok (.iconst 1, 1) := dk_4 (dk_at dksX1_walks_6 3 rfl rfl)
theorem dX1_walks_141 : decode cX1_walks 141 = .ok (.goto 4, 3) := dk_167 0 4 (dk_at dksX1_walks_6 4 rfl rfl)
theorem dX1_walks_144 : decode cX1_walks 144 = .ok (.iconst 0, 1) := dk_3 (dk_at dksX1_walks_6 7 rfl rfl)
theorem dX1_walks_145 : decode cX1_walks 145 = .ok (.iadd, 1) := dk_96 (dk_at dksX1_walks_6 8 rfl rfl)
theorem dX1_walks_146 : decode cX1_walks 146 = .ok (.istore 5, 2) := dk_54 5 (dk_at dksX1_walks_6 9 rfl rfl)
theorem dX1_walks_148 : decode cX1_walks 148 = .ok (.iinc 7 1, 3) := dk_132 7 1 (dk_at dksX1_walks_6 11 rfl rfl)
theorem dX1_walks_151 : decode cX1_walks 151 = .ok (.goto (-37), 3) := dk_167 255 219 (dk_at dksX1_walks_6 14 rfl rfl)
theorem dX1_walks_154 : decode cX1_walks 154 = .ok (.iinc 6 1, 3) := dk_132 6 1 (dk_at dksX1_walks_6 17 rfl rfl)
theorem dX1_walks_157 : decode cX1_walks 157 = .ok (.goto (-89), 3) := dk_167 255 167 (dk_at dksX1_walks_6 20 rfl rfl)
theorem dX1_walks_160 : decode cX1_walks 160 = .ok (.iload_n 3, 1) := dk_29 (dk_at dksX1_walks_6 23 rfl rfl)
theorem dX1_walks_161 : decode cX1_walks 161 = .ok (.ifCond .ne 8, 3) := dk_154 0 8 (dk_at dksX1_walks_7 0 rfl rfl)
theorem dX1_walks_164 : decode cX1_walks 164 = .ok (.iload 4, 2) := dk_21 4 (dk_at dksX1_walks_7 3 rfl rfl)
theorem dX1_walks_166 : decode cX1_walks 166 = .ok (.goto 5, 3) := dk_167 0 5 (dk_at dksX1_walks_7 5 rfl rfl)
theorem dX1_walks_169 : decode cX1_walks 169 = .ok (.iload 5, 2) := dk_21 5 (dk_at dksX1_walks_7 8 rfl rfl)
theorem dX1_walks_171 : decode cX1_walks 171 = .ok (.ireturn, 1) := dk_172 (dk_at dksX1_walks_7 10 rfl rfl)
abbrev cX1_triesDrawn : ByteArray := prog_1_method_72_code
def yX1_triesDrawn : MethodName := ⟨RX1, "triesDrawn", "()Z"⟩
def dkwX1_triesDrawn_3 : List UInt8 := [21, 4, 21, 5, 182, 0, 88, 153, 0, 7, 4, 167, 0, 4, 3, 172]
abbrev dktX1_triesDrawn_3 : List UInt8 := dkwX1_triesDrawn_3 ++ []
def dkwX1_triesDrawn_2 : List UInt8 := [182, 1, 124, 54, 5, 42, 180, 0, 48, 27, 182, 0, 85, 154, 0, 24, 42, 180, 0, 48, 27, 28, 29]
abbrev dktX1_triesDrawn_2 : List UInt8 := dkwX1_triesDrawn_2 ++ dktX1_triesDrawn_3
def dkwX1_triesDrawn_1 : List UInt8 := [42, 42, 180, 0, 105, 180, 0, 71, 182, 1, 124, 62, 42, 16, 61, 182, 1, 124, 54, 4, 42, 16, 61]
abbrev dktX1_triesDrawn_1 : List UInt8 := dkwX1_triesDrawn_1 ++ dktX1_triesDrawn_2
def dkwX1_triesDrawn_0 : List UInt8 := [42, 42, 180, 0, 105, 180, 0, 52, 182, 1, 124, 60, 42, 42, 180, 0, 105, 180, 0, 64, 182, 1, 124, 61]
abbrev dktX1_triesDrawn_0 : List UInt8 := dkwX1_triesDrawn_0 ++ dktX1_triesDrawn_1
theorem dksX1_triesDrawn_0 : cX1_triesDrawn.data.toList.drop 0 = dktX1_triesDrawn_0 := by decide +kernel
theorem dksX1_triesDrawn_1 : cX1_triesDrawn.data.toList.drop 24 = dktX1_triesDrawn_1 := dk_seg dksX1_triesDrawn_0 24 rfl rfl
theorem dksX1_triesDrawn_2 : cX1_triesDrawn.data.toList.drop 47 = dktX1_triesDrawn_2 := dk_seg dksX1_triesDrawn_1 23 rfl rfl
theorem dksX1_triesDrawn_3 : cX1_triesDrawn.data.toList.drop 70 = dktX1_triesDrawn_3 := dk_seg dksX1_triesDrawn_2 23 rfl rfl
theorem dX1_triesDrawn_0 : decode cX1_triesDrawn 0 = .ok (.aload_n 0, 1) := dk_42 (dk_at dksX1_triesDrawn_0 0 rfl rfl)
theorem dX1_triesDrawn_1 : decode cX1_triesDrawn 1 = .ok (.aload_n 0, 1) := dk_42 (dk_at dksX1_triesDrawn_0 1 rfl rfl)
theorem dX1_triesDrawn_2 : decode cX1_triesDrawn 2 = .ok (.getfield 105, 3) := dk_180 0 105 (dk_at dksX1_triesDrawn_0 2 rfl rfl)
theorem dX1_triesDrawn_5 : decode cX1_triesDrawn 5 = .ok (.getfield 52, 3) := dk_180 0 52 (dk_at dksX1_triesDrawn_0 5 rfl rfl)
theorem dX1_triesDrawn_8 : decode cX1_triesDrawn 8 = .ok (.invokevirtual 380, 3) := dk_182 1 124 (dk_at dksX1_triesDrawn_0 8 rfl rfl)
theorem dX1_triesDrawn_11 : decode cX1_triesDrawn 11 = .ok (.istore_n 1, 1) := dk_60 (dk_at dksX1_triesDrawn_0 11 rfl rfl)
theorem dX1_triesDrawn_12 : decode cX1_triesDrawn 12 = .ok (.aload_n 0, 1) := dk_42 (dk_at dksX1_triesDrawn_0 12 rfl rfl)
theorem dX1_triesDrawn_13 : decode cX1_triesDrawn 13 = .ok (.aload_n 0, 1) := dk_42 (dk_at dksX1_triesDrawn_0 13 rfl rfl)
theorem dX1_triesDrawn_14 : decode cX1_triesDrawn 14 = .ok (.getfield 105, 3) := dk_180 0 105 (dk_at dksX1_triesDrawn_0 14 rfl rfl)
theorem dX1_triesDrawn_17 : decode cX1_triesDrawn 17 = .ok (.getfield 64, 3) := dk_180 0 64 (dk_at dksX1_triesDrawn_0 17 rfl rfl)
theorem dX1_triesDrawn_20 : decode cX1_triesDrawn 20 = .ok (.invokevirtual 380, 3) := dk_182 1 124 (dk_at dksX1_triesDrawn_0 20 rfl rfl)
theorem dX1_triesDrawn_23 : decode cX1_triesDrawn 23 = .ok (.istore_n 2, 1) := dk_61 (dk_at dksX1_triesDrawn_0 23 rfl rfl)
theorem dX1_triesDrawn_24 : decode cX1_triesDrawn 24 = .ok (.aload_n 0, 1) := dk_42 (dk_at dksX1_triesDrawn_1 0 rfl rfl)
theorem dX1_triesDrawn_25 : decode cX1_triesDrawn 25 = .ok (.aload_n 0, 1) := dk_42 (dk_at dksX1_triesDrawn_1 1 rfl rfl)
theorem dX1_triesDrawn_26 : decode cX1_triesDrawn 26 = .ok (.getfield 105, 3) := dk_180 0 105 (dk_at dksX1_triesDrawn_1 2 rfl rfl)
theorem dX1_triesDrawn_29 : decode cX1_triesDrawn 29 = .ok (.getfield 71, 3) := dk_180 0 71 (dk_at dksX1_triesDrawn_1 5 rfl rfl)
theorem dX1_triesDrawn_32 : decode cX1_triesDrawn 32 = .ok (.invokevirtual 380, 3) := dk_182 1 124 (dk_at dksX1_triesDrawn_1 8 rfl rfl)
theorem dX1_triesDrawn_35 : decode cX1_triesDrawn 35 = .ok (.istore_n 3, 1) := dk_62 (dk_at dksX1_triesDrawn_1 11 rfl rfl)
theorem dX1_triesDrawn_36 : decode cX1_triesDrawn 36 = .ok (.aload_n 0, 1) := dk_42 (dk_at dksX1_triesDrawn_1 12 rfl rfl)
theorem dX1_triesDrawn_37 : decode cX1_triesDrawn 37 = .ok (.bipush 61, 2) := dk_16 61 (dk_at dksX1_triesDrawn_1 13 rfl rfl)
theorem dX1_triesDrawn_39 : decode cX1_triesDrawn 39 = .ok (.invokevirtual 380, 3) := dk_182 1 124 (dk_at dksX1_triesDrawn_1 15 rfl rfl)
theorem dX1_triesDrawn_42 : decode cX1_triesDrawn 42 = .ok (.istore 4, 2) := dk_54 4 (dk_at dksX1_triesDrawn_1 18 rfl rfl)
theorem dX1_triesDrawn_44 : decode cX1_triesDrawn 44 = .ok (.aload_n 0, 1) := dk_42 (dk_at dksX1_triesDrawn_1 20 rfl rfl)
theorem dX1_triesDrawn_45 : decode cX1_triesDrawn 45 = .ok (.bipush 61, 2) := dk_16 61 (dk_at dksX1_triesDrawn_1 21 rfl rfl)
theorem dX1_triesDrawn_47 : decode cX1_triesDrawn 47 = .ok (.invokevirtual 380, 3) := dk_182 1 124 (dk_at dksX1_triesDrawn_2 0 rfl rfl)
theorem dX1_triesDrawn_50 : decode cX1_triesDrawn 50 = .ok (.istore 5, 2) := dk_54 5 (dk_at dksX1_triesDrawn_2 3 rfl rfl)
theorem dX1_triesDrawn_52 : decode cX1_triesDrawn 52 = .ok (.aload_n 0, 1) := dk_42 (dk_at dksX1_triesDrawn_2 5 rfl rfl)
theorem dX1_triesDrawn_53 : decode cX1_triesDrawn 53 = .ok (.getfield 48, 3) := dk_180 0 48 (dk_at dksX1_triesDrawn_2 6 rfl rfl)
theorem dX1_triesDrawn_56 : decode cX1_triesDrawn 56 = .ok (.iload_n 1, 1) := dk_27 (dk_at dksX1_triesDrawn_2 9 rfl rfl)
theorem dX1_triesDrawn_57 : decode cX1_triesDrawn 57 = .ok (.invokevirtual 85, 3) := dk_182 0 85 (dk_at dksX1_triesDrawn_2 10 rfl rfl)
theorem dX1_triesDrawn_60 : decode cX1_triesDrawn 60 = .ok (.ifCond .ne 24, 3) := dk_154 0 24 (dk_at dksX1_triesDrawn_2 13 rfl rfl)
theorem dX1_triesDrawn_63 : decode cX1_triesDrawn 63 = .ok (.aload_n 0, 1) := dk_42 (dk_at dksX1_triesDrawn_2 16 rfl rfl)
theorem dX1_triesDrawn_64 : decode cX1_triesDrawn 64 = .ok (.getfield 48, 3) := dk_180 0 48 (dk_at dksX1_triesDrawn_2 17 rfl rfl)
theorem dX1_triesDrawn_67 : decode cX1_triesDrawn 67 = .ok (.iload_n 1, 1) := dk_27 (dk_at dksX1_triesDrawn_2 20 rfl rfl)
theorem dX1_triesDrawn_68 : decode cX1_triesDrawn 68 = .ok (.iload_n 2, 1) := dk_28 (dk_at dksX1_triesDrawn_2 21 rfl rfl)
theorem dX1_triesDrawn_69 : decode cX1_triesDrawn 69 = .ok (.iload_n 3, 1) := dk_29 (dk_at dksX1_triesDrawn_2 22 rfl rfl)
theorem dX1_triesDrawn_70 : decode cX1_triesDrawn 70 = .ok (.iload 4, 2) := dk_21 4 (dk_at dksX1_triesDrawn_3 0 rfl rfl)
theorem dX1_triesDrawn_72 : decode cX1_triesDrawn 72 = .ok (.iload 5, 2) := dk_21 5 (dk_at dksX1_triesDrawn_3 2 rfl rfl)
theorem dX1_triesDrawn_74 : decode cX1_triesDrawn 74 = .ok (.invokevirtual 88, 3) := dk_182 0 88 (dk_at dksX1_triesDrawn_3 4 rfl rfl)
theorem dX1_triesDrawn_77 : decode cX1_triesDrawn 77 = .ok (.ifCond .eq 7, 3) := dk_153 0 7 (dk_at dksX1_triesDrawn_3 7 rfl rfl)
theorem dX1_triesDrawn_80 : decode cX1_triesDrawn 80 = .ok (.iconst 1, 1) := dk_4 (dk_at dksX1_triesDrawn_3 10 rfl rfl)
theorem dX1_triesDrawn_81 : decode cX1_triesDrawn 81 = .ok (.goto 4, 3) := dk_167 0 4 (dk_at dksX1_triesDrawn_3 11 rfl rfl)
theorem dX1_triesDrawn_84 : decode cX1_triesDrawn 84 = .ok (.iconst 0, 1) := dk_3 (dk_at dksX1_triesDrawn_3 14 rfl rfl)
theorem dX1_triesDrawn_85 : decode cX1_triesDrawn 85 = .ok (.ireturn, 1) := dk_172 (dk_at dksX1_triesDrawn_3 15 rfl rfl)
abbrev cX1_draw : ByteArray := prog_1_method_71_code
def yX1_draw : MethodName := ⟨RX1, "draw", "(I)I"⟩
def dkwX1_draw_1 : List UInt8 := [19, 1, 123, 108, 27, 112, 172]
abbrev dktX1_draw_1 : List UInt8 := dkwX1_draw_1 ++ []
def dkwX1_draw_0 : List UInt8 := [42, 42, 180, 1, 118, 19, 1, 121, 104, 17, 48, 57, 96, 181, 1, 118, 42, 180, 1, 118, 19, 1, 122, 126]
abbrev dktX1_draw_0 : List UInt8 := dkwX1_draw_0 ++ dktX1_draw_1
theorem dksX1_draw_0 : cX1_draw.data.toList.drop 0 = dktX1_draw_0 := by decide +kernel
theorem dksX1_draw_1 : cX1_draw.data.toList.drop 24 = dktX1_draw_1 := dk_seg dksX1_draw_0 24 rfl rfl
theorem dX1_draw_0 : decode cX1_draw 0 = .ok (.aload_n 0, 1) := dk_42 (dk_at dksX1_draw_0 0 rfl rfl)
theorem dX1_draw_1 : decode cX1_draw 1 = .ok (.aload_n 0, 1) := dk_42 (dk_at dksX1_draw_0 1 rfl rfl)
theorem dX1_draw_2 : decode cX1_draw 2 = .ok (.getfield 374, 3) := dk_180 1 118 (dk_at dksX1_draw_0 2 rfl rfl)
theorem dX1_draw_5 : decode cX1_draw 5 = .ok (.ldc_w 377, 3) := dk_19 1 121 (dk_at dksX1_draw_0 5 rfl rfl)
theorem dX1_draw_8 : decode cX1_draw 8 = .ok (.imul, 1) := dk_104 (dk_at dksX1_draw_0 8 rfl rfl)
theorem dX1_draw_9 : decode cX1_draw 9 = .ok (.sipush 12345, 3) := dk_17 48 57 (dk_at dksX1_draw_0 9 rfl rfl)
theorem dX1_draw_12 : decode cX1_draw 12 = .ok (.iadd, 1) := dk_96 (dk_at dksX1_draw_0 12 rfl rfl)
theorem dX1_draw_13 : decode cX1_draw 13 = .ok (.putfield 374, 3) := dk_181 1 118 (dk_at dksX1_draw_0 13 rfl rfl)
theorem dX1_draw_16 : decode cX1_draw 16 = .ok (.aload_n 0, 1) := dk_42 (dk_at dksX1_draw_0 16 rfl rfl)
theorem dX1_draw_17 : decode cX1_draw 17 = .ok (.getfield 374, 3) := dk_180 1 118 (dk_at dksX1_draw_0 17 rfl rfl)
theorem dX1_draw_20 : decode cX1_draw 20 = .ok (.ldc_w 378, 3) := dk_19 1 122 (dk_at dksX1_draw_0 20 rfl rfl)
theorem dX1_draw_23 : decode cX1_draw 23 = .ok (.iand, 1) := dk_126 (dk_at dksX1_draw_0 23 rfl rfl)
theorem dX1_draw_24 : decode cX1_draw 24 = .ok (.ldc_w 379, 3) := dk_19 1 123 (dk_at dksX1_draw_1 0 rfl rfl)
theorem dX1_draw_27 : decode cX1_draw 27 = .ok (.idiv, 1) := dk_108 (dk_at dksX1_draw_1 3 rfl rfl)
theorem dX1_draw_28 : decode cX1_draw 28 = .ok (.iload_n 1, 1) := dk_27 (dk_at dksX1_draw_1 4 rfl rfl)
theorem dX1_draw_29 : decode cX1_draw 29 = .ok (.irem, 1) := dk_112 (dk_at dksX1_draw_1 5 rfl rfl)
theorem dX1_draw_30 : decode cX1_draw 30 = .ok (.ireturn, 1) := dk_172 (dk_at dksX1_draw_1 6 rfl rfl)
abbrev cX1_image : ByteArray := prog_1_method_74_code
def yX1_image : MethodName := ⟨RX1, "image", "()I"⟩
def dkwX1_image_0 : List UInt8 := [42, 180, 1, 131, 42, 180, 0, 105, 182, 0, 108, 42, 4, 181, 1, 134, 42, 180, 0, 105, 180, 0, 52, 172]
abbrev dktX1_image_0 : List UInt8 := dkwX1_image_0 ++ []
theorem dksX1_image_0 : cX1_image.data.toList.drop 0 = dktX1_image_0 := by decide +kernel
theorem dX1_image_0 : decode cX1_image 0 = .ok (.aload_n 0, 1) := dk_42 (dk_at dksX1_image_0 0 rfl rfl)
theorem dX1_image_1 : decode cX1_image 1 = .ok (.getfield 387, 3) := dk_180 1 131 (dk_at dksX1_image_0 1 rfl rfl)
theorem dX1_image_4 : decode cX1_image 4 = .ok (.aload_n 0, 1) := dk_42 (dk_at dksX1_image_0 4 rfl rfl)
theorem dX1_image_5 : decode cX1_image 5 = .ok (.getfield 105, 3) := dk_180 0 105 (dk_at dksX1_image_0 5 rfl rfl)
theorem dX1_image_8 : decode cX1_image 8 = .ok (.invokevirtual 108, 3) := dk_182 0 108 (dk_at dksX1_image_0 8 rfl rfl)
theorem dX1_image_11 : decode cX1_image 11 = .ok (.aload_n 0, 1) := dk_42 (dk_at dksX1_image_0 11 rfl rfl)
theorem dX1_image_12 : decode cX1_image 12 = .ok (.iconst 1, 1) := dk_4 (dk_at dksX1_image_0 12 rfl rfl)
theorem dX1_image_13 : decode cX1_image 13 = .ok (.putfield 390, 3) := dk_181 1 134 (dk_at dksX1_image_0 13 rfl rfl)
theorem dX1_image_16 : decode cX1_image 16 = .ok (.aload_n 0, 1) := dk_42 (dk_at dksX1_image_0 16 rfl rfl)
theorem dX1_image_17 : decode cX1_image 17 = .ok (.getfield 105, 3) := dk_180 0 105 (dk_at dksX1_image_0 17 rfl rfl)
theorem dX1_image_20 : decode cX1_image 20 = .ok (.getfield 52, 3) := dk_180 0 52 (dk_at dksX1_image_0 20 rfl rfl)
theorem dX1_image_23 : decode cX1_image 23 = .ok (.ireturn, 1) := dk_172 (dk_at dksX1_image_0 23 rfl rfl)
abbrev cX1_restore : ByteArray := prog_1_method_75_code
def yX1_restore : MethodName := ⟨RX1, "restore", "()I"⟩
def dkwX1_restore_1 : List UInt8 := [180, 0, 105, 180, 0, 52, 172]
abbrev dktX1_restore_1 : List UInt8 := dkwX1_restore_1 ++ []
def dkwX1_restore_0 : List UInt8 := [42, 180, 1, 134, 154, 0, 6, 16, 253, 172, 42, 180, 0, 105, 42, 180, 1, 131, 182, 0, 108, 42]
abbrev dktX1_restore_0 : List UInt8 := dkwX1_restore_0 ++ dktX1_restore_1
theorem dksX1_restore_0 : cX1_restore.data.toList.drop 0 = dktX1_restore_0 := by decide +kernel
theorem dksX1_restore_1 : cX1_restore.data.toList.drop 22 = dktX1_restore_1 := dk_seg dksX1_restore_0 22 rfl rfl
theorem dX1_restore_0 : decode cX1_restore 0 = .ok (.aload_n 0, 1) := dk_42 (dk_at dksX1_restore_0 0 rfl rfl)
theorem dX1_restore_1 : decode cX1_restore 1 = .ok (.getfield 390, 3) := dk_180 1 134 (dk_at dksX1_restore_0 1 rfl rfl)
theorem dX1_restore_4 : decode cX1_restore 4 = .ok (.ifCond .ne 6, 3) := dk_154 0 6 (dk_at dksX1_restore_0 4 rfl rfl)
theorem dX1_restore_7 : decode cX1_restore 7 = .ok (.bipush (-3), 2) := dk_16 253 (dk_at dksX1_restore_0 7 rfl rfl)
theorem dX1_restore_9 : decode cX1_restore 9 = .ok (.ireturn, 1) := dk_172 (dk_at dksX1_restore_0 9 rfl rfl)
theorem dX1_restore_10 : decode cX1_restore 10 = .ok (.aload_n 0, 1) := dk_42 (dk_at dksX1_restore_0 10 rfl rfl)
theorem dX1_restore_11 : decode cX1_restore 11 = .ok (.getfield 105, 3) := dk_180 0 105 (dk_at dksX1_restore_0 11 rfl rfl)
theorem dX1_restore_14 : decode cX1_restore 14 = .ok (.aload_n 0, 1) := dk_42 (dk_at dksX1_restore_0 14 rfl rfl)
theorem dX1_restore_15 : decode cX1_restore 15 = .ok (.getfield 387, 3) := dk_180 1 131 (dk_at dksX1_restore_0 15 rfl rfl)
theorem dX1_restore_18 : decode cX1_restore 18 = .ok (.invokevirtual 108, 3) := dk_182 0 108 (dk_at dksX1_restore_0 18 rfl rfl)
theorem dX1_restore_21 : decode cX1_restore 21 = .ok (.aload_n 0, 1) := dk_42 (dk_at dksX1_restore_0 21 rfl rfl)
theorem dX1_restore_22 : decode cX1_restore 22 = .ok (.getfield 105, 3) := dk_180 0 105 (dk_at dksX1_restore_1 0 rfl rfl)
theorem dX1_restore_25 : decode cX1_restore 25 = .ok (.getfield 52, 3) := dk_180 0 52 (dk_at dksX1_restore_1 3 rfl rfl)
theorem dX1_restore_28 : decode cX1_restore 28 = .ok (.ireturn, 1) := dk_172 (dk_at dksX1_restore_1 6 rfl rfl)
abbrev cX1_count : ByteArray := prog_1_method_76_code
def yX1_count : MethodName := ⟨RX1, "count", "(I)I"⟩
def dkwX1_count_7 : List UInt8 := [180, 0, 166, 29, 46, 96, 61, 132, 3, 1, 167, 255, 230, 28, 172, 2, 172]
abbrev dktX1_count_7 : List UInt8 := dkwX1_count_7 ++ []
def dkwX1_count_6 : List UInt8 := [167, 255, 230, 28, 172, 3, 62, 29, 42, 180, 0, 105, 180, 0, 64, 162, 0, 21, 28, 42, 180, 0, 105]
abbrev dktX1_count_6 : List UInt8 := dkwX1_count_6 ++ dktX1_count_7
def dkwX1_count_5 : List UInt8 := [180, 0, 105, 180, 0, 52, 162, 0, 21, 28, 42, 180, 0, 105, 180, 0, 157, 29, 46, 96, 61, 132, 3, 1]
abbrev dktX1_count_5 : List UInt8 := dkwX1_count_5 ++ dktX1_count_6
def dkwX1_count_4 : List UInt8 := [153, 0, 9, 4, 29, 120, 167, 0, 4, 3, 128, 61, 132, 3, 1, 167, 255, 221, 28, 172, 3, 62, 29, 42]
abbrev dktX1_count_4 : List UInt8 := dkwX1_count_4 ++ dktX1_count_5
def dkwX1_count_3 : List UInt8 := [3, 62, 29, 42, 180, 0, 105, 180, 0, 52, 162, 0, 30, 28, 42, 180, 0, 105, 29, 182, 0, 85]
abbrev dktX1_count_3 : List UInt8 := dkwX1_count_3 ++ dktX1_count_4
def dkwX1_count_2 : List UInt8 := [42, 180, 0, 105, 180, 0, 52, 172, 42, 180, 0, 105, 180, 0, 64, 172, 42, 180, 0, 105, 180, 0, 71, 172]
abbrev dktX1_count_2 : List UInt8 := dkwX1_count_2 ++ dktX1_count_3
def dkwX1_count_1 : List UInt8 := [170, 0, 0, 0, 169, 0, 0, 0, 0, 0, 0, 0, 5, 0, 0, 0, 37, 0, 0, 0, 45, 0, 0, 0, 53, 0, 0, 0, 61, 0, 0, 0, 103, 0, 0, 0, 136]
abbrev dktX1_count_1 : List UInt8 := dkwX1_count_1 ++ dktX1_count_2
def dkwX1_count_0 : List UInt8 := [3, 61, 27]
abbrev dktX1_count_0 : List UInt8 := dkwX1_count_0 ++ dktX1_count_1
theorem dksX1_count_0 : cX1_count.data.toList.drop 0 = dktX1_count_0 := by decide +kernel
theorem dksX1_count_1 : cX1_count.data.toList.drop 3 = dktX1_count_1 := dk_seg dksX1_count_0 3 rfl rfl
theorem dksX1_count_2 : cX1_count.data.toList.drop 40 = dktX1_count_2 := dk_seg dksX1_count_1 37 rfl rfl
theorem dksX1_count_3 : cX1_count.data.toList.drop 64 = dktX1_count_3 := dk_seg dksX1_count_2 24 rfl rfl
theorem dksX1_count_4 : cX1_count.data.toList.drop 86 = dktX1_count_4 := dk_seg dksX1_count_3 22 rfl rfl
theorem dksX1_count_5 : cX1_count.data.toList.drop 110 = dktX1_count_5 := dk_seg dksX1_count_4 24 rfl rfl
theorem dksX1_count_6 : cX1_count.data.toList.drop 134 = dktX1_count_6 := dk_seg dksX1_count_5 24 rfl rfl
theorem dksX1_count_7 : cX1_count.data.toList.drop 157 = dktX1_count_7 := dk_seg dksX1_count_6 23 rfl rfl
theorem dX1_count_0 : decode cX1_count 0 = .ok (.iconst 0, 1) := dk_3 (dk_at dksX1_count_0 0 rfl rfl)
theorem dX1_count_1 : decode cX1_count 1 = .ok (.istore_n 2, 1) := dk_61 (dk_at dksX1_count_0 1 rfl rfl)
theorem dX1_count_2 : decode cX1_count 2 = .ok (.iload_n 1, 1) := dk_27 (dk_at dksX1_count_0 2 rfl rfl)
theorem dX1_count_3 : decode cX1_count 3 = .ok (.tableswitch 169 0 5 #[37, 45, 53, 61, 103, 136], 37) := by decide +kernel
theorem dX1_count_40 : decode cX1_count 40 = .ok (.aload_n 0, 1) := dk_42 (dk_at dksX1_count_2 0 rfl rfl)
theorem dX1_count_41 : decode cX1_count 41 = .ok (.getfield 105, 3) := dk_180 0 105 (dk_at dksX1_count_2 1 rfl rfl)
theorem dX1_count_44 : decode cX1_count 44 = .ok (.getfield 52, 3) := dk_180 0 52 (dk_at dksX1_count_2 4 rfl rfl)
theorem dX1_count_47 : decode cX1_count 47 = .ok (.ireturn, 1) := dk_172 (dk_at dksX1_count_2 7 rfl rfl)
theorem dX1_count_48 : decode cX1_count 48 = .ok (.aload_n 0, 1) := dk_42 (dk_at dksX1_count_2 8 rfl rfl)
theorem dX1_count_49 : decode cX1_count 49 = .ok (.getfield 105, 3) := dk_180 0 105 (dk_at dksX1_count_2 9 rfl rfl)
theorem dX1_count_52 : decode cX1_count 52 = .ok (.getfield 64, 3) := dk_180 0 64 (dk_at dksX1_count_2 12 rfl rfl)
theorem dX1_count_55 : decode cX1_count 55 = .ok (.ireturn, 1) := dk_172 (dk_at dksX1_count_2 15 rfl rfl)
theorem dX1_count_56 : decode cX1_count 56 = .ok (.aload_n 0, 1) := dk_42 (dk_at dksX1_count_2 16 rfl rfl)
theorem dX1_count_57 : decode cX1_count 57 = .ok (.getfield 105, 3) := dk_180 0 105 (dk_at dksX1_count_2 17 rfl rfl)
theorem dX1_count_60 : decode cX1_count 60 = .ok (.getfield 71, 3) := dk_180 0 71 (dk_at dksX1_count_2 20 rfl rfl)
theorem dX1_count_63 : decode cX1_count 63 = .ok (.ireturn, 1) := dk_172 (dk_at dksX1_count_2 23 rfl rfl)
theorem dX1_count_64 : decode cX1_count 64 = .ok (.iconst 0, 1) := dk_3 (dk_at dksX1_count_3 0 rfl rfl)
theorem dX1_count_65 : decode cX1_count 65 = .ok (.istore_n 3, 1) := dk_62 (dk_at dksX1_count_3 1 rfl rfl)
theorem dX1_count_66 : decode cX1_count 66 = .ok (.iload_n 3, 1) := dk_29 (dk_at dksX1_count_3 2 rfl rfl)
theorem dX1_count_67 : decode cX1_count 67 = .ok (.aload_n 0, 1) := dk_42 (dk_at dksX1_count_3 3 rfl rfl)
theorem dX1_count_68 : decode cX1_count 68 = .ok (.getfield 105, 3) := dk_180 0 105 (dk_at dksX1_count_3 4 rfl rfl)
theorem dX1_count_71 : decode cX1_count 71 = .ok (.getfield 52, 3) := dk_180 0 52 (dk_at dksX1_count_3 7 rfl rfl)
theorem dX1_count_74 : decode cX1_count 74 = .ok (.if_icmp .ge 30, 3) := dk_162 0 30 (dk_at dksX1_count_3 10 rfl rfl)
theorem dX1_count_77 : decode cX1_count 77 = .ok (.iload_n 2, 1) := dk_28 (dk_at dksX1_count_3 13 rfl rfl)
theorem dX1_count_78 : decode cX1_count 78 = .ok (.aload_n 0, 1) := dk_42 (dk_at dksX1_count_3 14 rfl rfl)
theorem dX1_count_79 : decode cX1_count 79 = .ok (.getfield 105, 3) := dk_180 0 105 (dk_at dksX1_count_3 15 rfl rfl)
theorem dX1_count_82 : decode cX1_count 82 = .ok (.iload_n 3, 1) := dk_29 (dk_at dksX1_count_3 18 rfl rfl)
theorem dX1_count_83 : decode cX1_count 83 = .ok (.invokevirtual 85, 3) := dk_182 0 85 (dk_at dksX1_count_3 19 rfl rfl)
theorem dX1_count_86 : decode cX1_count 86 = .ok (.ifCond .eq 9, 3) := dk_153 0 9 (dk_at dksX1_count_4 0 rfl rfl)
theorem dX1_count_89 : decode cX1_count 89 = .ok (.iconst 1, 1) := dk_4 (dk_at dksX1_count_4 3 rfl rfl)
theorem dX1_count_90 : decode cX1_count 90 = .ok (.iload_n 3, 1) := dk_29 (dk_at dksX1_count_4 4 rfl rfl)
theorem dX1_count_91 : decode cX1_count 91 = .ok (.ishl, 1) := dk_120 (dk_at dksX1_count_4 5 rfl rfl)
theorem dX1_count_92 : decode cX1_count 92 = .ok (.goto 4, 3) := dk_167 0 4 (dk_at dksX1_count_4 6 rfl rfl)
theorem dX1_count_95 : decode cX1_count 95 = .ok (.iconst 0, 1) := dk_3 (dk_at dksX1_count_4 9 rfl rfl)
theorem dX1_count_96 : decode cX1_count 96 = .ok (.ior, 1) := dk_128 (dk_at dksX1_count_4 10 rfl rfl)
theorem dX1_count_97 : decode cX1_count 97 = .ok (.istore_n 2, 1) := dk_61 (dk_at dksX1_count_4 11 rfl rfl)
theorem dX1_count_98 : decode cX1_count 98 = .ok (.iinc 3 1, 3) := dk_132 3 1 (dk_at dksX1_count_4 12 rfl rfl)
theorem dX1_count_101 : decode cX1_count 101 = .ok (.goto (-35), 3) := dk_167 255 221 (dk_at dksX1_count_4 15 rfl rfl)
theorem dX1_count_104 : decode cX1_count 104 = .ok (.iload_n 2, 1) := dk_28 (dk_at dksX1_count_4 18 rfl rfl)
theorem dX1_count_105 : decode cX1_count 105 = .ok (.ireturn, 1) := dk_172 (dk_at dksX1_count_4 19 rfl rfl)
theorem dX1_count_106 : decode cX1_count 106 = .ok (.iconst 0, 1) := dk_3 (dk_at dksX1_count_4 20 rfl rfl)
theorem dX1_count_107 : decode cX1_count 107 = .ok (.istore_n 3, 1) := dk_62 (dk_at dksX1_count_4 21 rfl rfl)
theorem dX1_count_108 : decode cX1_count 108 = .ok (.iload_n 3, 1) := dk_29 (dk_at dksX1_count_4 22 rfl rfl)
theorem dX1_count_109 : decode cX1_count 109 = .ok (.aload_n 0, 1) := dk_42 (dk_at dksX1_count_4 23 rfl rfl)
theorem dX1_count_110 : decode cX1_count 110 = .ok (.getfield 105, 3) := dk_180 0 105 (dk_at dksX1_count_5 0 rfl rfl)
theorem dX1_count_113 : decode cX1_count 113 = .ok (.getfield 52, 3) := dk_180 0 52 (dk_at dksX1_count_5 3 rfl rfl)
theorem dX1_count_116 : decode cX1_count 116 = .ok (.if_icmp .ge 21, 3) := dk_162 0 21 (dk_at dksX1_count_5 6 rfl rfl)
theorem dX1_count_119 : decode cX1_count 119 = .ok (.iload_n 2, 1) := dk_28 (dk_at dksX1_count_5 9 rfl rfl)
theorem dX1_count_120 : decode cX1_count 120 = .ok (.aload_n 0, 1) := dk_42 (dk_at dksX1_count_5 10 rfl rfl)
theorem dX1_count_121 : decode cX1_count 121 = .ok (.getfield 105, 3) := dk_180 0 105 (dk_at dksX1_count_5 11 rfl rfl)
theorem dX1_count_124 : decode cX1_count 124 = .ok (.getfield 157, 3) := dk_180 0 157 (dk_at dksX1_count_5 14 rfl rfl)
theorem dX1_count_127 : decode cX1_count 127 = .ok (.iload_n 3, 1) := dk_29 (dk_at dksX1_count_5 17 rfl rfl)
theorem dX1_count_128 : decode cX1_count 128 = .ok (.iaload, 1) := dk_46 (dk_at dksX1_count_5 18 rfl rfl)
theorem dX1_count_129 : decode cX1_count 129 = .ok (.iadd, 1) := dk_96 (dk_at dksX1_count_5 19 rfl rfl)
theorem dX1_count_130 : decode cX1_count 130 = .ok (.istore_n 2, 1) := dk_61 (dk_at dksX1_count_5 20 rfl rfl)
theorem dX1_count_131 : decode cX1_count 131 = .ok (.iinc 3 1, 3) := dk_132 3 1 (dk_at dksX1_count_5 21 rfl rfl)
theorem dX1_count_134 : decode cX1_count 134 = .ok (.goto (-26), 3) := dk_167 255 230 (dk_at dksX1_count_6 0 rfl rfl)
theorem dX1_count_137 : decode cX1_count 137 = .ok (.iload_n 2, 1) := dk_28 (dk_at dksX1_count_6 3 rfl rfl)
theorem dX1_count_138 : decode cX1_count 138 = .ok (.ireturn, 1) := dk_172 (dk_at dksX1_count_6 4 rfl rfl)
theorem dX1_count_139 : decode cX1_count 139 = .ok (.iconst 0, 1) := dk_3 (dk_at dksX1_count_6 5 rfl rfl)
theorem dX1_count_140 : decode cX1_count 140 = .ok (.istore_n 3, 1) := dk_62 (dk_at dksX1_count_6 6 rfl rfl)
theorem dX1_count_141 : decode cX1_count 141 = .ok (.iload_n 3, 1) := dk_29 (dk_at dksX1_count_6 7 rfl rfl)
theorem dX1_count_142 : decode cX1_count 142 = .ok (.aload_n 0, 1) := dk_42 (dk_at dksX1_count_6 8 rfl rfl)
theorem dX1_count_143 : decode cX1_count 143 = .ok (.getfield 105, 3) := dk_180 0 105 (dk_at dksX1_count_6 9 rfl rfl)
theorem dX1_count_146 : decode cX1_count 146 = .ok (.getfield 64, 3) := dk_180 0 64 (dk_at dksX1_count_6 12 rfl rfl)
theorem dX1_count_149 : decode cX1_count 149 = .ok (.if_icmp .ge 21, 3) := dk_162 0 21 (dk_at dksX1_count_6 15 rfl rfl)
theorem dX1_count_152 : decode cX1_count 152 = .ok (.iload_n 2, 1) := dk_28 (dk_at dksX1_count_6 18 rfl rfl)
theorem dX1_count_153 : decode cX1_count 153 = .ok (.aload_n 0, 1) := dk_42 (dk_at dksX1_count_6 19 rfl rfl)
theorem dX1_count_154 : decode cX1_count 154 = .ok (.getfield 105, 3) := dk_180 0 105 (dk_at dksX1_count_6 20 rfl rfl)
theorem dX1_count_157 : decode cX1_count 157 = .ok (.getfield 166, 3) := dk_180 0 166 (dk_at dksX1_count_7 0 rfl rfl)
theorem dX1_count_160 : decode cX1_count 160 = .ok (.iload_n 3, 1) := dk_29 (dk_at dksX1_count_7 3 rfl rfl)
theorem dX1_count_161 : decode cX1_count 161 = .ok (.iaload, 1) := dk_46 (dk_at dksX1_count_7 4 rfl rfl)
theorem dX1_count_162 : decode cX1_count 162 = .ok (.iadd, 1) := dk_96 (dk_at dksX1_count_7 5 rfl rfl)
theorem dX1_count_163 : decode cX1_count 163 = .ok (.istore_n 2, 1) := dk_61 (dk_at dksX1_count_7 6 rfl rfl)
theorem dX1_count_164 : decode cX1_count 164 = .ok (.iinc 3 1, 3) := dk_132 3 1 (dk_at dksX1_count_7 7 rfl rfl)
theorem dX1_count_167 : decode cX1_count 167 = .ok (.goto (-26), 3) := dk_167 255 230 (dk_at dksX1_count_7 10 rfl rfl)
theorem dX1_count_170 : decode cX1_count 170 = .ok (.iload_n 2, 1) := dk_28 (dk_at dksX1_count_7 13 rfl rfl)
theorem dX1_count_171 : decode cX1_count 171 = .ok (.ireturn, 1) := dk_172 (dk_at dksX1_count_7 14 rfl rfl)
theorem dX1_count_172 : decode cX1_count 172 = .ok (.iconst (-1), 1) := dk_2 (dk_at dksX1_count_7 15 rfl rfl)
theorem dX1_count_173 : decode cX1_count 173 = .ok (.ireturn, 1) := dk_172 (dk_at dksX1_count_7 16 rfl rfl)
abbrev cX1_init : ByteArray := prog_1_method_77_code
def yX1_init : MethodName := ⟨RX1, "<init>", "()V"⟩
def dkwX1_init_4 : List UInt8 := [89, 183, 1, 143, 83, 132, 1, 1, 167, 255, 234, 177]
abbrev dktX1_init_4 : List UInt8 := dkwX1_init_4 ++ []
def dkwX1_init_3 : List UInt8 := [16, 8, 189, 0, 129, 181, 0, 124, 3, 60, 27, 16, 8, 162, 0, 22, 42, 180, 0, 124, 27, 187, 0, 129]
abbrev dktX1_init_3 : List UInt8 := dkwX1_init_3 ++ dktX1_init_4
def dkwX1_init_2 : List UInt8 := [6, 188, 10, 181, 0, 248, 42, 16, 13, 188, 11, 181, 1, 17, 42, 16, 13, 188, 11, 181, 1, 27, 42]
abbrev dktX1_init_2 : List UInt8 := dkwX1_init_2 ++ dktX1_init_3
def dkwX1_init_1 : List UInt8 := [181, 1, 131, 42, 187, 0, 53, 89, 183, 1, 142, 181, 0, 48, 42, 16, 100, 189, 0, 35, 181, 0, 97, 42]
abbrev dktX1_init_1 : List UInt8 := dkwX1_init_1 ++ dktX1_init_2
def dkwX1_init_0 : List UInt8 := [42, 183, 1, 138, 42, 187, 0, 53, 89, 183, 1, 142, 181, 0, 105, 42, 187, 0, 53, 89, 183, 1, 142]
abbrev dktX1_init_0 : List UInt8 := dkwX1_init_0 ++ dktX1_init_1
theorem dksX1_init_0 : cX1_init.data.toList.drop 0 = dktX1_init_0 := by decide +kernel
theorem dksX1_init_1 : cX1_init.data.toList.drop 23 = dktX1_init_1 := dk_seg dksX1_init_0 23 rfl rfl
theorem dksX1_init_2 : cX1_init.data.toList.drop 47 = dktX1_init_2 := dk_seg dksX1_init_1 24 rfl rfl
theorem dksX1_init_3 : cX1_init.data.toList.drop 70 = dktX1_init_3 := dk_seg dksX1_init_2 23 rfl rfl
theorem dksX1_init_4 : cX1_init.data.toList.drop 94 = dktX1_init_4 := dk_seg dksX1_init_3 24 rfl rfl
theorem dX1_init_0 : decode cX1_init 0 = .ok (.aload_n 0, 1) := dk_42 (dk_at dksX1_init_0 0 rfl rfl)
theorem dX1_init_1 : decode cX1_init 1 = .ok (.invokespecial 394, 3) := dk_183 1 138 (dk_at dksX1_init_0 1 rfl rfl)
theorem dX1_init_4 : decode cX1_init 4 = .ok (.aload_n 0, 1) := dk_42 (dk_at dksX1_init_0 4 rfl rfl)
theorem dX1_init_5 : decode cX1_init 5 = .ok (.new 53, 3) := dk_187 0 53 (dk_at dksX1_init_0 5 rfl rfl)
theorem dX1_init_8 : decode cX1_init 8 = .ok (.dup, 1) := dk_89 (dk_at dksX1_init_0 8 rfl rfl)
theorem dX1_init_9 : decode cX1_init 9 = .ok (.invokespecial 398, 3) := dk_183 1 142 (dk_at dksX1_init_0 9 rfl rfl)
theorem dX1_init_12 : decode cX1_init 12 = .ok (.putfield 105, 3) := dk_181 0 105 (dk_at dksX1_init_0 12 rfl rfl)
theorem dX1_init_15 : decode cX1_init 15 = .ok (.aload_n 0, 1) := dk_42 (dk_at dksX1_init_0 15 rfl rfl)
theorem dX1_init_16 : decode cX1_init 16 = .ok (.new 53, 3) := dk_187 0 53 (dk_at dksX1_init_0 16 rfl rfl)
theorem dX1_init_19 : decode cX1_init 19 = .ok (.dup, 1) := dk_89 (dk_at dksX1_init_0 19 rfl rfl)
theorem dX1_init_20 : decode cX1_init 20 = .ok (.invokespecial 398, 3) := dk_183 1 142 (dk_at dksX1_init_0 20 rfl rfl)
theorem dX1_init_23 : decode cX1_init 23 = .ok (.putfield 387, 3) := dk_181 1 131 (dk_at dksX1_init_1 0 rfl rfl)
theorem dX1_init_26 : decode cX1_init 26 = .ok (.aload_n 0, 1) := dk_42 (dk_at dksX1_init_1 3 rfl rfl)
theorem dX1_init_27 : decode cX1_init 27 = .ok (.new 53, 3) := dk_187 0 53 (dk_at dksX1_init_1 4 rfl rfl)
theorem dX1_init_30 : decode cX1_init 30 = .ok (.dup, 1) := dk_89 (dk_at dksX1_init_1 7 rfl rfl)
theorem dX1_init_31 : decode cX1_init 31 = .ok (.invokespecial 398, 3) := dk_183 1 142 (dk_at dksX1_init_1 8 rfl rfl)
theorem dX1_init_34 : decode cX1_init 34 = .ok (.putfield 48, 3) := dk_181 0 48 (dk_at dksX1_init_1 11 rfl rfl)
theorem dX1_init_37 : decode cX1_init 37 = .ok (.aload_n 0, 1) := dk_42 (dk_at dksX1_init_1 14 rfl rfl)
theorem dX1_init_38 : decode cX1_init 38 = .ok (.bipush 100, 2) := dk_16 100 (dk_at dksX1_init_1 15 rfl rfl)
theorem dX1_init_40 : decode cX1_init 40 = .ok (.anewarray 35, 3) := dk_189 0 35 (dk_at dksX1_init_1 17 rfl rfl)
theorem dX1_init_43 : decode cX1_init 43 = .ok (.putfield 97, 3) := dk_181 0 97 (dk_at dksX1_init_1 20 rfl rfl)
theorem dX1_init_46 : decode cX1_init 46 = .ok (.aload_n 0, 1) := dk_42 (dk_at dksX1_init_1 23 rfl rfl)
theorem dX1_init_47 : decode cX1_init 47 = .ok (.iconst 3, 1) := dk_6 (dk_at dksX1_init_2 0 rfl rfl)
theorem dX1_init_48 : decode cX1_init 48 = .ok (.newarray .int, 2) := dk_188_10 (dk_at dksX1_init_2 1 rfl rfl)
theorem dX1_init_50 : decode cX1_init 50 = .ok (.putfield 248, 3) := dk_181 0 248 (dk_at dksX1_init_2 3 rfl rfl)
theorem dX1_init_53 : decode cX1_init 53 = .ok (.aload_n 0, 1) := dk_42 (dk_at dksX1_init_2 6 rfl rfl)
theorem dX1_init_54 : decode cX1_init 54 = .ok (.bipush 13, 2) := dk_16 13 (dk_at dksX1_init_2 7 rfl rfl)
theorem dX1_init_56 : decode cX1_init 56 = .ok (.newarray .long, 2) := dk_188_11 (dk_at dksX1_init_2 9 rfl rfl)
theorem dX1_init_58 : decode cX1_init 58 = .ok (.putfield 273, 3) := dk_181 1 17 (dk_at dksX1_init_2 11 rfl rfl)
theorem dX1_init_61 : decode cX1_init 61 = .ok (.aload_n 0, 1) := dk_42 (dk_at dksX1_init_2 14 rfl rfl)
theorem dX1_init_62 : decode cX1_init 62 = .ok (.bipush 13, 2) := dk_16 13 (dk_at dksX1_init_2 15 rfl rfl)
theorem dX1_init_64 : decode cX1_init 64 = .ok (.newarray .long, 2) := dk_188_11 (dk_at dksX1_init_2 17 rfl rfl)
theorem dX1_init_66 : decode cX1_init 66 = .ok (.putfield 283, 3) := dk_181 1 27 (dk_at dksX1_init_2 19 rfl rfl)
theorem dX1_init_69 : decode cX1_init 69 = .ok (.aload_n 0, 1) := dk_42 (dk_at dksX1_init_2 22 rfl rfl)
theorem dX1_init_70 : decode cX1_init 70 = .ok (.bipush 8, 2) := dk_16 8 (dk_at dksX1_init_3 0 rfl rfl)
theorem dX1_init_72 : decode cX1_init 72 = .ok (.anewarray 129, 3) := dk_189 0 129 (dk_at dksX1_init_3 2 rfl rfl)
theorem dX1_init_75 : decode cX1_init 75 = .ok (.putfield 124, 3) := dk_181 0 124 (dk_at dksX1_init_3 5 rfl rfl)
theorem dX1_init_78 : decode cX1_init 78 = .ok (.iconst 0, 1) := dk_3 (dk_at dksX1_init_3 8 rfl rfl)
theorem dX1_init_79 : decode cX1_init 79 = .ok (.istore_n 1, 1) := dk_60 (dk_at dksX1_init_3 9 rfl rfl)
theorem dX1_init_80 : decode cX1_init 80 = .ok (.iload_n 1, 1) := dk_27 (dk_at dksX1_init_3 10 rfl rfl)
theorem dX1_init_81 : decode cX1_init 81 = .ok (.bipush 8, 2) := dk_16 8 (dk_at dksX1_init_3 11 rfl rfl)
theorem dX1_init_83 : decode cX1_init 83 = .ok (.if_icmp .ge 22, 3) := dk_162 0 22 (dk_at dksX1_init_3 13 rfl rfl)
theorem dX1_init_86 : decode cX1_init 86 = .ok (.aload_n 0, 1) := dk_42 (dk_at dksX1_init_3 16 rfl rfl)
theorem dX1_init_87 : decode cX1_init 87 = .ok (.getfield 124, 3) := dk_180 0 124 (dk_at dksX1_init_3 17 rfl rfl)
theorem dX1_init_90 : decode cX1_init 90 = .ok (.iload_n 1, 1) := dk_27 (dk_at dksX1_init_3 20 rfl rfl)
theorem dX1_init_91 : decode cX1_init 91 = .ok (.new 129, 3) := dk_187 0 129 (dk_at dksX1_init_3 21 rfl rfl)
theorem dX1_init_94 : decode cX1_init 94 = .ok (.dup, 1) := dk_89 (dk_at dksX1_init_4 0 rfl rfl)
theorem dX1_init_95 : decode cX1_init 95 = .ok (.invokespecial 399, 3) := dk_183 1 143 (dk_at dksX1_init_4 1 rfl rfl)
theorem dX1_init_98 : decode cX1_init 98 = .ok (.aastore, 1) := dk_83 (dk_at dksX1_init_4 4 rfl rfl)
theorem dX1_init_99 : decode cX1_init 99 = .ok (.iinc 1 1, 3) := dk_132 1 1 (dk_at dksX1_init_4 5 rfl rfl)
theorem dX1_init_102 : decode cX1_init 102 = .ok (.goto (-22), 3) := dk_167 255 234 (dk_at dksX1_init_4 8 rfl rfl)
theorem dX1_init_105 : decode cX1_init 105 = .ok (.return_, 1) := dk_177 (dk_at dksX1_init_4 11 rfl rfl)
abbrev cX1_keep : ByteArray := prog_1_method_78_code
def yX1_keep : MethodName := ⟨RX1, "keep", "(IIII)I"⟩
def dkwX1_keep_2 : List UInt8 := [28, 154, 0, 7, 1, 167, 0, 9, 29, 21, 4, 184, 0, 74, 181, 0, 128, 3, 172]
abbrev dktX1_keep_2 : List UInt8 := dkwX1_keep_2 ++ []
def dkwX1_keep_1 : List UInt8 := [16, 7, 184, 0, 30, 153, 0, 11, 21, 4, 184, 0, 187, 154, 0, 5, 2, 172, 42, 180, 0, 124, 27, 50]
abbrev dktX1_keep_1 : List UInt8 := dkwX1_keep_1 ++ dktX1_keep_2
def dkwX1_keep_0 : List UInt8 := [42, 27, 182, 0, 121, 153, 0, 35, 28, 3, 4, 184, 0, 30, 153, 0, 26, 28, 4, 160, 0, 23, 29, 3]
abbrev dktX1_keep_0 : List UInt8 := dkwX1_keep_0 ++ dktX1_keep_1
theorem dksX1_keep_0 : cX1_keep.data.toList.drop 0 = dktX1_keep_0 := by decide +kernel
theorem dksX1_keep_1 : cX1_keep.data.toList.drop 24 = dktX1_keep_1 := dk_seg dksX1_keep_0 24 rfl rfl
theorem dksX1_keep_2 : cX1_keep.data.toList.drop 48 = dktX1_keep_2 := dk_seg dksX1_keep_1 24 rfl rfl
theorem dX1_keep_0 : decode cX1_keep 0 = .ok (.aload_n 0, 1) := dk_42 (dk_at dksX1_keep_0 0 rfl rfl)
theorem dX1_keep_1 : decode cX1_keep 1 = .ok (.iload_n 1, 1) := dk_27 (dk_at dksX1_keep_0 1 rfl rfl)
theorem dX1_keep_2 : decode cX1_keep 2 = .ok (.invokevirtual 121, 3) := dk_182 0 121 (dk_at dksX1_keep_0 2 rfl rfl)
theorem dX1_keep_5 : decode cX1_keep 5 = .ok (.ifCond .eq 35, 3) := dk_153 0 35 (dk_at dksX1_keep_0 5 rfl rfl)
theorem dX1_keep_8 : decode cX1_keep 8 = .ok (.iload_n 2, 1) := dk_28 (dk_at dksX1_keep_0 8 rfl rfl)
theorem dX1_keep_9 : decode cX1_keep 9 = .ok (.iconst 0, 1) := dk_3 (dk_at dksX1_keep_0 9 rfl rfl)
theorem dX1_keep_10 : decode cX1_keep 10 = .ok (.iconst 1, 1) := dk_4 (dk_at dksX1_keep_0 10 rfl rfl)
theorem dX1_keep_11 : decode cX1_keep 11 = .ok (.invokestatic 30, 3) := dk_184 0 30 (dk_at dksX1_keep_0 11 rfl rfl)
theorem dX1_keep_14 : decode cX1_keep 14 = .ok (.ifCond .eq 26, 3) := dk_153 0 26 (dk_at dksX1_keep_0 14 rfl rfl)
theorem dX1_keep_17 : decode cX1_keep 17 = .ok (.iload_n 2, 1) := dk_28 (dk_at dksX1_keep_0 17 rfl rfl)
theorem dX1_keep_18 : decode cX1_keep 18 = .ok (.iconst 1, 1) := dk_4 (dk_at dksX1_keep_0 18 rfl rfl)
theorem dX1_keep_19 : decode cX1_keep 19 = .ok (.if_icmp .ne 23, 3) := dk_160 0 23 (dk_at dksX1_keep_0 19 rfl rfl)
theorem dX1_keep_22 : decode cX1_keep 22 = .ok (.iload_n 3, 1) := dk_29 (dk_at dksX1_keep_0 22 rfl rfl)
theorem dX1_keep_23 : decode cX1_keep 23 = .ok (.iconst 0, 1) := dk_3 (dk_at dksX1_keep_0 23 rfl rfl)
theorem dX1_keep_24 : decode cX1_keep 24 = .ok (.bipush 7, 2) := dk_16 7 (dk_at dksX1_keep_1 0 rfl rfl)
theorem dX1_keep_26 : decode cX1_keep 26 = .ok (.invokestatic 30, 3) := dk_184 0 30 (dk_at dksX1_keep_1 2 rfl rfl)
theorem dX1_keep_29 : decode cX1_keep 29 = .ok (.ifCond .eq 11, 3) := dk_153 0 11 (dk_at dksX1_keep_1 5 rfl rfl)
theorem dX1_keep_32 : decode cX1_keep 32 = .ok (.iload 4, 2) := dk_21 4 (dk_at dksX1_keep_1 8 rfl rfl)
theorem dX1_keep_34 : decode cX1_keep 34 = .ok (.invokestatic 187, 3) := dk_184 0 187 (dk_at dksX1_keep_1 10 rfl rfl)
theorem dX1_keep_37 : decode cX1_keep 37 = .ok (.ifCond .ne 5, 3) := dk_154 0 5 (dk_at dksX1_keep_1 13 rfl rfl)
theorem dX1_keep_40 : decode cX1_keep 40 = .ok (.iconst (-1), 1) := dk_2 (dk_at dksX1_keep_1 16 rfl rfl)
theorem dX1_keep_41 : decode cX1_keep 41 = .ok (.ireturn, 1) := dk_172 (dk_at dksX1_keep_1 17 rfl rfl)
theorem dX1_keep_42 : decode cX1_keep 42 = .ok (.aload_n 0, 1) := dk_42 (dk_at dksX1_keep_1 18 rfl rfl)
theorem dX1_keep_43 : decode cX1_keep 43 = .ok (.getfield 124, 3) := dk_180 0 124 (dk_at dksX1_keep_1 19 rfl rfl)
theorem dX1_keep_46 : decode cX1_keep 46 = .ok (.iload_n 1, 1) := dk_27 (dk_at dksX1_keep_1 22 rfl rfl)
theorem dX1_keep_47 : decode cX1_keep 47 = .ok (.aaload, 1) := dk_50 (dk_at dksX1_keep_1 23 rfl rfl)
theorem dX1_keep_48 : decode cX1_keep 48 = .ok (.iload_n 2, 1) := dk_28 (dk_at dksX1_keep_2 0 rfl rfl)
theorem dX1_keep_49 : decode cX1_keep 49 = .ok (.ifCond .ne 7, 3) := dk_154 0 7 (dk_at dksX1_keep_2 1 rfl rfl)
theorem dX1_keep_52 : decode cX1_keep 52 = .ok (.aconst_null, 1) := dk_1 (dk_at dksX1_keep_2 4 rfl rfl)
theorem dX1_keep_53 : decode cX1_keep 53 = .ok (.goto 9, 3) := dk_167 0 9 (dk_at dksX1_keep_2 5 rfl rfl)
theorem dX1_keep_56 : decode cX1_keep 56 = .ok (.iload_n 3, 1) := dk_29 (dk_at dksX1_keep_2 8 rfl rfl)
theorem dX1_keep_57 : decode cX1_keep 57 = .ok (.iload 4, 2) := dk_21 4 (dk_at dksX1_keep_2 9 rfl rfl)
theorem dX1_keep_59 : decode cX1_keep 59 = .ok (.invokestatic 74, 3) := dk_184 0 74 (dk_at dksX1_keep_2 11 rfl rfl)
theorem dX1_keep_62 : decode cX1_keep 62 = .ok (.putfield 128, 3) := dk_181 0 128 (dk_at dksX1_keep_2 14 rfl rfl)
theorem dX1_keep_65 : decode cX1_keep 65 = .ok (.iconst 0, 1) := dk_3 (dk_at dksX1_keep_2 17 rfl rfl)
theorem dX1_keep_66 : decode cX1_keep 66 = .ok (.ireturn, 1) := dk_172 (dk_at dksX1_keep_2 18 rfl rfl)
abbrev cX1_row : ByteArray := prog_1_method_79_code
def yX1_row : MethodName := ⟨RX1, "row", "(III)I"⟩
def dkwX1_row_3 : List UInt8 := [16, 242, 172]
abbrev dktX1_row_3 : List UInt8 := dkwX1_row_3 ++ []
def dkwX1_row_2 : List UInt8 := [167, 0, 8, 29, 188, 10, 58, 4, 42, 180, 0, 124, 27, 50, 25, 4, 181, 0, 128, 3, 172, 58, 4]
abbrev dktX1_row_2 : List UInt8 := dkwX1_row_2 ++ dktX1_row_3
def dkwX1_row_1 : List UInt8 := [172, 28, 154, 0, 11, 29, 188, 8, 58, 4, 167, 0, 21, 28, 4, 160, 0, 11, 29, 188, 9, 58, 4]
abbrev dktX1_row_1 : List UInt8 := dkwX1_row_1 ++ dktX1_row_2
def dkwX1_row_0 : List UInt8 := [42, 27, 182, 0, 121, 153, 0, 18, 28, 3, 5, 184, 0, 30, 153, 0, 9, 29, 16, 100, 164, 0, 5, 2]
abbrev dktX1_row_0 : List UInt8 := dkwX1_row_0 ++ dktX1_row_1
theorem dksX1_row_0 : cX1_row.data.toList.drop 0 = dktX1_row_0 := by decide +kernel
theorem dksX1_row_1 : cX1_row.data.toList.drop 24 = dktX1_row_1 := dk_seg dksX1_row_0 24 rfl rfl
theorem dksX1_row_2 : cX1_row.data.toList.drop 47 = dktX1_row_2 := dk_seg dksX1_row_1 23 rfl rfl
theorem dksX1_row_3 : cX1_row.data.toList.drop 70 = dktX1_row_3 := dk_seg dksX1_row_2 23 rfl rfl
theorem dX1_row_0 : decode cX1_row 0 = .ok (.aload_n 0, 1) := dk_42 (dk_at dksX1_row_0 0 rfl rfl)
theorem dX1_row_1 : decode cX1_row 1 = .ok (.iload_n 1, 1) := dk_27 (dk_at dksX1_row_0 1 rfl rfl)
theorem dX1_row_2 : decode cX1_row 2 = .ok (.invokevirtual 121, 3) := dk_182 0 121 (dk_at dksX1_row_0 2 rfl rfl)
theorem dX1_row_5 : decode cX1_row 5 = .ok (.ifCond .eq 18, 3) := dk_153 0 18 (dk_at dksX1_row_0 5 rfl rfl)
theorem dX1_row_8 : decode cX1_row 8 = .ok (.iload_n 2, 1) := dk_28 (dk_at dksX1_row_0 8 rfl rfl)
theorem dX1_row_9 : decode cX1_row 9 = .ok (.iconst 0, 1) := dk_3 (dk_at dksX1_row_0 9 rfl rfl)
theorem dX1_row_10 : decode cX1_row 10 = .ok (.iconst 2, 1) := dk_5 (dk_at dksX1_row_0 10 rfl rfl)
theorem dX1_row_11 : decode cX1_row 11 = .ok (.invokestatic 30, 3) := dk_184 0 30 (dk_at dksX1_row_0 11 rfl rfl)
theorem dX1_row_14 : decode cX1_row 14 = .ok (.ifCond .eq 9, 3) := dk_153 0 9 (dk_at dksX1_row_0 14 rfl rfl)
theorem dX1_row_17 : decode cX1_row 17 = .ok (.iload_n 3, 1) := dk_29 (dk_at dksX1_row_0 17 rfl rfl)
theorem dX1_row_18 : decode cX1_row 18 = .ok (.bipush 100, 2) := dk_16 100 (dk_at dksX1_row_0 18 rfl rfl)
theorem dX1_row_20 : decode cX1_row 20 = .ok (.if_icmp .le 5, 3) := dk_164 0 5 (dk_at dksX1_row_0 20 rfl rfl)
theorem dX1_row_23 : decode cX1_row 23 = .ok (.iconst (-1), 1) := dk_2 (dk_at dksX1_row_0 23 rfl rfl)
theorem dX1_row_24 : decode cX1_row 24 = .ok (.ireturn, 1) := dk_172 (dk_at dksX1_row_1 0 rfl rfl)
theorem dX1_row_25 : decode cX1_row 25 = .ok (.iload_n 2, 1) := dk_28 (dk_at dksX1_row_1 1 rfl rfl)
theorem dX1_row_26 : decode cX1_row 26 = .ok (.ifCond .ne 11, 3) := dk_154 0 11 (dk_at dksX1_row_1 2 rfl rfl)
theorem dX1_row_29 : decode cX1_row 29 = .ok (.iload_n 3, 1) := dk_29 (dk_at dksX1_row_1 5 rfl rfl)
theorem dX1_row_30 : decode cX1_row 30 = .ok (.newarray .byte, 2) := dk_188_8 (dk_at dksX1_row_1 6 rfl rfl)
theorem dX1_row_32 : decode cX1_row 32 = .ok (.astore 4, 2) := dk_58 4 (dk_at dksX1_row_1 8 rfl rfl)
theorem dX1_row_34 : decode cX1_row 34 = .ok (.goto 21, 3) := dk_167 0 21 (dk_at dksX1_row_1 10 rfl rfl)
theorem dX1_row_37 : decode cX1_row 37 = .ok (.iload_n 2, 1) := dk_28 (dk_at dksX1_row_1 13 rfl rfl)
theorem dX1_row_38 : decode cX1_row 38 = .ok (.iconst 1, 1) := dk_4 (dk_at dksX1_row_1 14 rfl rfl)
theorem dX1_row_39 : decode cX1_row 39 = .ok (.if_icmp .ne 11, 3) := dk_160 0 11 (dk_at dksX1_row_1 15 rfl rfl)
theorem dX1_row_42 : decode cX1_row 42 = .ok (.iload_n 3, 1) := dk_29 (dk_at dksX1_row_1 18 rfl rfl)
theorem dX1_row_43 : decode cX1_row 43 = .ok (.newarray .short, 2) := dk_188_9 (dk_at dksX1_row_1 19 rfl rfl)
theorem dX1_row_45 : decode cX1_row 45 = .ok (.astore 4, 2) := dk_58 4 (dk_at dksX1_row_1 21 rfl rfl)
theorem dX1_row_47 : decode cX1_row 47 = .ok (.goto 8, 3) := dk_167 0 8 (dk_at dksX1_row_2 0 rfl rfl)
theorem dX1_row_50 : decode cX1_row 50 = .ok (.iload_n 3, 1) := dk_29 (dk_at dksX1_row_2 3 rfl rfl)
theorem dX1_row_51 : decode cX1_row 51 = .ok (.newarray .int, 2) := dk_188_10 (dk_at dksX1_row_2 4 rfl rfl)
theorem dX1_row_53 : decode cX1_row 53 = .ok (.astore 4, 2) := dk_58 4 (dk_at dksX1_row_2 6 rfl rfl)
theorem dX1_row_55 : decode cX1_row 55 = .ok (.aload_n 0, 1) := dk_42 (dk_at dksX1_row_2 8 rfl rfl)
theorem dX1_row_56 : decode cX1_row 56 = .ok (.getfield 124, 3) := dk_180 0 124 (dk_at dksX1_row_2 9 rfl rfl)
theorem dX1_row_59 : decode cX1_row 59 = .ok (.iload_n 1, 1) := dk_27 (dk_at dksX1_row_2 12 rfl rfl)
theorem dX1_row_60 : decode cX1_row 60 = .ok (.aaload, 1) := dk_50 (dk_at dksX1_row_2 13 rfl rfl)
theorem dX1_row_61 : decode cX1_row 61 = .ok (.aload 4, 2) := dk_25 4 (dk_at dksX1_row_2 14 rfl rfl)
theorem dX1_row_63 : decode cX1_row 63 = .ok (.putfield 128, 3) := dk_181 0 128 (dk_at dksX1_row_2 16 rfl rfl)
theorem dX1_row_66 : decode cX1_row 66 = .ok (.iconst 0, 1) := dk_3 (dk_at dksX1_row_2 19 rfl rfl)
theorem dX1_row_67 : decode cX1_row 67 = .ok (.ireturn, 1) := dk_172 (dk_at dksX1_row_2 20 rfl rfl)
theorem dX1_row_68 : decode cX1_row 68 = .ok (.astore 4, 2) := dk_58 4 (dk_at dksX1_row_2 21 rfl rfl)
theorem dX1_row_70 : decode cX1_row 70 = .ok (.bipush (-14), 2) := dk_16 242 (dk_at dksX1_row_3 0 rfl rfl)
theorem dX1_row_72 : decode cX1_row 72 = .ok (.ireturn, 1) := dk_172 (dk_at dksX1_row_3 2 rfl rfl)
abbrev cX1_put : ByteArray := prog_1_method_80_code
def yX1_put : MethodName := ⟨RX1, "put", "(III)I"⟩
def dkwX1_put_3 : List UInt8 := [25, 4, 192, 1, 62, 28, 29, 79, 3, 172, 58, 5, 16, 244, 172, 58, 5, 16, 243, 172]
abbrev dktX1_put_3 : List UInt8 := dkwX1_put_3 ++ []
def dkwX1_put_2 : List UInt8 := [167, 0, 31, 25, 4, 193, 1, 60, 153, 0, 15, 25, 4, 192, 1, 60, 28, 29, 147, 86, 167, 0, 11]
abbrev dktX1_put_2 : List UInt8 := dkwX1_put_2 ++ dktX1_put_3
def dkwX1_put_1 : List UInt8 := [199, 0, 6, 16, 245, 172, 25, 4, 193, 0, 134, 153, 0, 15, 25, 4, 192, 0, 134, 28, 29, 145, 84]
abbrev dktX1_put_1 : List UInt8 := dkwX1_put_1 ++ dktX1_put_2
def dkwX1_put_0 : List UInt8 := [42, 27, 182, 0, 121, 154, 0, 5, 2, 172, 42, 180, 0, 124, 27, 50, 180, 0, 128, 58, 4, 25, 4]
abbrev dktX1_put_0 : List UInt8 := dkwX1_put_0 ++ dktX1_put_1
theorem dksX1_put_0 : cX1_put.data.toList.drop 0 = dktX1_put_0 := by decide +kernel
theorem dksX1_put_1 : cX1_put.data.toList.drop 23 = dktX1_put_1 := dk_seg dksX1_put_0 23 rfl rfl
theorem dksX1_put_2 : cX1_put.data.toList.drop 46 = dktX1_put_2 := dk_seg dksX1_put_1 23 rfl rfl
theorem dksX1_put_3 : cX1_put.data.toList.drop 69 = dktX1_put_3 := dk_seg dksX1_put_2 23 rfl rfl
theorem dX1_put_0 : decode cX1_put 0 = .ok (.aload_n 0, 1) := dk_42 (dk_at dksX1_put_0 0 rfl rfl)
theorem dX1_put_1 : decode cX1_put 1 = .ok (.iload_n 1, 1) := dk_27 (dk_at dksX1_put_0 1 rfl rfl)
theorem dX1_put_2 : decode cX1_put 2 = .ok (.invokevirtual 121, 3) := dk_182 0 121 (dk_at dksX1_put_0 2 rfl rfl)
theorem dX1_put_5 : decode cX1_put 5 = .ok (.ifCond .ne 5, 3) := dk_154 0 5 (dk_at dksX1_put_0 5 rfl rfl)
theorem dX1_put_8 : decode cX1_put 8 = .ok (.iconst (-1), 1) := dk_2 (dk_at dksX1_put_0 8 rfl rfl)
theorem dX1_put_9 : decode cX1_put 9 = .ok (.ireturn, 1) := dk_172 (dk_at dksX1_put_0 9 rfl rfl)
theorem dX1_put_10 : decode cX1_put 10 = .ok (.aload_n 0, 1) := dk_42 (dk_at dksX1_put_0 10 rfl rfl)
theorem dX1_put_11 : decode cX1_put 11 = .ok (.getfield 124, 3) := dk_180 0 124 (dk_at dksX1_put_0 11 rfl rfl)
theorem dX1_put_14 : decode cX1_put 14 = .ok (.iload_n 1, 1) := dk_27 (dk_at dksX1_put_0 14 rfl rfl)
theorem dX1_put_15 : decode cX1_put 15 = .ok (.aaload, 1) := dk_50 (dk_at dksX1_put_0 15 rfl rfl)
theorem dX1_put_16 : decode cX1_put 16 = .ok (.getfield 128, 3) := dk_180 0 128 (dk_at dksX1_put_0 16 rfl rfl)
theorem dX1_put_19 : decode cX1_put 19 = .ok (.astore 4, 2) := dk_58 4 (dk_at dksX1_put_0 19 rfl rfl)
theorem dX1_put_21 : decode cX1_put 21 = .ok (.aload 4, 2) := dk_25 4 (dk_at dksX1_put_0 21 rfl rfl)
theorem dX1_put_23 : decode cX1_put 23 = .ok (.ifnonnull 6, 3) := dk_199 0 6 (dk_at dksX1_put_1 0 rfl rfl)
theorem dX1_put_26 : decode cX1_put 26 = .ok (.bipush (-11), 2) := dk_16 245 (dk_at dksX1_put_1 3 rfl rfl)
theorem dX1_put_28 : decode cX1_put 28 = .ok (.ireturn, 1) := dk_172 (dk_at dksX1_put_1 5 rfl rfl)
theorem dX1_put_29 : decode cX1_put 29 = .ok (.aload 4, 2) := dk_25 4 (dk_at dksX1_put_1 6 rfl rfl)
theorem dX1_put_31 : decode cX1_put 31 = .ok (.instanceof 134, 3) := dk_193 0 134 (dk_at dksX1_put_1 8 rfl rfl)
theorem dX1_put_34 : decode cX1_put 34 = .ok (.ifCond .eq 15, 3) := dk_153 0 15 (dk_at dksX1_put_1 11 rfl rfl)
theorem dX1_put_37 : decode cX1_put 37 = .ok (.aload 4, 2) := dk_25 4 (dk_at dksX1_put_1 14 rfl rfl)
theorem dX1_put_39 : decode cX1_put 39 = .ok (.checkcast 134, 3) := dk_192 0 134 (dk_at dksX1_put_1 16 rfl rfl)
theorem dX1_put_42 : decode cX1_put 42 = .ok (.iload_n 2, 1) := dk_28 (dk_at dksX1_put_1 19 rfl rfl)
theorem dX1_put_43 : decode cX1_put 43 = .ok (.iload_n 3, 1) := dk_29 (dk_at dksX1_put_1 20 rfl rfl)
theorem dX1_put_44 : decode cX1_put 44 = .ok (.i2b, 1) := dk_145 (dk_at dksX1_put_1 21 rfl rfl)
theorem dX1_put_45 : decode cX1_put 45 = .ok (.bastore, 1) := dk_84 (dk_at dksX1_put_1 22 rfl rfl)
theorem dX1_put_46 : decode cX1_put 46 = .ok (.goto 31, 3) := dk_167 0 31 (dk_at dksX1_put_2 0 rfl rfl)
theorem dX1_put_49 : decode cX1_put 49 = .ok (.aload 4, 2) := dk_25 4 (dk_at dksX1_put_2 3 rfl rfl)
theorem dX1_put_51 : decode cX1_put 51 = .ok (.instanceof 316, 3) := dk_193 1 60 (dk_at dksX1_put_2 5 rfl rfl)
theorem dX1_put_54 : decode cX1_put 54 = .ok (.ifCond .eq 15, 3) := dk_153 0 15 (dk_at dksX1_put_2 8 rfl rfl)
theorem dX1_put_57 : decode cX1_put 57 = .ok (.aload 4, 2) := dk_25 4 (dk_at dksX1_put_2 11 rfl rfl)
theorem dX1_put_59 : decode cX1_put 59 = .ok (.checkcast 316, 3) := dk_192 1 60 (dk_at dksX1_put_2 13 rfl rfl)
theorem dX1_put_62 : decode cX1_put 62 = .ok (.iload_n 2, 1) := dk_28 (dk_at dksX1_put_2 16 rfl rfl)
theorem dX1_put_63 : decode cX1_put 63 = .ok (.iload_n 3, 1) := dk_29 (dk_at dksX1_put_2 17 rfl rfl)
theorem dX1_put_64 : decode cX1_put 64 = .ok (.i2s, 1) := dk_147 (dk_at dksX1_put_2 18 rfl rfl)
theorem dX1_put_65 : decode cX1_put 65 = .ok (.sastore, 1) := dk_86 (dk_at dksX1_put_2 19 rfl rfl)
theorem dX1_put_66 : decode cX1_put 66 = .ok (.goto 11, 3) := dk_167 0 11 (dk_at dksX1_put_2 20 rfl rfl)
theorem dX1_put_69 : decode cX1_put 69 = .ok (.aload 4, 2) := dk_25 4 (dk_at dksX1_put_3 0 rfl rfl)
theorem dX1_put_71 : decode cX1_put 71 = .ok (.checkcast 318, 3) := dk_192 1 62 (dk_at dksX1_put_3 2 rfl rfl)
theorem dX1_put_74 : decode cX1_put 74 = .ok (.iload_n 2, 1) := dk_28 (dk_at dksX1_put_3 5 rfl rfl)
theorem dX1_put_75 : decode cX1_put 75 = .ok (.iload_n 3, 1) := dk_29 (dk_at dksX1_put_3 6 rfl rfl)
theorem dX1_put_76 : decode cX1_put 76 = .ok (.iastore, 1) := dk_79 (dk_at dksX1_put_3 7 rfl rfl)
theorem dX1_put_77 : decode cX1_put 77 = .ok (.iconst 0, 1) := dk_3 (dk_at dksX1_put_3 8 rfl rfl)
theorem dX1_put_78 : decode cX1_put 78 = .ok (.ireturn, 1) := dk_172 (dk_at dksX1_put_3 9 rfl rfl)
theorem dX1_put_79 : decode cX1_put 79 = .ok (.astore 5, 2) := dk_58 5 (dk_at dksX1_put_3 10 rfl rfl)
theorem dX1_put_81 : decode cX1_put 81 = .ok (.bipush (-12), 2) := dk_16 244 (dk_at dksX1_put_3 12 rfl rfl)
theorem dX1_put_83 : decode cX1_put 83 = .ok (.ireturn, 1) := dk_172 (dk_at dksX1_put_3 14 rfl rfl)
theorem dX1_put_84 : decode cX1_put 84 = .ok (.astore 5, 2) := dk_58 5 (dk_at dksX1_put_3 15 rfl rfl)
theorem dX1_put_86 : decode cX1_put 86 = .ok (.bipush (-13), 2) := dk_16 243 (dk_at dksX1_put_3 17 rfl rfl)
theorem dX1_put_88 : decode cX1_put 88 = .ok (.ireturn, 1) := dk_172 (dk_at dksX1_put_3 19 rfl rfl)
abbrev cX1_copy : ByteArray := prog_1_method_82_code
def yX1_copy : MethodName := ⟨RX1, "copy", "(IIIII)I"⟩
def dkwX1_copy_4 : List UInt8 := [58, 8, 16, 243, 172]
abbrev dktX1_copy_4 : List UInt8 := dkwX1_copy_4 ++ []
def dkwX1_copy_3 : List UInt8 := [184, 1, 78, 159, 0, 6, 16, 244, 172, 25, 6, 28, 25, 7, 21, 4, 21, 5, 184, 1, 154, 21, 5, 172]
abbrev dktX1_copy_3 : List UInt8 := dkwX1_copy_3 ++ dktX1_copy_4
def dkwX1_copy_2 : List UInt8 := [199, 0, 6, 16, 245, 172, 25, 6, 184, 1, 78, 2, 159, 0, 16, 25, 6, 184, 1, 78, 25, 7]
abbrev dktX1_copy_2 : List UInt8 := dkwX1_copy_2 ++ dktX1_copy_3
def dkwX1_copy_1 : List UInt8 := [180, 0, 128, 58, 6, 42, 180, 0, 124, 29, 50, 180, 0, 128, 58, 7, 25, 6, 198, 0, 8, 25, 7]
abbrev dktX1_copy_1 : List UInt8 := dkwX1_copy_1 ++ dktX1_copy_2
def dkwX1_copy_0 : List UInt8 := [42, 27, 182, 0, 121, 153, 0, 11, 42, 29, 182, 0, 121, 154, 0, 5, 2, 172, 42, 180, 0, 124, 27, 50]
abbrev dktX1_copy_0 : List UInt8 := dkwX1_copy_0 ++ dktX1_copy_1
theorem dksX1_copy_0 : cX1_copy.data.toList.drop 0 = dktX1_copy_0 := by decide +kernel
theorem dksX1_copy_1 : cX1_copy.data.toList.drop 24 = dktX1_copy_1 := dk_seg dksX1_copy_0 24 rfl rfl
theorem dksX1_copy_2 : cX1_copy.data.toList.drop 47 = dktX1_copy_2 := dk_seg dksX1_copy_1 23 rfl rfl
theorem dksX1_copy_3 : cX1_copy.data.toList.drop 69 = dktX1_copy_3 := dk_seg dksX1_copy_2 22 rfl rfl
theorem dksX1_copy_4 : cX1_copy.data.toList.drop 93 = dktX1_copy_4 := dk_seg dksX1_copy_3 24 rfl rfl
theorem dX1_copy_0 : decode cX1_copy 0 = .ok (.aload_n 0, 1) := dk_42 (dk_at dksX1_copy_0 0 rfl rfl)
theorem dX1_copy_1 : decode cX1_copy 1 = .ok (.iload_n 1, 1) := dk_27 (dk_at dksX1_copy_0 1 rfl rfl)
theorem dX1_copy_2 : decode cX1_copy 2 = .ok (.invokevirtual 121, 3) := dk_182 0 121 (dk_at dksX1_copy_0 2 rfl rfl)
theorem dX1_copy_5 : decode cX1_copy 5 = .ok (.ifCond .eq 11, 3) := dk_153 0 11 (dk_at dksX1_copy_0 5 rfl rfl)
theorem dX1_copy_8 : decode cX1_copy 8 = .ok (.aload_n 0, 1) := dk_42 (dk_at dksX1_copy_0 8 rfl rfl)
theorem dX1_copy_9 : decode cX1_copy 9 = .ok (.iload_n 3, 1) := dk_29 (dk_at dksX1_copy_0 9 rfl rfl)
theorem dX1_copy_10 : decode cX1_copy 10 = .ok (.invokevirtual 121, 3) := dk_182 0 121 (dk_at dksX1_copy_0 10 rfl rfl)
theorem dX1_copy_13 : decode cX1_copy 13 = .ok (.ifCond .ne 5, 3) := dk_154 0 5 (dk_at dksX1_copy_0 13 rfl rfl)
theorem dX1_copy_16 : decode cX1_copy 16 = .ok (.iconst (-1), 1) := dk_2 (dk_at dksX1_copy_0 16 rfl rfl)
theorem dX1_copy_17 : decode cX1_copy 17 = .ok (.ireturn, 1) := dk_172 (dk_at dksX1_copy_0 17 rfl rfl)
theorem dX1_copy_18 : decode cX1_copy 18 = .ok (.aload_n 0, 1) := dk_42 (dk_at dksX1_copy_0 18 rfl rfl)
theorem dX1_copy_19 : decode cX1_copy 19 = .ok (.getfield 124, 3) := dk_180 0 124 (dk_at dksX1_copy_0 19 rfl rfl)
theorem dX1_copy_22 : decode cX1_copy 22 = .ok (.iload_n 1, 1) := dk_27 (dk_at dksX1_copy_0 22 rfl rfl)
theorem dX1_copy_23 : decode cX1_copy 23 = .ok (.aaload, 1) := dk_50 (dk_at dksX1_copy_0 23 rfl rfl)
theorem dX1_copy_24 : decode cX1_copy 24 = .ok (.getfield 128, 3) := dk_180 0 128 (dk_at dksX1_copy_1 0 rfl rfl)
theorem dX1_copy_27 : decode cX1_copy 27 = .ok (.astore 6, 2) := dk_58 6 (dk_at dksX1_copy_1 3 rfl rfl)
theorem dX1_copy_29 : decode cX1_copy 29 = .ok (.aload_n 0, 1) := dk_42 (dk_at dksX1_copy_1 5 rfl rfl)
theorem dX1_copy_30 : decode cX1_copy 30 = .ok (.getfield 124, 3) := dk_180 0 124 (dk_at dksX1_copy_1 6 rfl rfl)
theorem dX1_copy_33 : decode cX1_copy 33 = .ok (.iload_n 3, 1) := dk_29 (dk_at dksX1_copy_1 9 rfl rfl)
theorem dX1_copy_34 : decode cX1_copy 34 = .ok (.aaload, 1) := dk_50 (dk_at dksX1_copy_1 10 rfl rfl)
theorem dX1_copy_35 : decode cX1_copy 35 = .ok (.getfield 128, 3) := dk_180 0 128 (dk_at dksX1_copy_1 11 rfl rfl)
theorem dX1_copy_38 : decode cX1_copy 38 = .ok (.astore 7, 2) := dk_58 7 (dk_at dksX1_copy_1 14 rfl rfl)
theorem dX1_copy_40 : decode cX1_copy 40 = .ok (.aload 6, 2) := dk_25 6 (dk_at dksX1_copy_1 16 rfl rfl)
theorem dX1_copy_42 : decode cX1_copy 42 = .ok (.ifnull 8, 3) := dk_198 0 8 (dk_at dksX1_copy_1 18 rfl rfl)
theorem dX1_copy_45 : decode cX1_copy 45 = .ok (.aload 7, 2) := dk_25 7 (dk_at dksX1_copy_1 21 rfl rfl)
theorem dX1_copy_47 : decode cX1_copy 47 = .ok (.ifnonnull 6, 3) := dk_199 0 6 (dk_at dksX1_copy_2 0 rfl rfl)
theorem dX1_copy_50 : decode cX1_copy 50 = .ok (.bipush (-11), 2) := dk_16 245 (dk_at dksX1_copy_2 3 rfl rfl)
theorem dX1_copy_52 : decode cX1_copy 52 = .ok (.ireturn, 1) := dk_172 (dk_at dksX1_copy_2 5 rfl rfl)
theorem dX1_copy_53 : decode cX1_copy 53 = .ok (.aload 6, 2) := dk_25 6 (dk_at dksX1_copy_2 6 rfl rfl)
theorem dX1_copy_55 : decode cX1_copy 55 = .ok (.invokestatic 334, 3) := dk_184 1 78 (dk_at dksX1_copy_2 8 rfl rfl)
theorem dX1_copy_58 : decode cX1_copy 58 = .ok (.iconst (-1), 1) := dk_2 (dk_at dksX1_copy_2 11 rfl rfl)
theorem dX1_copy_59 : decode cX1_copy 59 = .ok (.if_icmp .eq 16, 3) := dk_159 0 16 (dk_at dksX1_copy_2 12 rfl rfl)
theorem dX1_copy_62 : decode cX1_copy 62 = .ok (.aload 6, 2) := dk_25 6 (dk_at dksX1_copy_2 15 rfl rfl)
theorem dX1_copy_64 : decode cX1_copy 64 = .ok (.invokestatic 334, 3) := dk_184 1 78 (dk_at dksX1_copy_2 17 rfl rfl)
theorem dX1_copy_67 : decode cX1_copy 67 = .ok (.aload 7, 2) := dk_25 7 (dk_at dksX1_copy_2 20 rfl rfl)
theorem dX1_copy_69 : decode cX1_copy 69 = .ok (.invokestatic 334, 3) := dk_184 1 78 (dk_at dksX1_copy_3 0 rfl rfl)
theorem dX1_copy_72 : decode cX1_copy 72 = .ok (.if_icmp .eq 6, 3) := dk_159 0 6 (dk_at dksX1_copy_3 3 rfl rfl)
theorem dX1_copy_75 : decode cX1_copy 75 = .ok (.bipush (-12), 2) := dk_16 244 (dk_at dksX1_copy_3 6 rfl rfl)
theorem dX1_copy_77 : decode cX1_copy 77 = .ok (.ireturn, 1) := dk_172 (dk_at dksX1_copy_3 8 rfl rfl)
theorem dX1_copy_78 : decode cX1_copy 78 = .ok (.aload 6, 2) := dk_25 6 (dk_at dksX1_copy_3 9 rfl rfl)
theorem dX1_copy_80 : decode cX1_copy 80 = .ok (.iload_n 2, 1) := dk_28 (dk_at dksX1_copy_3 11 rfl rfl)
theorem dX1_copy_81 : decode cX1_copy 81 = .ok (.aload 7, 2) := dk_25 7 (dk_at dksX1_copy_3 12 rfl rfl)
theorem dX1_copy_83 : decode cX1_copy 83 = .ok (.iload 4, 2) := dk_21 4 (dk_at dksX1_copy_3 14 rfl rfl)
theorem dX1_copy_85 : decode cX1_copy 85 = .ok (.iload 5, 2) := dk_21 5 (dk_at dksX1_copy_3 16 rfl rfl)
theorem dX1_copy_87 : decode cX1_copy 87 = .ok (.invokestatic 410, 3) := dk_184 1 154 (dk_at dksX1_copy_3 18 rfl rfl)
theorem dX1_copy_90 : decode cX1_copy 90 = .ok (.iload 5, 2) := dk_21 5 (dk_at dksX1_copy_3 21 rfl rfl)
theorem dX1_copy_92 : decode cX1_copy 92 = .ok (.ireturn, 1) := dk_172 (dk_at dksX1_copy_3 23 rfl rfl)
theorem dX1_copy_93 : decode cX1_copy 93 = .ok (.astore 8, 2) := dk_58 8 (dk_at dksX1_copy_4 0 rfl rfl)
theorem dX1_copy_95 : decode cX1_copy 95 = .ok (.bipush (-13), 2) := dk_16 243 (dk_at dksX1_copy_4 2 rfl rfl)
theorem dX1_copy_97 : decode cX1_copy 97 = .ok (.ireturn, 1) := dk_172 (dk_at dksX1_copy_4 4 rfl rfl)
abbrev cX1_cost : ByteArray := prog_1_method_83_code
def yX1_cost : MethodName := ⟨RX1, "cost", "(I)I"⟩
def dkwX1_cost_1 : List UInt8 := [182, 1, 162, 172, 77, 16, 245, 172, 77, 16, 244, 172]
abbrev dktX1_cost_1 : List UInt8 := dkwX1_cost_1 ++ []
def dkwX1_cost_0 : List UInt8 := [42, 27, 182, 0, 121, 154, 0, 5, 2, 172, 42, 180, 0, 124, 27, 50, 180, 0, 128, 192, 0, 1]
abbrev dktX1_cost_0 : List UInt8 := dkwX1_cost_0 ++ dktX1_cost_1
theorem dksX1_cost_0 : cX1_cost.data.toList.drop 0 = dktX1_cost_0 := by decide +kernel
theorem dksX1_cost_1 : cX1_cost.data.toList.drop 22 = dktX1_cost_1 := dk_seg dksX1_cost_0 22 rfl rfl
theorem dX1_cost_0 : decode cX1_cost 0 = .ok (.aload_n 0, 1) := dk_42 (dk_at dksX1_cost_0 0 rfl rfl)
theorem dX1_cost_1 : decode cX1_cost 1 = .ok (.iload_n 1, 1) := dk_27 (dk_at dksX1_cost_0 1 rfl rfl)
theorem dX1_cost_2 : decode cX1_cost 2 = .ok (.invokevirtual 121, 3) := dk_182 0 121 (dk_at dksX1_cost_0 2 rfl rfl)
theorem dX1_cost_5 : decode cX1_cost 5 = .ok (.ifCond .ne 5, 3) := dk_154 0 5 (dk_at dksX1_cost_0 5 rfl rfl)
theorem dX1_cost_8 : decode cX1_cost 8 = .ok (.iconst (-1), 1) := dk_2 (dk_at dksX1_cost_0 8 rfl rfl)
theorem dX1_cost_9 : decode cX1_cost 9 = .ok (.ireturn, 1) := dk_172 (dk_at dksX1_cost_0 9 rfl rfl)
theorem dX1_cost_10 : decode cX1_cost 10 = .ok (.aload_n 0, 1) := dk_42 (dk_at dksX1_cost_0 10 rfl rfl)
theorem dX1_cost_11 : decode cX1_cost 11 = .ok (.getfield 124, 3) := dk_180 0 124 (dk_at dksX1_cost_0 11 rfl rfl)
theorem dX1_cost_14 : decode cX1_cost 14 = .ok (.iload_n 1, 1) := dk_27 (dk_at dksX1_cost_0 14 rfl rfl)
theorem dX1_cost_15 : decode cX1_cost 15 = .ok (.aaload, 1) := dk_50 (dk_at dksX1_cost_0 15 rfl rfl)
theorem dX1_cost_16 : decode cX1_cost 16 = .ok (.getfield 128, 3) := dk_180 0 128 (dk_at dksX1_cost_0 16 rfl rfl)
theorem dX1_cost_19 : decode cX1_cost 19 = .ok (.checkcast 1, 3) := dk_192 0 1 (dk_at dksX1_cost_0 19 rfl rfl)
theorem dX1_cost_22 : decode cX1_cost 22 = .ok (.invokevirtual 418, 3) := dk_182 1 162 (dk_at dksX1_cost_1 0 rfl rfl)
theorem dX1_cost_25 : decode cX1_cost 25 = .ok (.ireturn, 1) := dk_172 (dk_at dksX1_cost_1 3 rfl rfl)
theorem dX1_cost_26 : decode cX1_cost 26 = .ok (.astore_n 2, 1) := dk_77 (dk_at dksX1_cost_1 4 rfl rfl)
theorem dX1_cost_27 : decode cX1_cost 27 = .ok (.bipush (-11), 2) := dk_16 245 (dk_at dksX1_cost_1 5 rfl rfl)
theorem dX1_cost_29 : decode cX1_cost 29 = .ok (.ireturn, 1) := dk_172 (dk_at dksX1_cost_1 7 rfl rfl)
theorem dX1_cost_30 : decode cX1_cost 30 = .ok (.astore_n 2, 1) := dk_77 (dk_at dksX1_cost_1 8 rfl rfl)
theorem dX1_cost_31 : decode cX1_cost 31 = .ok (.bipush (-12), 2) := dk_16 244 (dk_at dksX1_cost_1 9 rfl rfl)
theorem dX1_cost_33 : decode cX1_cost 33 = .ok (.ireturn, 1) := dk_172 (dk_at dksX1_cost_1 11 rfl rfl)
abbrev cX1_toss : ByteArray := prog_1_method_84_code
def yX1_toss : MethodName := ⟨RX1, "toss", "(I)I"⟩
def dkwX1_toss_2 : List UInt8 := [16, 241, 172, 77, 16, 244, 172]
abbrev dktX1_toss_2 : List UInt8 := dkwX1_toss_2 ++ []
def dkwX1_toss_1 : List UInt8 := [172, 42, 180, 0, 124, 27, 50, 180, 0, 128, 192, 0, 1, 182, 1, 165, 191, 77, 44, 180, 1, 171, 172, 77]
abbrev dktX1_toss_1 : List UInt8 := dkwX1_toss_1 ++ dktX1_toss_2
def dkwX1_toss_0 : List UInt8 := [42, 27, 182, 0, 121, 154, 0, 5, 2, 172, 42, 180, 0, 124, 27, 50, 180, 0, 128, 199, 0, 6, 16, 245]
abbrev dktX1_toss_0 : List UInt8 := dkwX1_toss_0 ++ dktX1_toss_1
theorem dksX1_toss_0 : cX1_toss.data.toList.drop 0 = dktX1_toss_0 := by decide +kernel
theorem dksX1_toss_1 : cX1_toss.data.toList.drop 24 = dktX1_toss_1 := dk_seg dksX1_toss_0 24 rfl rfl
theorem dksX1_toss_2 : cX1_toss.data.toList.drop 48 = dktX1_toss_2 := dk_seg dksX1_toss_1 24 rfl rfl
theorem dX1_toss_0 : decode cX1_toss 0 = .ok (.aload_n 0, 1) := dk_42 (dk_at dksX1_toss_0 0 rfl rfl)
theorem dX1_toss_1 : decode cX1_toss 1 = .ok (.iload_n 1, 1) := dk_27 (dk_at dksX1_toss_0 1 rfl rfl)
theorem dX1_toss_2 : decode cX1_toss 2 = .ok (.invokevirtual 121, 3) := dk_182 0 121 (dk_at dksX1_toss_0 2 rfl rfl)
theorem dX1_toss_5 : decode cX1_toss 5 = .ok (.ifCond .ne 5, 3) := dk_154 0 5 (dk_at dksX1_toss_0 5 rfl rfl)
theorem dX1_toss_8 : decode cX1_toss 8 = .ok (.iconst (-1), 1) := dk_2 (dk_at dksX1_toss_0 8 rfl rfl)
theorem dX1_toss_9 : decode cX1_toss 9 = .ok (.ireturn, 1) := dk_172 (dk_at dksX1_toss_0 9 rfl rfl)
theorem dX1_toss_10 : decode cX1_toss 10 = .ok (.aload_n 0, 1) := dk_42 (dk_at dksX1_toss_0 10 rfl rfl)
theorem dX1_toss_11 : decode cX1_toss 11 = .ok (.getfield 124, 3) := dk_180 0 124 (dk_at dksX1_toss_0 11 rfl rfl)
theorem dX1_toss_14 : decode cX1_toss 14 = .ok (.iload_n 1, 1) := dk_27 (dk_at dksX1_toss_0 14 rfl rfl)
theorem dX1_toss_15 : decode cX1_toss 15 = .ok (.aaload, 1) := dk_50 (dk_at dksX1_toss_0 15 rfl rfl)
theorem dX1_toss_16 : decode cX1_toss 16 = .ok (.getfield 128, 3) := dk_180 0 128 (dk_at dksX1_toss_0 16 rfl rfl)
theorem dX1_toss_19 : decode cX1_toss 19 = .ok (.ifnonnull 6, 3) := dk_199 0 6 (dk_at dksX1_toss_0 19 rfl rfl)
theorem dX1_toss_22 : decode cX1_toss 22 = .ok (.bipush (-11), 2) := dk_16 245 (dk_at dksX1_toss_0 22 rfl rfl)
theorem dX1_toss_24 : decode cX1_toss 24 = .ok (.ireturn, 1) := dk_172 (dk_at dksX1_toss_1 0 rfl rfl)
theorem dX1_toss_25 : decode cX1_toss 25 = .ok (.aload_n 0, 1) := dk_42 (dk_at dksX1_toss_1 1 rfl rfl)
theorem dX1_toss_26 : decode cX1_toss 26 = .ok (.getfield 124, 3) := dk_180 0 124 (dk_at dksX1_toss_1 2 rfl rfl)
theorem dX1_toss_29 : decode cX1_toss 29 = .ok (.iload_n 1, 1) := dk_27 (dk_at dksX1_toss_1 5 rfl rfl)
theorem dX1_toss_30 : decode cX1_toss 30 = .ok (.aaload, 1) := dk_50 (dk_at dksX1_toss_1 6 rfl rfl)
theorem dX1_toss_31 : decode cX1_toss 31 = .ok (.getfield 128, 3) := dk_180 0 128 (dk_at dksX1_toss_1 7 rfl rfl)
theorem dX1_toss_34 : decode cX1_toss 34 = .ok (.checkcast 1, 3) := dk_192 0 1 (dk_at dksX1_toss_1 10 rfl rfl)
theorem dX1_toss_37 : decode cX1_toss 37 = .ok (.invokevirtual 421, 3) := dk_182 1 165 (dk_at dksX1_toss_1 13 rfl rfl)
theorem dX1_toss_40 : decode cX1_toss 40 = .ok (.athrow, 1) := dk_191 (dk_at dksX1_toss_1 16 rfl rfl)
theorem dX1_toss_41 : decode cX1_toss 41 = .ok (.astore_n 2, 1) := dk_77 (dk_at dksX1_toss_1 17 rfl rfl)
theorem dX1_toss_42 : decode cX1_toss 42 = .ok (.aload_n 2, 1) := dk_44 (dk_at dksX1_toss_1 18 rfl rfl)
theorem dX1_toss_43 : decode cX1_toss 43 = .ok (.getfield 427, 3) := dk_180 1 171 (dk_at dksX1_toss_1 19 rfl rfl)
theorem dX1_toss_46 : decode cX1_toss 46 = .ok (.ireturn, 1) := dk_172 (dk_at dksX1_toss_1 22 rfl rfl)
theorem dX1_toss_47 : decode cX1_toss 47 = .ok (.astore_n 2, 1) := dk_77 (dk_at dksX1_toss_1 23 rfl rfl)
theorem dX1_toss_48 : decode cX1_toss 48 = .ok (.bipush (-15), 2) := dk_16 241 (dk_at dksX1_toss_2 0 rfl rfl)
theorem dX1_toss_50 : decode cX1_toss 50 = .ok (.ireturn, 1) := dk_172 (dk_at dksX1_toss_2 2 rfl rfl)
theorem dX1_toss_51 : decode cX1_toss 51 = .ok (.astore_n 2, 1) := dk_77 (dk_at dksX1_toss_2 3 rfl rfl)
theorem dX1_toss_52 : decode cX1_toss 52 = .ok (.bipush (-12), 2) := dk_16 244 (dk_at dksX1_toss_2 4 rfl rfl)
theorem dX1_toss_54 : decode cX1_toss 54 = .ok (.ireturn, 1) := dk_172 (dk_at dksX1_toss_2 6 rfl rfl)
abbrev cX1_element : ByteArray := prog_1_method_81_code
def yX1_element : MethodName := ⟨RX1, "element", "(II)J"⟩
def dkwX1_element_4 : List UInt8 := [191]
abbrev dktX1_element_4 : List UInt8 := dkwX1_element_4 ++ []
def dkwX1_element_3 : List UInt8 := [89, 183, 1, 153, 191, 58, 4, 187, 1, 151, 89, 183, 1, 153, 191, 58, 4, 187, 1, 151, 89, 183, 1, 153]
abbrev dktX1_element_3 : List UInt8 := dkwX1_element_3 ++ dktX1_element_4
def dkwX1_element_2 : List UInt8 := [153, 0, 11, 45, 192, 1, 60, 28, 53, 133, 173, 45, 192, 1, 62, 28, 46, 133, 173, 58, 4, 187, 1, 151]
abbrev dktX1_element_2 : List UInt8 := dkwX1_element_2 ++ dktX1_element_3
def dkwX1_element_1 : List UInt8 := [180, 0, 128, 78, 45, 193, 0, 134, 153, 0, 11, 45, 192, 0, 134, 28, 51, 133, 173, 45, 193, 1, 60]
abbrev dktX1_element_1 : List UInt8 := dkwX1_element_1 ++ dktX1_element_2
def dkwX1_element_0 : List UInt8 := [42, 27, 182, 0, 121, 154, 0, 11, 187, 1, 146, 89, 183, 1, 148, 191, 42, 180, 0, 124, 27, 50]
abbrev dktX1_element_0 : List UInt8 := dkwX1_element_0 ++ dktX1_element_1
theorem dksX1_element_0 : cX1_element.data.toList.drop 0 = dktX1_element_0 := by decide +kernel
theorem dksX1_element_1 : cX1_element.data.toList.drop 22 = dktX1_element_1 := dk_seg dksX1_element_0 22 rfl rfl
theorem dksX1_element_2 : cX1_element.data.toList.drop 45 = dktX1_element_2 := dk_seg dksX1_element_1 23 rfl rfl
theorem dksX1_element_3 : cX1_element.data.toList.drop 69 = dktX1_element_3 := dk_seg dksX1_element_2 24 rfl rfl
theorem dksX1_element_4 : cX1_element.data.toList.drop 93 = dktX1_element_4 := dk_seg dksX1_element_3 24 rfl rfl
theorem dX1_element_0 : decode cX1_element 0 = .ok (.aload_n 0, 1) := dk_42 (dk_at dksX1_element_0 0 rfl rfl)
theorem dX1_element_1 : decode cX1_element 1 = .ok (.iload_n 1, 1) := dk_27 (dk_at dksX1_element_0 1 rfl rfl)
theorem dX1_element_2 : decode cX1_element 2 = .ok (.invokevirtual 121, 3) := dk_182 0 121 (dk_at dksX1_element_0 2 rfl rfl)
theorem dX1_element_5 : decode cX1_element 5 = .ok (.ifCond .ne 11, 3) := dk_154 0 11 (dk_at dksX1_element_0 5 rfl rfl)
theorem dX1_element_8 : decode cX1_element 8 = .ok (.new 402, 3) := dk_187 1 146 (dk_at dksX1_element_0 8 rfl rfl)
theorem dX1_element_11 : decode cX1_element 11 = .ok (.dup, 1) := dk_89 (dk_at dksX1_element_0 11 rfl rfl)
theorem dX1_element_12 : decode cX1_element 12 = .ok (.invokespecial 404, 3) := dk_183 1 148 (dk_at dksX1_element_0 12 rfl rfl)
theorem dX1_element_15 : decode cX1_element 15 = .ok (.athrow, 1) := dk_191 (dk_at dksX1_element_0 15 rfl rfl)
theorem dX1_element_16 : decode cX1_element 16 = .ok (.aload_n 0, 1) := dk_42 (dk_at dksX1_element_0 16 rfl rfl)
theorem dX1_element_17 : decode cX1_element 17 = .ok (.getfield 124, 3) := dk_180 0 124 (dk_at dksX1_element_0 17 rfl rfl)
theorem dX1_element_20 : decode cX1_element 20 = .ok (.iload_n 1, 1) := dk_27 (dk_at dksX1_element_0 20 rfl rfl)
theorem dX1_element_21 : decode cX1_element 21 = .ok (.aaload, 1) := dk_50 (dk_at dksX1_element_0 21 rfl rfl)
theorem dX1_element_22 : decode cX1_element 22 = .ok (.getfield 128, 3) := dk_180 0 128 (dk_at dksX1_element_1 0 rfl rfl)
theorem dX1_element_25 : decode cX1_element 25 = .ok (.astore_n 3, 1) := dk_78 (dk_at dksX1_element_1 3 rfl rfl)
theorem dX1_element_26 : decode cX1_element 26 = .ok (.aload_n 3, 1) := dk_45 (dk_at dksX1_element_1 4 rfl rfl)
theorem dX1_element_27 : decode cX1_element 27 = .ok (.instanceof 134, 3) := dk_193 0 134 (dk_at dksX1_element_1 5 rfl rfl)
theorem dX1_element_30 : decode cX1_element 30 = .ok (.ifCond .eq 11, 3) := dk_153 0 11 (dk_at dksX1_element_1 8 rfl rfl)
theorem dX1_element_33 : decode cX1_element 33 = .ok (.aload_n 3, 1) := dk_45 (dk_at dksX1_element_1 11 rfl rfl)
theorem dX1_element_34 : decode cX1_element 34 = .ok (.checkcast 134, 3) := dk_192 0 134 (dk_at dksX1_element_1 12 rfl rfl)
theorem dX1_element_37 : decode cX1_element 37 = .ok (.iload_n 2, 1) := dk_28 (dk_at dksX1_element_1 15 rfl rfl)
theorem dX1_element_38 : decode cX1_element 38 = .ok (.baload, 1) := dk_51 (dk_at dksX1_element_1 16 rfl rfl)
theorem dX1_element_39 : decode cX1_element 39 = .ok (.i2l, 1) := dk_133 (dk_at dksX1_element_1 17 rfl rfl)
theorem dX1_element_40 : decode cX1_element 40 = .ok (.lreturn, 1) := dk_173 (dk_at dksX1_element_1 18 rfl rfl)
theorem dX1_element_41 : decode cX1_element 41 = .ok (.aload_n 3, 1) := dk_45 (dk_at dksX1_element_1 19 rfl rfl)
theorem dX1_element_42 : decode cX1_element 42 = .ok (.instanceof 316, 3) := dk_193 1 60 (dk_at dksX1_element_1 20 rfl rfl)
theorem dX1_element_45 : decode cX1_element 45 = .ok (.ifCond .eq 11, 3) := dk_153 0 11 (dk_at dksX1_element_2 0 rfl rfl)
theorem dX1_element_48 : decode cX1_element 48 = .ok (.aload_n 3, 1) := dk_45 (dk_at dksX1_element_2 3 rfl rfl)
theorem dX1_element_49 : decode cX1_element 49 = .ok (.checkcast 316, 3) := dk_192 1 60 (dk_at dksX1_element_2 4 rfl rfl)
theorem dX1_element_52 : decode cX1_element 52 = .ok (.iload_n 2, 1) := dk_28 (dk_at dksX1_element_2 7 rfl rfl)
theorem dX1_element_53 : decode cX1_element 53 = .ok (.saload, 1) := dk_53 (dk_at dksX1_element_2 8 rfl rfl)
theorem dX1_element_54 : decode cX1_element 54 = .ok (.i2l, 1) := dk_133 (dk_at dksX1_element_2 9 rfl rfl)
theorem dX1_element_55 : decode cX1_element 55 = .ok (.lreturn, 1) := dk_173 (dk_at dksX1_element_2 10 rfl rfl)
theorem dX1_element_56 : decode cX1_element 56 = .ok (.aload_n 3, 1) := dk_45 (dk_at dksX1_element_2 11 rfl rfl)
theorem dX1_element_57 : decode cX1_element 57 = .ok (.checkcast 318, 3) := dk_192 1 62 (dk_at dksX1_element_2 12 rfl rfl)
theorem dX1_element_60 : decode cX1_element 60 = .ok (.iload_n 2, 1) := dk_28 (dk_at dksX1_element_2 15 rfl rfl)
theorem dX1_element_61 : decode cX1_element 61 = .ok (.iaload, 1) := dk_46 (dk_at dksX1_element_2 16 rfl rfl)
theorem dX1_element_62 : decode cX1_element 62 = .ok (.i2l, 1) := dk_133 (dk_at dksX1_element_2 17 rfl rfl)
theorem dX1_element_63 : decode cX1_element 63 = .ok (.lreturn, 1) := dk_173 (dk_at dksX1_element_2 18 rfl rfl)
theorem dX1_element_64 : decode cX1_element 64 = .ok (.astore 4, 2) := dk_58 4 (dk_at dksX1_element_2 19 rfl rfl)
theorem dX1_element_66 : decode cX1_element 66 = .ok (.new 407, 3) := dk_187 1 151 (dk_at dksX1_element_2 21 rfl rfl)
theorem dX1_element_69 : decode cX1_element 69 = .ok (.dup, 1) := dk_89 (dk_at dksX1_element_3 0 rfl rfl)
theorem dX1_element_70 : decode cX1_element 70 = .ok (.invokespecial 409, 3) := dk_183 1 153 (dk_at dksX1_element_3 1 rfl rfl)
theorem dX1_element_73 : decode cX1_element 73 = .ok (.athrow, 1) := dk_191 (dk_at dksX1_element_3 4 rfl rfl)
theorem dX1_element_74 : decode cX1_element 74 = .ok (.astore 4, 2) := dk_58 4 (dk_at dksX1_element_3 5 rfl rfl)
theorem dX1_element_76 : decode cX1_element 76 = .ok (.new 407, 3) := dk_187 1 151 (dk_at dksX1_element_3 7 rfl rfl)
theorem dX1_element_79 : decode cX1_element 79 = .ok (.dup, 1) := dk_89 (dk_at dksX1_element_3 10 rfl rfl)
theorem dX1_element_80 : decode cX1_element 80 = .ok (.invokespecial 409, 3) := dk_183 1 153 (dk_at dksX1_element_3 11 rfl rfl)
theorem dX1_element_83 : decode cX1_element 83 = .ok (.athrow, 1) := dk_191 (dk_at dksX1_element_3 14 rfl rfl)
theorem dX1_element_84 : decode cX1_element 84 = .ok (.astore 4, 2) := dk_58 4 (dk_at dksX1_element_3 15 rfl rfl)
theorem dX1_element_86 : decode cX1_element 86 = .ok (.new 407, 3) := dk_187 1 151 (dk_at dksX1_element_3 17 rfl rfl)
theorem dX1_element_89 : decode cX1_element 89 = .ok (.dup, 1) := dk_89 (dk_at dksX1_element_3 20 rfl rfl)
theorem dX1_element_90 : decode cX1_element 90 = .ok (.invokespecial 409, 3) := dk_183 1 153 (dk_at dksX1_element_3 21 rfl rfl)
theorem dX1_element_93 : decode cX1_element 93 = .ok (.athrow, 1) := dk_191 (dk_at dksX1_element_4 0 rfl rfl)
theorem q70 : (Jvm.Cond.initialized "BladeBetweenThumbs") ∈ lw_all := lw_g (lw_at lw_m1 1 rfl) rfl
theorem q102 : (Jvm.Cond.instanceMethod ({ cls := "BladeBetweenThumbs", name := "hedge", desc := "(I)I" } : Jvm.MethodName)) ∈ lw_all := lw_g (lw_at lw_m1 33 rfl) rfl
theorem q103 : (Jvm.Cond.selects "BladeBetweenThumbs" ({ cls := "BladeBetweenThumbs", name := "hedge", desc := "(I)I" } : Jvm.MethodName) ({ cls := "BladeBetweenThumbs", name := "hedge", desc := "(I)I" } : Jvm.MethodName)) ∈ lw_all := lw_g (lw_at lw_m1 34 rfl) rfl
theorem q104 : (Jvm.Cond.codeWith ({ cls := "BladeBetweenThumbs", name := "hedge", desc := "(I)I" } : Jvm.MethodName) prog_1_method_9_code (3 : Nat) (Option.some Jvm.ClassFile.FieldType.int) [((10 : Nat), (37 : Nat), (38 : Nat), (140 : Nat)), ((10 : Nat), (37 : Nat), (42 : Nat), (115 : Nat))]) ∈ lw_all := lw_g (lw_at lw_m1 35 rfl) rfl
theorem q105 : (Jvm.Cond.classLink "BladeBetweenThumbs" (140 : Nat) "java/lang/ClassCastException") ∈ lw_all := lw_g (lw_at lw_m1 36 rfl) rfl
theorem q197 : (Jvm.Cond.classLink "BladeBetweenThumbs" (115 : Nat) "BladeBetweenThumbs$Broken") ∈ lw_all := lw_g (lw_at lw_m1 128 rfl) rfl
theorem q198 : (Jvm.Cond.methodLink "BladeBetweenThumbs" (121 : Nat) ({ cls := "BladeBetweenThumbs", name := "isShelf", desc := "(I)Z" } : Jvm.MethodName)) ∈ lw_all := lw_g (lw_at lw_m1 129 rfl) rfl
theorem q199 : (Jvm.Cond.privateMethod ({ cls := "BladeBetweenThumbs", name := "isShelf", desc := "(I)Z" } : Jvm.MethodName)) ∈ lw_tbl := lw_at lw_m1 130 rfl
theorem q200 : (Jvm.Cond.instanceMethod ({ cls := "BladeBetweenThumbs", name := "isShelf", desc := "(I)Z" } : Jvm.MethodName)) ∈ lw_all := lw_g (lw_at lw_m1 131 rfl) rfl
theorem q201 : (Jvm.Cond.instantiable "BladeBetweenThumbs" (11 : Nat)) ∈ lw_all := lw_g (lw_at lw_m1 132 rfl) rfl
theorem q202 : (Jvm.Cond.code ({ cls := "BladeBetweenThumbs", name := "isShelf", desc := "(I)Z" } : Jvm.MethodName) prog_1_method_4_code (2 : Nat) (Option.some Jvm.ClassFile.FieldType.boolean)) ∈ lw_all := lw_g (lw_at lw_m1 133 rfl) rfl
theorem q203 : (Jvm.Cond.methodLink "BladeBetweenThumbs" (30 : Nat) ({ cls := "BladeBetweenThumbs", name := "isIn", desc := "(III)Z" } : Jvm.MethodName)) ∈ lw_all := lw_g (lw_at lw_m1 134 rfl) rfl
theorem q204 : (Jvm.Cond.static ({ cls := "BladeBetweenThumbs", name := "isIn", desc := "(III)Z" } : Jvm.MethodName)) ∈ lw_all := lw_g (lw_at lw_m1 135 rfl) rfl
theorem q205 : (Jvm.Cond.code ({ cls := "BladeBetweenThumbs", name := "isIn", desc := "(III)Z" } : Jvm.MethodName) prog_1_method_1_code (3 : Nat) (Option.some Jvm.ClassFile.FieldType.boolean)) ∈ lw_all := lw_g (lw_at lw_m1 136 rfl) rfl
theorem q206 : (Jvm.Cond.classLink "BladeBetweenThumbs" (134 : Nat) "[B") ∈ lw_all := lw_g (lw_at lw_m1 137 rfl) rfl
theorem q207 : (Jvm.Cond.methodLink "BladeBetweenThumbs" (136 : Nat) ({ cls := "BladeBetweenThumbs", name := "reads", desc := "([B)I" } : Jvm.MethodName)) ∈ lw_all := lw_g (lw_at lw_m1 138 rfl) rfl
theorem q208 : (Jvm.Cond.privateMethod ({ cls := "BladeBetweenThumbs", name := "reads", desc := "([B)I" } : Jvm.MethodName)) ∈ lw_tbl := lw_at lw_m1 139 rfl
theorem q209 : (Jvm.Cond.instanceMethod ({ cls := "BladeBetweenThumbs", name := "reads", desc := "([B)I" } : Jvm.MethodName)) ∈ lw_all := lw_g (lw_at lw_m1 140 rfl) rfl
theorem q210 : (Jvm.Cond.code ({ cls := "BladeBetweenThumbs", name := "reads", desc := "([B)I" } : Jvm.MethodName) prog_1_method_8_code (4 : Nat) (Option.some Jvm.ClassFile.FieldType.int)) ∈ lw_all := lw_g (lw_at lw_m1 141 rfl) rfl
theorem q211 : (Jvm.Cond.classLink "BladeBetweenThumbs" (92 : Nat) "BladeBetweenThumbs$HedgeReader") ∈ lw_all := lw_g (lw_at lw_m1 142 rfl) rfl
theorem q213 : (Jvm.Cond.methodLink "BladeBetweenThumbs" (94 : Nat) ({ cls := "BladeBetweenThumbs$HedgeReader", name := "<init>", desc := "([B)V" } : Jvm.MethodName)) ∈ lw_all := lw_g (lw_at lw_m1 144 rfl) rfl
theorem q224 : (Jvm.Cond.methodLink "BladeBetweenThumbs" (101 : Nat) ({ cls := "BladeBetweenThumbs$HedgeReader", name := "whole", desc := "([LBladeBetweenThumbs$Told;)I" } : Jvm.MethodName)) ∈ lw_all := lw_g (lw_at lw_m1 155 rfl) rfl
theorem q244 : (Jvm.Cond.fieldLink "BladeBetweenThumbs" (40 : Nat) "BladeBetweenThumbs$Told" "letter" "I") ∈ lw_all := lw_g (lw_at lw_m1 175 rfl) rfl
theorem q246 : (Jvm.Cond.fieldLink "BladeBetweenThumbs" (117 : Nat) "BladeBetweenThumbs$Told" "at" "I") ∈ lw_all := lw_g (lw_at lw_m1 177 rfl) rfl
theorem q248 : (Jvm.Cond.fieldLink "BladeBetweenThumbs" (34 : Nat) "BladeBetweenThumbs$Told" "numbers" "[I") ∈ lw_all := lw_g (lw_at lw_m1 179 rfl) rfl
theorem q290 : (Jvm.Cond.fieldLink "BladeBetweenThumbs" (142 : Nat) "BladeBetweenThumbs$Broken" "code" "I") ∈ lw_all := lw_g (lw_at lw_m1 221 rfl) rfl
theorem q299 : (Jvm.Cond.methodLink "BladeBetweenThumbs" (108 : Nat) ({ cls := "BladeBetweenThumbs$Hedge", name := "takes", desc := "(LBladeBetweenThumbs$Hedge;)V" } : Jvm.MethodName)) ∈ lw_all := lw_g (lw_at lw_m1 230 rfl) rfl
theorem q309 : (Jvm.Cond.methodLink "BladeBetweenThumbs" (112 : Nat) ({ cls := "BladeBetweenThumbs", name := "comes", desc := "(LBladeBetweenThumbs$Told;)Z" } : Jvm.MethodName)) ∈ lw_all := lw_g (lw_at lw_m2 0 rfl) rfl
theorem q310 : (Jvm.Cond.privateMethod ({ cls := "BladeBetweenThumbs", name := "comes", desc := "(LBladeBetweenThumbs$Told;)Z" } : Jvm.MethodName)) ∈ lw_tbl := lw_at lw_m2 1 rfl
theorem q311 : (Jvm.Cond.instanceMethod ({ cls := "BladeBetweenThumbs", name := "comes", desc := "(LBladeBetweenThumbs$Told;)Z" } : Jvm.MethodName)) ∈ lw_all := lw_g (lw_at lw_m2 2 rfl) rfl
theorem q312 : (Jvm.Cond.code ({ cls := "BladeBetweenThumbs", name := "comes", desc := "(LBladeBetweenThumbs$Told;)Z" } : Jvm.MethodName) prog_1_method_7_code (3 : Nat) (Option.some Jvm.ClassFile.FieldType.boolean)) ∈ lw_all := lw_g (lw_at lw_m2 3 rfl) rfl
theorem q313 : (Jvm.Cond.methodLink "BladeBetweenThumbs" (44 : Nat) ({ cls := "BladeBetweenThumbs", name := "isSize", desc := "(I)Z" } : Jvm.MethodName)) ∈ lw_all := lw_g (lw_at lw_m2 4 rfl) rfl
theorem q314 : (Jvm.Cond.static ({ cls := "BladeBetweenThumbs", name := "isSize", desc := "(I)Z" } : Jvm.MethodName)) ∈ lw_all := lw_g (lw_at lw_m2 5 rfl) rfl
theorem q315 : (Jvm.Cond.code ({ cls := "BladeBetweenThumbs", name := "isSize", desc := "(I)Z" } : Jvm.MethodName) prog_1_method_5_code (1 : Nat) (Option.some Jvm.ClassFile.FieldType.boolean)) ∈ lw_all := lw_g (lw_at lw_m2 6 rfl) rfl
theorem q316 : (Jvm.Cond.methodLink "BladeBetweenThumbs" (57 : Nat) ({ cls := "BladeBetweenThumbs$Hedge", name := "grows", desc := "(III)I" } : Jvm.MethodName)) ∈ lw_all := lw_g (lw_at lw_m2 7 rfl) rfl
theorem q320 : (Jvm.Cond.methodLink "BladeBetweenThumbs" (61 : Nat) ({ cls := "BladeBetweenThumbs", name := "isSixty", desc := "(I)Z" } : Jvm.MethodName)) ∈ lw_all := lw_g (lw_at lw_m2 11 rfl) rfl
theorem q321 : (Jvm.Cond.static ({ cls := "BladeBetweenThumbs", name := "isSixty", desc := "(I)Z" } : Jvm.MethodName)) ∈ lw_all := lw_g (lw_at lw_m2 12 rfl) rfl
theorem q322 : (Jvm.Cond.code ({ cls := "BladeBetweenThumbs", name := "isSixty", desc := "(I)Z" } : Jvm.MethodName) prog_1_method_6_code (1 : Nat) (Option.some Jvm.ClassFile.FieldType.boolean)) ∈ lw_all := lw_g (lw_at lw_m2 13 rfl) rfl
theorem q323 : (Jvm.Cond.methodLink "BladeBetweenThumbs" (67 : Nat) ({ cls := "BladeBetweenThumbs$Hedge", name := "comes", desc := "(II)I" } : Jvm.MethodName)) ∈ lw_all := lw_g (lw_at lw_m2 14 rfl) rfl
theorem q327 : (Jvm.Cond.methodLink "BladeBetweenThumbs" (74 : Nat) ({ cls := "BladeBetweenThumbs", name := "blowOf", desc := "(II)LBladeBetweenThumbs$Blow;" } : Jvm.MethodName)) ∈ lw_all := lw_g (lw_at lw_m2 18 rfl) rfl
theorem q328 : (Jvm.Cond.static ({ cls := "BladeBetweenThumbs", name := "blowOf", desc := "(II)LBladeBetweenThumbs$Blow;" } : Jvm.MethodName)) ∈ lw_all := lw_g (lw_at lw_m2 19 rfl) rfl
theorem q329 : (Jvm.Cond.code ({ cls := "BladeBetweenThumbs", name := "blowOf", desc := "(II)LBladeBetweenThumbs$Blow;" } : Jvm.MethodName) prog_1_method_3_code (2 : Nat) (Option.some (Jvm.ClassFile.FieldType.object "BladeBetweenThumbs$Blow"))) ∈ lw_all := lw_g (lw_at lw_m2 20 rfl) rfl
theorem q330 : (Jvm.Cond.classLink "BladeBetweenThumbs" (1 : Nat) "BladeBetweenThumbs$Blow") ∈ lw_all := lw_g (lw_at lw_m2 21 rfl) rfl
theorem q332 : (Jvm.Cond.methodLink "BladeBetweenThumbs" (3 : Nat) ({ cls := "BladeBetweenThumbs$Blow", name := "<init>", desc := "(I)V" } : Jvm.MethodName)) ∈ lw_all := lw_g (lw_at lw_m2 23 rfl) rfl
theorem q343 : (Jvm.Cond.fieldLink "BladeBetweenThumbs" (180 : Nat) "BladeBetweenThumbs$Blow" "figure" "I") ∈ lw_all := lw_g (lw_at lw_m2 34 rfl) rfl
theorem q347 : (Jvm.Cond.classLink "BladeBetweenThumbs" (7 : Nat) "BladeBetweenThumbs$Empty") ∈ lw_all := lw_g (lw_at lw_m2 38 rfl) rfl
theorem q349 : (Jvm.Cond.methodLink "BladeBetweenThumbs" (9 : Nat) ({ cls := "BladeBetweenThumbs$Empty", name := "<init>", desc := "(I)V" } : Jvm.MethodName)) ∈ lw_all := lw_g (lw_at lw_m2 40 rfl) rfl
theorem q355 : (Jvm.Cond.classLink "BladeBetweenThumbs" (10 : Nat) "BladeBetweenThumbs$Sounding") ∈ lw_all := lw_g (lw_at lw_m2 46 rfl) rfl
theorem q357 : (Jvm.Cond.methodLink "BladeBetweenThumbs" (12 : Nat) ({ cls := "BladeBetweenThumbs$Sounding", name := "<init>", desc := "(I)V" } : Jvm.MethodName)) ∈ lw_all := lw_g (lw_at lw_m2 48 rfl) rfl
theorem q363 : (Jvm.Cond.classLink "BladeBetweenThumbs" (13 : Nat) "BladeBetweenThumbs$Shrieking") ∈ lw_all := lw_g (lw_at lw_m2 54 rfl) rfl
theorem q365 : (Jvm.Cond.methodLink "BladeBetweenThumbs" (15 : Nat) ({ cls := "BladeBetweenThumbs$Shrieking", name := "<init>", desc := "(I)V" } : Jvm.MethodName)) ∈ lw_all := lw_g (lw_at lw_m2 56 rfl) rfl
theorem q371 : (Jvm.Cond.classLink "BladeBetweenThumbs" (16 : Nat) "BladeBetweenThumbs$Splitting") ∈ lw_all := lw_g (lw_at lw_m2 62 rfl) rfl
theorem q373 : (Jvm.Cond.methodLink "BladeBetweenThumbs" (18 : Nat) ({ cls := "BladeBetweenThumbs$Splitting", name := "<init>", desc := "(I)V" } : Jvm.MethodName)) ∈ lw_all := lw_g (lw_at lw_m2 64 rfl) rfl
theorem q379 : (Jvm.Cond.classLink "BladeBetweenThumbs" (19 : Nat) "BladeBetweenThumbs$Cupped") ∈ lw_all := lw_g (lw_at lw_m2 70 rfl) rfl
theorem q381 : (Jvm.Cond.methodLink "BladeBetweenThumbs" (21 : Nat) ({ cls := "BladeBetweenThumbs$Cupped", name := "<init>", desc := "(I)V" } : Jvm.MethodName)) ∈ lw_all := lw_g (lw_at lw_m2 72 rfl) rfl
theorem q387 : (Jvm.Cond.classLink "BladeBetweenThumbs" (22 : Nat) "BladeBetweenThumbs$Soft") ∈ lw_all := lw_g (lw_at lw_m2 78 rfl) rfl
theorem q389 : (Jvm.Cond.methodLink "BladeBetweenThumbs" (24 : Nat) ({ cls := "BladeBetweenThumbs$Soft", name := "<init>", desc := "(I)V" } : Jvm.MethodName)) ∈ lw_all := lw_g (lw_at lw_m2 80 rfl) rfl
theorem q395 : (Jvm.Cond.classLink "BladeBetweenThumbs" (25 : Nat) "BladeBetweenThumbs$Slipped") ∈ lw_all := lw_g (lw_at lw_m2 86 rfl) rfl
theorem q397 : (Jvm.Cond.methodLink "BladeBetweenThumbs" (27 : Nat) ({ cls := "BladeBetweenThumbs$Slipped", name := "<init>", desc := "(I)V" } : Jvm.MethodName)) ∈ lw_all := lw_g (lw_at lw_m2 88 rfl) rfl
theorem q403 : (Jvm.Cond.methodLink "BladeBetweenThumbs" (78 : Nat) ({ cls := "BladeBetweenThumbs$Hedge", name := "learns", desc := "(LBladeBetweenThumbs$Blow;)I" } : Jvm.MethodName)) ∈ lw_all := lw_g (lw_at lw_m2 94 rfl) rfl
theorem q407 : (Jvm.Cond.methodLink "BladeBetweenThumbs" (82 : Nat) ({ cls := "BladeBetweenThumbs$Hedge", name := "areAll", desc := "(III)Z" } : Jvm.MethodName)) ∈ lw_all := lw_g (lw_at lw_m2 98 rfl) rfl
theorem q424 : (Jvm.Cond.methodLink "BladeBetweenThumbs" (85 : Nat) ({ cls := "BladeBetweenThumbs$Hedge", name := "isSplit", desc := "(I)Z" } : Jvm.MethodName)) ∈ lw_all := lw_g (lw_at lw_m2 115 rfl) rfl
theorem q428 : (Jvm.Cond.methodLink "BladeBetweenThumbs" (88 : Nat) ({ cls := "BladeBetweenThumbs$Hedge", name := "tries", desc := "(IIIII)Z" } : Jvm.MethodName)) ∈ lw_all := lw_g (lw_at lw_m2 119 rfl) rfl
theorem q559 : (Jvm.Cond.methodLink "BladeBetweenThumbs" (120 : Nat) ({ cls := "BladeBetweenThumbs$Broken", name := "<init>", desc := "(I)V" } : Jvm.MethodName)) ∈ lw_all := lw_g (lw_at lw_m3 10 rfl) rfl
theorem q561 : (Jvm.Cond.instanceMethod ({ cls := "BladeBetweenThumbs", name := "blade", desc := "(II)I" } : Jvm.MethodName)) ∈ lw_all := lw_g (lw_at lw_m3 12 rfl) rfl
theorem q562 : (Jvm.Cond.selects "BladeBetweenThumbs" ({ cls := "BladeBetweenThumbs", name := "blade", desc := "(II)I" } : Jvm.MethodName) ({ cls := "BladeBetweenThumbs", name := "blade", desc := "(II)I" } : Jvm.MethodName)) ∈ lw_all := lw_g (lw_at lw_m3 13 rfl) rfl
theorem q563 : (Jvm.Cond.code ({ cls := "BladeBetweenThumbs", name := "blade", desc := "(II)I" } : Jvm.MethodName) prog_1_method_10_code (3 : Nat) (Option.some Jvm.ClassFile.FieldType.int)) ∈ lw_all := lw_g (lw_at lw_m3 14 rfl) rfl
theorem q564 : (Jvm.Cond.methodLink "BladeBetweenThumbs" (145 : Nat) ({ cls := "BladeBetweenThumbs$Hedge", name := "isBlade", desc := "(I)Z" } : Jvm.MethodName)) ∈ lw_all := lw_g (lw_at lw_m3 15 rfl) rfl
theorem q566 : (Jvm.Cond.instanceMethod ({ cls := "BladeBetweenThumbs", name := "thumbs", desc := "(II)I" } : Jvm.MethodName)) ∈ lw_all := lw_g (lw_at lw_m3 17 rfl) rfl
theorem q567 : (Jvm.Cond.selects "BladeBetweenThumbs" ({ cls := "BladeBetweenThumbs", name := "thumbs", desc := "(II)I" } : Jvm.MethodName) ({ cls := "BladeBetweenThumbs", name := "thumbs", desc := "(II)I" } : Jvm.MethodName)) ∈ lw_all := lw_g (lw_at lw_m3 18 rfl) rfl
theorem q568 : (Jvm.Cond.code ({ cls := "BladeBetweenThumbs", name := "thumbs", desc := "(II)I" } : Jvm.MethodName) prog_1_method_11_code (3 : Nat) (Option.some Jvm.ClassFile.FieldType.int)) ∈ lw_all := lw_g (lw_at lw_m3 19 rfl) rfl
theorem q569 : (Jvm.Cond.methodLink "BladeBetweenThumbs" (160 : Nat) ({ cls := "BladeBetweenThumbs$Hedge", name := "areThumbs", desc := "(I)Z" } : Jvm.MethodName)) ∈ lw_all := lw_g (lw_at lw_m3 20 rfl) rfl
theorem q571 : (Jvm.Cond.instanceMethod ({ cls := "BladeBetweenThumbs", name := "blow", desc := "(II)I" } : Jvm.MethodName)) ∈ lw_all := lw_g (lw_at lw_m3 22 rfl) rfl
theorem q572 : (Jvm.Cond.selects "BladeBetweenThumbs" ({ cls := "BladeBetweenThumbs", name := "blow", desc := "(II)I" } : Jvm.MethodName) ({ cls := "BladeBetweenThumbs", name := "blow", desc := "(II)I" } : Jvm.MethodName)) ∈ lw_all := lw_g (lw_at lw_m3 23 rfl) rfl
theorem q573 : (Jvm.Cond.code ({ cls := "BladeBetweenThumbs", name := "blow", desc := "(II)I" } : Jvm.MethodName) prog_1_method_12_code (3 : Nat) (Option.some Jvm.ClassFile.FieldType.int)) ∈ lw_all := lw_g (lw_at lw_m3 24 rfl) rfl
theorem q574 : (Jvm.Cond.methodLink "BladeBetweenThumbs" (169 : Nat) ({ cls := "BladeBetweenThumbs$Hedge", name := "isBlow", desc := "(I)Z" } : Jvm.MethodName)) ∈ lw_all := lw_g (lw_at lw_m3 25 rfl) rfl
theorem q575 : (Jvm.Cond.methodLink "BladeBetweenThumbs" (176 : Nat) ({ cls := "BladeBetweenThumbs$Blow", name := "kind", desc := "()I" } : Jvm.MethodName)) ∈ lw_all := lw_g (lw_at lw_m3 26 rfl) rfl
theorem q602 : (Jvm.Cond.instanceMethod ({ cls := "BladeBetweenThumbs", name := "grows", desc := "(III)I" } : Jvm.MethodName)) ∈ lw_all := lw_g (lw_at lw_m3 53 rfl) rfl
theorem q603 : (Jvm.Cond.selects "BladeBetweenThumbs" ({ cls := "BladeBetweenThumbs", name := "grows", desc := "(III)I" } : Jvm.MethodName) ({ cls := "BladeBetweenThumbs", name := "grows", desc := "(III)I" } : Jvm.MethodName)) ∈ lw_all := lw_g (lw_at lw_m3 54 rfl) rfl
theorem q604 : (Jvm.Cond.code ({ cls := "BladeBetweenThumbs", name := "grows", desc := "(III)I" } : Jvm.MethodName) prog_1_method_14_code (4 : Nat) (Option.some Jvm.ClassFile.FieldType.int)) ∈ lw_all := lw_g (lw_at lw_m3 55 rfl) rfl
theorem q605 : (Jvm.Cond.methodLink "BladeBetweenThumbs" (187 : Nat) ({ cls := "BladeBetweenThumbs", name := "isNine", desc := "(I)Z" } : Jvm.MethodName)) ∈ lw_all := lw_g (lw_at lw_m3 56 rfl) rfl
theorem q606 : (Jvm.Cond.static ({ cls := "BladeBetweenThumbs", name := "isNine", desc := "(I)Z" } : Jvm.MethodName)) ∈ lw_all := lw_g (lw_at lw_m3 57 rfl) rfl
theorem q607 : (Jvm.Cond.code ({ cls := "BladeBetweenThumbs", name := "isNine", desc := "(I)Z" } : Jvm.MethodName) prog_1_method_13_code (1 : Nat) (Option.some Jvm.ClassFile.FieldType.boolean)) ∈ lw_all := lw_g (lw_at lw_m3 58 rfl) rfl
theorem q609 : (Jvm.Cond.instanceMethod ({ cls := "BladeBetweenThumbs", name := "learns", desc := "(I)I" } : Jvm.MethodName)) ∈ lw_all := lw_g (lw_at lw_m3 60 rfl) rfl
theorem q610 : (Jvm.Cond.selects "BladeBetweenThumbs" ({ cls := "BladeBetweenThumbs", name := "learns", desc := "(I)I" } : Jvm.MethodName) ({ cls := "BladeBetweenThumbs", name := "learns", desc := "(I)I" } : Jvm.MethodName)) ∈ lw_all := lw_g (lw_at lw_m3 61 rfl) rfl
theorem q611 : (Jvm.Cond.codeWith ({ cls := "BladeBetweenThumbs", name := "learns", desc := "(I)I" } : Jvm.MethodName) prog_1_method_15_code (3 : Nat) (Option.some Jvm.ClassFile.FieldType.int) [((10 : Nat), (29 : Nat), (56 : Nat), (140 : Nat)), ((30 : Nat), (55 : Nat), (56 : Nat), (140 : Nat))]) ∈ lw_all := lw_g (lw_at lw_m3 62 rfl) rfl
theorem q613 : (Jvm.Cond.instanceMethod ({ cls := "BladeBetweenThumbs", name := "comes", desc := "(II)I" } : Jvm.MethodName)) ∈ lw_all := lw_g (lw_at lw_m3 64 rfl) rfl
theorem q614 : (Jvm.Cond.selects "BladeBetweenThumbs" ({ cls := "BladeBetweenThumbs", name := "comes", desc := "(II)I" } : Jvm.MethodName) ({ cls := "BladeBetweenThumbs", name := "comes", desc := "(II)I" } : Jvm.MethodName)) ∈ lw_all := lw_g (lw_at lw_m3 65 rfl) rfl
theorem q615 : (Jvm.Cond.code ({ cls := "BladeBetweenThumbs", name := "comes", desc := "(II)I" } : Jvm.MethodName) prog_1_method_16_code (3 : Nat) (Option.some Jvm.ClassFile.FieldType.int)) ∈ lw_all := lw_g (lw_at lw_m3 66 rfl) rfl
theorem q617 : (Jvm.Cond.instanceMethod ({ cls := "BladeBetweenThumbs", name := "wets", desc := "(II)I" } : Jvm.MethodName)) ∈ lw_all := lw_g (lw_at lw_m3 68 rfl) rfl
theorem q618 : (Jvm.Cond.selects "BladeBetweenThumbs" ({ cls := "BladeBetweenThumbs", name := "wets", desc := "(II)I" } : Jvm.MethodName) ({ cls := "BladeBetweenThumbs", name := "wets", desc := "(II)I" } : Jvm.MethodName)) ∈ lw_all := lw_g (lw_at lw_m3 69 rfl) rfl
theorem q619 : (Jvm.Cond.code ({ cls := "BladeBetweenThumbs", name := "wets", desc := "(II)I" } : Jvm.MethodName) prog_1_method_17_code (4 : Nat) (Option.some Jvm.ClassFile.FieldType.int)) ∈ lw_all := lw_g (lw_at lw_m3 70 rfl) rfl
theorem q621 : (Jvm.Cond.instanceMethod ({ cls := "BladeBetweenThumbs", name := "span", desc := "(IIII)I" } : Jvm.MethodName)) ∈ lw_all := lw_g (lw_at lw_m3 72 rfl) rfl
theorem q622 : (Jvm.Cond.selects "BladeBetweenThumbs" ({ cls := "BladeBetweenThumbs", name := "span", desc := "(IIII)I" } : Jvm.MethodName) ({ cls := "BladeBetweenThumbs", name := "span", desc := "(IIII)I" } : Jvm.MethodName)) ∈ lw_all := lw_g (lw_at lw_m3 73 rfl) rfl
theorem q623 : (Jvm.Cond.code ({ cls := "BladeBetweenThumbs", name := "span", desc := "(IIII)I" } : Jvm.MethodName) prog_1_method_18_code (5 : Nat) (Option.some Jvm.ClassFile.FieldType.int)) ∈ lw_all := lw_g (lw_at lw_m3 74 rfl) rfl
theorem q624 : (Jvm.Cond.methodLink "BladeBetweenThumbs" (190 : Nat) ({ cls := "BladeBetweenThumbs$Hedge", name := "low", desc := "(III)I" } : Jvm.MethodName)) ∈ lw_all := lw_g (lw_at lw_m3 75 rfl) rfl
theorem q625 : (Jvm.Cond.methodLink "BladeBetweenThumbs" (193 : Nat) ({ cls := "BladeBetweenThumbs$Hedge", name := "high", desc := "(III)I" } : Jvm.MethodName)) ∈ lw_all := lw_g (lw_at lw_m3 76 rfl) rfl
theorem q626 : (Jvm.Cond.methodLink "BladeBetweenThumbs" (196 : Nat) ({ cls := "BladeBetweenThumbs$Hedge", name := "softest", desc := "(II)I" } : Jvm.MethodName)) ∈ lw_all := lw_g (lw_at lw_m3 77 rfl) rfl
theorem q627 : (Jvm.Cond.methodLink "BladeBetweenThumbs" (199 : Nat) ({ cls := "BladeBetweenThumbs$Hedge", name := "hardest", desc := "(II)I" } : Jvm.MethodName)) ∈ lw_all := lw_g (lw_at lw_m3 78 rfl) rfl
theorem q629 : (Jvm.Cond.instanceMethod ({ cls := "BladeBetweenThumbs", name := "sounds", desc := "(IIIII)I" } : Jvm.MethodName)) ∈ lw_all := lw_g (lw_at lw_m3 80 rfl) rfl
theorem q630 : (Jvm.Cond.selects "BladeBetweenThumbs" ({ cls := "BladeBetweenThumbs", name := "sounds", desc := "(IIIII)I" } : Jvm.MethodName) ({ cls := "BladeBetweenThumbs", name := "sounds", desc := "(IIIII)I" } : Jvm.MethodName)) ∈ lw_all := lw_g (lw_at lw_m3 81 rfl) rfl
theorem q631 : (Jvm.Cond.code ({ cls := "BladeBetweenThumbs", name := "sounds", desc := "(IIIII)I" } : Jvm.MethodName) prog_1_method_20_code (6 : Nat) (Option.some Jvm.ClassFile.FieldType.int)) ∈ lw_all := lw_g (lw_at lw_m3 82 rfl) rfl
theorem q632 : (Jvm.Cond.methodLink "BladeBetweenThumbs" (202 : Nat) ({ cls := "BladeBetweenThumbs", name := "isTry", desc := "(IIIII)Z" } : Jvm.MethodName)) ∈ lw_all := lw_g (lw_at lw_m3 83 rfl) rfl
theorem q633 : (Jvm.Cond.privateMethod ({ cls := "BladeBetweenThumbs", name := "isTry", desc := "(IIIII)Z" } : Jvm.MethodName)) ∈ lw_tbl := lw_at lw_m3 84 rfl
theorem q634 : (Jvm.Cond.instanceMethod ({ cls := "BladeBetweenThumbs", name := "isTry", desc := "(IIIII)Z" } : Jvm.MethodName)) ∈ lw_all := lw_g (lw_at lw_m3 85 rfl) rfl
theorem q635 : (Jvm.Cond.code ({ cls := "BladeBetweenThumbs", name := "isTry", desc := "(IIIII)Z" } : Jvm.MethodName) prog_1_method_19_code (6 : Nat) (Option.some Jvm.ClassFile.FieldType.boolean)) ∈ lw_all := lw_g (lw_at lw_m3 86 rfl) rfl
theorem q636 : (Jvm.Cond.methodLink "BladeBetweenThumbs" (205 : Nat) ({ cls := "BladeBetweenThumbs$Hedge", name := "sounds", desc := "(IIIII)Z" } : Jvm.MethodName)) ∈ lw_all := lw_g (lw_at lw_m3 87 rfl) rfl
theorem q638 : (Jvm.Cond.instanceMethod ({ cls := "BladeBetweenThumbs", name := "pitch", desc := "(IIII)I" } : Jvm.MethodName)) ∈ lw_all := lw_g (lw_at lw_m3 89 rfl) rfl
theorem q639 : (Jvm.Cond.selects "BladeBetweenThumbs" ({ cls := "BladeBetweenThumbs", name := "pitch", desc := "(IIII)I" } : Jvm.MethodName) ({ cls := "BladeBetweenThumbs", name := "pitch", desc := "(IIII)I" } : Jvm.MethodName)) ∈ lw_all := lw_g (lw_at lw_m3 90 rfl) rfl
theorem q640 : (Jvm.Cond.code ({ cls := "BladeBetweenThumbs", name := "pitch", desc := "(IIII)I" } : Jvm.MethodName) prog_1_method_21_code (5 : Nat) (Option.some Jvm.ClassFile.FieldType.int)) ∈ lw_all := lw_g (lw_at lw_m3 91 rfl) rfl
theorem q641 : (Jvm.Cond.constant "BladeBetweenThumbs" (208 : Nat) (1000000001 : Int32)) ∈ lw_all := lw_g (lw_at lw_m3 92 rfl) rfl
theorem q642 : (Jvm.Cond.methodLink "BladeBetweenThumbs" (209 : Nat) ({ cls := "BladeBetweenThumbs$Hedge", name := "pitch", desc := "(IIII)I" } : Jvm.MethodName)) ∈ lw_all := lw_g (lw_at lw_m3 93 rfl) rfl
theorem q665 : (Jvm.Cond.instanceMethod ({ cls := "BladeBetweenThumbs", name := "tries", desc := "(IIIII)I" } : Jvm.MethodName)) ∈ lw_all := lw_g (lw_at lw_m3 116 rfl) rfl
theorem q666 : (Jvm.Cond.selects "BladeBetweenThumbs" ({ cls := "BladeBetweenThumbs", name := "tries", desc := "(IIIII)I" } : Jvm.MethodName) ({ cls := "BladeBetweenThumbs", name := "tries", desc := "(IIIII)I" } : Jvm.MethodName)) ∈ lw_all := lw_g (lw_at lw_m3 117 rfl) rfl
theorem q667 : (Jvm.Cond.code ({ cls := "BladeBetweenThumbs", name := "tries", desc := "(IIIII)I" } : Jvm.MethodName) prog_1_method_22_code (7 : Nat) (Option.some Jvm.ClassFile.FieldType.int)) ∈ lw_all := lw_g (lw_at lw_m3 118 rfl) rfl
theorem q669 : (Jvm.Cond.instanceMethod ({ cls := "BladeBetweenThumbs", name := "where", desc := "(IIII)I" } : Jvm.MethodName)) ∈ lw_all := lw_g (lw_at lw_m3 120 rfl) rfl
theorem q670 : (Jvm.Cond.selects "BladeBetweenThumbs" ({ cls := "BladeBetweenThumbs", name := "where", desc := "(IIII)I" } : Jvm.MethodName) ({ cls := "BladeBetweenThumbs", name := "where", desc := "(IIII)I" } : Jvm.MethodName)) ∈ lw_all := lw_g (lw_at lw_m3 121 rfl) rfl
theorem q671 : (Jvm.Cond.code ({ cls := "BladeBetweenThumbs", name := "where", desc := "(IIII)I" } : Jvm.MethodName) prog_1_method_23_code (6 : Nat) (Option.some Jvm.ClassFile.FieldType.int)) ∈ lw_all := lw_g (lw_at lw_m3 122 rfl) rfl
theorem q672 : (Jvm.Cond.methodLink "BladeBetweenThumbs" (213 : Nat) ({ cls := "BladeBetweenThumbs$Hedge", name := "where", desc := "(III)I" } : Jvm.MethodName)) ∈ lw_all := lw_g (lw_at lw_m3 123 rfl) rfl
theorem q688 : (Jvm.Cond.instanceMethod ({ cls := "BladeBetweenThumbs", name := "whoCan", desc := "()I" } : Jvm.MethodName)) ∈ lw_all := lw_g (lw_at lw_m3 139 rfl) rfl
theorem q689 : (Jvm.Cond.selects "BladeBetweenThumbs" ({ cls := "BladeBetweenThumbs", name := "whoCan", desc := "()I" } : Jvm.MethodName) ({ cls := "BladeBetweenThumbs", name := "whoCan", desc := "()I" } : Jvm.MethodName)) ∈ lw_all := lw_g (lw_at lw_m3 140 rfl) rfl
theorem q690 : (Jvm.Cond.code ({ cls := "BladeBetweenThumbs", name := "whoCan", desc := "()I" } : Jvm.MethodName) prog_1_method_25_code (3 : Nat) (Option.some Jvm.ClassFile.FieldType.int)) ∈ lw_all := lw_g (lw_at lw_m3 141 rfl) rfl
theorem q691 : (Jvm.Cond.methodLink "BladeBetweenThumbs" (216 : Nat) ({ cls := "BladeBetweenThumbs", name := "canSound", desc := "(I)Z" } : Jvm.MethodName)) ∈ lw_all := lw_g (lw_at lw_m3 142 rfl) rfl
theorem q692 : (Jvm.Cond.privateMethod ({ cls := "BladeBetweenThumbs", name := "canSound", desc := "(I)Z" } : Jvm.MethodName)) ∈ lw_tbl := lw_at lw_m3 143 rfl
theorem q693 : (Jvm.Cond.instanceMethod ({ cls := "BladeBetweenThumbs", name := "canSound", desc := "(I)Z" } : Jvm.MethodName)) ∈ lw_all := lw_g (lw_at lw_m3 144 rfl) rfl
theorem q694 : (Jvm.Cond.code ({ cls := "BladeBetweenThumbs", name := "canSound", desc := "(I)Z" } : Jvm.MethodName) prog_1_method_24_code (4 : Nat) (Option.some Jvm.ClassFile.FieldType.boolean)) ∈ lw_all := lw_g (lw_at lw_m3 145 rfl) rfl
theorem q696 : (Jvm.Cond.instanceMethod ({ cls := "BladeBetweenThumbs", name := "which", desc := "(II)I" } : Jvm.MethodName)) ∈ lw_all := lw_g (lw_at lw_m3 147 rfl) rfl
theorem q697 : (Jvm.Cond.selects "BladeBetweenThumbs" ({ cls := "BladeBetweenThumbs", name := "which", desc := "(II)I" } : Jvm.MethodName) ({ cls := "BladeBetweenThumbs", name := "which", desc := "(II)I" } : Jvm.MethodName)) ∈ lw_all := lw_g (lw_at lw_m3 148 rfl) rfl
theorem q698 : (Jvm.Cond.code ({ cls := "BladeBetweenThumbs", name := "which", desc := "(II)I" } : Jvm.MethodName) prog_1_method_26_code (6 : Nat) (Option.some Jvm.ClassFile.FieldType.int)) ∈ lw_all := lw_g (lw_at lw_m3 149 rfl) rfl
theorem q700 : (Jvm.Cond.instanceMethod ({ cls := "BladeBetweenThumbs", name := "wrong", desc := "(IIIII)I" } : Jvm.MethodName)) ∈ lw_all := lw_g (lw_at lw_m3 151 rfl) rfl
theorem q701 : (Jvm.Cond.selects "BladeBetweenThumbs" ({ cls := "BladeBetweenThumbs", name := "wrong", desc := "(IIIII)I" } : Jvm.MethodName) ({ cls := "BladeBetweenThumbs", name := "wrong", desc := "(IIIII)I" } : Jvm.MethodName)) ∈ lw_all := lw_g (lw_at lw_m3 152 rfl) rfl
theorem q702 : (Jvm.Cond.code ({ cls := "BladeBetweenThumbs", name := "wrong", desc := "(IIIII)I" } : Jvm.MethodName) prog_1_method_27_code (6 : Nat) (Option.some Jvm.ClassFile.FieldType.int)) ∈ lw_all := lw_g (lw_at lw_m3 153 rfl) rfl
theorem q703 : (Jvm.Cond.methodLink "BladeBetweenThumbs" (219 : Nat) ({ cls := "BladeBetweenThumbs$Hedge", name := "wrong", desc := "(IIIII)I" } : Jvm.MethodName)) ∈ lw_all := lw_g (lw_at lw_m3 154 rfl) rfl
theorem q705 : (Jvm.Cond.instanceMethod ({ cls := "BladeBetweenThumbs", name := "next", desc := "(IIIII)I" } : Jvm.MethodName)) ∈ lw_all := lw_g (lw_at lw_m3 156 rfl) rfl
theorem q706 : (Jvm.Cond.selects "BladeBetweenThumbs" ({ cls := "BladeBetweenThumbs", name := "next", desc := "(IIIII)I" } : Jvm.MethodName) ({ cls := "BladeBetweenThumbs", name := "next", desc := "(IIIII)I" } : Jvm.MethodName)) ∈ lw_all := lw_g (lw_at lw_m3 157 rfl) rfl
theorem q707 : (Jvm.Cond.code ({ cls := "BladeBetweenThumbs", name := "next", desc := "(IIIII)I" } : Jvm.MethodName) prog_1_method_29_code (8 : Nat) (Option.some Jvm.ClassFile.FieldType.int)) ∈ lw_all := lw_g (lw_at lw_m3 158 rfl) rfl
theorem q708 : (Jvm.Cond.methodLink "BladeBetweenThumbs" (231 : Nat) ({ cls := "BladeBetweenThumbs$Hedge", name := "tights", desc := "(III)I" } : Jvm.MethodName)) ∈ lw_all := lw_g (lw_at lw_m3 159 rfl) rfl
theorem q709 : (Jvm.Cond.methodLink "BladeBetweenThumbs" (234 : Nat) ({ cls := "BladeBetweenThumbs", name := "held", desc := "(III)I" } : Jvm.MethodName)) ∈ lw_all := lw_g (lw_at lw_m3 160 rfl) rfl
theorem q710 : (Jvm.Cond.static ({ cls := "BladeBetweenThumbs", name := "held", desc := "(III)I" } : Jvm.MethodName)) ∈ lw_all := lw_g (lw_at lw_m3 161 rfl) rfl
theorem q711 : (Jvm.Cond.code ({ cls := "BladeBetweenThumbs", name := "held", desc := "(III)I" } : Jvm.MethodName) prog_1_method_28_code (3 : Nat) (Option.some Jvm.ClassFile.FieldType.int)) ∈ lw_all := lw_g (lw_at lw_m3 162 rfl) rfl
theorem q712 : (Jvm.Cond.methodLink "BladeBetweenThumbs" (223 : Nat) ({ cls := "java/lang/Math", name := "min", desc := "(II)I" } : Jvm.MethodName)) ∈ lw_all := lw_g (lw_at lw_m3 163 rfl) rfl
theorem q713 : (Jvm.Cond.methodLink "BladeBetweenThumbs" (228 : Nat) ({ cls := "java/lang/Math", name := "max", desc := "(II)I" } : Jvm.MethodName)) ∈ lw_all := lw_g (lw_at lw_m3 164 rfl) rfl
theorem q714 : (Jvm.Cond.methodLink "BladeBetweenThumbs" (236 : Nat) ({ cls := "BladeBetweenThumbs$Hedge", name := "forces", desc := "(II)I" } : Jvm.MethodName)) ∈ lw_all := lw_g (lw_at lw_m3 165 rfl) rfl
theorem q715 : (Jvm.Cond.methodLink "BladeBetweenThumbs" (239 : Nat) ({ cls := "java/lang/Math", name := "abs", desc := "(I)I" } : Jvm.MethodName)) ∈ lw_all := lw_g (lw_at lw_m3 166 rfl) rfl
theorem q719 : (Jvm.Cond.instanceMethod ({ cls := "BladeBetweenThumbs", name := "halves", desc := "(III)I" } : Jvm.MethodName)) ∈ lw_all := lw_g (lw_at lw_m3 170 rfl) rfl
theorem q720 : (Jvm.Cond.selects "BladeBetweenThumbs" ({ cls := "BladeBetweenThumbs", name := "halves", desc := "(III)I" } : Jvm.MethodName) ({ cls := "BladeBetweenThumbs", name := "halves", desc := "(III)I" } : Jvm.MethodName)) ∈ lw_all := lw_g (lw_at lw_m3 171 rfl) rfl
theorem q721 : (Jvm.Cond.code ({ cls := "BladeBetweenThumbs", name := "halves", desc := "(III)I" } : Jvm.MethodName) prog_1_method_30_code (10 : Nat) (Option.some Jvm.ClassFile.FieldType.int)) ∈ lw_all := lw_g (lw_at lw_m3 172 rfl) rfl
theorem q723 : (Jvm.Cond.instanceMethod ({ cls := "BladeBetweenThumbs", name := "ways", desc := "(II)I" } : Jvm.MethodName)) ∈ lw_all := lw_g (lw_at lw_m3 174 rfl) rfl
theorem q724 : (Jvm.Cond.selects "BladeBetweenThumbs" ({ cls := "BladeBetweenThumbs", name := "ways", desc := "(II)I" } : Jvm.MethodName) ({ cls := "BladeBetweenThumbs", name := "ways", desc := "(II)I" } : Jvm.MethodName)) ∈ lw_all := lw_g (lw_at lw_m3 175 rfl) rfl
theorem q725 : (Jvm.Cond.code ({ cls := "BladeBetweenThumbs", name := "ways", desc := "(II)I" } : Jvm.MethodName) prog_1_method_33_code (5 : Nat) (Option.some Jvm.ClassFile.FieldType.int)) ∈ lw_all := lw_g (lw_at lw_m3 176 rfl) rfl
theorem q726 : (Jvm.Cond.methodLink "BladeBetweenThumbs" (242 : Nat) ({ cls := "BladeBetweenThumbs", name := "isPitch", desc := "(I)Z" } : Jvm.MethodName)) ∈ lw_all := lw_g (lw_at lw_m3 177 rfl) rfl
theorem q727 : (Jvm.Cond.static ({ cls := "BladeBetweenThumbs", name := "isPitch", desc := "(I)Z" } : Jvm.MethodName)) ∈ lw_all := lw_g (lw_at lw_m3 178 rfl) rfl
theorem q728 : (Jvm.Cond.code ({ cls := "BladeBetweenThumbs", name := "isPitch", desc := "(I)Z" } : Jvm.MethodName) prog_1_method_32_code (1 : Nat) (Option.some Jvm.ClassFile.FieldType.boolean)) ∈ lw_all := lw_g (lw_at lw_m3 179 rfl) rfl
theorem q729 : (Jvm.Cond.methodLink "BladeBetweenThumbs" (245 : Nat) ({ cls := "BladeBetweenThumbs", name := "waysOf", desc := "(III)I" } : Jvm.MethodName)) ∈ lw_all := lw_g (lw_at lw_m3 180 rfl) rfl
theorem q730 : (Jvm.Cond.privateMethod ({ cls := "BladeBetweenThumbs", name := "waysOf", desc := "(III)I" } : Jvm.MethodName)) ∈ lw_tbl := lw_at lw_m3 181 rfl
theorem q731 : (Jvm.Cond.instanceMethod ({ cls := "BladeBetweenThumbs", name := "waysOf", desc := "(III)I" } : Jvm.MethodName)) ∈ lw_all := lw_g (lw_at lw_m3 182 rfl) rfl
theorem q732 : (Jvm.Cond.code ({ cls := "BladeBetweenThumbs", name := "waysOf", desc := "(III)I" } : Jvm.MethodName) prog_1_method_31_code (9 : Nat) (Option.some Jvm.ClassFile.FieldType.int)) ∈ lw_all := lw_g (lw_at lw_m3 183 rfl) rfl
theorem q734 : (Jvm.Cond.instanceMethod ({ cls := "BladeBetweenThumbs", name := "tune", desc := "(III)I" } : Jvm.MethodName)) ∈ lw_all := lw_g (lw_at lw_m3 185 rfl) rfl
theorem q735 : (Jvm.Cond.selects "BladeBetweenThumbs" ({ cls := "BladeBetweenThumbs", name := "tune", desc := "(III)I" } : Jvm.MethodName) ({ cls := "BladeBetweenThumbs", name := "tune", desc := "(III)I" } : Jvm.MethodName)) ∈ lw_all := lw_g (lw_at lw_m3 186 rfl) rfl
theorem q736 : (Jvm.Cond.code ({ cls := "BladeBetweenThumbs", name := "tune", desc := "(III)I" } : Jvm.MethodName) prog_1_method_36_code (9 : Nat) (Option.some Jvm.ClassFile.FieldType.int)) ∈ lw_all := lw_g (lw_at lw_m3 187 rfl) rfl
theorem q737 : (Jvm.Cond.constant "BladeBetweenThumbs" (258 : Nat) (999999 : Int32)) ∈ lw_all := lw_g (lw_at lw_m3 188 rfl) rfl
theorem q738 : (Jvm.Cond.methodLink "BladeBetweenThumbs" (259 : Nat) ({ cls := "BladeBetweenThumbs", name := "bladesFor", desc := "(II)I" } : Jvm.MethodName)) ∈ lw_all := lw_g (lw_at lw_m3 189 rfl) rfl
theorem q739 : (Jvm.Cond.privateMethod ({ cls := "BladeBetweenThumbs", name := "bladesFor", desc := "(II)I" } : Jvm.MethodName)) ∈ lw_tbl := lw_at lw_m3 190 rfl
theorem q740 : (Jvm.Cond.instanceMethod ({ cls := "BladeBetweenThumbs", name := "bladesFor", desc := "(II)I" } : Jvm.MethodName)) ∈ lw_all := lw_g (lw_at lw_m3 191 rfl) rfl
theorem q741 : (Jvm.Cond.code ({ cls := "BladeBetweenThumbs", name := "bladesFor", desc := "(II)I" } : Jvm.MethodName) prog_1_method_34_code (5 : Nat) (Option.some Jvm.ClassFile.FieldType.int)) ∈ lw_all := lw_g (lw_at lw_m3 192 rfl) rfl
theorem q742 : (Jvm.Cond.methodLink "BladeBetweenThumbs" (255 : Nat) ({ cls := "BladeBetweenThumbs", name := "canAll", desc := "(II)Z" } : Jvm.MethodName)) ∈ lw_all := lw_g (lw_at lw_m3 193 rfl) rfl
theorem q743 : (Jvm.Cond.privateMethod ({ cls := "BladeBetweenThumbs", name := "canAll", desc := "(II)Z" } : Jvm.MethodName)) ∈ lw_tbl := lw_at lw_m3 194 rfl
theorem q744 : (Jvm.Cond.instanceMethod ({ cls := "BladeBetweenThumbs", name := "canAll", desc := "(II)Z" } : Jvm.MethodName)) ∈ lw_all := lw_g (lw_at lw_m3 195 rfl) rfl
theorem q745 : (Jvm.Cond.code ({ cls := "BladeBetweenThumbs", name := "canAll", desc := "(II)Z" } : Jvm.MethodName) prog_1_method_35_code (4 : Nat) (Option.some Jvm.ClassFile.FieldType.boolean)) ∈ lw_all := lw_g (lw_at lw_m3 196 rfl) rfl
theorem q746 : (Jvm.Cond.methodLink "BladeBetweenThumbs" (251 : Nat) ({ cls := "BladeBetweenThumbs", name := "has", desc := "(II)Z" } : Jvm.MethodName)) ∈ lw_all := lw_g (lw_at lw_m3 197 rfl) rfl
theorem q747 : (Jvm.Cond.static ({ cls := "BladeBetweenThumbs", name := "has", desc := "(II)Z" } : Jvm.MethodName)) ∈ lw_all := lw_g (lw_at lw_m3 198 rfl) rfl
theorem q748 : (Jvm.Cond.code ({ cls := "BladeBetweenThumbs", name := "has", desc := "(II)Z" } : Jvm.MethodName) prog_1_method_2_code (2 : Nat) (Option.some Jvm.ClassFile.FieldType.boolean)) ∈ lw_all := lw_g (lw_at lw_m3 199 rfl) rfl
theorem q750 : (Jvm.Cond.instanceMethod ({ cls := "BladeBetweenThumbs", name := "lasts", desc := "(III)I" } : Jvm.MethodName)) ∈ lw_all := lw_g (lw_at lw_m3 201 rfl) rfl
theorem q751 : (Jvm.Cond.selects "BladeBetweenThumbs" ({ cls := "BladeBetweenThumbs", name := "lasts", desc := "(III)I" } : Jvm.MethodName) ({ cls := "BladeBetweenThumbs", name := "lasts", desc := "(III)I" } : Jvm.MethodName)) ∈ lw_all := lw_g (lw_at lw_m3 202 rfl) rfl
theorem q752 : (Jvm.Cond.code ({ cls := "BladeBetweenThumbs", name := "lasts", desc := "(III)I" } : Jvm.MethodName) prog_1_method_39_code (4 : Nat) (Option.some Jvm.ClassFile.FieldType.int)) ∈ lw_all := lw_g (lw_at lw_m3 203 rfl) rfl
theorem q753 : (Jvm.Cond.methodLink "BladeBetweenThumbs" (266 : Nat) ({ cls := "BladeBetweenThumbs", name := "lastsBy", desc := "(III)I" } : Jvm.MethodName)) ∈ lw_all := lw_g (lw_at lw_m3 204 rfl) rfl
theorem q754 : (Jvm.Cond.privateMethod ({ cls := "BladeBetweenThumbs", name := "lastsBy", desc := "(III)I" } : Jvm.MethodName)) ∈ lw_tbl := lw_at lw_m3 205 rfl
theorem q755 : (Jvm.Cond.instanceMethod ({ cls := "BladeBetweenThumbs", name := "lastsBy", desc := "(III)I" } : Jvm.MethodName)) ∈ lw_all := lw_g (lw_at lw_m3 206 rfl) rfl
theorem q756 : (Jvm.Cond.code ({ cls := "BladeBetweenThumbs", name := "lastsBy", desc := "(III)I" } : Jvm.MethodName) prog_1_method_37_code (5 : Nat) (Option.some Jvm.ClassFile.FieldType.int)) ∈ lw_all := lw_g (lw_at lw_m3 207 rfl) rfl
theorem q757 : (Jvm.Cond.methodLink "BladeBetweenThumbs" (262 : Nat) ({ cls := "BladeBetweenThumbs", name := "minds", desc := "()V" } : Jvm.MethodName)) ∈ lw_all := lw_g (lw_at lw_m3 208 rfl) rfl
theorem q758 : (Jvm.Cond.privateMethod ({ cls := "BladeBetweenThumbs", name := "minds", desc := "()V" } : Jvm.MethodName)) ∈ lw_tbl := lw_at lw_m3 209 rfl
theorem q759 : (Jvm.Cond.instanceMethod ({ cls := "BladeBetweenThumbs", name := "minds", desc := "()V" } : Jvm.MethodName)) ∈ lw_all := lw_g (lw_at lw_m3 210 rfl) rfl
theorem q760 : (Jvm.Cond.code ({ cls := "BladeBetweenThumbs", name := "minds", desc := "()V" } : Jvm.MethodName) prog_1_method_38_code (1 : Nat) (Option.none : Option Jvm.ClassFile.FieldType)) ∈ lw_all := lw_g (lw_at lw_m3 211 rfl) rfl
theorem q762 : (Jvm.Cond.instanceMethod ({ cls := "BladeBetweenThumbs", name := "bestForce", desc := "(III)I" } : Jvm.MethodName)) ∈ lw_all := lw_g (lw_at lw_m3 213 rfl) rfl
theorem q763 : (Jvm.Cond.selects "BladeBetweenThumbs" ({ cls := "BladeBetweenThumbs", name := "bestForce", desc := "(III)I" } : Jvm.MethodName) ({ cls := "BladeBetweenThumbs", name := "bestForce", desc := "(III)I" } : Jvm.MethodName)) ∈ lw_all := lw_g (lw_at lw_m3 214 rfl) rfl
theorem q764 : (Jvm.Cond.code ({ cls := "BladeBetweenThumbs", name := "bestForce", desc := "(III)I" } : Jvm.MethodName) prog_1_method_40_code (7 : Nat) (Option.some Jvm.ClassFile.FieldType.int)) ∈ lw_all := lw_g (lw_at lw_m3 215 rfl) rfl
theorem q766 : (Jvm.Cond.instanceMethod ({ cls := "BladeBetweenThumbs", name := "clash", desc := "(III)I" } : Jvm.MethodName)) ∈ lw_all := lw_g (lw_at lw_m3 217 rfl) rfl
theorem q767 : (Jvm.Cond.selects "BladeBetweenThumbs" ({ cls := "BladeBetweenThumbs", name := "clash", desc := "(III)I" } : Jvm.MethodName) ({ cls := "BladeBetweenThumbs", name := "clash", desc := "(III)I" } : Jvm.MethodName)) ∈ lw_all := lw_g (lw_at lw_m3 218 rfl) rfl
theorem q768 : (Jvm.Cond.code ({ cls := "BladeBetweenThumbs", name := "clash", desc := "(III)I" } : Jvm.MethodName) prog_1_method_41_code (9 : Nat) (Option.some Jvm.ClassFile.FieldType.int)) ∈ lw_all := lw_g (lw_at lw_m3 219 rfl) rfl
theorem q770 : (Jvm.Cond.instanceMethod ({ cls := "BladeBetweenThumbs", name := "heard", desc := "(II)I" } : Jvm.MethodName)) ∈ lw_all := lw_g (lw_at lw_m3 221 rfl) rfl
theorem q771 : (Jvm.Cond.selects "BladeBetweenThumbs" ({ cls := "BladeBetweenThumbs", name := "heard", desc := "(II)I" } : Jvm.MethodName) ({ cls := "BladeBetweenThumbs", name := "heard", desc := "(II)I" } : Jvm.MethodName)) ∈ lw_all := lw_g (lw_at lw_m3 222 rfl) rfl
theorem q772 : (Jvm.Cond.code ({ cls := "BladeBetweenThumbs", name := "heard", desc := "(II)I" } : Jvm.MethodName) prog_1_method_42_code (4 : Nat) (Option.some Jvm.ClassFile.FieldType.int)) ∈ lw_all := lw_g (lw_at lw_m3 223 rfl) rfl
theorem q774 : (Jvm.Cond.instanceMethod ({ cls := "BladeBetweenThumbs", name := "nearer", desc := "(IIII)J" } : Jvm.MethodName)) ∈ lw_all := lw_g (lw_at lw_m3 225 rfl) rfl
theorem q775 : (Jvm.Cond.selects "BladeBetweenThumbs" ({ cls := "BladeBetweenThumbs", name := "nearer", desc := "(IIII)J" } : Jvm.MethodName) ({ cls := "BladeBetweenThumbs", name := "nearer", desc := "(IIII)J" } : Jvm.MethodName)) ∈ lw_all := lw_g (lw_at lw_m3 226 rfl) rfl
theorem q776 : (Jvm.Cond.code ({ cls := "BladeBetweenThumbs", name := "nearer", desc := "(IIII)J" } : Jvm.MethodName) prog_1_method_48_code (5 : Nat) (Option.some Jvm.ClassFile.FieldType.long)) ∈ lw_all := lw_g (lw_at lw_m3 227 rfl) rfl
theorem q777 : (Jvm.Cond.methodLink "BladeBetweenThumbs" (288 : Nat) ({ cls := "BladeBetweenThumbs", name := "areOdds", desc := "(II)Z" } : Jvm.MethodName)) ∈ lw_all := lw_g (lw_at lw_m3 228 rfl) rfl
theorem q778 : (Jvm.Cond.static ({ cls := "BladeBetweenThumbs", name := "areOdds", desc := "(II)Z" } : Jvm.MethodName)) ∈ lw_all := lw_g (lw_at lw_m3 229 rfl) rfl
theorem q779 : (Jvm.Cond.code ({ cls := "BladeBetweenThumbs", name := "areOdds", desc := "(II)Z" } : Jvm.MethodName) prog_1_method_45_code (2 : Nat) (Option.some Jvm.ClassFile.FieldType.boolean)) ∈ lw_all := lw_g (lw_at lw_m3 230 rfl) rfl
theorem q780 : (Jvm.Cond.constantLong "BladeBetweenThumbs" (291 : Nat) (1000000001 : Int64)) ∈ lw_all := lw_g (lw_at lw_m3 231 rfl) rfl
theorem q781 : (Jvm.Cond.methodLink "BladeBetweenThumbs" (293 : Nat) ({ cls := "BladeBetweenThumbs", name := "partsAt", desc := "(III)J" } : Jvm.MethodName)) ∈ lw_all := lw_g (lw_at lw_m3 232 rfl) rfl
theorem q782 : (Jvm.Cond.privateMethod ({ cls := "BladeBetweenThumbs", name := "partsAt", desc := "(III)J" } : Jvm.MethodName)) ∈ lw_tbl := lw_at lw_m3 233 rfl
theorem q783 : (Jvm.Cond.instanceMethod ({ cls := "BladeBetweenThumbs", name := "partsAt", desc := "(III)J" } : Jvm.MethodName)) ∈ lw_all := lw_g (lw_at lw_m3 234 rfl) rfl
theorem q784 : (Jvm.Cond.code ({ cls := "BladeBetweenThumbs", name := "partsAt", desc := "(III)J" } : Jvm.MethodName) prog_1_method_46_code (8 : Nat) (Option.some Jvm.ClassFile.FieldType.long)) ∈ lw_all := lw_g (lw_at lw_m3 235 rfl) rfl
theorem q785 : (Jvm.Cond.methodLink "BladeBetweenThumbs" (277 : Nat) ({ cls := "java/util/Arrays", name := "fill", desc := "([JJ)V" } : Jvm.MethodName)) ∈ lw_all := lw_g (lw_at lw_m3 236 rfl) rfl
theorem q788 : (Jvm.Cond.constantLong "BladeBetweenThumbs" (286 : Nat) (10 : Int64)) ∈ lw_all := lw_g (lw_at lw_m3 239 rfl) rfl
theorem q789 : (Jvm.Cond.methodLink "BladeBetweenThumbs" (297 : Nat) ({ cls := "BladeBetweenThumbs", name := "tens", desc := "(I)J" } : Jvm.MethodName)) ∈ lw_all := lw_g (lw_at lw_m4 0 rfl) rfl
theorem q790 : (Jvm.Cond.static ({ cls := "BladeBetweenThumbs", name := "tens", desc := "(I)J" } : Jvm.MethodName)) ∈ lw_all := lw_g (lw_at lw_m4 1 rfl) rfl
theorem q791 : (Jvm.Cond.code ({ cls := "BladeBetweenThumbs", name := "tens", desc := "(I)J" } : Jvm.MethodName) prog_1_method_47_code (4 : Nat) (Option.some Jvm.ClassFile.FieldType.long)) ∈ lw_all := lw_g (lw_at lw_m4 2 rfl) rfl
theorem q792 : (Jvm.Cond.methodLink "BladeBetweenThumbs" (301 : Nat) ({ cls := "BladeBetweenThumbs", name := "partOf", desc := "(JJI)J" } : Jvm.MethodName)) ∈ lw_all := lw_g (lw_at lw_m4 3 rfl) rfl
theorem q793 : (Jvm.Cond.static ({ cls := "BladeBetweenThumbs", name := "partOf", desc := "(JJI)J" } : Jvm.MethodName)) ∈ lw_all := lw_g (lw_at lw_m4 4 rfl) rfl
theorem q794 : (Jvm.Cond.code ({ cls := "BladeBetweenThumbs", name := "partOf", desc := "(JJI)J" } : Jvm.MethodName) prog_1_method_44_code (5 : Nat) (Option.some Jvm.ClassFile.FieldType.long)) ∈ lw_all := lw_g (lw_at lw_m4 5 rfl) rfl
theorem q795 : (Jvm.Cond.methodLink "BladeBetweenThumbs" (269 : Nat) ({ cls := "BladeBetweenThumbs", name := "divisor", desc := "(JJ)J" } : Jvm.MethodName)) ∈ lw_all := lw_g (lw_at lw_m4 6 rfl) rfl
theorem q796 : (Jvm.Cond.static ({ cls := "BladeBetweenThumbs", name := "divisor", desc := "(JJ)J" } : Jvm.MethodName)) ∈ lw_all := lw_g (lw_at lw_m4 7 rfl) rfl
theorem q797 : (Jvm.Cond.code ({ cls := "BladeBetweenThumbs", name := "divisor", desc := "(JJ)J" } : Jvm.MethodName) prog_1_method_43_code (4 : Nat) (Option.some Jvm.ClassFile.FieldType.long)) ∈ lw_all := lw_g (lw_at lw_m4 8 rfl) rfl
theorem q799 : (Jvm.Cond.instanceMethod ({ cls := "BladeBetweenThumbs", name := "often", desc := "(II)I" } : Jvm.MethodName)) ∈ lw_all := lw_g (lw_at lw_m4 10 rfl) rfl
theorem q800 : (Jvm.Cond.selects "BladeBetweenThumbs" ({ cls := "BladeBetweenThumbs", name := "often", desc := "(II)I" } : Jvm.MethodName) ({ cls := "BladeBetweenThumbs", name := "often", desc := "(II)I" } : Jvm.MethodName)) ∈ lw_all := lw_g (lw_at lw_m4 11 rfl) rfl
theorem q801 : (Jvm.Cond.code ({ cls := "BladeBetweenThumbs", name := "often", desc := "(II)I" } : Jvm.MethodName) prog_1_method_49_code (4 : Nat) (Option.some Jvm.ClassFile.FieldType.int)) ∈ lw_all := lw_g (lw_at lw_m4 12 rfl) rfl
theorem q802 : (Jvm.Cond.constantLong "BladeBetweenThumbs" (305 : Nat) (2 : Int64)) ∈ lw_all := lw_g (lw_at lw_m4 13 rfl) rfl
theorem q804 : (Jvm.Cond.instanceMethod ({ cls := "BladeBetweenThumbs", name := "answer", desc := "(III)J" } : Jvm.MethodName)) ∈ lw_all := lw_g (lw_at lw_m4 15 rfl) rfl
theorem q805 : (Jvm.Cond.selects "BladeBetweenThumbs" ({ cls := "BladeBetweenThumbs", name := "answer", desc := "(III)J" } : Jvm.MethodName) ({ cls := "BladeBetweenThumbs", name := "answer", desc := "(III)J" } : Jvm.MethodName)) ∈ lw_all := lw_g (lw_at lw_m4 16 rfl) rfl
theorem q806 : (Jvm.Cond.code ({ cls := "BladeBetweenThumbs", name := "answer", desc := "(III)J" } : Jvm.MethodName) prog_1_method_50_code (6 : Nat) (Option.some Jvm.ClassFile.FieldType.long)) ∈ lw_all := lw_g (lw_at lw_m4 17 rfl) rfl
theorem q808 : (Jvm.Cond.instanceMethod ({ cls := "BladeBetweenThumbs", name := "telling", desc := "(IIII)I" } : Jvm.MethodName)) ∈ lw_all := lw_g (lw_at lw_m4 19 rfl) rfl
theorem q809 : (Jvm.Cond.selects "BladeBetweenThumbs" ({ cls := "BladeBetweenThumbs", name := "telling", desc := "(IIII)I" } : Jvm.MethodName) ({ cls := "BladeBetweenThumbs", name := "telling", desc := "(IIII)I" } : Jvm.MethodName)) ∈ lw_all := lw_g (lw_at lw_m4 20 rfl) rfl
theorem q810 : (Jvm.Cond.code ({ cls := "BladeBetweenThumbs", name := "telling", desc := "(IIII)I" } : Jvm.MethodName) prog_1_method_52_code (7 : Nat) (Option.some Jvm.ClassFile.FieldType.int)) ∈ lw_all := lw_g (lw_at lw_m4 21 rfl) rfl
theorem q811 : (Jvm.Cond.methodLink "BladeBetweenThumbs" (310 : Nat) ({ cls := "BladeBetweenThumbs", name := "whereTold", desc := "(IIII)I" } : Jvm.MethodName)) ∈ lw_all := lw_g (lw_at lw_m4 22 rfl) rfl
theorem q812 : (Jvm.Cond.privateMethod ({ cls := "BladeBetweenThumbs", name := "whereTold", desc := "(IIII)I" } : Jvm.MethodName)) ∈ lw_tbl := lw_at lw_m4 23 rfl
theorem q813 : (Jvm.Cond.instanceMethod ({ cls := "BladeBetweenThumbs", name := "whereTold", desc := "(IIII)I" } : Jvm.MethodName)) ∈ lw_all := lw_g (lw_at lw_m4 24 rfl) rfl
theorem q814 : (Jvm.Cond.code ({ cls := "BladeBetweenThumbs", name := "whereTold", desc := "(IIII)I" } : Jvm.MethodName) prog_1_method_51_code (5 : Nat) (Option.some Jvm.ClassFile.FieldType.int)) ∈ lw_all := lw_g (lw_at lw_m4 25 rfl) rfl
theorem q816 : (Jvm.Cond.instanceMethod ({ cls := "BladeBetweenThumbs", name := "odds", desc := "(IIII)J" } : Jvm.MethodName)) ∈ lw_all := lw_g (lw_at lw_m4 27 rfl) rfl
theorem q817 : (Jvm.Cond.selects "BladeBetweenThumbs" ({ cls := "BladeBetweenThumbs", name := "odds", desc := "(IIII)J" } : Jvm.MethodName) ({ cls := "BladeBetweenThumbs", name := "odds", desc := "(IIII)J" } : Jvm.MethodName)) ∈ lw_all := lw_g (lw_at lw_m4 28 rfl) rfl
theorem q818 : (Jvm.Cond.code ({ cls := "BladeBetweenThumbs", name := "odds", desc := "(IIII)J" } : Jvm.MethodName) prog_1_method_54_code (5 : Nat) (Option.some Jvm.ClassFile.FieldType.long)) ∈ lw_all := lw_g (lw_at lw_m4 29 rfl) rfl
theorem q819 : (Jvm.Cond.methodLink "BladeBetweenThumbs" (313 : Nat) ({ cls := "BladeBetweenThumbs", name := "allTries", desc := "(I)I" } : Jvm.MethodName)) ∈ lw_all := lw_g (lw_at lw_m4 30 rfl) rfl
theorem q820 : (Jvm.Cond.privateMethod ({ cls := "BladeBetweenThumbs", name := "allTries", desc := "(I)I" } : Jvm.MethodName)) ∈ lw_tbl := lw_at lw_m4 31 rfl
theorem q821 : (Jvm.Cond.instanceMethod ({ cls := "BladeBetweenThumbs", name := "allTries", desc := "(I)I" } : Jvm.MethodName)) ∈ lw_all := lw_g (lw_at lw_m4 32 rfl) rfl
theorem q822 : (Jvm.Cond.code ({ cls := "BladeBetweenThumbs", name := "allTries", desc := "(I)I" } : Jvm.MethodName) prog_1_method_53_code (2 : Nat) (Option.some Jvm.ClassFile.FieldType.int)) ∈ lw_all := lw_g (lw_at lw_m4 33 rfl) rfl
theorem q824 : (Jvm.Cond.instanceMethod ({ cls := "BladeBetweenThumbs", name := "enough", desc := "(III)I" } : Jvm.MethodName)) ∈ lw_all := lw_g (lw_at lw_m4 35 rfl) rfl
theorem q825 : (Jvm.Cond.selects "BladeBetweenThumbs" ({ cls := "BladeBetweenThumbs", name := "enough", desc := "(III)I" } : Jvm.MethodName) ({ cls := "BladeBetweenThumbs", name := "enough", desc := "(III)I" } : Jvm.MethodName)) ∈ lw_all := lw_g (lw_at lw_m4 36 rfl) rfl
theorem q826 : (Jvm.Cond.code ({ cls := "BladeBetweenThumbs", name := "enough", desc := "(III)I" } : Jvm.MethodName) prog_1_method_55_code (5 : Nat) (Option.some Jvm.ClassFile.FieldType.int)) ∈ lw_all := lw_g (lw_at lw_m4 37 rfl) rfl
theorem q828 : (Jvm.Cond.instanceMethod ({ cls := "BladeBetweenThumbs", name := "heap", desc := "(III)I" } : Jvm.MethodName)) ∈ lw_all := lw_g (lw_at lw_m4 39 rfl) rfl
theorem q829 : (Jvm.Cond.selects "BladeBetweenThumbs" ({ cls := "BladeBetweenThumbs", name := "heap", desc := "(III)I" } : Jvm.MethodName) ({ cls := "BladeBetweenThumbs", name := "heap", desc := "(III)I" } : Jvm.MethodName)) ∈ lw_all := lw_g (lw_at lw_m4 40 rfl) rfl
theorem q830 : (Jvm.Cond.code ({ cls := "BladeBetweenThumbs", name := "heap", desc := "(III)I" } : Jvm.MethodName) prog_1_method_64_code (9 : Nat) (Option.some Jvm.ClassFile.FieldType.int)) ∈ lw_all := lw_g (lw_at lw_m4 41 rfl) rfl
theorem q831 : (Jvm.Cond.methodLink "BladeBetweenThumbs" (347 : Nat) ({ cls := "BladeBetweenThumbs", name := "notRow", desc := "(I)I" } : Jvm.MethodName)) ∈ lw_all := lw_g (lw_at lw_m4 42 rfl) rfl
theorem q832 : (Jvm.Cond.privateMethod ({ cls := "BladeBetweenThumbs", name := "notRow", desc := "(I)I" } : Jvm.MethodName)) ∈ lw_tbl := lw_at lw_m4 43 rfl
theorem q833 : (Jvm.Cond.instanceMethod ({ cls := "BladeBetweenThumbs", name := "notRow", desc := "(I)I" } : Jvm.MethodName)) ∈ lw_all := lw_g (lw_at lw_m4 44 rfl) rfl
theorem q834 : (Jvm.Cond.code ({ cls := "BladeBetweenThumbs", name := "notRow", desc := "(I)I" } : Jvm.MethodName) prog_1_method_61_code (3 : Nat) (Option.some Jvm.ClassFile.FieldType.int)) ∈ lw_all := lw_g (lw_at lw_m4 45 rfl) rfl
theorem q835 : (Jvm.Cond.methodLink "BladeBetweenThumbs" (334 : Nat) ({ cls := "BladeBetweenThumbs", name := "sortOf", desc := "(Ljava/lang/Object;)I" } : Jvm.MethodName)) ∈ lw_all := lw_g (lw_at lw_m4 46 rfl) rfl
theorem q836 : (Jvm.Cond.static ({ cls := "BladeBetweenThumbs", name := "sortOf", desc := "(Ljava/lang/Object;)I" } : Jvm.MethodName)) ∈ lw_all := lw_g (lw_at lw_m4 47 rfl) rfl
theorem q837 : (Jvm.Cond.code ({ cls := "BladeBetweenThumbs", name := "sortOf", desc := "(Ljava/lang/Object;)I" } : Jvm.MethodName) prog_1_method_59_code (1 : Nat) (Option.some Jvm.ClassFile.FieldType.int)) ∈ lw_all := lw_g (lw_at lw_m4 48 rfl) rfl
theorem q838 : (Jvm.Cond.classLink "BladeBetweenThumbs" (316 : Nat) "[S") ∈ lw_all := lw_g (lw_at lw_m4 49 rfl) rfl
theorem q839 : (Jvm.Cond.classLink "BladeBetweenThumbs" (318 : Nat) "[I") ∈ lw_all := lw_g (lw_at lw_m4 50 rfl) rfl
theorem q840 : (Jvm.Cond.methodLink "BladeBetweenThumbs" (350 : Nat) ({ cls := "BladeBetweenThumbs", name := "firstForged", desc := "(Ljava/lang/Object;LBladeBetweenThumbs$Blow;)I" } : Jvm.MethodName)) ∈ lw_all := lw_g (lw_at lw_m4 51 rfl) rfl
theorem q841 : (Jvm.Cond.privateMethod ({ cls := "BladeBetweenThumbs", name := "firstForged", desc := "(Ljava/lang/Object;LBladeBetweenThumbs$Blow;)I" } : Jvm.MethodName)) ∈ lw_tbl := lw_at lw_m4 52 rfl
theorem q842 : (Jvm.Cond.instanceMethod ({ cls := "BladeBetweenThumbs", name := "firstForged", desc := "(Ljava/lang/Object;LBladeBetweenThumbs$Blow;)I" } : Jvm.MethodName)) ∈ lw_all := lw_g (lw_at lw_m4 53 rfl) rfl
theorem q843 : (Jvm.Cond.code ({ cls := "BladeBetweenThumbs", name := "firstForged", desc := "(Ljava/lang/Object;LBladeBetweenThumbs$Blow;)I" } : Jvm.MethodName) prog_1_method_63_code (4 : Nat) (Option.some Jvm.ClassFile.FieldType.int)) ∈ lw_all := lw_g (lw_at lw_m4 54 rfl) rfl
theorem q844 : (Jvm.Cond.methodLink "BladeBetweenThumbs" (340 : Nat) ({ cls := "BladeBetweenThumbs", name := "sizeOf", desc := "(Ljava/lang/Object;)I" } : Jvm.MethodName)) ∈ lw_all := lw_g (lw_at lw_m4 55 rfl) rfl
theorem q845 : (Jvm.Cond.static ({ cls := "BladeBetweenThumbs", name := "sizeOf", desc := "(Ljava/lang/Object;)I" } : Jvm.MethodName)) ∈ lw_all := lw_g (lw_at lw_m4 56 rfl) rfl
theorem q846 : (Jvm.Cond.code ({ cls := "BladeBetweenThumbs", name := "sizeOf", desc := "(Ljava/lang/Object;)I" } : Jvm.MethodName) prog_1_method_56_code (1 : Nat) (Option.some Jvm.ClassFile.FieldType.int)) ∈ lw_all := lw_g (lw_at lw_m4 57 rfl) rfl
theorem q847 : (Jvm.Cond.methodLink "BladeBetweenThumbs" (326 : Nat) ({ cls := "BladeBetweenThumbs", name := "elementOf", desc := "(Ljava/lang/Object;I)I" } : Jvm.MethodName)) ∈ lw_all := lw_g (lw_at lw_m4 58 rfl) rfl
theorem q848 : (Jvm.Cond.static ({ cls := "BladeBetweenThumbs", name := "elementOf", desc := "(Ljava/lang/Object;I)I" } : Jvm.MethodName)) ∈ lw_all := lw_g (lw_at lw_m4 59 rfl) rfl
theorem q849 : (Jvm.Cond.code ({ cls := "BladeBetweenThumbs", name := "elementOf", desc := "(Ljava/lang/Object;I)I" } : Jvm.MethodName) prog_1_method_57_code (2 : Nat) (Option.some Jvm.ClassFile.FieldType.int)) ∈ lw_all := lw_g (lw_at lw_m4 60 rfl) rfl
theorem q850 : (Jvm.Cond.methodLink "BladeBetweenThumbs" (343 : Nat) ({ cls := "BladeBetweenThumbs", name := "forcesOf", desc := "(LBladeBetweenThumbs$Blow;I)I" } : Jvm.MethodName)) ∈ lw_all := lw_g (lw_at lw_m4 61 rfl) rfl
theorem q851 : (Jvm.Cond.privateMethod ({ cls := "BladeBetweenThumbs", name := "forcesOf", desc := "(LBladeBetweenThumbs$Blow;I)I" } : Jvm.MethodName)) ∈ lw_tbl := lw_at lw_m4 62 rfl
theorem q852 : (Jvm.Cond.instanceMethod ({ cls := "BladeBetweenThumbs", name := "forcesOf", desc := "(LBladeBetweenThumbs$Blow;I)I" } : Jvm.MethodName)) ∈ lw_all := lw_g (lw_at lw_m4 63 rfl) rfl
theorem q853 : (Jvm.Cond.code ({ cls := "BladeBetweenThumbs", name := "forcesOf", desc := "(LBladeBetweenThumbs$Blow;I)I" } : Jvm.MethodName) prog_1_method_62_code (5 : Nat) (Option.some Jvm.ClassFile.FieldType.int)) ∈ lw_all := lw_g (lw_at lw_m4 64 rfl) rfl
theorem q855 : (Jvm.Cond.instanceMethod ({ cls := "BladeBetweenThumbs", name := "forged", desc := "(II)I" } : Jvm.MethodName)) ∈ lw_all := lw_g (lw_at lw_m4 66 rfl) rfl
theorem q856 : (Jvm.Cond.selects "BladeBetweenThumbs" ({ cls := "BladeBetweenThumbs", name := "forged", desc := "(II)I" } : Jvm.MethodName) ({ cls := "BladeBetweenThumbs", name := "forged", desc := "(II)I" } : Jvm.MethodName)) ∈ lw_all := lw_g (lw_at lw_m4 67 rfl) rfl
theorem q857 : (Jvm.Cond.code ({ cls := "BladeBetweenThumbs", name := "forged", desc := "(II)I" } : Jvm.MethodName) prog_1_method_65_code (4 : Nat) (Option.some Jvm.ClassFile.FieldType.int)) ∈ lw_all := lw_g (lw_at lw_m4 68 rfl) rfl
theorem q859 : (Jvm.Cond.instanceMethod ({ cls := "BladeBetweenThumbs", name := "remainder", desc := "(III)I" } : Jvm.MethodName)) ∈ lw_all := lw_g (lw_at lw_m4 70 rfl) rfl
theorem q860 : (Jvm.Cond.selects "BladeBetweenThumbs" ({ cls := "BladeBetweenThumbs", name := "remainder", desc := "(III)I" } : Jvm.MethodName) ({ cls := "BladeBetweenThumbs", name := "remainder", desc := "(III)I" } : Jvm.MethodName)) ∈ lw_all := lw_g (lw_at lw_m4 71 rfl) rfl
theorem q861 : (Jvm.Cond.codeWith ({ cls := "BladeBetweenThumbs", name := "remainder", desc := "(III)I" } : Jvm.MethodName) prog_1_method_66_code (7 : Nat) (Option.some Jvm.ClassFile.FieldType.int) [((30 : Nat), (43 : Nat), (44 : Nat), (355 : Nat)), ((30 : Nat), (43 : Nat), (50 : Nat), (358 : Nat))]) ∈ lw_all := lw_g (lw_at lw_m4 72 rfl) rfl
theorem q862 : (Jvm.Cond.classLink "BladeBetweenThumbs" (355 : Nat) "java/lang/ArrayIndexOutOfBoundsException") ∈ lw_all := lw_g (lw_at lw_m4 73 rfl) rfl
theorem q881 : (Jvm.Cond.classLink "BladeBetweenThumbs" (358 : Nat) "java/lang/ArithmeticException") ∈ lw_all := lw_g (lw_at lw_m4 92 rfl) rfl
theorem q895 : (Jvm.Cond.constant "BladeBetweenThumbs" (354 : Nat) (1000000000 : Int32)) ∈ lw_all := lw_g (lw_at lw_m4 106 rfl) rfl
theorem q896 : (Jvm.Cond.constant "BladeBetweenThumbs" (357 : Nat) (1000000013 : Int32)) ∈ lw_all := lw_g (lw_at lw_m4 107 rfl) rfl
theorem q897 : (Jvm.Cond.constant "BladeBetweenThumbs" (360 : Nat) (1000000016 : Int32)) ∈ lw_all := lw_g (lw_at lw_m4 108 rfl) rfl
theorem q899 : (Jvm.Cond.instanceMethod ({ cls := "BladeBetweenThumbs", name := "judge", desc := "(IIII)I" } : Jvm.MethodName)) ∈ lw_all := lw_g (lw_at lw_m4 110 rfl) rfl
theorem q900 : (Jvm.Cond.selects "BladeBetweenThumbs" ({ cls := "BladeBetweenThumbs", name := "judge", desc := "(IIII)I" } : Jvm.MethodName) ({ cls := "BladeBetweenThumbs", name := "judge", desc := "(IIII)I" } : Jvm.MethodName)) ∈ lw_all := lw_g (lw_at lw_m4 111 rfl) rfl
theorem q901 : (Jvm.Cond.code ({ cls := "BladeBetweenThumbs", name := "judge", desc := "(IIII)I" } : Jvm.MethodName) prog_1_method_70_code (11 : Nat) (Option.some Jvm.ClassFile.FieldType.int)) ∈ lw_all := lw_g (lw_at lw_m4 112 rfl) rfl
theorem q902 : (Jvm.Cond.methodLink "BladeBetweenThumbs" (364 : Nat) ({ cls := "BladeBetweenThumbs", name := "notRows", desc := "(II)I" } : Jvm.MethodName)) ∈ lw_all := lw_g (lw_at lw_m4 113 rfl) rfl
theorem q903 : (Jvm.Cond.privateMethod ({ cls := "BladeBetweenThumbs", name := "notRows", desc := "(II)I" } : Jvm.MethodName)) ∈ lw_tbl := lw_at lw_m4 114 rfl
theorem q904 : (Jvm.Cond.instanceMethod ({ cls := "BladeBetweenThumbs", name := "notRows", desc := "(II)I" } : Jvm.MethodName)) ∈ lw_all := lw_g (lw_at lw_m4 115 rfl) rfl
theorem q905 : (Jvm.Cond.code ({ cls := "BladeBetweenThumbs", name := "notRows", desc := "(II)I" } : Jvm.MethodName) prog_1_method_68_code (3 : Nat) (Option.some Jvm.ClassFile.FieldType.int)) ∈ lw_all := lw_g (lw_at lw_m4 116 rfl) rfl
theorem q906 : (Jvm.Cond.methodLink "BladeBetweenThumbs" (361 : Nat) ({ cls := "BladeBetweenThumbs", name := "notForces", desc := "(I)I" } : Jvm.MethodName)) ∈ lw_all := lw_g (lw_at lw_m4 117 rfl) rfl
theorem q907 : (Jvm.Cond.privateMethod ({ cls := "BladeBetweenThumbs", name := "notForces", desc := "(I)I" } : Jvm.MethodName)) ∈ lw_tbl := lw_at lw_m4 118 rfl
theorem q908 : (Jvm.Cond.instanceMethod ({ cls := "BladeBetweenThumbs", name := "notForces", desc := "(I)I" } : Jvm.MethodName)) ∈ lw_all := lw_g (lw_at lw_m4 119 rfl) rfl
theorem q909 : (Jvm.Cond.code ({ cls := "BladeBetweenThumbs", name := "notForces", desc := "(I)I" } : Jvm.MethodName) prog_1_method_67_code (4 : Nat) (Option.some Jvm.ClassFile.FieldType.int)) ∈ lw_all := lw_g (lw_at lw_m4 120 rfl) rfl
theorem q910 : (Jvm.Cond.methodLink "BladeBetweenThumbs" (367 : Nat) ({ cls := "BladeBetweenThumbs", name := "does", desc := "(III)I" } : Jvm.MethodName)) ∈ lw_all := lw_g (lw_at lw_m4 121 rfl) rfl
theorem q911 : (Jvm.Cond.privateMethod ({ cls := "BladeBetweenThumbs", name := "does", desc := "(III)I" } : Jvm.MethodName)) ∈ lw_tbl := lw_at lw_m4 122 rfl
theorem q912 : (Jvm.Cond.instanceMethod ({ cls := "BladeBetweenThumbs", name := "does", desc := "(III)I" } : Jvm.MethodName)) ∈ lw_all := lw_g (lw_at lw_m4 123 rfl) rfl
theorem q913 : (Jvm.Cond.code ({ cls := "BladeBetweenThumbs", name := "does", desc := "(III)I" } : Jvm.MethodName) prog_1_method_69_code (5 : Nat) (Option.some Jvm.ClassFile.FieldType.int)) ∈ lw_all := lw_g (lw_at lw_m4 124 rfl) rfl
theorem q914 : (Jvm.Cond.methodLink "BladeBetweenThumbs" (370 : Nat) ({ cls := "BladeBetweenThumbs", name := "isSkipped", desc := "(Ljava/lang/Object;I)Z" } : Jvm.MethodName)) ∈ lw_all := lw_g (lw_at lw_m4 125 rfl) rfl
theorem q915 : (Jvm.Cond.static ({ cls := "BladeBetweenThumbs", name := "isSkipped", desc := "(Ljava/lang/Object;I)Z" } : Jvm.MethodName)) ∈ lw_all := lw_g (lw_at lw_m4 126 rfl) rfl
theorem q916 : (Jvm.Cond.code ({ cls := "BladeBetweenThumbs", name := "isSkipped", desc := "(Ljava/lang/Object;I)Z" } : Jvm.MethodName) prog_1_method_60_code (2 : Nat) (Option.some Jvm.ClassFile.FieldType.boolean)) ∈ lw_all := lw_g (lw_at lw_m4 127 rfl) rfl
theorem q917 : (Jvm.Cond.methodLink "BladeBetweenThumbs" (330 : Nat) ({ cls := "BladeBetweenThumbs", name := "leastElement", desc := "(Ljava/lang/Object;)I" } : Jvm.MethodName)) ∈ lw_all := lw_g (lw_at lw_m4 128 rfl) rfl
theorem q918 : (Jvm.Cond.static ({ cls := "BladeBetweenThumbs", name := "leastElement", desc := "(Ljava/lang/Object;)I" } : Jvm.MethodName)) ∈ lw_all := lw_g (lw_at lw_m4 129 rfl) rfl
theorem q919 : (Jvm.Cond.code ({ cls := "BladeBetweenThumbs", name := "leastElement", desc := "(Ljava/lang/Object;)I" } : Jvm.MethodName) prog_1_method_58_code (1 : Nat) (Option.some Jvm.ClassFile.FieldType.int)) ∈ lw_all := lw_g (lw_at lw_m4 130 rfl) rfl
theorem q920 : (Jvm.Cond.constant "BladeBetweenThumbs" (325 : Nat) (-2147483648 : Int32)) ∈ lw_all := lw_g (lw_at lw_m4 131 rfl) rfl
theorem q922 : (Jvm.Cond.instanceMethod ({ cls := "BladeBetweenThumbs", name := "walks", desc := "(III)I" } : Jvm.MethodName)) ∈ lw_all := lw_g (lw_at lw_m4 133 rfl) rfl
theorem q923 : (Jvm.Cond.selects "BladeBetweenThumbs" ({ cls := "BladeBetweenThumbs", name := "walks", desc := "(III)I" } : Jvm.MethodName) ({ cls := "BladeBetweenThumbs", name := "walks", desc := "(III)I" } : Jvm.MethodName)) ∈ lw_all := lw_g (lw_at lw_m4 134 rfl) rfl
theorem q924 : (Jvm.Cond.code ({ cls := "BladeBetweenThumbs", name := "walks", desc := "(III)I" } : Jvm.MethodName) prog_1_method_73_code (8 : Nat) (Option.some Jvm.ClassFile.FieldType.int)) ∈ lw_all := lw_g (lw_at lw_m4 135 rfl) rfl
theorem q925 : (Jvm.Cond.methodLink "BladeBetweenThumbs" (383 : Nat) ({ cls := "BladeBetweenThumbs", name := "triesDrawn", desc := "()Z" } : Jvm.MethodName)) ∈ lw_all := lw_g (lw_at lw_m4 136 rfl) rfl
theorem q926 : (Jvm.Cond.privateMethod ({ cls := "BladeBetweenThumbs", name := "triesDrawn", desc := "()Z" } : Jvm.MethodName)) ∈ lw_tbl := lw_at lw_m4 137 rfl
theorem q927 : (Jvm.Cond.instanceMethod ({ cls := "BladeBetweenThumbs", name := "triesDrawn", desc := "()Z" } : Jvm.MethodName)) ∈ lw_all := lw_g (lw_at lw_m4 138 rfl) rfl
theorem q928 : (Jvm.Cond.code ({ cls := "BladeBetweenThumbs", name := "triesDrawn", desc := "()Z" } : Jvm.MethodName) prog_1_method_72_code (6 : Nat) (Option.some Jvm.ClassFile.FieldType.boolean)) ∈ lw_all := lw_g (lw_at lw_m4 139 rfl) rfl
theorem q929 : (Jvm.Cond.methodLink "BladeBetweenThumbs" (380 : Nat) ({ cls := "BladeBetweenThumbs", name := "draw", desc := "(I)I" } : Jvm.MethodName)) ∈ lw_all := lw_g (lw_at lw_m4 140 rfl) rfl
theorem q930 : (Jvm.Cond.privateMethod ({ cls := "BladeBetweenThumbs", name := "draw", desc := "(I)I" } : Jvm.MethodName)) ∈ lw_tbl := lw_at lw_m4 141 rfl
theorem q931 : (Jvm.Cond.instanceMethod ({ cls := "BladeBetweenThumbs", name := "draw", desc := "(I)I" } : Jvm.MethodName)) ∈ lw_all := lw_g (lw_at lw_m4 142 rfl) rfl
theorem q932 : (Jvm.Cond.code ({ cls := "BladeBetweenThumbs", name := "draw", desc := "(I)I" } : Jvm.MethodName) prog_1_method_71_code (2 : Nat) (Option.some Jvm.ClassFile.FieldType.int)) ∈ lw_all := lw_g (lw_at lw_m4 143 rfl) rfl
theorem q933 : (Jvm.Cond.constant "BladeBetweenThumbs" (377 : Nat) (1103515245 : Int32)) ∈ lw_all := lw_g (lw_at lw_m4 144 rfl) rfl
theorem q934 : (Jvm.Cond.constant "BladeBetweenThumbs" (378 : Nat) (2147483647 : Int32)) ∈ lw_all := lw_g (lw_at lw_m4 145 rfl) rfl
theorem q935 : (Jvm.Cond.constant "BladeBetweenThumbs" (379 : Nat) (65536 : Int32)) ∈ lw_all := lw_g (lw_at lw_m4 146 rfl) rfl
theorem q937 : (Jvm.Cond.instanceMethod ({ cls := "BladeBetweenThumbs", name := "image", desc := "()I" } : Jvm.MethodName)) ∈ lw_all := lw_g (lw_at lw_m4 148 rfl) rfl
theorem q938 : (Jvm.Cond.selects "BladeBetweenThumbs" ({ cls := "BladeBetweenThumbs", name := "image", desc := "()I" } : Jvm.MethodName) ({ cls := "BladeBetweenThumbs", name := "image", desc := "()I" } : Jvm.MethodName)) ∈ lw_all := lw_g (lw_at lw_m4 149 rfl) rfl
theorem q939 : (Jvm.Cond.code ({ cls := "BladeBetweenThumbs", name := "image", desc := "()I" } : Jvm.MethodName) prog_1_method_74_code (1 : Nat) (Option.some Jvm.ClassFile.FieldType.int)) ∈ lw_all := lw_g (lw_at lw_m4 150 rfl) rfl
theorem q941 : (Jvm.Cond.instanceMethod ({ cls := "BladeBetweenThumbs", name := "restore", desc := "()I" } : Jvm.MethodName)) ∈ lw_all := lw_g (lw_at lw_m4 152 rfl) rfl
theorem q942 : (Jvm.Cond.selects "BladeBetweenThumbs" ({ cls := "BladeBetweenThumbs", name := "restore", desc := "()I" } : Jvm.MethodName) ({ cls := "BladeBetweenThumbs", name := "restore", desc := "()I" } : Jvm.MethodName)) ∈ lw_all := lw_g (lw_at lw_m4 153 rfl) rfl
theorem q943 : (Jvm.Cond.code ({ cls := "BladeBetweenThumbs", name := "restore", desc := "()I" } : Jvm.MethodName) prog_1_method_75_code (1 : Nat) (Option.some Jvm.ClassFile.FieldType.int)) ∈ lw_all := lw_g (lw_at lw_m4 154 rfl) rfl
theorem q945 : (Jvm.Cond.instanceMethod ({ cls := "BladeBetweenThumbs", name := "count", desc := "(I)I" } : Jvm.MethodName)) ∈ lw_all := lw_g (lw_at lw_m4 156 rfl) rfl
theorem q946 : (Jvm.Cond.selects "BladeBetweenThumbs" ({ cls := "BladeBetweenThumbs", name := "count", desc := "(I)I" } : Jvm.MethodName) ({ cls := "BladeBetweenThumbs", name := "count", desc := "(I)I" } : Jvm.MethodName)) ∈ lw_all := lw_g (lw_at lw_m4 157 rfl) rfl
theorem q947 : (Jvm.Cond.code ({ cls := "BladeBetweenThumbs", name := "count", desc := "(I)I" } : Jvm.MethodName) prog_1_method_76_code (4 : Nat) (Option.some Jvm.ClassFile.FieldType.int)) ∈ lw_all := lw_g (lw_at lw_m4 158 rfl) rfl
theorem q950 : (Jvm.Cond.instanceMethod ({ cls := "BladeBetweenThumbs", name := "<init>", desc := "()V" } : Jvm.MethodName)) ∈ lw_all := lw_g (lw_at lw_m4 161 rfl) rfl
theorem q951 : (Jvm.Cond.code ({ cls := "BladeBetweenThumbs", name := "<init>", desc := "()V" } : Jvm.MethodName) prog_1_method_77_code (2 : Nat) (Option.none : Option Jvm.ClassFile.FieldType)) ∈ lw_all := lw_g (lw_at lw_m4 162 rfl) rfl
theorem q952 : (Jvm.Cond.methodLink "BladeBetweenThumbs" (394 : Nat) ({ cls := "java/lang/Object", name := "<init>", desc := "()V" } : Jvm.MethodName)) ∈ lw_all := lw_g (lw_at lw_m4 163 rfl) rfl
theorem q953 : (Jvm.Cond.classLink "BladeBetweenThumbs" (53 : Nat) "BladeBetweenThumbs$Hedge") ∈ lw_all := lw_g (lw_at lw_m4 164 rfl) rfl
theorem q955 : (Jvm.Cond.methodLinkNest "BladeBetweenThumbs" (398 : Nat) ({ cls := "BladeBetweenThumbs$Hedge", name := "<init>", desc := "()V" } : Jvm.MethodName) "BladeBetweenThumbs") ∈ lw_tbl := lw_at lw_m4 166 rfl
theorem q962 : (Jvm.Cond.fieldLink "BladeBetweenThumbs" (148 : Nat) "BladeBetweenThumbs$Hedge" "breadth" "[I") ∈ lw_all := lw_g (lw_at lw_m4 173 rfl) rfl
theorem q964 : (Jvm.Cond.fieldLink "BladeBetweenThumbs" (151 : Nat) "BladeBetweenThumbs$Hedge" "length" "[I") ∈ lw_all := lw_g (lw_at lw_m4 175 rfl) rfl
theorem q966 : (Jvm.Cond.fieldLink "BladeBetweenThumbs" (154 : Nat) "BladeBetweenThumbs$Hedge" "wet" "[I") ∈ lw_all := lw_g (lw_at lw_m4 177 rfl) rfl
theorem q968 : (Jvm.Cond.fieldLink "BladeBetweenThumbs" (157 : Nat) "BladeBetweenThumbs$Hedge" "wear" "[I") ∈ lw_all := lw_g (lw_at lw_m4 179 rfl) rfl
theorem q970 : (Jvm.Cond.fieldLink "BladeBetweenThumbs" (163 : Nat) "BladeBetweenThumbs$Hedge" "slit" "[I") ∈ lw_all := lw_g (lw_at lw_m4 181 rfl) rfl
theorem q972 : (Jvm.Cond.fieldLink "BladeBetweenThumbs" (166 : Nat) "BladeBetweenThumbs$Hedge" "grip" "[I") ∈ lw_all := lw_g (lw_at lw_m4 183 rfl) rfl
theorem q974 : (Jvm.Cond.fieldLink "BladeBetweenThumbs" (172 : Nat) "BladeBetweenThumbs$Hedge" "blow" "[LBladeBetweenThumbs$Blow;") ∈ lw_all := lw_g (lw_at lw_m4 185 rfl) rfl
theorem q976 : (Jvm.Cond.fieldLink "BladeBetweenThumbs" (52 : Nat) "BladeBetweenThumbs$Hedge" "blades" "I") ∈ lw_all := lw_g (lw_at lw_m4 187 rfl) rfl
theorem q978 : (Jvm.Cond.fieldLink "BladeBetweenThumbs" (64 : Nat) "BladeBetweenThumbs$Hedge" "thumbs" "I") ∈ lw_all := lw_g (lw_at lw_m4 189 rfl) rfl
theorem q980 : (Jvm.Cond.fieldLink "BladeBetweenThumbs" (71 : Nat) "BladeBetweenThumbs$Hedge" "blows" "I") ∈ lw_all := lw_g (lw_at lw_m4 191 rfl) rfl
theorem q982 : (Jvm.Cond.fieldLink "BladeBetweenThumbs" (307 : Nat) "BladeBetweenThumbs$Hedge" "lower" "I") ∈ lw_all := lw_g (lw_at lw_m4 193 rfl) rfl
theorem q1006 : (Jvm.Cond.classLink "BladeBetweenThumbs" (35 : Nat) "BladeBetweenThumbs$Told") ∈ lw_all := lw_g (lw_at lw_m4 217 rfl) rfl
theorem q1008 : (Jvm.Cond.classLink "BladeBetweenThumbs" (129 : Nat) "BladeBetweenThumbs$Shelf") ∈ lw_all := lw_g (lw_at lw_m4 219 rfl) rfl
theorem q1011 : (Jvm.Cond.methodLinkNest "BladeBetweenThumbs" (399 : Nat) ({ cls := "BladeBetweenThumbs$Shelf", name := "<init>", desc := "()V" } : Jvm.MethodName) "BladeBetweenThumbs") ∈ lw_tbl := lw_at lw_m4 222 rfl
theorem q1015 : (Jvm.Cond.fieldLink "BladeBetweenThumbs" (128 : Nat) "BladeBetweenThumbs$Shelf" "held" "Ljava/lang/Object;") ∈ lw_all := lw_g (lw_at lw_m4 226 rfl) rfl
theorem q1020 : (Jvm.Cond.fieldLink "BladeBetweenThumbs" (105 : Nat) "BladeBetweenThumbs" "now" "LBladeBetweenThumbs$Hedge;") ∈ lw_all := lw_g (lw_at lw_m4 231 rfl) rfl
theorem q1021 : (Jvm.Cond.fieldLink "BladeBetweenThumbs" (387 : Nat) "BladeBetweenThumbs" "kept" "LBladeBetweenThumbs$Hedge;") ∈ lw_all := lw_g (lw_at lw_m4 232 rfl) rfl
theorem q1022 : (Jvm.Cond.fieldLink "BladeBetweenThumbs" (48 : Nat) "BladeBetweenThumbs" "mind" "LBladeBetweenThumbs$Hedge;") ∈ lw_all := lw_g (lw_at lw_m4 233 rfl) rfl
theorem q1023 : (Jvm.Cond.fieldLink "BladeBetweenThumbs" (390 : Nat) "BladeBetweenThumbs" "hasImage" "Z") ∈ lw_all := lw_g (lw_at lw_m4 234 rfl) rfl
theorem q1024 : (Jvm.Cond.fieldLink "BladeBetweenThumbs" (97 : Nat) "BladeBetweenThumbs" "told" "[LBladeBetweenThumbs$Told;") ∈ lw_all := lw_g (lw_at lw_m4 235 rfl) rfl
theorem q1025 : (Jvm.Cond.fieldLink "BladeBetweenThumbs" (248 : Nat) "BladeBetweenThumbs" "notes" "[I") ∈ lw_all := lw_g (lw_at lw_m4 236 rfl) rfl
theorem q1026 : (Jvm.Cond.fieldLink "BladeBetweenThumbs" (273 : Nat) "BladeBetweenThumbs" "near" "[J") ∈ lw_all := lw_g (lw_at lw_m4 237 rfl) rfl
theorem q1027 : (Jvm.Cond.fieldLink "BladeBetweenThumbs" (283 : Nat) "BladeBetweenThumbs" "then" "[J") ∈ lw_all := lw_g (lw_at lw_m4 238 rfl) rfl
theorem q1028 : (Jvm.Cond.fieldLink "BladeBetweenThumbs" (337 : Nat) "BladeBetweenThumbs" "leastForce" "I") ∈ lw_all := lw_g (lw_at lw_m4 239 rfl) rfl
theorem q1029 : (Jvm.Cond.fieldLink "BladeBetweenThumbs" (374 : Nat) "BladeBetweenThumbs" "lots" "I") ∈ lw_all := lw_g (lw_at lw_m5 0 rfl) rfl
theorem q1030 : (Jvm.Cond.fieldLink "BladeBetweenThumbs" (124 : Nat) "BladeBetweenThumbs" "shelves" "[LBladeBetweenThumbs$Shelf;") ∈ lw_all := lw_g (lw_at lw_m5 1 rfl) rfl
theorem q1031 : (Jvm.Cond.laysFinal "BladeBetweenThumbs" "BladeBetweenThumbs" "now" "LBladeBetweenThumbs$Hedge;") ∈ lw_all := lw_g (lw_at lw_m5 2 rfl) rfl
theorem q1032 : (Jvm.Cond.soleField "BladeBetweenThumbs" "now") ∈ lw_all := lw_g (lw_at lw_m5 3 rfl) rfl
theorem q1033 : (Jvm.Cond.laysFinal "BladeBetweenThumbs" "BladeBetweenThumbs" "kept" "LBladeBetweenThumbs$Hedge;") ∈ lw_all := lw_g (lw_at lw_m5 4 rfl) rfl
theorem q1034 : (Jvm.Cond.soleField "BladeBetweenThumbs" "kept") ∈ lw_all := lw_g (lw_at lw_m5 5 rfl) rfl
theorem q1035 : (Jvm.Cond.laysFinal "BladeBetweenThumbs" "BladeBetweenThumbs" "mind" "LBladeBetweenThumbs$Hedge;") ∈ lw_all := lw_g (lw_at lw_m5 6 rfl) rfl
theorem q1036 : (Jvm.Cond.soleField "BladeBetweenThumbs" "mind") ∈ lw_all := lw_g (lw_at lw_m5 7 rfl) rfl
theorem q1037 : (Jvm.Cond.lays "BladeBetweenThumbs" "BladeBetweenThumbs" "hasImage" "Z") ∈ lw_all := lw_g (lw_at lw_m5 8 rfl) rfl
theorem q1038 : (Jvm.Cond.soleField "BladeBetweenThumbs" "hasImage") ∈ lw_all := lw_g (lw_at lw_m5 9 rfl) rfl
theorem q1039 : (Jvm.Cond.laysFinal "BladeBetweenThumbs" "BladeBetweenThumbs" "told" "[LBladeBetweenThumbs$Told;") ∈ lw_all := lw_g (lw_at lw_m5 10 rfl) rfl
theorem q1040 : (Jvm.Cond.soleField "BladeBetweenThumbs" "told") ∈ lw_all := lw_g (lw_at lw_m5 11 rfl) rfl
theorem q1041 : (Jvm.Cond.laysFinal "BladeBetweenThumbs" "BladeBetweenThumbs" "notes" "[I") ∈ lw_all := lw_g (lw_at lw_m5 12 rfl) rfl
theorem q1042 : (Jvm.Cond.soleField "BladeBetweenThumbs" "notes") ∈ lw_all := lw_g (lw_at lw_m5 13 rfl) rfl
theorem q1043 : (Jvm.Cond.lays "BladeBetweenThumbs" "BladeBetweenThumbs" "near" "[J") ∈ lw_all := lw_g (lw_at lw_m5 14 rfl) rfl
theorem q1044 : (Jvm.Cond.soleField "BladeBetweenThumbs" "near") ∈ lw_all := lw_g (lw_at lw_m5 15 rfl) rfl
theorem q1045 : (Jvm.Cond.lays "BladeBetweenThumbs" "BladeBetweenThumbs" "then" "[J") ∈ lw_all := lw_g (lw_at lw_m5 16 rfl) rfl
theorem q1046 : (Jvm.Cond.soleField "BladeBetweenThumbs" "then") ∈ lw_all := lw_g (lw_at lw_m5 17 rfl) rfl
theorem q1047 : (Jvm.Cond.lays "BladeBetweenThumbs" "BladeBetweenThumbs" "leastForce" "I") ∈ lw_all := lw_g (lw_at lw_m5 18 rfl) rfl
theorem q1048 : (Jvm.Cond.soleField "BladeBetweenThumbs" "leastForce") ∈ lw_all := lw_g (lw_at lw_m5 19 rfl) rfl
theorem q1049 : (Jvm.Cond.lays "BladeBetweenThumbs" "BladeBetweenThumbs" "lots" "I") ∈ lw_all := lw_g (lw_at lw_m5 20 rfl) rfl
theorem q1050 : (Jvm.Cond.soleField "BladeBetweenThumbs" "lots") ∈ lw_all := lw_g (lw_at lw_m5 21 rfl) rfl
theorem q1051 : (Jvm.Cond.laysFinal "BladeBetweenThumbs" "BladeBetweenThumbs" "shelves" "[LBladeBetweenThumbs$Shelf;") ∈ lw_all := lw_g (lw_at lw_m5 22 rfl) rfl
theorem q1052 : (Jvm.Cond.soleField "BladeBetweenThumbs" "shelves") ∈ lw_all := lw_g (lw_at lw_m5 23 rfl) rfl
theorem q1053 : (Jvm.Cond.superclass "BladeBetweenThumbs" "java/lang/Object") ∈ lw_all := lw_g (lw_at lw_m5 24 rfl) rfl
theorem q1055 : (Jvm.Cond.instanceMethod ({ cls := "BladeBetweenThumbs", name := "keep", desc := "(IIII)I" } : Jvm.MethodName)) ∈ lw_all := lw_g (lw_at lw_m5 26 rfl) rfl
theorem q1056 : (Jvm.Cond.selects "BladeBetweenThumbs" ({ cls := "BladeBetweenThumbs", name := "keep", desc := "(IIII)I" } : Jvm.MethodName) ({ cls := "BladeBetweenThumbs", name := "keep", desc := "(IIII)I" } : Jvm.MethodName)) ∈ lw_all := lw_g (lw_at lw_m5 27 rfl) rfl
theorem q1057 : (Jvm.Cond.code ({ cls := "BladeBetweenThumbs", name := "keep", desc := "(IIII)I" } : Jvm.MethodName) prog_1_method_78_code (5 : Nat) (Option.some Jvm.ClassFile.FieldType.int)) ∈ lw_all := lw_g (lw_at lw_m5 28 rfl) rfl
theorem q1059 : (Jvm.Cond.instanceMethod ({ cls := "BladeBetweenThumbs", name := "row", desc := "(III)I" } : Jvm.MethodName)) ∈ lw_all := lw_g (lw_at lw_m5 30 rfl) rfl
theorem q1060 : (Jvm.Cond.selects "BladeBetweenThumbs" ({ cls := "BladeBetweenThumbs", name := "row", desc := "(III)I" } : Jvm.MethodName) ({ cls := "BladeBetweenThumbs", name := "row", desc := "(III)I" } : Jvm.MethodName)) ∈ lw_all := lw_g (lw_at lw_m5 31 rfl) rfl
theorem q1061 : (Jvm.Cond.codeWith ({ cls := "BladeBetweenThumbs", name := "row", desc := "(III)I" } : Jvm.MethodName) prog_1_method_79_code (5 : Nat) (Option.some Jvm.ClassFile.FieldType.int) [((25 : Nat), (67 : Nat), (68 : Nat), (400 : Nat))]) ∈ lw_all := lw_g (lw_at lw_m5 32 rfl) rfl
theorem q1062 : (Jvm.Cond.classLink "BladeBetweenThumbs" (400 : Nat) "java/lang/NegativeArraySizeException") ∈ lw_all := lw_g (lw_at lw_m5 33 rfl) rfl
theorem q1078 : (Jvm.Cond.instanceMethod ({ cls := "BladeBetweenThumbs", name := "put", desc := "(III)I" } : Jvm.MethodName)) ∈ lw_all := lw_g (lw_at lw_m5 49 rfl) rfl
theorem q1079 : (Jvm.Cond.selects "BladeBetweenThumbs" ({ cls := "BladeBetweenThumbs", name := "put", desc := "(III)I" } : Jvm.MethodName) ({ cls := "BladeBetweenThumbs", name := "put", desc := "(III)I" } : Jvm.MethodName)) ∈ lw_all := lw_g (lw_at lw_m5 50 rfl) rfl
theorem q1080 : (Jvm.Cond.codeWith ({ cls := "BladeBetweenThumbs", name := "put", desc := "(III)I" } : Jvm.MethodName) prog_1_method_80_code (6 : Nat) (Option.some Jvm.ClassFile.FieldType.int) [((29 : Nat), (78 : Nat), (79 : Nat), (140 : Nat)), ((29 : Nat), (78 : Nat), (84 : Nat), (355 : Nat))]) ∈ lw_all := lw_g (lw_at lw_m5 51 rfl) rfl
theorem q1082 : (Jvm.Cond.instanceMethod ({ cls := "BladeBetweenThumbs", name := "copy", desc := "(IIIII)I" } : Jvm.MethodName)) ∈ lw_all := lw_g (lw_at lw_m5 53 rfl) rfl
theorem q1083 : (Jvm.Cond.selects "BladeBetweenThumbs" ({ cls := "BladeBetweenThumbs", name := "copy", desc := "(IIIII)I" } : Jvm.MethodName) ({ cls := "BladeBetweenThumbs", name := "copy", desc := "(IIIII)I" } : Jvm.MethodName)) ∈ lw_all := lw_g (lw_at lw_m5 54 rfl) rfl
theorem q1084 : (Jvm.Cond.codeWith ({ cls := "BladeBetweenThumbs", name := "copy", desc := "(IIIII)I" } : Jvm.MethodName) prog_1_method_82_code (9 : Nat) (Option.some Jvm.ClassFile.FieldType.int) [((78 : Nat), (92 : Nat), (93 : Nat), (416 : Nat))]) ∈ lw_all := lw_g (lw_at lw_m5 55 rfl) rfl
theorem q1085 : (Jvm.Cond.classLink "BladeBetweenThumbs" (416 : Nat) "java/lang/IndexOutOfBoundsException") ∈ lw_all := lw_g (lw_at lw_m5 56 rfl) rfl
theorem q1086 : (Jvm.Cond.methodLink "BladeBetweenThumbs" (410 : Nat) ({ cls := "java/lang/System", name := "arraycopy", desc := "(Ljava/lang/Object;ILjava/lang/Object;II)V" } : Jvm.MethodName)) ∈ lw_all := lw_g (lw_at lw_m5 57 rfl) rfl
theorem q1088 : (Jvm.Cond.instanceMethod ({ cls := "BladeBetweenThumbs", name := "cost", desc := "(I)I" } : Jvm.MethodName)) ∈ lw_all := lw_g (lw_at lw_m5 59 rfl) rfl
theorem q1089 : (Jvm.Cond.selects "BladeBetweenThumbs" ({ cls := "BladeBetweenThumbs", name := "cost", desc := "(I)I" } : Jvm.MethodName) ({ cls := "BladeBetweenThumbs", name := "cost", desc := "(I)I" } : Jvm.MethodName)) ∈ lw_all := lw_g (lw_at lw_m5 60 rfl) rfl
theorem q1090 : (Jvm.Cond.codeWith ({ cls := "BladeBetweenThumbs", name := "cost", desc := "(I)I" } : Jvm.MethodName) prog_1_method_83_code (3 : Nat) (Option.some Jvm.ClassFile.FieldType.int) [((10 : Nat), (25 : Nat), (26 : Nat), (405 : Nat)), ((10 : Nat), (25 : Nat), (30 : Nat), (140 : Nat))]) ∈ lw_all := lw_g (lw_at lw_m5 61 rfl) rfl
theorem q1091 : (Jvm.Cond.classLink "BladeBetweenThumbs" (405 : Nat) "java/lang/NullPointerException") ∈ lw_all := lw_g (lw_at lw_m5 62 rfl) rfl
theorem q1113 : (Jvm.Cond.methodLink "BladeBetweenThumbs" (418 : Nat) ({ cls := "BladeBetweenThumbs$Blow", name := "cost", desc := "()I" } : Jvm.MethodName)) ∈ lw_all := lw_g (lw_at lw_m5 84 rfl) rfl
theorem q1147 : (Jvm.Cond.instanceMethod ({ cls := "BladeBetweenThumbs", name := "toss", desc := "(I)I" } : Jvm.MethodName)) ∈ lw_all := lw_g (lw_at lw_m5 118 rfl) rfl
theorem q1148 : (Jvm.Cond.selects "BladeBetweenThumbs" ({ cls := "BladeBetweenThumbs", name := "toss", desc := "(I)I" } : Jvm.MethodName) ({ cls := "BladeBetweenThumbs", name := "toss", desc := "(I)I" } : Jvm.MethodName)) ∈ lw_all := lw_g (lw_at lw_m5 119 rfl) rfl
theorem q1149 : (Jvm.Cond.codeWith ({ cls := "BladeBetweenThumbs", name := "toss", desc := "(I)I" } : Jvm.MethodName) prog_1_method_84_code (3 : Nat) (Option.some Jvm.ClassFile.FieldType.int) [((25 : Nat), (41 : Nat), (41 : Nat), (425 : Nat)), ((25 : Nat), (41 : Nat), (47 : Nat), (405 : Nat)), ((25 : Nat), (41 : Nat), (51 : Nat), (140 : Nat))]) ∈ lw_all := lw_g (lw_at lw_m5 120 rfl) rfl
theorem q1150 : (Jvm.Cond.classLink "BladeBetweenThumbs" (425 : Nat) "BladeBetweenThumbs$Tossed") ∈ lw_all := lw_g (lw_at lw_m5 121 rfl) rfl
theorem q1151 : (Jvm.Cond.methodLink "BladeBetweenThumbs" (421 : Nat) ({ cls := "BladeBetweenThumbs$Blow", name := "failure", desc := "()LBladeBetweenThumbs$Tossed;" } : Jvm.MethodName)) ∈ lw_all := lw_g (lw_at lw_m5 122 rfl) rfl
theorem q1175 : (Jvm.Cond.fieldLink "BladeBetweenThumbs" (427 : Nat) "BladeBetweenThumbs$Tossed" "n" "I") ∈ lw_all := lw_g (lw_at lw_m5 146 rfl) rfl
theorem q1202 : (Jvm.Cond.instanceMethod ({ cls := "BladeBetweenThumbs", name := "element", desc := "(II)J" } : Jvm.MethodName)) ∈ lw_all := lw_g (lw_at lw_m5 173 rfl) rfl
theorem q1203 : (Jvm.Cond.selects "BladeBetweenThumbs" ({ cls := "BladeBetweenThumbs", name := "element", desc := "(II)J" } : Jvm.MethodName) ({ cls := "BladeBetweenThumbs", name := "element", desc := "(II)J" } : Jvm.MethodName)) ∈ lw_all := lw_g (lw_at lw_m5 174 rfl) rfl
theorem q1204 : (Jvm.Cond.codeWith ({ cls := "BladeBetweenThumbs", name := "element", desc := "(II)J" } : Jvm.MethodName) prog_1_method_81_code (5 : Nat) (Option.some Jvm.ClassFile.FieldType.long) [((26 : Nat), (40 : Nat), (64 : Nat), (405 : Nat)), ((41 : Nat), (55 : Nat), (64 : Nat), (405 : Nat)), ((56 : Nat), (63 : Nat), (64 : Nat), (405 : Nat)), ((26 : Nat), (40 : Nat), (74 : Nat), (140 : Nat)), ((41 : Nat), (55 : Nat), (74 : Nat), (140 : Nat)), ((56 : Nat), (63 : Nat), (74 : Nat), (140 : Nat)), ((26 : Nat), (40 : Nat), (84 : Nat), (355 : Nat)), ((41 : Nat), (55 : Nat), (84 : Nat), (355 : Nat)), ((56 : Nat), (63 : Nat), (84 : Nat), (355 : Nat))]) ∈ lw_all := lw_g (lw_at lw_m5 175 rfl) rfl
theorem q1205 : (Jvm.Cond.classLink "BladeBetweenThumbs" (402 : Nat) "java/lang/IllegalArgumentException") ∈ lw_all := lw_g (lw_at lw_m5 176 rfl) rfl
theorem q1214 : (Jvm.Cond.methodLink "BladeBetweenThumbs" (404 : Nat) ({ cls := "java/lang/IllegalArgumentException", name := "<init>", desc := "()V" } : Jvm.MethodName)) ∈ lw_all := lw_g (lw_at lw_m5 185 rfl) rfl
theorem q1220 : (Jvm.Cond.classLink "BladeBetweenThumbs" (407 : Nat) "java/lang/IllegalStateException") ∈ lw_all := lw_g (lw_at lw_m5 191 rfl) rfl
theorem q1229 : (Jvm.Cond.methodLink "BladeBetweenThumbs" (409 : Nat) ({ cls := "java/lang/IllegalStateException", name := "<init>", desc := "()V" } : Jvm.MethodName)) ∈ lw_all := lw_g (lw_at lw_m5 200 rfl) rfl
theorem in_X1 : ∀ w ∈ wsX10, w ∈ lw_all := lw_in wsX10 [1031, 1033, 1035, 1037, 1039, 1041, 1043, 1045, 1047, 1049, 1051] (by decide +kernel) (by decide +kernel)
