/-! BladeBetweenThumbsLaw -/
set_option maxRecDepth 100000
def RX0 : String := "BladeBetweenThumbsLaw"
abbrev cX0_element : ByteArray := method_3_code
def yX0_element : MethodName := ⟨RX0, "element", "(LBladeBetweenThumbs;II[J)I"⟩
def dkwX0_element_0 : List UInt8 := [45, 3, 42, 27, 28, 182, 0, 7, 80, 167, 0, 11, 58, 4, 4, 172, 58, 4, 5, 172, 3, 172]
abbrev dktX0_element_0 : List UInt8 := dkwX0_element_0 ++ []
theorem dksX0_element_0 : cX0_element.data.toList.drop 0 = dktX0_element_0 := by decide +kernel
theorem dX0_element_0 : decode cX0_element 0 = .ok (.aload_n 3, 1) := dk_45 (dk_at dksX0_element_0 0 rfl rfl)
theorem dX0_element_1 : decode cX0_element 1 = .ok (.iconst 0, 1) := dk_3 (dk_at dksX0_element_0 1 rfl rfl)
theorem dX0_element_2 : decode cX0_element 2 = .ok (.aload_n 0, 1) := dk_42 (dk_at dksX0_element_0 2 rfl rfl)
theorem dX0_element_3 : decode cX0_element 3 = .ok (.iload_n 1, 1) := dk_27 (dk_at dksX0_element_0 3 rfl rfl)
theorem dX0_element_4 : decode cX0_element 4 = .ok (.iload_n 2, 1) := dk_28 (dk_at dksX0_element_0 4 rfl rfl)
theorem dX0_element_5 : decode cX0_element 5 = .ok (.invokevirtual 7, 3) := dk_182 0 7 (dk_at dksX0_element_0 5 rfl rfl)
theorem dX0_element_8 : decode cX0_element 8 = .ok (.lastore, 1) := dk_80 (dk_at dksX0_element_0 8 rfl rfl)
theorem dX0_element_9 : decode cX0_element 9 = .ok (.goto 11, 3) := dk_167 0 11 (dk_at dksX0_element_0 9 rfl rfl)
theorem dX0_element_12 : decode cX0_element 12 = .ok (.astore 4, 2) := dk_58 4 (dk_at dksX0_element_0 12 rfl rfl)
theorem dX0_element_14 : decode cX0_element 14 = .ok (.iconst 1, 1) := dk_4 (dk_at dksX0_element_0 14 rfl rfl)
theorem dX0_element_15 : decode cX0_element 15 = .ok (.ireturn, 1) := dk_172 (dk_at dksX0_element_0 15 rfl rfl)
theorem dX0_element_16 : decode cX0_element 16 = .ok (.astore 4, 2) := dk_58 4 (dk_at dksX0_element_0 16 rfl rfl)
theorem dX0_element_18 : decode cX0_element 18 = .ok (.iconst 2, 1) := dk_5 (dk_at dksX0_element_0 18 rfl rfl)
theorem dX0_element_19 : decode cX0_element 19 = .ok (.ireturn, 1) := dk_172 (dk_at dksX0_element_0 19 rfl rfl)
theorem dX0_element_20 : decode cX0_element 20 = .ok (.iconst 0, 1) := dk_3 (dk_at dksX0_element_0 20 rfl rfl)
theorem dX0_element_21 : decode cX0_element 21 = .ok (.ireturn, 1) := dk_172 (dk_at dksX0_element_0 21 rfl rfl)
theorem q69 : (Jvm.Cond.initialized "BladeBetweenThumbsLaw") ∈ lw_all := lw_g (lw_at lw_m1 0 rfl) rfl
theorem q101 : (Jvm.Cond.methodLink "BladeBetweenThumbsLaw" (21 : Nat) ({ cls := "BladeBetweenThumbs", name := "hedge", desc := "(I)I" } : Jvm.MethodName)) ∈ lw_all := lw_g (lw_at lw_m1 32 rfl) rfl
theorem q560 : (Jvm.Cond.methodLink "BladeBetweenThumbsLaw" (26 : Nat) ({ cls := "BladeBetweenThumbs", name := "blade", desc := "(II)I" } : Jvm.MethodName)) ∈ lw_all := lw_g (lw_at lw_m3 11 rfl) rfl
theorem q565 : (Jvm.Cond.methodLink "BladeBetweenThumbsLaw" (31 : Nat) ({ cls := "BladeBetweenThumbs", name := "thumbs", desc := "(II)I" } : Jvm.MethodName)) ∈ lw_all := lw_g (lw_at lw_m3 16 rfl) rfl
theorem q570 : (Jvm.Cond.methodLink "BladeBetweenThumbsLaw" (35 : Nat) ({ cls := "BladeBetweenThumbs", name := "blow", desc := "(II)I" } : Jvm.MethodName)) ∈ lw_all := lw_g (lw_at lw_m3 21 rfl) rfl
theorem q601 : (Jvm.Cond.methodLink "BladeBetweenThumbsLaw" (39 : Nat) ({ cls := "BladeBetweenThumbs", name := "grows", desc := "(III)I" } : Jvm.MethodName)) ∈ lw_all := lw_g (lw_at lw_m3 52 rfl) rfl
theorem q608 : (Jvm.Cond.methodLink "BladeBetweenThumbsLaw" (44 : Nat) ({ cls := "BladeBetweenThumbs", name := "learns", desc := "(I)I" } : Jvm.MethodName)) ∈ lw_all := lw_g (lw_at lw_m3 59 rfl) rfl
theorem q612 : (Jvm.Cond.methodLink "BladeBetweenThumbsLaw" (48 : Nat) ({ cls := "BladeBetweenThumbs", name := "comes", desc := "(II)I" } : Jvm.MethodName)) ∈ lw_all := lw_g (lw_at lw_m3 63 rfl) rfl
theorem q616 : (Jvm.Cond.methodLink "BladeBetweenThumbsLaw" (52 : Nat) ({ cls := "BladeBetweenThumbs", name := "wets", desc := "(II)I" } : Jvm.MethodName)) ∈ lw_all := lw_g (lw_at lw_m3 67 rfl) rfl
theorem q620 : (Jvm.Cond.methodLink "BladeBetweenThumbsLaw" (56 : Nat) ({ cls := "BladeBetweenThumbs", name := "span", desc := "(IIII)I" } : Jvm.MethodName)) ∈ lw_all := lw_g (lw_at lw_m3 71 rfl) rfl
theorem q628 : (Jvm.Cond.methodLink "BladeBetweenThumbsLaw" (61 : Nat) ({ cls := "BladeBetweenThumbs", name := "sounds", desc := "(IIIII)I" } : Jvm.MethodName)) ∈ lw_all := lw_g (lw_at lw_m3 79 rfl) rfl
theorem q637 : (Jvm.Cond.methodLink "BladeBetweenThumbsLaw" (66 : Nat) ({ cls := "BladeBetweenThumbs", name := "pitch", desc := "(IIII)I" } : Jvm.MethodName)) ∈ lw_all := lw_g (lw_at lw_m3 88 rfl) rfl
theorem q664 : (Jvm.Cond.methodLink "BladeBetweenThumbsLaw" (70 : Nat) ({ cls := "BladeBetweenThumbs", name := "tries", desc := "(IIIII)I" } : Jvm.MethodName)) ∈ lw_all := lw_g (lw_at lw_m3 115 rfl) rfl
theorem q668 : (Jvm.Cond.methodLink "BladeBetweenThumbsLaw" (74 : Nat) ({ cls := "BladeBetweenThumbs", name := "where", desc := "(IIII)I" } : Jvm.MethodName)) ∈ lw_all := lw_g (lw_at lw_m3 119 rfl) rfl
theorem q687 : (Jvm.Cond.methodLink "BladeBetweenThumbsLaw" (78 : Nat) ({ cls := "BladeBetweenThumbs", name := "whoCan", desc := "()I" } : Jvm.MethodName)) ∈ lw_all := lw_g (lw_at lw_m3 138 rfl) rfl
theorem q695 : (Jvm.Cond.methodLink "BladeBetweenThumbsLaw" (83 : Nat) ({ cls := "BladeBetweenThumbs", name := "which", desc := "(II)I" } : Jvm.MethodName)) ∈ lw_all := lw_g (lw_at lw_m3 146 rfl) rfl
theorem q699 : (Jvm.Cond.methodLink "BladeBetweenThumbsLaw" (87 : Nat) ({ cls := "BladeBetweenThumbs", name := "wrong", desc := "(IIIII)I" } : Jvm.MethodName)) ∈ lw_all := lw_g (lw_at lw_m3 150 rfl) rfl
theorem q704 : (Jvm.Cond.methodLink "BladeBetweenThumbsLaw" (91 : Nat) ({ cls := "BladeBetweenThumbs", name := "next", desc := "(IIIII)I" } : Jvm.MethodName)) ∈ lw_all := lw_g (lw_at lw_m3 155 rfl) rfl
theorem q718 : (Jvm.Cond.methodLink "BladeBetweenThumbsLaw" (95 : Nat) ({ cls := "BladeBetweenThumbs", name := "halves", desc := "(III)I" } : Jvm.MethodName)) ∈ lw_all := lw_g (lw_at lw_m3 169 rfl) rfl
theorem q722 : (Jvm.Cond.methodLink "BladeBetweenThumbsLaw" (99 : Nat) ({ cls := "BladeBetweenThumbs", name := "ways", desc := "(II)I" } : Jvm.MethodName)) ∈ lw_all := lw_g (lw_at lw_m3 173 rfl) rfl
theorem q733 : (Jvm.Cond.methodLink "BladeBetweenThumbsLaw" (103 : Nat) ({ cls := "BladeBetweenThumbs", name := "tune", desc := "(III)I" } : Jvm.MethodName)) ∈ lw_all := lw_g (lw_at lw_m3 184 rfl) rfl
theorem q749 : (Jvm.Cond.methodLink "BladeBetweenThumbsLaw" (107 : Nat) ({ cls := "BladeBetweenThumbs", name := "lasts", desc := "(III)I" } : Jvm.MethodName)) ∈ lw_all := lw_g (lw_at lw_m3 200 rfl) rfl
theorem q761 : (Jvm.Cond.methodLink "BladeBetweenThumbsLaw" (111 : Nat) ({ cls := "BladeBetweenThumbs", name := "bestForce", desc := "(III)I" } : Jvm.MethodName)) ∈ lw_all := lw_g (lw_at lw_m3 212 rfl) rfl
theorem q765 : (Jvm.Cond.methodLink "BladeBetweenThumbsLaw" (115 : Nat) ({ cls := "BladeBetweenThumbs", name := "clash", desc := "(III)I" } : Jvm.MethodName)) ∈ lw_all := lw_g (lw_at lw_m3 216 rfl) rfl
theorem q769 : (Jvm.Cond.methodLink "BladeBetweenThumbsLaw" (119 : Nat) ({ cls := "BladeBetweenThumbs", name := "heard", desc := "(II)I" } : Jvm.MethodName)) ∈ lw_all := lw_g (lw_at lw_m3 220 rfl) rfl
theorem q773 : (Jvm.Cond.methodLink "BladeBetweenThumbsLaw" (123 : Nat) ({ cls := "BladeBetweenThumbs", name := "nearer", desc := "(IIII)J" } : Jvm.MethodName)) ∈ lw_all := lw_g (lw_at lw_m3 224 rfl) rfl
theorem q798 : (Jvm.Cond.methodLink "BladeBetweenThumbsLaw" (128 : Nat) ({ cls := "BladeBetweenThumbs", name := "often", desc := "(II)I" } : Jvm.MethodName)) ∈ lw_all := lw_g (lw_at lw_m4 9 rfl) rfl
theorem q803 : (Jvm.Cond.methodLink "BladeBetweenThumbsLaw" (132 : Nat) ({ cls := "BladeBetweenThumbs", name := "answer", desc := "(III)J" } : Jvm.MethodName)) ∈ lw_all := lw_g (lw_at lw_m4 14 rfl) rfl
theorem q807 : (Jvm.Cond.methodLink "BladeBetweenThumbsLaw" (137 : Nat) ({ cls := "BladeBetweenThumbs", name := "telling", desc := "(IIII)I" } : Jvm.MethodName)) ∈ lw_all := lw_g (lw_at lw_m4 18 rfl) rfl
theorem q815 : (Jvm.Cond.methodLink "BladeBetweenThumbsLaw" (141 : Nat) ({ cls := "BladeBetweenThumbs", name := "odds", desc := "(IIII)J" } : Jvm.MethodName)) ∈ lw_all := lw_g (lw_at lw_m4 26 rfl) rfl
theorem q823 : (Jvm.Cond.methodLink "BladeBetweenThumbsLaw" (145 : Nat) ({ cls := "BladeBetweenThumbs", name := "enough", desc := "(III)I" } : Jvm.MethodName)) ∈ lw_all := lw_g (lw_at lw_m4 34 rfl) rfl
theorem q827 : (Jvm.Cond.methodLink "BladeBetweenThumbsLaw" (149 : Nat) ({ cls := "BladeBetweenThumbs", name := "heap", desc := "(III)I" } : Jvm.MethodName)) ∈ lw_all := lw_g (lw_at lw_m4 38 rfl) rfl
theorem q854 : (Jvm.Cond.methodLink "BladeBetweenThumbsLaw" (153 : Nat) ({ cls := "BladeBetweenThumbs", name := "forged", desc := "(II)I" } : Jvm.MethodName)) ∈ lw_all := lw_g (lw_at lw_m4 65 rfl) rfl
theorem q858 : (Jvm.Cond.methodLink "BladeBetweenThumbsLaw" (157 : Nat) ({ cls := "BladeBetweenThumbs", name := "remainder", desc := "(III)I" } : Jvm.MethodName)) ∈ lw_all := lw_g (lw_at lw_m4 69 rfl) rfl
theorem q898 : (Jvm.Cond.methodLink "BladeBetweenThumbsLaw" (161 : Nat) ({ cls := "BladeBetweenThumbs", name := "judge", desc := "(IIII)I" } : Jvm.MethodName)) ∈ lw_all := lw_g (lw_at lw_m4 109 rfl) rfl
theorem q921 : (Jvm.Cond.methodLink "BladeBetweenThumbsLaw" (165 : Nat) ({ cls := "BladeBetweenThumbs", name := "walks", desc := "(III)I" } : Jvm.MethodName)) ∈ lw_all := lw_g (lw_at lw_m4 132 rfl) rfl
theorem q936 : (Jvm.Cond.methodLink "BladeBetweenThumbsLaw" (169 : Nat) ({ cls := "BladeBetweenThumbs", name := "image", desc := "()I" } : Jvm.MethodName)) ∈ lw_all := lw_g (lw_at lw_m4 147 rfl) rfl
theorem q940 : (Jvm.Cond.methodLink "BladeBetweenThumbsLaw" (173 : Nat) ({ cls := "BladeBetweenThumbs", name := "restore", desc := "()I" } : Jvm.MethodName)) ∈ lw_all := lw_g (lw_at lw_m4 151 rfl) rfl
theorem q944 : (Jvm.Cond.methodLink "BladeBetweenThumbsLaw" (177 : Nat) ({ cls := "BladeBetweenThumbs", name := "count", desc := "(I)I" } : Jvm.MethodName)) ∈ lw_all := lw_g (lw_at lw_m4 155 rfl) rfl
theorem q948 : (Jvm.Cond.classLink "BladeBetweenThumbsLaw" (8 : Nat) "BladeBetweenThumbs") ∈ lw_all := lw_g (lw_at lw_m4 159 rfl) rfl
theorem q949 : (Jvm.Cond.methodLink "BladeBetweenThumbsLaw" (17 : Nat) ({ cls := "BladeBetweenThumbs", name := "<init>", desc := "()V" } : Jvm.MethodName)) ∈ lw_all := lw_g (lw_at lw_m4 160 rfl) rfl
theorem q1054 : (Jvm.Cond.methodLink "BladeBetweenThumbsLaw" (181 : Nat) ({ cls := "BladeBetweenThumbs", name := "keep", desc := "(IIII)I" } : Jvm.MethodName)) ∈ lw_all := lw_g (lw_at lw_m5 25 rfl) rfl
theorem q1058 : (Jvm.Cond.methodLink "BladeBetweenThumbsLaw" (185 : Nat) ({ cls := "BladeBetweenThumbs", name := "row", desc := "(III)I" } : Jvm.MethodName)) ∈ lw_all := lw_g (lw_at lw_m5 29 rfl) rfl
theorem q1077 : (Jvm.Cond.methodLink "BladeBetweenThumbsLaw" (189 : Nat) ({ cls := "BladeBetweenThumbs", name := "put", desc := "(III)I" } : Jvm.MethodName)) ∈ lw_all := lw_g (lw_at lw_m5 48 rfl) rfl
theorem q1081 : (Jvm.Cond.methodLink "BladeBetweenThumbsLaw" (202 : Nat) ({ cls := "BladeBetweenThumbs", name := "copy", desc := "(IIIII)I" } : Jvm.MethodName)) ∈ lw_all := lw_g (lw_at lw_m5 52 rfl) rfl
theorem q1087 : (Jvm.Cond.methodLink "BladeBetweenThumbsLaw" (206 : Nat) ({ cls := "BladeBetweenThumbs", name := "cost", desc := "(I)I" } : Jvm.MethodName)) ∈ lw_all := lw_g (lw_at lw_m5 58 rfl) rfl
theorem q1146 : (Jvm.Cond.methodLink "BladeBetweenThumbsLaw" (210 : Nat) ({ cls := "BladeBetweenThumbs", name := "toss", desc := "(I)I" } : Jvm.MethodName)) ∈ lw_all := lw_g (lw_at lw_m5 117 rfl) rfl
theorem q1196 : (Jvm.Cond.methodLink "BladeBetweenThumbsLaw" (193 : Nat) ({ cls := "BladeBetweenThumbsLaw", name := "element", desc := "(LBladeBetweenThumbs;II[J)I" } : Jvm.MethodName)) ∈ lw_all := lw_g (lw_at lw_m5 167 rfl) rfl
theorem q1197 : (Jvm.Cond.static ({ cls := "BladeBetweenThumbsLaw", name := "element", desc := "(LBladeBetweenThumbs;II[J)I" } : Jvm.MethodName)) ∈ lw_all := lw_g (lw_at lw_m5 168 rfl) rfl
theorem q1198 : (Jvm.Cond.codeWith ({ cls := "BladeBetweenThumbsLaw", name := "element", desc := "(LBladeBetweenThumbs;II[J)I" } : Jvm.MethodName) method_3_code (5 : Nat) (Option.some Jvm.ClassFile.FieldType.int) [((0 : Nat), (9 : Nat), (12 : Nat), (13 : Nat)), ((0 : Nat), (9 : Nat), (16 : Nat), (15 : Nat))]) ∈ lw_all := lw_g (lw_at lw_m5 169 rfl) rfl
theorem q1199 : (Jvm.Cond.classLink "BladeBetweenThumbsLaw" (13 : Nat) "java/lang/IllegalArgumentException") ∈ lw_all := lw_g (lw_at lw_m5 170 rfl) rfl
theorem q1200 : (Jvm.Cond.classLink "BladeBetweenThumbsLaw" (15 : Nat) "java/lang/IllegalStateException") ∈ lw_all := lw_g (lw_at lw_m5 171 rfl) rfl
theorem q1201 : (Jvm.Cond.methodLink "BladeBetweenThumbsLaw" (7 : Nat) ({ cls := "BladeBetweenThumbs", name := "element", desc := "(II)J" } : Jvm.MethodName)) ∈ lw_all := lw_g (lw_at lw_m5 172 rfl) rfl
theorem q1235 : (Jvm.Cond.classLink "BladeBetweenThumbsLaw" (18 : Nat) "BladeBetweenThumbsModel") ∈ lw_all := lw_g (lw_at lw_m5 206 rfl) rfl
theorem q1237 : (Jvm.Cond.methodLink "BladeBetweenThumbsLaw" (20 : Nat) ({ cls := "BladeBetweenThumbsModel", name := "<init>", desc := "()V" } : Jvm.MethodName)) ∈ lw_all := lw_g (lw_at lw_m5 208 rfl) rfl
theorem q1308 : (Jvm.Cond.methodLink "BladeBetweenThumbsLaw" (25 : Nat) ({ cls := "BladeBetweenThumbsModel", name := "hedge", desc := "(I)I" } : Jvm.MethodName)) ∈ lw_all := lw_g (lw_at lw_m6 39 rfl) rfl
theorem q1401 : (Jvm.Cond.methodLink "BladeBetweenThumbsLaw" (30 : Nat) ({ cls := "BladeBetweenThumbsModel", name := "blade", desc := "(II)I" } : Jvm.MethodName)) ∈ lw_all := lw_g (lw_at lw_m6 132 rfl) rfl
theorem q1405 : (Jvm.Cond.methodLink "BladeBetweenThumbsLaw" (34 : Nat) ({ cls := "BladeBetweenThumbsModel", name := "thumbs", desc := "(II)I" } : Jvm.MethodName)) ∈ lw_all := lw_g (lw_at lw_m6 136 rfl) rfl
theorem q1409 : (Jvm.Cond.methodLink "BladeBetweenThumbsLaw" (38 : Nat) ({ cls := "BladeBetweenThumbsModel", name := "blow", desc := "(II)I" } : Jvm.MethodName)) ∈ lw_all := lw_g (lw_at lw_m6 140 rfl) rfl
theorem q1413 : (Jvm.Cond.methodLink "BladeBetweenThumbsLaw" (43 : Nat) ({ cls := "BladeBetweenThumbsModel", name := "grows", desc := "(III)I" } : Jvm.MethodName)) ∈ lw_all := lw_g (lw_at lw_m6 144 rfl) rfl
theorem q1417 : (Jvm.Cond.methodLink "BladeBetweenThumbsLaw" (47 : Nat) ({ cls := "BladeBetweenThumbsModel", name := "learns", desc := "(I)I" } : Jvm.MethodName)) ∈ lw_all := lw_g (lw_at lw_m6 148 rfl) rfl
theorem q1425 : (Jvm.Cond.methodLink "BladeBetweenThumbsLaw" (51 : Nat) ({ cls := "BladeBetweenThumbsModel", name := "comes", desc := "(II)I" } : Jvm.MethodName)) ∈ lw_all := lw_g (lw_at lw_m6 156 rfl) rfl
theorem q1432 : (Jvm.Cond.methodLink "BladeBetweenThumbsLaw" (55 : Nat) ({ cls := "BladeBetweenThumbsModel", name := "wets", desc := "(II)I" } : Jvm.MethodName)) ∈ lw_all := lw_g (lw_at lw_m6 163 rfl) rfl
theorem q1436 : (Jvm.Cond.methodLink "BladeBetweenThumbsLaw" (60 : Nat) ({ cls := "BladeBetweenThumbsModel", name := "span", desc := "(IIII)I" } : Jvm.MethodName)) ∈ lw_all := lw_g (lw_at lw_m6 167 rfl) rfl
theorem q1467 : (Jvm.Cond.methodLink "BladeBetweenThumbsLaw" (65 : Nat) ({ cls := "BladeBetweenThumbsModel", name := "sounds", desc := "(IIIII)I" } : Jvm.MethodName)) ∈ lw_all := lw_g (lw_at lw_m6 198 rfl) rfl
theorem q1491 : (Jvm.Cond.methodLink "BladeBetweenThumbsLaw" (69 : Nat) ({ cls := "BladeBetweenThumbsModel", name := "pitch", desc := "(IIII)I" } : Jvm.MethodName)) ∈ lw_all := lw_g (lw_at lw_m6 222 rfl) rfl
theorem q1500 : (Jvm.Cond.methodLink "BladeBetweenThumbsLaw" (73 : Nat) ({ cls := "BladeBetweenThumbsModel", name := "tries", desc := "(IIIII)I" } : Jvm.MethodName)) ∈ lw_all := lw_g (lw_at lw_m6 231 rfl) rfl
theorem q1504 : (Jvm.Cond.methodLink "BladeBetweenThumbsLaw" (77 : Nat) ({ cls := "BladeBetweenThumbsModel", name := "where", desc := "(IIII)I" } : Jvm.MethodName)) ∈ lw_all := lw_g (lw_at lw_m6 235 rfl) rfl
theorem q1512 : (Jvm.Cond.methodLink "BladeBetweenThumbsLaw" (82 : Nat) ({ cls := "BladeBetweenThumbsModel", name := "whoCan", desc := "()I" } : Jvm.MethodName)) ∈ lw_all := lw_g (lw_at lw_m7 3 rfl) rfl
theorem q1520 : (Jvm.Cond.methodLink "BladeBetweenThumbsLaw" (86 : Nat) ({ cls := "BladeBetweenThumbsModel", name := "which", desc := "(II)I" } : Jvm.MethodName)) ∈ lw_all := lw_g (lw_at lw_m7 11 rfl) rfl
theorem q1524 : (Jvm.Cond.methodLink "BladeBetweenThumbsLaw" (90 : Nat) ({ cls := "BladeBetweenThumbsModel", name := "wrong", desc := "(IIIII)I" } : Jvm.MethodName)) ∈ lw_all := lw_g (lw_at lw_m7 15 rfl) rfl
theorem q1528 : (Jvm.Cond.methodLink "BladeBetweenThumbsLaw" (94 : Nat) ({ cls := "BladeBetweenThumbsModel", name := "next", desc := "(IIIII)I" } : Jvm.MethodName)) ∈ lw_all := lw_g (lw_at lw_m7 19 rfl) rfl
theorem q1536 : (Jvm.Cond.methodLink "BladeBetweenThumbsLaw" (98 : Nat) ({ cls := "BladeBetweenThumbsModel", name := "halves", desc := "(III)I" } : Jvm.MethodName)) ∈ lw_all := lw_g (lw_at lw_m7 27 rfl) rfl
theorem q1540 : (Jvm.Cond.methodLink "BladeBetweenThumbsLaw" (102 : Nat) ({ cls := "BladeBetweenThumbsModel", name := "ways", desc := "(II)I" } : Jvm.MethodName)) ∈ lw_all := lw_g (lw_at lw_m7 31 rfl) rfl
theorem q1552 : (Jvm.Cond.methodLink "BladeBetweenThumbsLaw" (106 : Nat) ({ cls := "BladeBetweenThumbsModel", name := "tune", desc := "(III)I" } : Jvm.MethodName)) ∈ lw_all := lw_g (lw_at lw_m7 43 rfl) rfl
theorem q1561 : (Jvm.Cond.methodLink "BladeBetweenThumbsLaw" (110 : Nat) ({ cls := "BladeBetweenThumbsModel", name := "lasts", desc := "(III)I" } : Jvm.MethodName)) ∈ lw_all := lw_g (lw_at lw_m7 52 rfl) rfl
theorem q1569 : (Jvm.Cond.methodLink "BladeBetweenThumbsLaw" (114 : Nat) ({ cls := "BladeBetweenThumbsModel", name := "bestForce", desc := "(III)I" } : Jvm.MethodName)) ∈ lw_all := lw_g (lw_at lw_m7 60 rfl) rfl
theorem q1573 : (Jvm.Cond.methodLink "BladeBetweenThumbsLaw" (118 : Nat) ({ cls := "BladeBetweenThumbsModel", name := "clash", desc := "(III)I" } : Jvm.MethodName)) ∈ lw_all := lw_g (lw_at lw_m7 64 rfl) rfl
theorem q1577 : (Jvm.Cond.methodLink "BladeBetweenThumbsLaw" (122 : Nat) ({ cls := "BladeBetweenThumbsModel", name := "heard", desc := "(II)I" } : Jvm.MethodName)) ∈ lw_all := lw_g (lw_at lw_m7 68 rfl) rfl
theorem q1581 : (Jvm.Cond.methodLink "BladeBetweenThumbsLaw" (127 : Nat) ({ cls := "BladeBetweenThumbsModel", name := "nearer", desc := "(IIII)J" } : Jvm.MethodName)) ∈ lw_all := lw_g (lw_at lw_m7 72 rfl) rfl
theorem q1603 : (Jvm.Cond.methodLink "BladeBetweenThumbsLaw" (131 : Nat) ({ cls := "BladeBetweenThumbsModel", name := "often", desc := "(II)I" } : Jvm.MethodName)) ∈ lw_all := lw_g (lw_at lw_m7 94 rfl) rfl
theorem q1608 : (Jvm.Cond.methodLink "BladeBetweenThumbsLaw" (136 : Nat) ({ cls := "BladeBetweenThumbsModel", name := "answer", desc := "(III)J" } : Jvm.MethodName)) ∈ lw_all := lw_g (lw_at lw_m7 99 rfl) rfl
theorem q1614 : (Jvm.Cond.methodLink "BladeBetweenThumbsLaw" (140 : Nat) ({ cls := "BladeBetweenThumbsModel", name := "telling", desc := "(IIII)I" } : Jvm.MethodName)) ∈ lw_all := lw_g (lw_at lw_m7 105 rfl) rfl
theorem q1622 : (Jvm.Cond.methodLink "BladeBetweenThumbsLaw" (144 : Nat) ({ cls := "BladeBetweenThumbsModel", name := "odds", desc := "(IIII)J" } : Jvm.MethodName)) ∈ lw_all := lw_g (lw_at lw_m7 113 rfl) rfl
theorem q1630 : (Jvm.Cond.methodLink "BladeBetweenThumbsLaw" (148 : Nat) ({ cls := "BladeBetweenThumbsModel", name := "enough", desc := "(III)I" } : Jvm.MethodName)) ∈ lw_all := lw_g (lw_at lw_m7 121 rfl) rfl
theorem q1634 : (Jvm.Cond.methodLink "BladeBetweenThumbsLaw" (152 : Nat) ({ cls := "BladeBetweenThumbsModel", name := "heap", desc := "(III)I" } : Jvm.MethodName)) ∈ lw_all := lw_g (lw_at lw_m7 125 rfl) rfl
theorem q1642 : (Jvm.Cond.methodLink "BladeBetweenThumbsLaw" (156 : Nat) ({ cls := "BladeBetweenThumbsModel", name := "forged", desc := "(II)I" } : Jvm.MethodName)) ∈ lw_all := lw_g (lw_at lw_m7 133 rfl) rfl
theorem q1646 : (Jvm.Cond.methodLink "BladeBetweenThumbsLaw" (160 : Nat) ({ cls := "BladeBetweenThumbsModel", name := "remainder", desc := "(III)I" } : Jvm.MethodName)) ∈ lw_all := lw_g (lw_at lw_m7 137 rfl) rfl
theorem q1650 : (Jvm.Cond.methodLink "BladeBetweenThumbsLaw" (164 : Nat) ({ cls := "BladeBetweenThumbsModel", name := "judge", desc := "(IIII)I" } : Jvm.MethodName)) ∈ lw_all := lw_g (lw_at lw_m7 141 rfl) rfl
theorem q1658 : (Jvm.Cond.methodLink "BladeBetweenThumbsLaw" (168 : Nat) ({ cls := "BladeBetweenThumbsModel", name := "walks", desc := "(III)I" } : Jvm.MethodName)) ∈ lw_all := lw_g (lw_at lw_m7 149 rfl) rfl
theorem q1670 : (Jvm.Cond.methodLink "BladeBetweenThumbsLaw" (172 : Nat) ({ cls := "BladeBetweenThumbsModel", name := "image", desc := "()I" } : Jvm.MethodName)) ∈ lw_all := lw_g (lw_at lw_m7 161 rfl) rfl
theorem q1674 : (Jvm.Cond.methodLink "BladeBetweenThumbsLaw" (176 : Nat) ({ cls := "BladeBetweenThumbsModel", name := "restore", desc := "()I" } : Jvm.MethodName)) ∈ lw_all := lw_g (lw_at lw_m7 165 rfl) rfl
theorem q1678 : (Jvm.Cond.methodLink "BladeBetweenThumbsLaw" (180 : Nat) ({ cls := "BladeBetweenThumbsModel", name := "count", desc := "(I)I" } : Jvm.MethodName)) ∈ lw_all := lw_g (lw_at lw_m7 169 rfl) rfl
theorem q1682 : (Jvm.Cond.methodLink "BladeBetweenThumbsLaw" (199 : Nat) ({ cls := "BladeBetweenThumbsModel", name := "thrown", desc := "()I" } : Jvm.MethodName)) ∈ lw_all := lw_g (lw_at lw_m7 173 rfl) rfl
theorem q1686 : (Jvm.Cond.methodLink "BladeBetweenThumbsLaw" (184 : Nat) ({ cls := "BladeBetweenThumbsModel", name := "keep", desc := "(IIII)I" } : Jvm.MethodName)) ∈ lw_all := lw_g (lw_at lw_m7 177 rfl) rfl
theorem q1690 : (Jvm.Cond.methodLink "BladeBetweenThumbsLaw" (188 : Nat) ({ cls := "BladeBetweenThumbsModel", name := "row", desc := "(III)I" } : Jvm.MethodName)) ∈ lw_all := lw_g (lw_at lw_m7 181 rfl) rfl
theorem q1694 : (Jvm.Cond.methodLink "BladeBetweenThumbsLaw" (192 : Nat) ({ cls := "BladeBetweenThumbsModel", name := "put", desc := "(III)I" } : Jvm.MethodName)) ∈ lw_all := lw_g (lw_at lw_m7 185 rfl) rfl
theorem q1698 : (Jvm.Cond.methodLink "BladeBetweenThumbsLaw" (198 : Nat) ({ cls := "BladeBetweenThumbsModel", name := "element", desc := "(II)J" } : Jvm.MethodName)) ∈ lw_all := lw_g (lw_at lw_m7 189 rfl) rfl
theorem q1702 : (Jvm.Cond.methodLink "BladeBetweenThumbsLaw" (205 : Nat) ({ cls := "BladeBetweenThumbsModel", name := "copy", desc := "(IIIII)I" } : Jvm.MethodName)) ∈ lw_all := lw_g (lw_at lw_m7 193 rfl) rfl
theorem q1706 : (Jvm.Cond.methodLink "BladeBetweenThumbsLaw" (209 : Nat) ({ cls := "BladeBetweenThumbsModel", name := "cost", desc := "(I)I" } : Jvm.MethodName)) ∈ lw_all := lw_g (lw_at lw_m7 197 rfl) rfl
theorem q1713 : (Jvm.Cond.methodLink "BladeBetweenThumbsLaw" (213 : Nat) ({ cls := "BladeBetweenThumbsModel", name := "toss", desc := "(I)I" } : Jvm.MethodName)) ∈ lw_all := lw_g (lw_at lw_m7 204 rfl) rfl

/-! BladeBetweenThumbs$Sounding -/
set_option maxRecDepth 100000
def RX10 : String := "BladeBetweenThumbs$Sounding"
def TX10 : u_T := fun k => match k with
  | _ => ("BladeBetweenThumbs$Blow", "figure", "I", true)
def tyX10 : Nat → FieldType := fun k => match k with
  | _ => .int
abbrev wsX100 : List Cond := u_ws RX10 TX10 1
theorem nmX10 : ∀ a, a < 1 → ∀ b, b < 1 → a ≠ b → (TX10 a).2.1 ≠ (TX10 b).2.1 := by decide +kernel
theorem tyX10_ok : ∀ k, k < 1 → parseFieldDescriptor (TX10 k).2.2.1 = some (tyX10 k) := by decide +kernel
abbrev cX10_init : ByteArray := prog_14_method_1_code
def yX10_init : MethodName := ⟨RX10, "<init>", "(I)V"⟩
def dkwX10_init_0 : List UInt8 := [42, 27, 183, 0, 3, 177]
abbrev dktX10_init_0 : List UInt8 := dkwX10_init_0 ++ []
theorem dksX10_init_0 : cX10_init.data.toList.drop 0 = dktX10_init_0 := by decide +kernel
theorem dX10_init_0 : decode cX10_init 0 = .ok (.aload_n 0, 1) := dk_42 (dk_at dksX10_init_0 0 rfl rfl)
theorem dX10_init_1 : decode cX10_init 1 = .ok (.iload_n 1, 1) := dk_27 (dk_at dksX10_init_0 1 rfl rfl)
theorem dX10_init_2 : decode cX10_init 2 = .ok (.invokespecial 3, 3) := dk_183 0 3 (dk_at dksX10_init_0 2 rfl rfl)
theorem dX10_init_5 : decode cX10_init 5 = .ok (.return_, 1) := dk_177 (dk_at dksX10_init_0 5 rfl rfl)
abbrev cX10_wears : ByteArray := prog_14_method_4_code
def yX10_wears : MethodName := ⟨RX10, "wears", "(I)I"⟩
def dkwX10_wears_0 : List UInt8 := [42, 27, 183, 0, 18, 4, 96, 172]
abbrev dktX10_wears_0 : List UInt8 := dkwX10_wears_0 ++ []
theorem dksX10_wears_0 : cX10_wears.data.toList.drop 0 = dktX10_wears_0 := by decide +kernel
theorem dX10_wears_0 : decode cX10_wears 0 = .ok (.aload_n 0, 1) := dk_42 (dk_at dksX10_wears_0 0 rfl rfl)
theorem dX10_wears_1 : decode cX10_wears 1 = .ok (.iload_n 1, 1) := dk_27 (dk_at dksX10_wears_0 1 rfl rfl)
theorem dX10_wears_2 : decode cX10_wears 2 = .ok (.invokespecial 18, 3) := dk_183 0 18 (dk_at dksX10_wears_0 2 rfl rfl)
theorem dX10_wears_5 : decode cX10_wears 5 = .ok (.iconst 1, 1) := dk_4 (dk_at dksX10_wears_0 5 rfl rfl)
theorem dX10_wears_6 : decode cX10_wears 6 = .ok (.iadd, 1) := dk_96 (dk_at dksX10_wears_0 6 rfl rfl)
theorem dX10_wears_7 : decode cX10_wears 7 = .ok (.ireturn, 1) := dk_172 (dk_at dksX10_wears_0 7 rfl rfl)
abbrev cX10_low : ByteArray := prog_14_method_3_code
def yX10_low : MethodName := ⟨RX10, "low", "(II)I"⟩
def dkwX10_low_0 : List UInt8 := [3, 42, 27, 28, 183, 0, 9, 5, 100, 184, 0, 13, 172]
abbrev dktX10_low_0 : List UInt8 := dkwX10_low_0 ++ []
theorem dksX10_low_0 : cX10_low.data.toList.drop 0 = dktX10_low_0 := by decide +kernel
theorem dX10_low_0 : decode cX10_low 0 = .ok (.iconst 0, 1) := dk_3 (dk_at dksX10_low_0 0 rfl rfl)
theorem dX10_low_1 : decode cX10_low 1 = .ok (.aload_n 0, 1) := dk_42 (dk_at dksX10_low_0 1 rfl rfl)
theorem dX10_low_2 : decode cX10_low 2 = .ok (.iload_n 1, 1) := dk_27 (dk_at dksX10_low_0 2 rfl rfl)
theorem dX10_low_3 : decode cX10_low 3 = .ok (.iload_n 2, 1) := dk_28 (dk_at dksX10_low_0 3 rfl rfl)
theorem dX10_low_4 : decode cX10_low 4 = .ok (.invokespecial 9, 3) := dk_183 0 9 (dk_at dksX10_low_0 4 rfl rfl)
theorem dX10_low_7 : decode cX10_low 7 = .ok (.iconst 2, 1) := dk_5 (dk_at dksX10_low_0 7 rfl rfl)
theorem dX10_low_8 : decode cX10_low 8 = .ok (.isub, 1) := dk_100 (dk_at dksX10_low_0 8 rfl rfl)
theorem dX10_low_9 : decode cX10_low 9 = .ok (.invokestatic 13, 3) := dk_184 0 13 (dk_at dksX10_low_0 9 rfl rfl)
theorem dX10_low_12 : decode cX10_low 12 = .ok (.ireturn, 1) := dk_172 (dk_at dksX10_low_0 12 rfl rfl)
abbrev cX10_kind : ByteArray := prog_14_method_2_code
def yX10_kind : MethodName := ⟨RX10, "kind", "()I"⟩
theorem dX10_kind_0 : decode cX10_kind 0 = .ok (.iconst 2, 1) := by decide +kernel
theorem dX10_kind_1 : decode cX10_kind 1 = .ok (.ireturn, 1) := by decide +kernel
abbrev cX10_cost : ByteArray := prog_14_method_5_code
def yX10_cost : MethodName := ⟨RX10, "cost", "()I"⟩
def dkwX10_cost_0 : List UInt8 := [42, 183, 0, 22, 42, 180, 0, 26, 96, 172]
abbrev dktX10_cost_0 : List UInt8 := dkwX10_cost_0 ++ []
theorem dksX10_cost_0 : cX10_cost.data.toList.drop 0 = dktX10_cost_0 := by decide +kernel
theorem dX10_cost_0 : decode cX10_cost 0 = .ok (.aload_n 0, 1) := dk_42 (dk_at dksX10_cost_0 0 rfl rfl)
theorem dX10_cost_1 : decode cX10_cost 1 = .ok (.invokespecial 22, 3) := dk_183 0 22 (dk_at dksX10_cost_0 1 rfl rfl)
theorem dX10_cost_4 : decode cX10_cost 4 = .ok (.aload_n 0, 1) := dk_42 (dk_at dksX10_cost_0 4 rfl rfl)
theorem dX10_cost_5 : decode cX10_cost 5 = .ok (.getfield 26, 3) := dk_180 0 26 (dk_at dksX10_cost_0 5 rfl rfl)
theorem dX10_cost_8 : decode cX10_cost 8 = .ok (.iadd, 1) := dk_96 (dk_at dksX10_cost_0 8 rfl rfl)
theorem dX10_cost_9 : decode cX10_cost 9 = .ok (.ireturn, 1) := dk_172 (dk_at dksX10_cost_0 9 rfl rfl)
abbrev cX10_failure : ByteArray := prog_14_method_6_code
def yX10_failure : MethodName := ⟨RX10, "failure", "()LBladeBetweenThumbs$Tossed;"⟩
def dkwX10_failure_1 : List UInt8 := [183, 0, 41, 176]
abbrev dktX10_failure_1 : List UInt8 := dkwX10_failure_1 ++ []
def dkwX10_failure_0 : List UInt8 := [42, 183, 0, 32, 76, 43, 199, 0, 7, 1, 167, 0, 17, 187, 0, 36, 89, 43, 180, 0, 38, 16, 100, 96]
abbrev dktX10_failure_0 : List UInt8 := dkwX10_failure_0 ++ dktX10_failure_1
theorem dksX10_failure_0 : cX10_failure.data.toList.drop 0 = dktX10_failure_0 := by decide +kernel
theorem dksX10_failure_1 : cX10_failure.data.toList.drop 24 = dktX10_failure_1 := dk_seg dksX10_failure_0 24 rfl rfl
theorem dX10_failure_0 : decode cX10_failure 0 = .ok (.aload_n 0, 1) := dk_42 (dk_at dksX10_failure_0 0 rfl rfl)
theorem dX10_failure_1 : decode cX10_failure 1 = .ok (.invokespecial 32, 3) := dk_183 0 32 (dk_at dksX10_failure_0 1 rfl rfl)
theorem dX10_failure_4 : decode cX10_failure 4 = .ok (.astore_n 1, 1) := dk_76 (dk_at dksX10_failure_0 4 rfl rfl)
theorem dX10_failure_5 : decode cX10_failure 5 = .ok (.aload_n 1, 1) := dk_43 (dk_at dksX10_failure_0 5 rfl rfl)
theorem dX10_failure_6 : decode cX10_failure 6 = .ok (.ifnonnull 7, 3) := dk_199 0 7 (dk_at dksX10_failure_0 6 rfl rfl)
theorem dX10_failure_9 : decode cX10_failure 9 = .ok (.aconst_null, 1) := dk_1 (dk_at dksX10_failure_0 9 rfl rfl)
theorem dX10_failure_10 : decode cX10_failure 10 = .ok (.goto 17, 3) := dk_167 0 17 (dk_at dksX10_failure_0 10 rfl rfl)
theorem dX10_failure_13 : decode cX10_failure 13 = .ok (.new 36, 3) := dk_187 0 36 (dk_at dksX10_failure_0 13 rfl rfl)
theorem dX10_failure_16 : decode cX10_failure 16 = .ok (.dup, 1) := dk_89 (dk_at dksX10_failure_0 16 rfl rfl)
theorem dX10_failure_17 : decode cX10_failure 17 = .ok (.aload_n 1, 1) := dk_43 (dk_at dksX10_failure_0 17 rfl rfl)
theorem dX10_failure_18 : decode cX10_failure 18 = .ok (.getfield 38, 3) := dk_180 0 38 (dk_at dksX10_failure_0 18 rfl rfl)
theorem dX10_failure_21 : decode cX10_failure 21 = .ok (.bipush 100, 2) := dk_16 100 (dk_at dksX10_failure_0 21 rfl rfl)
theorem dX10_failure_23 : decode cX10_failure 23 = .ok (.iadd, 1) := dk_96 (dk_at dksX10_failure_0 23 rfl rfl)
theorem dX10_failure_24 : decode cX10_failure 24 = .ok (.invokespecial 41, 3) := dk_183 0 41 (dk_at dksX10_failure_1 0 rfl rfl)
theorem dX10_failure_27 : decode cX10_failure 27 = .ok (.areturn, 1) := dk_176 (dk_at dksX10_failure_1 3 rfl rfl)
theorem q85 : (Jvm.Cond.initialized "BladeBetweenThumbs$Sounding") ∈ lw_all := lw_g (lw_at lw_m1 16 rfl) rfl
theorem q341 : (Jvm.Cond.fieldLink "BladeBetweenThumbs$Sounding" (26 : Nat) "BladeBetweenThumbs$Sounding" "figure" "I") ∈ lw_all := lw_g (lw_at lw_m2 32 rfl) rfl
theorem q342 : (Jvm.Cond.sameField "BladeBetweenThumbs$Sounding" "BladeBetweenThumbs$Blow" "figure" "I") ∈ lw_all := lw_g (lw_at lw_m2 33 rfl) rfl
theorem q356 : (Jvm.Cond.instantiable "BladeBetweenThumbs$Sounding" (1 : Nat)) ∈ lw_all := lw_g (lw_at lw_m2 47 rfl) rfl
theorem q358 : (Jvm.Cond.instanceMethod ({ cls := "BladeBetweenThumbs$Sounding", name := "<init>", desc := "(I)V" } : Jvm.MethodName)) ∈ lw_all := lw_g (lw_at lw_m2 49 rfl) rfl
theorem q359 : (Jvm.Cond.code ({ cls := "BladeBetweenThumbs$Sounding", name := "<init>", desc := "(I)V" } : Jvm.MethodName) prog_14_method_1_code (2 : Nat) (Option.none : Option Jvm.ClassFile.FieldType)) ∈ lw_all := lw_g (lw_at lw_m2 50 rfl) rfl
theorem q360 : (Jvm.Cond.methodLink "BladeBetweenThumbs$Sounding" (3 : Nat) ({ cls := "BladeBetweenThumbs$Blow", name := "<init>", desc := "(I)V" } : Jvm.MethodName)) ∈ lw_all := lw_g (lw_at lw_m2 51 rfl) rfl
theorem q361 : (Jvm.Cond.laysFinal "BladeBetweenThumbs$Sounding" "BladeBetweenThumbs$Blow" "figure" "I") ∈ lw_all := lw_g (lw_at lw_m2 52 rfl) rfl
theorem q362 : (Jvm.Cond.superclass "BladeBetweenThumbs$Sounding" "BladeBetweenThumbs$Blow") ∈ lw_all := lw_g (lw_at lw_m2 53 rfl) rfl
theorem q435 : (Jvm.Cond.instanceMethod ({ cls := "BladeBetweenThumbs$Sounding", name := "wears", desc := "(I)I" } : Jvm.MethodName)) ∈ lw_all := lw_g (lw_at lw_m2 126 rfl) rfl
theorem q436 : (Jvm.Cond.code ({ cls := "BladeBetweenThumbs$Sounding", name := "wears", desc := "(I)I" } : Jvm.MethodName) prog_14_method_4_code (2 : Nat) (Option.some Jvm.ClassFile.FieldType.int)) ∈ lw_all := lw_g (lw_at lw_m2 127 rfl) rfl
theorem q450 : (Jvm.Cond.selects "BladeBetweenThumbs$Sounding" ({ cls := "BladeBetweenThumbs$Wears", name := "wears", desc := "(I)I" } : Jvm.MethodName) ({ cls := "BladeBetweenThumbs$Sounding", name := "wears", desc := "(I)I" } : Jvm.MethodName)) ∈ lw_all := lw_g (lw_at lw_m2 141 rfl) rfl
theorem q472 : (Jvm.Cond.instanceMethod ({ cls := "BladeBetweenThumbs$Sounding", name := "low", desc := "(II)I" } : Jvm.MethodName)) ∈ lw_all := lw_g (lw_at lw_m2 163 rfl) rfl
theorem q473 : (Jvm.Cond.code ({ cls := "BladeBetweenThumbs$Sounding", name := "low", desc := "(II)I" } : Jvm.MethodName) prog_14_method_3_code (3 : Nat) (Option.some Jvm.ClassFile.FieldType.int)) ∈ lw_all := lw_g (lw_at lw_m2 164 rfl) rfl
theorem q474 : (Jvm.Cond.methodLink "BladeBetweenThumbs$Sounding" (9 : Nat) ({ cls := "BladeBetweenThumbs$Blow", name := "low", desc := "(II)I" } : Jvm.MethodName)) ∈ lw_all := lw_g (lw_at lw_m2 165 rfl) rfl
theorem q476 : (Jvm.Cond.methodLink "BladeBetweenThumbs$Sounding" (13 : Nat) ({ cls := "java/lang/Math", name := "max", desc := "(II)I" } : Jvm.MethodName)) ∈ lw_all := lw_g (lw_at lw_m2 167 rfl) rfl
theorem q490 : (Jvm.Cond.declares ({ cls := "BladeBetweenThumbs$Sounding", name := "low", desc := "(II)I" } : Jvm.MethodName)) ∈ lw_tbl := lw_at lw_m2 181 rfl
theorem q491 : (Jvm.Cond.selects "BladeBetweenThumbs$Sounding" ({ cls := "BladeBetweenThumbs$Blow", name := "low", desc := "(II)I" } : Jvm.MethodName) ({ cls := "BladeBetweenThumbs$Sounding", name := "low", desc := "(II)I" } : Jvm.MethodName)) ∈ lw_all := lw_g (lw_at lw_m2 182 rfl) rfl
theorem q509 : (Jvm.Cond.unhidden "BladeBetweenThumbs$Sounding" "above" "(I)I") ∈ lw_tbl := lw_at lw_m2 200 rfl
theorem q528 : (Jvm.Cond.sameMethod "BladeBetweenThumbs$Sounding" "BladeBetweenThumbs$Blow" "softest" "(I)I") ∈ lw_all := lw_g (lw_at lw_m2 219 rfl) rfl
theorem q537 : (Jvm.Cond.selects "BladeBetweenThumbs$Sounding" ({ cls := "BladeBetweenThumbs$Blow", name := "softest", desc := "(I)I" } : Jvm.MethodName) ({ cls := "BladeBetweenThumbs$Blow", name := "softest", desc := "(I)I" } : Jvm.MethodName)) ∈ lw_all := lw_g (lw_at lw_m2 228 rfl) rfl
theorem q554 : (Jvm.Cond.unhidden "BladeBetweenThumbs$Sounding" "over" "()I") ∈ lw_tbl := lw_at lw_m3 5 rfl
theorem q594 : (Jvm.Cond.selects "BladeBetweenThumbs$Sounding" ({ cls := "BladeBetweenThumbs$Blow", name := "kind", desc := "()I" } : Jvm.MethodName) ({ cls := "BladeBetweenThumbs$Sounding", name := "kind", desc := "()I" } : Jvm.MethodName)) ∈ lw_all := lw_g (lw_at lw_m3 45 rfl) rfl
theorem q595 : (Jvm.Cond.instanceMethod ({ cls := "BladeBetweenThumbs$Sounding", name := "kind", desc := "()I" } : Jvm.MethodName)) ∈ lw_all := lw_g (lw_at lw_m3 46 rfl) rfl
theorem q596 : (Jvm.Cond.code ({ cls := "BladeBetweenThumbs$Sounding", name := "kind", desc := "()I" } : Jvm.MethodName) prog_14_method_2_code (1 : Nat) (Option.some Jvm.ClassFile.FieldType.int)) ∈ lw_all := lw_g (lw_at lw_m3 47 rfl) rfl
theorem q659 : (Jvm.Cond.unhidden "BladeBetweenThumbs$Sounding" "pitch" "(III)I") ∈ lw_tbl := lw_at lw_m3 110 rfl
theorem q1121 : (Jvm.Cond.instanceMethod ({ cls := "BladeBetweenThumbs$Sounding", name := "cost", desc := "()I" } : Jvm.MethodName)) ∈ lw_all := lw_g (lw_at lw_m5 92 rfl) rfl
theorem q1122 : (Jvm.Cond.code ({ cls := "BladeBetweenThumbs$Sounding", name := "cost", desc := "()I" } : Jvm.MethodName) prog_14_method_5_code (1 : Nat) (Option.some Jvm.ClassFile.FieldType.int)) ∈ lw_all := lw_g (lw_at lw_m5 93 rfl) rfl
theorem q1123 : (Jvm.Cond.methodLink "BladeBetweenThumbs$Sounding" (22 : Nat) ({ cls := "BladeBetweenThumbs$Blow", name := "cost", desc := "()I" } : Jvm.MethodName)) ∈ lw_all := lw_g (lw_at lw_m5 94 rfl) rfl
theorem q1141 : (Jvm.Cond.selects "BladeBetweenThumbs$Sounding" ({ cls := "BladeBetweenThumbs$Blow", name := "cost", desc := "()I" } : Jvm.MethodName) ({ cls := "BladeBetweenThumbs$Sounding", name := "cost", desc := "()I" } : Jvm.MethodName)) ∈ lw_all := lw_g (lw_at lw_m5 112 rfl) rfl
theorem q1156 : (Jvm.Cond.instanceMethod ({ cls := "BladeBetweenThumbs$Sounding", name := "failure", desc := "()LBladeBetweenThumbs$Tossed;" } : Jvm.MethodName)) ∈ lw_all := lw_g (lw_at lw_m5 127 rfl) rfl
theorem q1157 : (Jvm.Cond.code ({ cls := "BladeBetweenThumbs$Sounding", name := "failure", desc := "()LBladeBetweenThumbs$Tossed;" } : Jvm.MethodName) prog_14_method_6_code (2 : Nat) (Option.some (Jvm.ClassFile.FieldType.object "BladeBetweenThumbs$Tossed"))) ∈ lw_all := lw_g (lw_at lw_m5 128 rfl) rfl
theorem q1158 : (Jvm.Cond.methodLink "BladeBetweenThumbs$Sounding" (32 : Nat) ({ cls := "BladeBetweenThumbs$Blow", name := "failure", desc := "()LBladeBetweenThumbs$Tossed;" } : Jvm.MethodName)) ∈ lw_all := lw_g (lw_at lw_m5 129 rfl) rfl
theorem q1174 : (Jvm.Cond.fieldLink "BladeBetweenThumbs$Sounding" (38 : Nat) "BladeBetweenThumbs$Tossed" "n" "I") ∈ lw_all := lw_g (lw_at lw_m5 145 rfl) rfl
theorem q1180 : (Jvm.Cond.classLink "BladeBetweenThumbs$Sounding" (36 : Nat) "BladeBetweenThumbs$Tossed") ∈ lw_all := lw_g (lw_at lw_m5 151 rfl) rfl
theorem q1181 : (Jvm.Cond.methodLink "BladeBetweenThumbs$Sounding" (41 : Nat) ({ cls := "BladeBetweenThumbs$Tossed", name := "<init>", desc := "(I)V" } : Jvm.MethodName)) ∈ lw_all := lw_g (lw_at lw_m5 152 rfl) rfl
theorem q1194 : (Jvm.Cond.selects "BladeBetweenThumbs$Sounding" ({ cls := "BladeBetweenThumbs$Blow", name := "failure", desc := "()LBladeBetweenThumbs$Tossed;" } : Jvm.MethodName) ({ cls := "BladeBetweenThumbs$Sounding", name := "failure", desc := "()LBladeBetweenThumbs$Tossed;" } : Jvm.MethodName)) ∈ lw_all := lw_g (lw_at lw_m5 165 rfl) rfl
theorem q1718 : (Jvm.Cond.sameMethod "BladeBetweenThumbs$Sounding" "BladeBetweenThumbs$Sounding" "wears" "(I)I") ∈ lw_all := lw_g (lw_at lw_m7 209 rfl) rfl
theorem q1719 : (Jvm.Cond.sameMethod "BladeBetweenThumbs$Sounding" "BladeBetweenThumbs$Sounding" "low" "(II)I") ∈ lw_all := lw_g (lw_at lw_m7 210 rfl) rfl
theorem q1720 : (Jvm.Cond.sameMethod "BladeBetweenThumbs$Sounding" "BladeBetweenThumbs$Sounding" "cost" "()I") ∈ lw_all := lw_g (lw_at lw_m7 211 rfl) rfl
theorem q1723 : (Jvm.Cond.sameMethod "BladeBetweenThumbs$Sounding" "BladeBetweenThumbs$Sounding" "failure" "()LBladeBetweenThumbs$Tossed;") ∈ lw_all := lw_g (lw_at lw_m7 214 rfl) rfl
theorem q1735 : (Jvm.Cond.castable "BladeBetweenThumbs$Sounding" "BladeBetweenThumbs$Blow") ∈ lw_tbl := lw_at lw_m7 226 rfl
theorem in_X10 : ∀ w ∈ wsX100, w ∈ lw_all := lw_in wsX100 [361] (by decide +kernel) (by decide +kernel)

/-! BladeBetweenThumbs$Shrieking -/
set_option maxRecDepth 100000
def RX11 : String := "BladeBetweenThumbs$Shrieking"
def TX11 : u_T := fun k => match k with
  | _ => ("BladeBetweenThumbs$Blow", "figure", "I", true)
def tyX11 : Nat → FieldType := fun k => match k with
  | _ => .int
abbrev wsX110 : List Cond := u_ws RX11 TX11 1
theorem nmX11 : ∀ a, a < 1 → ∀ b, b < 1 → a ≠ b → (TX11 a).2.1 ≠ (TX11 b).2.1 := by decide +kernel
theorem tyX11_ok : ∀ k, k < 1 → parseFieldDescriptor (TX11 k).2.2.1 = some (tyX11 k) := by decide +kernel
abbrev cX11_init : ByteArray := prog_11_method_1_code
def yX11_init : MethodName := ⟨RX11, "<init>", "(I)V"⟩
def dkwX11_init_0 : List UInt8 := [42, 27, 183, 0, 3, 177]
abbrev dktX11_init_0 : List UInt8 := dkwX11_init_0 ++ []
theorem dksX11_init_0 : cX11_init.data.toList.drop 0 = dktX11_init_0 := by decide +kernel
theorem dX11_init_0 : decode cX11_init 0 = .ok (.aload_n 0, 1) := dk_42 (dk_at dksX11_init_0 0 rfl rfl)
theorem dX11_init_1 : decode cX11_init 1 = .ok (.iload_n 1, 1) := dk_27 (dk_at dksX11_init_0 1 rfl rfl)
theorem dX11_init_2 : decode cX11_init 2 = .ok (.invokespecial 3, 3) := dk_183 0 3 (dk_at dksX11_init_0 2 rfl rfl)
theorem dX11_init_5 : decode cX11_init 5 = .ok (.return_, 1) := dk_177 (dk_at dksX11_init_0 5 rfl rfl)
abbrev cX11_wears : ByteArray := prog_11_method_7_code
def yX11_wears : MethodName := ⟨RX11, "wears", "(I)I"⟩
def dkwX11_wears_0 : List UInt8 := [5, 42, 27, 183, 0, 24, 104, 172]
abbrev dktX11_wears_0 : List UInt8 := dkwX11_wears_0 ++ []
theorem dksX11_wears_0 : cX11_wears.data.toList.drop 0 = dktX11_wears_0 := by decide +kernel
theorem dX11_wears_0 : decode cX11_wears 0 = .ok (.iconst 2, 1) := dk_5 (dk_at dksX11_wears_0 0 rfl rfl)
theorem dX11_wears_1 : decode cX11_wears 1 = .ok (.aload_n 0, 1) := dk_42 (dk_at dksX11_wears_0 1 rfl rfl)
theorem dX11_wears_2 : decode cX11_wears 2 = .ok (.iload_n 1, 1) := dk_27 (dk_at dksX11_wears_0 2 rfl rfl)
theorem dX11_wears_3 : decode cX11_wears 3 = .ok (.invokespecial 24, 3) := dk_183 0 24 (dk_at dksX11_wears_0 3 rfl rfl)
theorem dX11_wears_6 : decode cX11_wears 6 = .ok (.imul, 1) := dk_104 (dk_at dksX11_wears_0 6 rfl rfl)
theorem dX11_wears_7 : decode cX11_wears 7 = .ok (.ireturn, 1) := dk_172 (dk_at dksX11_wears_0 7 rfl rfl)
abbrev cX11_low : ByteArray := prog_11_method_3_code
def yX11_low : MethodName := ⟨RX11, "low", "(II)I"⟩
def dkwX11_low_0 : List UInt8 := [42, 27, 28, 183, 0, 9, 16, 10, 96, 172]
abbrev dktX11_low_0 : List UInt8 := dkwX11_low_0 ++ []
theorem dksX11_low_0 : cX11_low.data.toList.drop 0 = dktX11_low_0 := by decide +kernel
theorem dX11_low_0 : decode cX11_low 0 = .ok (.aload_n 0, 1) := dk_42 (dk_at dksX11_low_0 0 rfl rfl)
theorem dX11_low_1 : decode cX11_low 1 = .ok (.iload_n 1, 1) := dk_27 (dk_at dksX11_low_0 1 rfl rfl)
theorem dX11_low_2 : decode cX11_low 2 = .ok (.iload_n 2, 1) := dk_28 (dk_at dksX11_low_0 2 rfl rfl)
theorem dX11_low_3 : decode cX11_low 3 = .ok (.invokespecial 9, 3) := dk_183 0 9 (dk_at dksX11_low_0 3 rfl rfl)
theorem dX11_low_6 : decode cX11_low 6 = .ok (.bipush 10, 2) := dk_16 10 (dk_at dksX11_low_0 6 rfl rfl)
theorem dX11_low_8 : decode cX11_low 8 = .ok (.iadd, 1) := dk_96 (dk_at dksX11_low_0 8 rfl rfl)
theorem dX11_low_9 : decode cX11_low 9 = .ok (.ireturn, 1) := dk_172 (dk_at dksX11_low_0 9 rfl rfl)
abbrev cX11_above : ByteArray := prog_11_method_4_code
def yX11_above : MethodName := ⟨RX11, "above", "(I)I"⟩
def dkwX11_above_0 : List UInt8 := [42, 27, 183, 0, 13, 5, 108, 172]
abbrev dktX11_above_0 : List UInt8 := dkwX11_above_0 ++ []
theorem dksX11_above_0 : cX11_above.data.toList.drop 0 = dktX11_above_0 := by decide +kernel
theorem dX11_above_0 : decode cX11_above 0 = .ok (.aload_n 0, 1) := dk_42 (dk_at dksX11_above_0 0 rfl rfl)
theorem dX11_above_1 : decode cX11_above 1 = .ok (.iload_n 1, 1) := dk_27 (dk_at dksX11_above_0 1 rfl rfl)
theorem dX11_above_2 : decode cX11_above 2 = .ok (.invokespecial 13, 3) := dk_183 0 13 (dk_at dksX11_above_0 2 rfl rfl)
theorem dX11_above_5 : decode cX11_above 5 = .ok (.iconst 2, 1) := dk_5 (dk_at dksX11_above_0 5 rfl rfl)
theorem dX11_above_6 : decode cX11_above 6 = .ok (.idiv, 1) := dk_108 (dk_at dksX11_above_0 6 rfl rfl)
theorem dX11_above_7 : decode cX11_above 7 = .ok (.ireturn, 1) := dk_172 (dk_at dksX11_above_0 7 rfl rfl)
abbrev cX11_softest : ByteArray := prog_11_method_5_code
def yX11_softest : MethodName := ⟨RX11, "softest", "(I)I"⟩
def dkwX11_softest_0 : List UInt8 := [5, 42, 27, 183, 0, 17, 104, 172]
abbrev dktX11_softest_0 : List UInt8 := dkwX11_softest_0 ++ []
theorem dksX11_softest_0 : cX11_softest.data.toList.drop 0 = dktX11_softest_0 := by decide +kernel
theorem dX11_softest_0 : decode cX11_softest 0 = .ok (.iconst 2, 1) := dk_5 (dk_at dksX11_softest_0 0 rfl rfl)
theorem dX11_softest_1 : decode cX11_softest 1 = .ok (.aload_n 0, 1) := dk_42 (dk_at dksX11_softest_0 1 rfl rfl)
theorem dX11_softest_2 : decode cX11_softest 2 = .ok (.iload_n 1, 1) := dk_27 (dk_at dksX11_softest_0 2 rfl rfl)
theorem dX11_softest_3 : decode cX11_softest 3 = .ok (.invokespecial 17, 3) := dk_183 0 17 (dk_at dksX11_softest_0 3 rfl rfl)
theorem dX11_softest_6 : decode cX11_softest 6 = .ok (.imul, 1) := dk_104 (dk_at dksX11_softest_0 6 rfl rfl)
theorem dX11_softest_7 : decode cX11_softest 7 = .ok (.ireturn, 1) := dk_172 (dk_at dksX11_softest_0 7 rfl rfl)
abbrev cX11_kind : ByteArray := prog_11_method_2_code
def yX11_kind : MethodName := ⟨RX11, "kind", "()I"⟩
theorem dX11_kind_0 : decode cX11_kind 0 = .ok (.iconst 3, 1) := by decide +kernel
theorem dX11_kind_1 : decode cX11_kind 1 = .ok (.ireturn, 1) := by decide +kernel
abbrev cX11_pitch : ByteArray := prog_11_method_6_code
def yX11_pitch : MethodName := ⟨RX11, "pitch", "(III)I"⟩
def dkwX11_pitch_0 : List UInt8 := [42, 27, 28, 29, 183, 0, 20, 16, 12, 96, 172]
abbrev dktX11_pitch_0 : List UInt8 := dkwX11_pitch_0 ++ []
theorem dksX11_pitch_0 : cX11_pitch.data.toList.drop 0 = dktX11_pitch_0 := by decide +kernel
theorem dX11_pitch_0 : decode cX11_pitch 0 = .ok (.aload_n 0, 1) := dk_42 (dk_at dksX11_pitch_0 0 rfl rfl)
theorem dX11_pitch_1 : decode cX11_pitch 1 = .ok (.iload_n 1, 1) := dk_27 (dk_at dksX11_pitch_0 1 rfl rfl)
theorem dX11_pitch_2 : decode cX11_pitch 2 = .ok (.iload_n 2, 1) := dk_28 (dk_at dksX11_pitch_0 2 rfl rfl)
theorem dX11_pitch_3 : decode cX11_pitch 3 = .ok (.iload_n 3, 1) := dk_29 (dk_at dksX11_pitch_0 3 rfl rfl)
theorem dX11_pitch_4 : decode cX11_pitch 4 = .ok (.invokespecial 20, 3) := dk_183 0 20 (dk_at dksX11_pitch_0 4 rfl rfl)
theorem dX11_pitch_7 : decode cX11_pitch 7 = .ok (.bipush 12, 2) := dk_16 12 (dk_at dksX11_pitch_0 7 rfl rfl)
theorem dX11_pitch_9 : decode cX11_pitch 9 = .ok (.iadd, 1) := dk_96 (dk_at dksX11_pitch_0 9 rfl rfl)
theorem dX11_pitch_10 : decode cX11_pitch 10 = .ok (.ireturn, 1) := dk_172 (dk_at dksX11_pitch_0 10 rfl rfl)
abbrev cX11_cost : ByteArray := prog_11_method_8_code
def yX11_cost : MethodName := ⟨RX11, "cost", "()I"⟩
def dkwX11_cost_0 : List UInt8 := [5, 42, 183, 0, 27, 104, 172]
abbrev dktX11_cost_0 : List UInt8 := dkwX11_cost_0 ++ []
theorem dksX11_cost_0 : cX11_cost.data.toList.drop 0 = dktX11_cost_0 := by decide +kernel
theorem dX11_cost_0 : decode cX11_cost 0 = .ok (.iconst 2, 1) := dk_5 (dk_at dksX11_cost_0 0 rfl rfl)
theorem dX11_cost_1 : decode cX11_cost 1 = .ok (.aload_n 0, 1) := dk_42 (dk_at dksX11_cost_0 1 rfl rfl)
theorem dX11_cost_2 : decode cX11_cost 2 = .ok (.invokespecial 27, 3) := dk_183 0 27 (dk_at dksX11_cost_0 2 rfl rfl)
theorem dX11_cost_5 : decode cX11_cost 5 = .ok (.imul, 1) := dk_104 (dk_at dksX11_cost_0 5 rfl rfl)
theorem dX11_cost_6 : decode cX11_cost 6 = .ok (.ireturn, 1) := dk_172 (dk_at dksX11_cost_0 6 rfl rfl)
abbrev cX11_failure : ByteArray := prog_11_method_9_code
def yX11_failure : MethodName := ⟨RX11, "failure", "()LBladeBetweenThumbs$Tossed;"⟩
def dkwX11_failure_1 : List UInt8 := [183, 0, 40, 176]
abbrev dktX11_failure_1 : List UInt8 := dkwX11_failure_1 ++ []
def dkwX11_failure_0 : List UInt8 := [42, 183, 0, 31, 199, 0, 7, 1, 167, 0, 18, 187, 0, 35, 89, 17, 0, 200, 42, 182, 0, 37, 96]
abbrev dktX11_failure_0 : List UInt8 := dkwX11_failure_0 ++ dktX11_failure_1
theorem dksX11_failure_0 : cX11_failure.data.toList.drop 0 = dktX11_failure_0 := by decide +kernel
theorem dksX11_failure_1 : cX11_failure.data.toList.drop 23 = dktX11_failure_1 := dk_seg dksX11_failure_0 23 rfl rfl
theorem dX11_failure_0 : decode cX11_failure 0 = .ok (.aload_n 0, 1) := dk_42 (dk_at dksX11_failure_0 0 rfl rfl)
theorem dX11_failure_1 : decode cX11_failure 1 = .ok (.invokespecial 31, 3) := dk_183 0 31 (dk_at dksX11_failure_0 1 rfl rfl)
theorem dX11_failure_4 : decode cX11_failure 4 = .ok (.ifnonnull 7, 3) := dk_199 0 7 (dk_at dksX11_failure_0 4 rfl rfl)
theorem dX11_failure_7 : decode cX11_failure 7 = .ok (.aconst_null, 1) := dk_1 (dk_at dksX11_failure_0 7 rfl rfl)
theorem dX11_failure_8 : decode cX11_failure 8 = .ok (.goto 18, 3) := dk_167 0 18 (dk_at dksX11_failure_0 8 rfl rfl)
theorem dX11_failure_11 : decode cX11_failure 11 = .ok (.new 35, 3) := dk_187 0 35 (dk_at dksX11_failure_0 11 rfl rfl)
theorem dX11_failure_14 : decode cX11_failure 14 = .ok (.dup, 1) := dk_89 (dk_at dksX11_failure_0 14 rfl rfl)
theorem dX11_failure_15 : decode cX11_failure 15 = .ok (.sipush 200, 3) := dk_17 0 200 (dk_at dksX11_failure_0 15 rfl rfl)
theorem dX11_failure_18 : decode cX11_failure 18 = .ok (.aload_n 0, 1) := dk_42 (dk_at dksX11_failure_0 18 rfl rfl)
theorem dX11_failure_19 : decode cX11_failure 19 = .ok (.invokevirtual 37, 3) := dk_182 0 37 (dk_at dksX11_failure_0 19 rfl rfl)
theorem dX11_failure_22 : decode cX11_failure 22 = .ok (.iadd, 1) := dk_96 (dk_at dksX11_failure_0 22 rfl rfl)
theorem dX11_failure_23 : decode cX11_failure 23 = .ok (.invokespecial 40, 3) := dk_183 0 40 (dk_at dksX11_failure_1 0 rfl rfl)
theorem dX11_failure_26 : decode cX11_failure 26 = .ok (.areturn, 1) := dk_176 (dk_at dksX11_failure_1 3 rfl rfl)
theorem q86 : (Jvm.Cond.initialized "BladeBetweenThumbs$Shrieking") ∈ lw_all := lw_g (lw_at lw_m1 17 rfl) rfl
theorem q364 : (Jvm.Cond.instantiable "BladeBetweenThumbs$Shrieking" (1 : Nat)) ∈ lw_all := lw_g (lw_at lw_m2 55 rfl) rfl
theorem q366 : (Jvm.Cond.instanceMethod ({ cls := "BladeBetweenThumbs$Shrieking", name := "<init>", desc := "(I)V" } : Jvm.MethodName)) ∈ lw_all := lw_g (lw_at lw_m2 57 rfl) rfl
theorem q367 : (Jvm.Cond.code ({ cls := "BladeBetweenThumbs$Shrieking", name := "<init>", desc := "(I)V" } : Jvm.MethodName) prog_11_method_1_code (2 : Nat) (Option.none : Option Jvm.ClassFile.FieldType)) ∈ lw_all := lw_g (lw_at lw_m2 58 rfl) rfl
theorem q368 : (Jvm.Cond.methodLink "BladeBetweenThumbs$Shrieking" (3 : Nat) ({ cls := "BladeBetweenThumbs$Sounding", name := "<init>", desc := "(I)V" } : Jvm.MethodName)) ∈ lw_all := lw_g (lw_at lw_m2 59 rfl) rfl
theorem q369 : (Jvm.Cond.laysFinal "BladeBetweenThumbs$Shrieking" "BladeBetweenThumbs$Blow" "figure" "I") ∈ lw_all := lw_g (lw_at lw_m2 60 rfl) rfl
theorem q370 : (Jvm.Cond.superclass "BladeBetweenThumbs$Shrieking" "BladeBetweenThumbs$Sounding") ∈ lw_all := lw_g (lw_at lw_m2 61 rfl) rfl
theorem q440 : (Jvm.Cond.selects "BladeBetweenThumbs$Shrieking" ({ cls := "BladeBetweenThumbs$Wears", name := "wears", desc := "(I)I" } : Jvm.MethodName) ({ cls := "BladeBetweenThumbs$Shrieking", name := "wears", desc := "(I)I" } : Jvm.MethodName)) ∈ lw_all := lw_g (lw_at lw_m2 131 rfl) rfl
theorem q441 : (Jvm.Cond.instanceMethod ({ cls := "BladeBetweenThumbs$Shrieking", name := "wears", desc := "(I)I" } : Jvm.MethodName)) ∈ lw_all := lw_g (lw_at lw_m2 132 rfl) rfl
theorem q442 : (Jvm.Cond.code ({ cls := "BladeBetweenThumbs$Shrieking", name := "wears", desc := "(I)I" } : Jvm.MethodName) prog_11_method_7_code (2 : Nat) (Option.some Jvm.ClassFile.FieldType.int)) ∈ lw_all := lw_g (lw_at lw_m2 133 rfl) rfl
theorem q443 : (Jvm.Cond.methodLink "BladeBetweenThumbs$Shrieking" (24 : Nat) ({ cls := "BladeBetweenThumbs$Sounding", name := "wears", desc := "(I)I" } : Jvm.MethodName)) ∈ lw_all := lw_g (lw_at lw_m2 134 rfl) rfl
theorem q480 : (Jvm.Cond.selects "BladeBetweenThumbs$Shrieking" ({ cls := "BladeBetweenThumbs$Blow", name := "low", desc := "(II)I" } : Jvm.MethodName) ({ cls := "BladeBetweenThumbs$Shrieking", name := "low", desc := "(II)I" } : Jvm.MethodName)) ∈ lw_all := lw_g (lw_at lw_m2 171 rfl) rfl
theorem q481 : (Jvm.Cond.instanceMethod ({ cls := "BladeBetweenThumbs$Shrieking", name := "low", desc := "(II)I" } : Jvm.MethodName)) ∈ lw_all := lw_g (lw_at lw_m2 172 rfl) rfl
theorem q482 : (Jvm.Cond.code ({ cls := "BladeBetweenThumbs$Shrieking", name := "low", desc := "(II)I" } : Jvm.MethodName) prog_11_method_3_code (3 : Nat) (Option.some Jvm.ClassFile.FieldType.int)) ∈ lw_all := lw_g (lw_at lw_m2 173 rfl) rfl
theorem q483 : (Jvm.Cond.methodLink "BladeBetweenThumbs$Shrieking" (9 : Nat) ({ cls := "BladeBetweenThumbs$Sounding", name := "low", desc := "(II)I" } : Jvm.MethodName)) ∈ lw_all := lw_g (lw_at lw_m2 174 rfl) rfl
theorem q502 : (Jvm.Cond.selects "BladeBetweenThumbs$Shrieking" ({ cls := "BladeBetweenThumbs$Stretches", name := "above", desc := "(I)I" } : Jvm.MethodName) ({ cls := "BladeBetweenThumbs$Shrieking", name := "above", desc := "(I)I" } : Jvm.MethodName)) ∈ lw_all := lw_g (lw_at lw_m2 193 rfl) rfl
theorem q503 : (Jvm.Cond.instanceMethod ({ cls := "BladeBetweenThumbs$Shrieking", name := "above", desc := "(I)I" } : Jvm.MethodName)) ∈ lw_all := lw_g (lw_at lw_m2 194 rfl) rfl
theorem q504 : (Jvm.Cond.code ({ cls := "BladeBetweenThumbs$Shrieking", name := "above", desc := "(I)I" } : Jvm.MethodName) prog_11_method_4_code (2 : Nat) (Option.some Jvm.ClassFile.FieldType.int)) ∈ lw_all := lw_g (lw_at lw_m2 195 rfl) rfl
theorem q524 : (Jvm.Cond.selects "BladeBetweenThumbs$Shrieking" ({ cls := "BladeBetweenThumbs$Blow", name := "softest", desc := "(I)I" } : Jvm.MethodName) ({ cls := "BladeBetweenThumbs$Shrieking", name := "softest", desc := "(I)I" } : Jvm.MethodName)) ∈ lw_all := lw_g (lw_at lw_m2 215 rfl) rfl
theorem q525 : (Jvm.Cond.instanceMethod ({ cls := "BladeBetweenThumbs$Shrieking", name := "softest", desc := "(I)I" } : Jvm.MethodName)) ∈ lw_all := lw_g (lw_at lw_m2 216 rfl) rfl
theorem q526 : (Jvm.Cond.code ({ cls := "BladeBetweenThumbs$Shrieking", name := "softest", desc := "(I)I" } : Jvm.MethodName) prog_11_method_5_code (2 : Nat) (Option.some Jvm.ClassFile.FieldType.int)) ∈ lw_all := lw_g (lw_at lw_m2 217 rfl) rfl
theorem q527 : (Jvm.Cond.methodLink "BladeBetweenThumbs$Shrieking" (17 : Nat) ({ cls := "BladeBetweenThumbs$Sounding", name := "softest", desc := "(I)I" } : Jvm.MethodName)) ∈ lw_all := lw_g (lw_at lw_m2 218 rfl) rfl
theorem q547 : (Jvm.Cond.unhidden "BladeBetweenThumbs$Shrieking" "over" "()I") ∈ lw_tbl := lw_at lw_m2 238 rfl
theorem q585 : (Jvm.Cond.selects "BladeBetweenThumbs$Shrieking" ({ cls := "BladeBetweenThumbs$Blow", name := "kind", desc := "()I" } : Jvm.MethodName) ({ cls := "BladeBetweenThumbs$Shrieking", name := "kind", desc := "()I" } : Jvm.MethodName)) ∈ lw_all := lw_g (lw_at lw_m3 36 rfl) rfl
theorem q586 : (Jvm.Cond.instanceMethod ({ cls := "BladeBetweenThumbs$Shrieking", name := "kind", desc := "()I" } : Jvm.MethodName)) ∈ lw_all := lw_g (lw_at lw_m3 37 rfl) rfl
theorem q587 : (Jvm.Cond.code ({ cls := "BladeBetweenThumbs$Shrieking", name := "kind", desc := "()I" } : Jvm.MethodName) prog_11_method_2_code (1 : Nat) (Option.some Jvm.ClassFile.FieldType.int)) ∈ lw_all := lw_g (lw_at lw_m3 38 rfl) rfl
theorem q654 : (Jvm.Cond.selects "BladeBetweenThumbs$Shrieking" ({ cls := "BladeBetweenThumbs$Sounds", name := "pitch", desc := "(III)I" } : Jvm.MethodName) ({ cls := "BladeBetweenThumbs$Shrieking", name := "pitch", desc := "(III)I" } : Jvm.MethodName)) ∈ lw_all := lw_g (lw_at lw_m3 105 rfl) rfl
theorem q655 : (Jvm.Cond.instanceMethod ({ cls := "BladeBetweenThumbs$Shrieking", name := "pitch", desc := "(III)I" } : Jvm.MethodName)) ∈ lw_all := lw_g (lw_at lw_m3 106 rfl) rfl
theorem q656 : (Jvm.Cond.code ({ cls := "BladeBetweenThumbs$Shrieking", name := "pitch", desc := "(III)I" } : Jvm.MethodName) prog_11_method_6_code (4 : Nat) (Option.some Jvm.ClassFile.FieldType.int)) ∈ lw_all := lw_g (lw_at lw_m3 107 rfl) rfl
theorem q1129 : (Jvm.Cond.selects "BladeBetweenThumbs$Shrieking" ({ cls := "BladeBetweenThumbs$Blow", name := "cost", desc := "()I" } : Jvm.MethodName) ({ cls := "BladeBetweenThumbs$Shrieking", name := "cost", desc := "()I" } : Jvm.MethodName)) ∈ lw_all := lw_g (lw_at lw_m5 100 rfl) rfl
theorem q1130 : (Jvm.Cond.instanceMethod ({ cls := "BladeBetweenThumbs$Shrieking", name := "cost", desc := "()I" } : Jvm.MethodName)) ∈ lw_all := lw_g (lw_at lw_m5 101 rfl) rfl
theorem q1131 : (Jvm.Cond.code ({ cls := "BladeBetweenThumbs$Shrieking", name := "cost", desc := "()I" } : Jvm.MethodName) prog_11_method_8_code (1 : Nat) (Option.some Jvm.ClassFile.FieldType.int)) ∈ lw_all := lw_g (lw_at lw_m5 102 rfl) rfl
theorem q1132 : (Jvm.Cond.methodLink "BladeBetweenThumbs$Shrieking" (27 : Nat) ({ cls := "BladeBetweenThumbs$Sounding", name := "cost", desc := "()I" } : Jvm.MethodName)) ∈ lw_all := lw_g (lw_at lw_m5 103 rfl) rfl
theorem q1185 : (Jvm.Cond.selects "BladeBetweenThumbs$Shrieking" ({ cls := "BladeBetweenThumbs$Blow", name := "failure", desc := "()LBladeBetweenThumbs$Tossed;" } : Jvm.MethodName) ({ cls := "BladeBetweenThumbs$Shrieking", name := "failure", desc := "()LBladeBetweenThumbs$Tossed;" } : Jvm.MethodName)) ∈ lw_all := lw_g (lw_at lw_m5 156 rfl) rfl
theorem q1186 : (Jvm.Cond.instanceMethod ({ cls := "BladeBetweenThumbs$Shrieking", name := "failure", desc := "()LBladeBetweenThumbs$Tossed;" } : Jvm.MethodName)) ∈ lw_all := lw_g (lw_at lw_m5 157 rfl) rfl
theorem q1187 : (Jvm.Cond.code ({ cls := "BladeBetweenThumbs$Shrieking", name := "failure", desc := "()LBladeBetweenThumbs$Tossed;" } : Jvm.MethodName) prog_11_method_9_code (1 : Nat) (Option.some (Jvm.ClassFile.FieldType.object "BladeBetweenThumbs$Tossed"))) ∈ lw_all := lw_g (lw_at lw_m5 158 rfl) rfl
theorem q1188 : (Jvm.Cond.methodLink "BladeBetweenThumbs$Shrieking" (31 : Nat) ({ cls := "BladeBetweenThumbs$Sounding", name := "failure", desc := "()LBladeBetweenThumbs$Tossed;" } : Jvm.MethodName)) ∈ lw_all := lw_g (lw_at lw_m5 159 rfl) rfl
theorem q1189 : (Jvm.Cond.classLink "BladeBetweenThumbs$Shrieking" (35 : Nat) "BladeBetweenThumbs$Tossed") ∈ lw_all := lw_g (lw_at lw_m5 160 rfl) rfl
theorem q1190 : (Jvm.Cond.methodLink "BladeBetweenThumbs$Shrieking" (37 : Nat) ({ cls := "BladeBetweenThumbs$Shrieking", name := "cost", desc := "()I" } : Jvm.MethodName)) ∈ lw_all := lw_g (lw_at lw_m5 161 rfl) rfl
theorem q1191 : (Jvm.Cond.methodLink "BladeBetweenThumbs$Shrieking" (40 : Nat) ({ cls := "BladeBetweenThumbs$Tossed", name := "<init>", desc := "(I)V" } : Jvm.MethodName)) ∈ lw_all := lw_g (lw_at lw_m5 162 rfl) rfl
theorem q1724 : (Jvm.Cond.selects "BladeBetweenThumbs$Shrieking" ({ cls := "BladeBetweenThumbs$Shrieking", name := "cost", desc := "()I" } : Jvm.MethodName) ({ cls := "BladeBetweenThumbs$Shrieking", name := "cost", desc := "()I" } : Jvm.MethodName)) ∈ lw_all := lw_g (lw_at lw_m7 215 rfl) rfl
theorem q1732 : (Jvm.Cond.castable "BladeBetweenThumbs$Shrieking" "BladeBetweenThumbs$Blow") ∈ lw_tbl := lw_at lw_m7 223 rfl
theorem in_X11 : ∀ w ∈ wsX110, w ∈ lw_all := lw_in wsX110 [369] (by decide +kernel) (by decide +kernel)

/-! BladeBetweenThumbs$Splitting -/
set_option maxRecDepth 100000
def RX12 : String := "BladeBetweenThumbs$Splitting"
def TX12 : u_T := fun k => match k with
  | _ => ("BladeBetweenThumbs$Blow", "figure", "I", true)
def tyX12 : Nat → FieldType := fun k => match k with
  | _ => .int
abbrev wsX120 : List Cond := u_ws RX12 TX12 1
theorem nmX12 : ∀ a, a < 1 → ∀ b, b < 1 → a ≠ b → (TX12 a).2.1 ≠ (TX12 b).2.1 := by decide +kernel
theorem tyX12_ok : ∀ k, k < 1 → parseFieldDescriptor (TX12 k).2.2.1 = some (tyX12 k) := by decide +kernel
abbrev cX12_init : ByteArray := prog_16_method_1_code
def yX12_init : MethodName := ⟨RX12, "<init>", "(I)V"⟩
def dkwX12_init_0 : List UInt8 := [42, 27, 183, 0, 3, 177]
abbrev dktX12_init_0 : List UInt8 := dkwX12_init_0 ++ []
theorem dksX12_init_0 : cX12_init.data.toList.drop 0 = dktX12_init_0 := by decide +kernel
theorem dX12_init_0 : decode cX12_init 0 = .ok (.aload_n 0, 1) := dk_42 (dk_at dksX12_init_0 0 rfl rfl)
theorem dX12_init_1 : decode cX12_init 1 = .ok (.iload_n 1, 1) := dk_27 (dk_at dksX12_init_0 1 rfl rfl)
theorem dX12_init_2 : decode cX12_init 2 = .ok (.invokespecial 3, 3) := dk_183 0 3 (dk_at dksX12_init_0 2 rfl rfl)
theorem dX12_init_5 : decode cX12_init 5 = .ok (.return_, 1) := dk_177 (dk_at dksX12_init_0 5 rfl rfl)
abbrev cX12_wears : ByteArray := prog_16_method_5_code
def yX12_wears : MethodName := ⟨RX12, "wears", "(I)I"⟩
def dkwX12_wears_0 : List UInt8 := [42, 27, 183, 0, 23, 42, 180, 0, 13, 96, 172]
abbrev dktX12_wears_0 : List UInt8 := dkwX12_wears_0 ++ []
theorem dksX12_wears_0 : cX12_wears.data.toList.drop 0 = dktX12_wears_0 := by decide +kernel
theorem dX12_wears_0 : decode cX12_wears 0 = .ok (.aload_n 0, 1) := dk_42 (dk_at dksX12_wears_0 0 rfl rfl)
theorem dX12_wears_1 : decode cX12_wears 1 = .ok (.iload_n 1, 1) := dk_27 (dk_at dksX12_wears_0 1 rfl rfl)
theorem dX12_wears_2 : decode cX12_wears 2 = .ok (.invokespecial 23, 3) := dk_183 0 23 (dk_at dksX12_wears_0 2 rfl rfl)
theorem dX12_wears_5 : decode cX12_wears 5 = .ok (.aload_n 0, 1) := dk_42 (dk_at dksX12_wears_0 5 rfl rfl)
theorem dX12_wears_6 : decode cX12_wears 6 = .ok (.getfield 13, 3) := dk_180 0 13 (dk_at dksX12_wears_0 6 rfl rfl)
theorem dX12_wears_9 : decode cX12_wears 9 = .ok (.iadd, 1) := dk_96 (dk_at dksX12_wears_0 9 rfl rfl)
theorem dX12_wears_10 : decode cX12_wears 10 = .ok (.ireturn, 1) := dk_172 (dk_at dksX12_wears_0 10 rfl rfl)
abbrev cX12_over : ByteArray := prog_16_method_3_code
def yX12_over : MethodName := ⟨RX12, "over", "()I"⟩
def dkwX12_over_0 : List UInt8 := [42, 183, 0, 9, 42, 180, 0, 13, 100, 172]
abbrev dktX12_over_0 : List UInt8 := dkwX12_over_0 ++ []
theorem dksX12_over_0 : cX12_over.data.toList.drop 0 = dktX12_over_0 := by decide +kernel
theorem dX12_over_0 : decode cX12_over 0 = .ok (.aload_n 0, 1) := dk_42 (dk_at dksX12_over_0 0 rfl rfl)
theorem dX12_over_1 : decode cX12_over 1 = .ok (.invokespecial 9, 3) := dk_183 0 9 (dk_at dksX12_over_0 1 rfl rfl)
theorem dX12_over_4 : decode cX12_over 4 = .ok (.aload_n 0, 1) := dk_42 (dk_at dksX12_over_0 4 rfl rfl)
theorem dX12_over_5 : decode cX12_over 5 = .ok (.getfield 13, 3) := dk_180 0 13 (dk_at dksX12_over_0 5 rfl rfl)
theorem dX12_over_8 : decode cX12_over 8 = .ok (.isub, 1) := dk_100 (dk_at dksX12_over_0 8 rfl rfl)
theorem dX12_over_9 : decode cX12_over 9 = .ok (.ireturn, 1) := dk_172 (dk_at dksX12_over_0 9 rfl rfl)
abbrev cX12_kind : ByteArray := prog_16_method_2_code
def yX12_kind : MethodName := ⟨RX12, "kind", "()I"⟩
theorem dX12_kind_0 : decode cX12_kind 0 = .ok (.iconst 4, 1) := by decide +kernel
theorem dX12_kind_1 : decode cX12_kind 1 = .ok (.ireturn, 1) := by decide +kernel
abbrev cX12_pitch : ByteArray := prog_16_method_4_code
def yX12_pitch : MethodName := ⟨RX12, "pitch", "(III)I"⟩
def dkwX12_pitch_0 : List UInt8 := [42, 27, 28, 29, 183, 0, 19, 42, 180, 0, 13, 96, 172]
abbrev dktX12_pitch_0 : List UInt8 := dkwX12_pitch_0 ++ []
theorem dksX12_pitch_0 : cX12_pitch.data.toList.drop 0 = dktX12_pitch_0 := by decide +kernel
theorem dX12_pitch_0 : decode cX12_pitch 0 = .ok (.aload_n 0, 1) := dk_42 (dk_at dksX12_pitch_0 0 rfl rfl)
theorem dX12_pitch_1 : decode cX12_pitch 1 = .ok (.iload_n 1, 1) := dk_27 (dk_at dksX12_pitch_0 1 rfl rfl)
theorem dX12_pitch_2 : decode cX12_pitch 2 = .ok (.iload_n 2, 1) := dk_28 (dk_at dksX12_pitch_0 2 rfl rfl)
theorem dX12_pitch_3 : decode cX12_pitch 3 = .ok (.iload_n 3, 1) := dk_29 (dk_at dksX12_pitch_0 3 rfl rfl)
theorem dX12_pitch_4 : decode cX12_pitch 4 = .ok (.invokespecial 19, 3) := dk_183 0 19 (dk_at dksX12_pitch_0 4 rfl rfl)
theorem dX12_pitch_7 : decode cX12_pitch 7 = .ok (.aload_n 0, 1) := dk_42 (dk_at dksX12_pitch_0 7 rfl rfl)
theorem dX12_pitch_8 : decode cX12_pitch 8 = .ok (.getfield 13, 3) := dk_180 0 13 (dk_at dksX12_pitch_0 8 rfl rfl)
theorem dX12_pitch_11 : decode cX12_pitch 11 = .ok (.iadd, 1) := dk_96 (dk_at dksX12_pitch_0 11 rfl rfl)
theorem dX12_pitch_12 : decode cX12_pitch 12 = .ok (.ireturn, 1) := dk_172 (dk_at dksX12_pitch_0 12 rfl rfl)
abbrev cX12_cost : ByteArray := prog_16_method_6_code
def yX12_cost : MethodName := ⟨RX12, "cost", "()I"⟩
def dkwX12_cost_0 : List UInt8 := [42, 183, 0, 27, 7, 96, 172]
abbrev dktX12_cost_0 : List UInt8 := dkwX12_cost_0 ++ []
theorem dksX12_cost_0 : cX12_cost.data.toList.drop 0 = dktX12_cost_0 := by decide +kernel
theorem dX12_cost_0 : decode cX12_cost 0 = .ok (.aload_n 0, 1) := dk_42 (dk_at dksX12_cost_0 0 rfl rfl)
theorem dX12_cost_1 : decode cX12_cost 1 = .ok (.invokespecial 27, 3) := dk_183 0 27 (dk_at dksX12_cost_0 1 rfl rfl)
theorem dX12_cost_4 : decode cX12_cost 4 = .ok (.iconst 4, 1) := dk_7 (dk_at dksX12_cost_0 4 rfl rfl)
theorem dX12_cost_5 : decode cX12_cost 5 = .ok (.iadd, 1) := dk_96 (dk_at dksX12_cost_0 5 rfl rfl)
theorem dX12_cost_6 : decode cX12_cost 6 = .ok (.ireturn, 1) := dk_172 (dk_at dksX12_cost_0 6 rfl rfl)
theorem q87 : (Jvm.Cond.initialized "BladeBetweenThumbs$Splitting") ∈ lw_all := lw_g (lw_at lw_m1 18 rfl) rfl
theorem q337 : (Jvm.Cond.fieldLink "BladeBetweenThumbs$Splitting" (13 : Nat) "BladeBetweenThumbs$Splitting" "figure" "I") ∈ lw_all := lw_g (lw_at lw_m2 28 rfl) rfl
theorem q338 : (Jvm.Cond.sameField "BladeBetweenThumbs$Splitting" "BladeBetweenThumbs$Blow" "figure" "I") ∈ lw_all := lw_g (lw_at lw_m2 29 rfl) rfl
theorem q372 : (Jvm.Cond.instantiable "BladeBetweenThumbs$Splitting" (1 : Nat)) ∈ lw_all := lw_g (lw_at lw_m2 63 rfl) rfl
theorem q374 : (Jvm.Cond.instanceMethod ({ cls := "BladeBetweenThumbs$Splitting", name := "<init>", desc := "(I)V" } : Jvm.MethodName)) ∈ lw_all := lw_g (lw_at lw_m2 65 rfl) rfl
theorem q375 : (Jvm.Cond.code ({ cls := "BladeBetweenThumbs$Splitting", name := "<init>", desc := "(I)V" } : Jvm.MethodName) prog_16_method_1_code (2 : Nat) (Option.none : Option Jvm.ClassFile.FieldType)) ∈ lw_all := lw_g (lw_at lw_m2 66 rfl) rfl
theorem q376 : (Jvm.Cond.methodLink "BladeBetweenThumbs$Splitting" (3 : Nat) ({ cls := "BladeBetweenThumbs$Blow", name := "<init>", desc := "(I)V" } : Jvm.MethodName)) ∈ lw_all := lw_g (lw_at lw_m2 67 rfl) rfl
theorem q377 : (Jvm.Cond.laysFinal "BladeBetweenThumbs$Splitting" "BladeBetweenThumbs$Blow" "figure" "I") ∈ lw_all := lw_g (lw_at lw_m2 68 rfl) rfl
theorem q378 : (Jvm.Cond.superclass "BladeBetweenThumbs$Splitting" "BladeBetweenThumbs$Blow") ∈ lw_all := lw_g (lw_at lw_m2 69 rfl) rfl
theorem q451 : (Jvm.Cond.selects "BladeBetweenThumbs$Splitting" ({ cls := "BladeBetweenThumbs$Wears", name := "wears", desc := "(I)I" } : Jvm.MethodName) ({ cls := "BladeBetweenThumbs$Splitting", name := "wears", desc := "(I)I" } : Jvm.MethodName)) ∈ lw_all := lw_g (lw_at lw_m2 142 rfl) rfl
theorem q452 : (Jvm.Cond.instanceMethod ({ cls := "BladeBetweenThumbs$Splitting", name := "wears", desc := "(I)I" } : Jvm.MethodName)) ∈ lw_all := lw_g (lw_at lw_m2 143 rfl) rfl
theorem q453 : (Jvm.Cond.code ({ cls := "BladeBetweenThumbs$Splitting", name := "wears", desc := "(I)I" } : Jvm.MethodName) prog_16_method_5_code (2 : Nat) (Option.some Jvm.ClassFile.FieldType.int)) ∈ lw_all := lw_g (lw_at lw_m2 144 rfl) rfl
theorem q492 : (Jvm.Cond.selects "BladeBetweenThumbs$Splitting" ({ cls := "BladeBetweenThumbs$Blow", name := "low", desc := "(II)I" } : Jvm.MethodName) ({ cls := "BladeBetweenThumbs$Blow", name := "low", desc := "(II)I" } : Jvm.MethodName)) ∈ lw_all := lw_g (lw_at lw_m2 183 rfl) rfl
theorem q510 : (Jvm.Cond.unhidden "BladeBetweenThumbs$Splitting" "above" "(I)I") ∈ lw_tbl := lw_at lw_m2 201 rfl
theorem q538 : (Jvm.Cond.selects "BladeBetweenThumbs$Splitting" ({ cls := "BladeBetweenThumbs$Blow", name := "softest", desc := "(I)I" } : Jvm.MethodName) ({ cls := "BladeBetweenThumbs$Blow", name := "softest", desc := "(I)I" } : Jvm.MethodName)) ∈ lw_all := lw_g (lw_at lw_m2 229 rfl) rfl
theorem q555 : (Jvm.Cond.selects "BladeBetweenThumbs$Splitting" ({ cls := "BladeBetweenThumbs$Blows", name := "over", desc := "()I" } : Jvm.MethodName) ({ cls := "BladeBetweenThumbs$Splitting", name := "over", desc := "()I" } : Jvm.MethodName)) ∈ lw_all := lw_g (lw_at lw_m3 6 rfl) rfl
theorem q556 : (Jvm.Cond.instanceMethod ({ cls := "BladeBetweenThumbs$Splitting", name := "over", desc := "()I" } : Jvm.MethodName)) ∈ lw_all := lw_g (lw_at lw_m3 7 rfl) rfl
theorem q557 : (Jvm.Cond.code ({ cls := "BladeBetweenThumbs$Splitting", name := "over", desc := "()I" } : Jvm.MethodName) prog_16_method_3_code (1 : Nat) (Option.some Jvm.ClassFile.FieldType.int)) ∈ lw_all := lw_g (lw_at lw_m3 8 rfl) rfl
theorem q597 : (Jvm.Cond.selects "BladeBetweenThumbs$Splitting" ({ cls := "BladeBetweenThumbs$Blow", name := "kind", desc := "()I" } : Jvm.MethodName) ({ cls := "BladeBetweenThumbs$Splitting", name := "kind", desc := "()I" } : Jvm.MethodName)) ∈ lw_all := lw_g (lw_at lw_m3 48 rfl) rfl
theorem q598 : (Jvm.Cond.instanceMethod ({ cls := "BladeBetweenThumbs$Splitting", name := "kind", desc := "()I" } : Jvm.MethodName)) ∈ lw_all := lw_g (lw_at lw_m3 49 rfl) rfl
theorem q599 : (Jvm.Cond.code ({ cls := "BladeBetweenThumbs$Splitting", name := "kind", desc := "()I" } : Jvm.MethodName) prog_16_method_2_code (1 : Nat) (Option.some Jvm.ClassFile.FieldType.int)) ∈ lw_all := lw_g (lw_at lw_m3 50 rfl) rfl
theorem q660 : (Jvm.Cond.selects "BladeBetweenThumbs$Splitting" ({ cls := "BladeBetweenThumbs$Sounds", name := "pitch", desc := "(III)I" } : Jvm.MethodName) ({ cls := "BladeBetweenThumbs$Splitting", name := "pitch", desc := "(III)I" } : Jvm.MethodName)) ∈ lw_all := lw_g (lw_at lw_m3 111 rfl) rfl
theorem q661 : (Jvm.Cond.instanceMethod ({ cls := "BladeBetweenThumbs$Splitting", name := "pitch", desc := "(III)I" } : Jvm.MethodName)) ∈ lw_all := lw_g (lw_at lw_m3 112 rfl) rfl
theorem q662 : (Jvm.Cond.code ({ cls := "BladeBetweenThumbs$Splitting", name := "pitch", desc := "(III)I" } : Jvm.MethodName) prog_16_method_4_code (4 : Nat) (Option.some Jvm.ClassFile.FieldType.int)) ∈ lw_all := lw_g (lw_at lw_m3 113 rfl) rfl
theorem q1142 : (Jvm.Cond.selects "BladeBetweenThumbs$Splitting" ({ cls := "BladeBetweenThumbs$Blow", name := "cost", desc := "()I" } : Jvm.MethodName) ({ cls := "BladeBetweenThumbs$Splitting", name := "cost", desc := "()I" } : Jvm.MethodName)) ∈ lw_all := lw_g (lw_at lw_m5 113 rfl) rfl
theorem q1143 : (Jvm.Cond.instanceMethod ({ cls := "BladeBetweenThumbs$Splitting", name := "cost", desc := "()I" } : Jvm.MethodName)) ∈ lw_all := lw_g (lw_at lw_m5 114 rfl) rfl
theorem q1144 : (Jvm.Cond.code ({ cls := "BladeBetweenThumbs$Splitting", name := "cost", desc := "()I" } : Jvm.MethodName) prog_16_method_6_code (1 : Nat) (Option.some Jvm.ClassFile.FieldType.int)) ∈ lw_all := lw_g (lw_at lw_m5 115 rfl) rfl
theorem q1145 : (Jvm.Cond.methodLink "BladeBetweenThumbs$Splitting" (27 : Nat) ({ cls := "BladeBetweenThumbs$Blow", name := "cost", desc := "()I" } : Jvm.MethodName)) ∈ lw_all := lw_g (lw_at lw_m5 116 rfl) rfl
theorem q1195 : (Jvm.Cond.selects "BladeBetweenThumbs$Splitting" ({ cls := "BladeBetweenThumbs$Blow", name := "failure", desc := "()LBladeBetweenThumbs$Tossed;" } : Jvm.MethodName) ({ cls := "BladeBetweenThumbs$Blow", name := "failure", desc := "()LBladeBetweenThumbs$Tossed;" } : Jvm.MethodName)) ∈ lw_all := lw_g (lw_at lw_m5 166 rfl) rfl
theorem q1736 : (Jvm.Cond.castable "BladeBetweenThumbs$Splitting" "BladeBetweenThumbs$Blow") ∈ lw_tbl := lw_at lw_m7 227 rfl
theorem in_X12 : ∀ w ∈ wsX120, w ∈ lw_all := lw_in wsX120 [377] (by decide +kernel) (by decide +kernel)

/-! BladeBetweenThumbs$Cupped -/
set_option maxRecDepth 100000
def RX13 : String := "BladeBetweenThumbs$Cupped"
def TX13 : u_T := fun k => match k with
  | _ => ("BladeBetweenThumbs$Blow", "figure", "I", true)
def tyX13 : Nat → FieldType := fun k => match k with
  | _ => .int
abbrev wsX130 : List Cond := u_ws RX13 TX13 1
theorem nmX13 : ∀ a, a < 1 → ∀ b, b < 1 → a ≠ b → (TX13 a).2.1 ≠ (TX13 b).2.1 := by decide +kernel
theorem tyX13_ok : ∀ k, k < 1 → parseFieldDescriptor (TX13 k).2.2.1 = some (tyX13 k) := by decide +kernel
abbrev cX13_init : ByteArray := prog_5_method_1_code
def yX13_init : MethodName := ⟨RX13, "<init>", "(I)V"⟩
def dkwX13_init_0 : List UInt8 := [42, 27, 183, 0, 3, 177]
abbrev dktX13_init_0 : List UInt8 := dkwX13_init_0 ++ []
theorem dksX13_init_0 : cX13_init.data.toList.drop 0 = dktX13_init_0 := by decide +kernel
theorem dX13_init_0 : decode cX13_init 0 = .ok (.aload_n 0, 1) := dk_42 (dk_at dksX13_init_0 0 rfl rfl)
theorem dX13_init_1 : decode cX13_init 1 = .ok (.iload_n 1, 1) := dk_27 (dk_at dksX13_init_0 1 rfl rfl)
theorem dX13_init_2 : decode cX13_init 2 = .ok (.invokespecial 3, 3) := dk_183 0 3 (dk_at dksX13_init_0 2 rfl rfl)
theorem dX13_init_5 : decode cX13_init 5 = .ok (.return_, 1) := dk_177 (dk_at dksX13_init_0 5 rfl rfl)
abbrev cX13_kind : ByteArray := prog_5_method_2_code
def yX13_kind : MethodName := ⟨RX13, "kind", "()I"⟩
theorem dX13_kind_0 : decode cX13_kind 0 = .ok (.iconst 5, 1) := by decide +kernel
theorem dX13_kind_1 : decode cX13_kind 1 = .ok (.ireturn, 1) := by decide +kernel
abbrev cX13_pitch : ByteArray := prog_5_method_3_code
def yX13_pitch : MethodName := ⟨RX13, "pitch", "(III)I"⟩
def dkwX13_pitch_0 : List UInt8 := [42, 27, 28, 29, 183, 0, 9, 29, 100, 172]
abbrev dktX13_pitch_0 : List UInt8 := dkwX13_pitch_0 ++ []
theorem dksX13_pitch_0 : cX13_pitch.data.toList.drop 0 = dktX13_pitch_0 := by decide +kernel
theorem dX13_pitch_0 : decode cX13_pitch 0 = .ok (.aload_n 0, 1) := dk_42 (dk_at dksX13_pitch_0 0 rfl rfl)
theorem dX13_pitch_1 : decode cX13_pitch 1 = .ok (.iload_n 1, 1) := dk_27 (dk_at dksX13_pitch_0 1 rfl rfl)
theorem dX13_pitch_2 : decode cX13_pitch 2 = .ok (.iload_n 2, 1) := dk_28 (dk_at dksX13_pitch_0 2 rfl rfl)
theorem dX13_pitch_3 : decode cX13_pitch 3 = .ok (.iload_n 3, 1) := dk_29 (dk_at dksX13_pitch_0 3 rfl rfl)
theorem dX13_pitch_4 : decode cX13_pitch 4 = .ok (.invokespecial 9, 3) := dk_183 0 9 (dk_at dksX13_pitch_0 4 rfl rfl)
theorem dX13_pitch_7 : decode cX13_pitch 7 = .ok (.iload_n 3, 1) := dk_29 (dk_at dksX13_pitch_0 7 rfl rfl)
theorem dX13_pitch_8 : decode cX13_pitch 8 = .ok (.isub, 1) := dk_100 (dk_at dksX13_pitch_0 8 rfl rfl)
theorem dX13_pitch_9 : decode cX13_pitch 9 = .ok (.ireturn, 1) := dk_172 (dk_at dksX13_pitch_0 9 rfl rfl)
abbrev cX13_cost : ByteArray := prog_5_method_4_code
def yX13_cost : MethodName := ⟨RX13, "cost", "()I"⟩
def dkwX13_cost_0 : List UInt8 := [42, 183, 0, 13, 5, 96, 172]
abbrev dktX13_cost_0 : List UInt8 := dkwX13_cost_0 ++ []
theorem dksX13_cost_0 : cX13_cost.data.toList.drop 0 = dktX13_cost_0 := by decide +kernel
theorem dX13_cost_0 : decode cX13_cost 0 = .ok (.aload_n 0, 1) := dk_42 (dk_at dksX13_cost_0 0 rfl rfl)
theorem dX13_cost_1 : decode cX13_cost 1 = .ok (.invokespecial 13, 3) := dk_183 0 13 (dk_at dksX13_cost_0 1 rfl rfl)
theorem dX13_cost_4 : decode cX13_cost 4 = .ok (.iconst 2, 1) := dk_5 (dk_at dksX13_cost_0 4 rfl rfl)
theorem dX13_cost_5 : decode cX13_cost 5 = .ok (.iadd, 1) := dk_96 (dk_at dksX13_cost_0 5 rfl rfl)
theorem dX13_cost_6 : decode cX13_cost 6 = .ok (.ireturn, 1) := dk_172 (dk_at dksX13_cost_0 6 rfl rfl)
theorem q88 : (Jvm.Cond.initialized "BladeBetweenThumbs$Cupped") ∈ lw_all := lw_g (lw_at lw_m1 19 rfl) rfl
theorem q380 : (Jvm.Cond.instantiable "BladeBetweenThumbs$Cupped" (1 : Nat)) ∈ lw_all := lw_g (lw_at lw_m2 71 rfl) rfl
theorem q382 : (Jvm.Cond.instanceMethod ({ cls := "BladeBetweenThumbs$Cupped", name := "<init>", desc := "(I)V" } : Jvm.MethodName)) ∈ lw_all := lw_g (lw_at lw_m2 73 rfl) rfl
theorem q383 : (Jvm.Cond.code ({ cls := "BladeBetweenThumbs$Cupped", name := "<init>", desc := "(I)V" } : Jvm.MethodName) prog_5_method_1_code (2 : Nat) (Option.none : Option Jvm.ClassFile.FieldType)) ∈ lw_all := lw_g (lw_at lw_m2 74 rfl) rfl
theorem q384 : (Jvm.Cond.methodLink "BladeBetweenThumbs$Cupped" (3 : Nat) ({ cls := "BladeBetweenThumbs$Sounding", name := "<init>", desc := "(I)V" } : Jvm.MethodName)) ∈ lw_all := lw_g (lw_at lw_m2 75 rfl) rfl
theorem q385 : (Jvm.Cond.laysFinal "BladeBetweenThumbs$Cupped" "BladeBetweenThumbs$Blow" "figure" "I") ∈ lw_all := lw_g (lw_at lw_m2 76 rfl) rfl
theorem q386 : (Jvm.Cond.superclass "BladeBetweenThumbs$Cupped" "BladeBetweenThumbs$Sounding") ∈ lw_all := lw_g (lw_at lw_m2 77 rfl) rfl
theorem q434 : (Jvm.Cond.selects "BladeBetweenThumbs$Cupped" ({ cls := "BladeBetweenThumbs$Wears", name := "wears", desc := "(I)I" } : Jvm.MethodName) ({ cls := "BladeBetweenThumbs$Sounding", name := "wears", desc := "(I)I" } : Jvm.MethodName)) ∈ lw_all := lw_g (lw_at lw_m2 125 rfl) rfl
theorem q471 : (Jvm.Cond.selects "BladeBetweenThumbs$Cupped" ({ cls := "BladeBetweenThumbs$Blow", name := "low", desc := "(II)I" } : Jvm.MethodName) ({ cls := "BladeBetweenThumbs$Sounding", name := "low", desc := "(II)I" } : Jvm.MethodName)) ∈ lw_all := lw_g (lw_at lw_m2 162 rfl) rfl
theorem q489 : (Jvm.Cond.sameMethod "BladeBetweenThumbs$Cupped" "BladeBetweenThumbs$Sounding" "low" "(II)I") ∈ lw_all := lw_g (lw_at lw_m2 180 rfl) rfl
theorem q500 : (Jvm.Cond.unhidden "BladeBetweenThumbs$Cupped" "above" "(I)I") ∈ lw_tbl := lw_at lw_m2 191 rfl
theorem q520 : (Jvm.Cond.selects "BladeBetweenThumbs$Cupped" ({ cls := "BladeBetweenThumbs$Blow", name := "softest", desc := "(I)I" } : Jvm.MethodName) ({ cls := "BladeBetweenThumbs$Blow", name := "softest", desc := "(I)I" } : Jvm.MethodName)) ∈ lw_all := lw_g (lw_at lw_m2 211 rfl) rfl
theorem q536 : (Jvm.Cond.sameMethod "BladeBetweenThumbs$Cupped" "BladeBetweenThumbs$Blow" "softest" "(I)I") ∈ lw_all := lw_g (lw_at lw_m2 227 rfl) rfl
theorem q545 : (Jvm.Cond.unhidden "BladeBetweenThumbs$Cupped" "over" "()I") ∈ lw_tbl := lw_at lw_m2 236 rfl
theorem q579 : (Jvm.Cond.selects "BladeBetweenThumbs$Cupped" ({ cls := "BladeBetweenThumbs$Blow", name := "kind", desc := "()I" } : Jvm.MethodName) ({ cls := "BladeBetweenThumbs$Cupped", name := "kind", desc := "()I" } : Jvm.MethodName)) ∈ lw_all := lw_g (lw_at lw_m3 30 rfl) rfl
theorem q580 : (Jvm.Cond.instanceMethod ({ cls := "BladeBetweenThumbs$Cupped", name := "kind", desc := "()I" } : Jvm.MethodName)) ∈ lw_all := lw_g (lw_at lw_m3 31 rfl) rfl
theorem q581 : (Jvm.Cond.code ({ cls := "BladeBetweenThumbs$Cupped", name := "kind", desc := "()I" } : Jvm.MethodName) prog_5_method_2_code (1 : Nat) (Option.some Jvm.ClassFile.FieldType.int)) ∈ lw_all := lw_g (lw_at lw_m3 32 rfl) rfl
theorem q648 : (Jvm.Cond.selects "BladeBetweenThumbs$Cupped" ({ cls := "BladeBetweenThumbs$Sounds", name := "pitch", desc := "(III)I" } : Jvm.MethodName) ({ cls := "BladeBetweenThumbs$Cupped", name := "pitch", desc := "(III)I" } : Jvm.MethodName)) ∈ lw_all := lw_g (lw_at lw_m3 99 rfl) rfl
theorem q649 : (Jvm.Cond.instanceMethod ({ cls := "BladeBetweenThumbs$Cupped", name := "pitch", desc := "(III)I" } : Jvm.MethodName)) ∈ lw_all := lw_g (lw_at lw_m3 100 rfl) rfl
theorem q650 : (Jvm.Cond.code ({ cls := "BladeBetweenThumbs$Cupped", name := "pitch", desc := "(III)I" } : Jvm.MethodName) prog_5_method_3_code (4 : Nat) (Option.some Jvm.ClassFile.FieldType.int)) ∈ lw_all := lw_g (lw_at lw_m3 101 rfl) rfl
theorem q1117 : (Jvm.Cond.selects "BladeBetweenThumbs$Cupped" ({ cls := "BladeBetweenThumbs$Blow", name := "cost", desc := "()I" } : Jvm.MethodName) ({ cls := "BladeBetweenThumbs$Cupped", name := "cost", desc := "()I" } : Jvm.MethodName)) ∈ lw_all := lw_g (lw_at lw_m5 88 rfl) rfl
theorem q1118 : (Jvm.Cond.instanceMethod ({ cls := "BladeBetweenThumbs$Cupped", name := "cost", desc := "()I" } : Jvm.MethodName)) ∈ lw_all := lw_g (lw_at lw_m5 89 rfl) rfl
theorem q1119 : (Jvm.Cond.code ({ cls := "BladeBetweenThumbs$Cupped", name := "cost", desc := "()I" } : Jvm.MethodName) prog_5_method_4_code (1 : Nat) (Option.some Jvm.ClassFile.FieldType.int)) ∈ lw_all := lw_g (lw_at lw_m5 90 rfl) rfl
theorem q1120 : (Jvm.Cond.methodLink "BladeBetweenThumbs$Cupped" (13 : Nat) ({ cls := "BladeBetweenThumbs$Sounding", name := "cost", desc := "()I" } : Jvm.MethodName)) ∈ lw_all := lw_g (lw_at lw_m5 91 rfl) rfl
theorem q1155 : (Jvm.Cond.selects "BladeBetweenThumbs$Cupped" ({ cls := "BladeBetweenThumbs$Blow", name := "failure", desc := "()LBladeBetweenThumbs$Tossed;" } : Jvm.MethodName) ({ cls := "BladeBetweenThumbs$Sounding", name := "failure", desc := "()LBladeBetweenThumbs$Tossed;" } : Jvm.MethodName)) ∈ lw_all := lw_g (lw_at lw_m5 126 rfl) rfl
theorem q1722 : (Jvm.Cond.sameMethod "BladeBetweenThumbs$Cupped" "BladeBetweenThumbs$Cupped" "cost" "()I") ∈ lw_all := lw_g (lw_at lw_m7 213 rfl) rfl
theorem q1730 : (Jvm.Cond.castable "BladeBetweenThumbs$Cupped" "BladeBetweenThumbs$Blow") ∈ lw_tbl := lw_at lw_m7 221 rfl
theorem in_X13 : ∀ w ∈ wsX130, w ∈ lw_all := lw_in wsX130 [385] (by decide +kernel) (by decide +kernel)

/-! BladeBetweenThumbs$Soft -/
set_option maxRecDepth 100000
def RX14 : String := "BladeBetweenThumbs$Soft"
def TX14 : u_T := fun k => match k with
  | _ => ("BladeBetweenThumbs$Blow", "figure", "I", true)
def tyX14 : Nat → FieldType := fun k => match k with
  | _ => .int
abbrev wsX140 : List Cond := u_ws RX14 TX14 1
theorem nmX14 : ∀ a, a < 1 → ∀ b, b < 1 → a ≠ b → (TX14 a).2.1 ≠ (TX14 b).2.1 := by decide +kernel
theorem tyX14_ok : ∀ k, k < 1 → parseFieldDescriptor (TX14 k).2.2.1 = some (tyX14 k) := by decide +kernel
abbrev cX14_init : ByteArray := prog_13_method_1_code
def yX14_init : MethodName := ⟨RX14, "<init>", "(I)V"⟩
def dkwX14_init_0 : List UInt8 := [42, 27, 183, 0, 3, 177]
abbrev dktX14_init_0 : List UInt8 := dkwX14_init_0 ++ []
theorem dksX14_init_0 : cX14_init.data.toList.drop 0 = dktX14_init_0 := by decide +kernel
theorem dX14_init_0 : decode cX14_init 0 = .ok (.aload_n 0, 1) := dk_42 (dk_at dksX14_init_0 0 rfl rfl)
theorem dX14_init_1 : decode cX14_init 1 = .ok (.iload_n 1, 1) := dk_27 (dk_at dksX14_init_0 1 rfl rfl)
theorem dX14_init_2 : decode cX14_init 2 = .ok (.invokespecial 3, 3) := dk_183 0 3 (dk_at dksX14_init_0 2 rfl rfl)
theorem dX14_init_5 : decode cX14_init 5 = .ok (.return_, 1) := dk_177 (dk_at dksX14_init_0 5 rfl rfl)
abbrev cX14_wears : ByteArray := prog_13_method_6_code
def yX14_wears : MethodName := ⟨RX14, "wears", "(I)I"⟩
theorem dX14_wears_0 : decode cX14_wears 0 = .ok (.iconst 0, 1) := by decide +kernel
theorem dX14_wears_1 : decode cX14_wears 1 = .ok (.ireturn, 1) := by decide +kernel
abbrev cX14_low : ByteArray := prog_13_method_3_code
def yX14_low : MethodName := ⟨RX14, "low", "(II)I"⟩
def dkwX14_low_0 : List UInt8 := [42, 27, 28, 183, 0, 9, 4, 96, 172]
abbrev dktX14_low_0 : List UInt8 := dkwX14_low_0 ++ []
theorem dksX14_low_0 : cX14_low.data.toList.drop 0 = dktX14_low_0 := by decide +kernel
theorem dX14_low_0 : decode cX14_low 0 = .ok (.aload_n 0, 1) := dk_42 (dk_at dksX14_low_0 0 rfl rfl)
theorem dX14_low_1 : decode cX14_low 1 = .ok (.iload_n 1, 1) := dk_27 (dk_at dksX14_low_0 1 rfl rfl)
theorem dX14_low_2 : decode cX14_low 2 = .ok (.iload_n 2, 1) := dk_28 (dk_at dksX14_low_0 2 rfl rfl)
theorem dX14_low_3 : decode cX14_low 3 = .ok (.invokespecial 9, 3) := dk_183 0 9 (dk_at dksX14_low_0 3 rfl rfl)
theorem dX14_low_6 : decode cX14_low 6 = .ok (.iconst 1, 1) := dk_4 (dk_at dksX14_low_0 6 rfl rfl)
theorem dX14_low_7 : decode cX14_low 7 = .ok (.iadd, 1) := dk_96 (dk_at dksX14_low_0 7 rfl rfl)
theorem dX14_low_8 : decode cX14_low 8 = .ok (.ireturn, 1) := dk_172 (dk_at dksX14_low_0 8 rfl rfl)
abbrev cX14_softest : ByteArray := prog_13_method_4_code
def yX14_softest : MethodName := ⟨RX14, "softest", "(I)I"⟩
def dkwX14_softest_0 : List UInt8 := [42, 27, 183, 0, 13, 5, 108, 172]
abbrev dktX14_softest_0 : List UInt8 := dkwX14_softest_0 ++ []
theorem dksX14_softest_0 : cX14_softest.data.toList.drop 0 = dktX14_softest_0 := by decide +kernel
theorem dX14_softest_0 : decode cX14_softest 0 = .ok (.aload_n 0, 1) := dk_42 (dk_at dksX14_softest_0 0 rfl rfl)
theorem dX14_softest_1 : decode cX14_softest 1 = .ok (.iload_n 1, 1) := dk_27 (dk_at dksX14_softest_0 1 rfl rfl)
theorem dX14_softest_2 : decode cX14_softest 2 = .ok (.invokespecial 13, 3) := dk_183 0 13 (dk_at dksX14_softest_0 2 rfl rfl)
theorem dX14_softest_5 : decode cX14_softest 5 = .ok (.iconst 2, 1) := dk_5 (dk_at dksX14_softest_0 5 rfl rfl)
theorem dX14_softest_6 : decode cX14_softest 6 = .ok (.idiv, 1) := dk_108 (dk_at dksX14_softest_0 6 rfl rfl)
theorem dX14_softest_7 : decode cX14_softest 7 = .ok (.ireturn, 1) := dk_172 (dk_at dksX14_softest_0 7 rfl rfl)
abbrev cX14_over : ByteArray := prog_13_method_5_code
def yX14_over : MethodName := ⟨RX14, "over", "()I"⟩
def dkwX14_over_0 : List UInt8 := [42, 183, 0, 17, 5, 108, 172]
abbrev dktX14_over_0 : List UInt8 := dkwX14_over_0 ++ []
theorem dksX14_over_0 : cX14_over.data.toList.drop 0 = dktX14_over_0 := by decide +kernel
theorem dX14_over_0 : decode cX14_over 0 = .ok (.aload_n 0, 1) := dk_42 (dk_at dksX14_over_0 0 rfl rfl)
theorem dX14_over_1 : decode cX14_over 1 = .ok (.invokespecial 17, 3) := dk_183 0 17 (dk_at dksX14_over_0 1 rfl rfl)
theorem dX14_over_4 : decode cX14_over 4 = .ok (.iconst 2, 1) := dk_5 (dk_at dksX14_over_0 4 rfl rfl)
theorem dX14_over_5 : decode cX14_over 5 = .ok (.idiv, 1) := dk_108 (dk_at dksX14_over_0 5 rfl rfl)
theorem dX14_over_6 : decode cX14_over 6 = .ok (.ireturn, 1) := dk_172 (dk_at dksX14_over_0 6 rfl rfl)
abbrev cX14_kind : ByteArray := prog_13_method_2_code
def yX14_kind : MethodName := ⟨RX14, "kind", "()I"⟩
theorem dX14_kind_0 : decode cX14_kind 0 = .ok (.bipush 6, 2) := by decide +kernel
theorem dX14_kind_2 : decode cX14_kind 2 = .ok (.ireturn, 1) := by decide +kernel
abbrev cX14_cost : ByteArray := prog_13_method_7_code
def yX14_cost : MethodName := ⟨RX14, "cost", "()I"⟩
def dkwX14_cost_0 : List UInt8 := [42, 183, 0, 21, 5, 108, 172]
abbrev dktX14_cost_0 : List UInt8 := dkwX14_cost_0 ++ []
theorem dksX14_cost_0 : cX14_cost.data.toList.drop 0 = dktX14_cost_0 := by decide +kernel
theorem dX14_cost_0 : decode cX14_cost 0 = .ok (.aload_n 0, 1) := dk_42 (dk_at dksX14_cost_0 0 rfl rfl)
theorem dX14_cost_1 : decode cX14_cost 1 = .ok (.invokespecial 21, 3) := dk_183 0 21 (dk_at dksX14_cost_0 1 rfl rfl)
theorem dX14_cost_4 : decode cX14_cost 4 = .ok (.iconst 2, 1) := dk_5 (dk_at dksX14_cost_0 4 rfl rfl)
theorem dX14_cost_5 : decode cX14_cost 5 = .ok (.idiv, 1) := dk_108 (dk_at dksX14_cost_0 5 rfl rfl)
theorem dX14_cost_6 : decode cX14_cost 6 = .ok (.ireturn, 1) := dk_172 (dk_at dksX14_cost_0 6 rfl rfl)
theorem q89 : (Jvm.Cond.initialized "BladeBetweenThumbs$Soft") ∈ lw_all := lw_g (lw_at lw_m1 20 rfl) rfl
theorem q388 : (Jvm.Cond.instantiable "BladeBetweenThumbs$Soft" (1 : Nat)) ∈ lw_all := lw_g (lw_at lw_m2 79 rfl) rfl
theorem q390 : (Jvm.Cond.instanceMethod ({ cls := "BladeBetweenThumbs$Soft", name := "<init>", desc := "(I)V" } : Jvm.MethodName)) ∈ lw_all := lw_g (lw_at lw_m2 81 rfl) rfl
theorem q391 : (Jvm.Cond.code ({ cls := "BladeBetweenThumbs$Soft", name := "<init>", desc := "(I)V" } : Jvm.MethodName) prog_13_method_1_code (2 : Nat) (Option.none : Option Jvm.ClassFile.FieldType)) ∈ lw_all := lw_g (lw_at lw_m2 82 rfl) rfl
theorem q392 : (Jvm.Cond.methodLink "BladeBetweenThumbs$Soft" (3 : Nat) ({ cls := "BladeBetweenThumbs$Cupped", name := "<init>", desc := "(I)V" } : Jvm.MethodName)) ∈ lw_all := lw_g (lw_at lw_m2 83 rfl) rfl
theorem q393 : (Jvm.Cond.laysFinal "BladeBetweenThumbs$Soft" "BladeBetweenThumbs$Blow" "figure" "I") ∈ lw_all := lw_g (lw_at lw_m2 84 rfl) rfl
theorem q394 : (Jvm.Cond.superclass "BladeBetweenThumbs$Soft" "BladeBetweenThumbs$Cupped") ∈ lw_all := lw_g (lw_at lw_m2 85 rfl) rfl
theorem q447 : (Jvm.Cond.selects "BladeBetweenThumbs$Soft" ({ cls := "BladeBetweenThumbs$Wears", name := "wears", desc := "(I)I" } : Jvm.MethodName) ({ cls := "BladeBetweenThumbs$Soft", name := "wears", desc := "(I)I" } : Jvm.MethodName)) ∈ lw_all := lw_g (lw_at lw_m2 138 rfl) rfl
theorem q448 : (Jvm.Cond.instanceMethod ({ cls := "BladeBetweenThumbs$Soft", name := "wears", desc := "(I)I" } : Jvm.MethodName)) ∈ lw_all := lw_g (lw_at lw_m2 139 rfl) rfl
theorem q449 : (Jvm.Cond.code ({ cls := "BladeBetweenThumbs$Soft", name := "wears", desc := "(I)I" } : Jvm.MethodName) prog_13_method_6_code (2 : Nat) (Option.some Jvm.ClassFile.FieldType.int)) ∈ lw_all := lw_g (lw_at lw_m2 140 rfl) rfl
theorem q485 : (Jvm.Cond.selects "BladeBetweenThumbs$Soft" ({ cls := "BladeBetweenThumbs$Blow", name := "low", desc := "(II)I" } : Jvm.MethodName) ({ cls := "BladeBetweenThumbs$Soft", name := "low", desc := "(II)I" } : Jvm.MethodName)) ∈ lw_all := lw_g (lw_at lw_m2 176 rfl) rfl
theorem q486 : (Jvm.Cond.instanceMethod ({ cls := "BladeBetweenThumbs$Soft", name := "low", desc := "(II)I" } : Jvm.MethodName)) ∈ lw_all := lw_g (lw_at lw_m2 177 rfl) rfl
theorem q487 : (Jvm.Cond.code ({ cls := "BladeBetweenThumbs$Soft", name := "low", desc := "(II)I" } : Jvm.MethodName) prog_13_method_3_code (3 : Nat) (Option.some Jvm.ClassFile.FieldType.int)) ∈ lw_all := lw_g (lw_at lw_m2 178 rfl) rfl
theorem q488 : (Jvm.Cond.methodLink "BladeBetweenThumbs$Soft" (9 : Nat) ({ cls := "BladeBetweenThumbs$Cupped", name := "low", desc := "(II)I" } : Jvm.MethodName)) ∈ lw_all := lw_g (lw_at lw_m2 179 rfl) rfl
theorem q508 : (Jvm.Cond.unhidden "BladeBetweenThumbs$Soft" "above" "(I)I") ∈ lw_tbl := lw_at lw_m2 199 rfl
theorem q532 : (Jvm.Cond.selects "BladeBetweenThumbs$Soft" ({ cls := "BladeBetweenThumbs$Blow", name := "softest", desc := "(I)I" } : Jvm.MethodName) ({ cls := "BladeBetweenThumbs$Soft", name := "softest", desc := "(I)I" } : Jvm.MethodName)) ∈ lw_all := lw_g (lw_at lw_m2 223 rfl) rfl
theorem q533 : (Jvm.Cond.instanceMethod ({ cls := "BladeBetweenThumbs$Soft", name := "softest", desc := "(I)I" } : Jvm.MethodName)) ∈ lw_all := lw_g (lw_at lw_m2 224 rfl) rfl
theorem q534 : (Jvm.Cond.code ({ cls := "BladeBetweenThumbs$Soft", name := "softest", desc := "(I)I" } : Jvm.MethodName) prog_13_method_4_code (2 : Nat) (Option.some Jvm.ClassFile.FieldType.int)) ∈ lw_all := lw_g (lw_at lw_m2 225 rfl) rfl
theorem q535 : (Jvm.Cond.methodLink "BladeBetweenThumbs$Soft" (13 : Nat) ({ cls := "BladeBetweenThumbs$Cupped", name := "softest", desc := "(I)I" } : Jvm.MethodName)) ∈ lw_all := lw_g (lw_at lw_m2 226 rfl) rfl
theorem q549 : (Jvm.Cond.selects "BladeBetweenThumbs$Soft" ({ cls := "BladeBetweenThumbs$Blows", name := "over", desc := "()I" } : Jvm.MethodName) ({ cls := "BladeBetweenThumbs$Soft", name := "over", desc := "()I" } : Jvm.MethodName)) ∈ lw_all := lw_g (lw_at lw_m3 0 rfl) rfl
theorem q550 : (Jvm.Cond.instanceMethod ({ cls := "BladeBetweenThumbs$Soft", name := "over", desc := "()I" } : Jvm.MethodName)) ∈ lw_all := lw_g (lw_at lw_m3 1 rfl) rfl
theorem q551 : (Jvm.Cond.code ({ cls := "BladeBetweenThumbs$Soft", name := "over", desc := "()I" } : Jvm.MethodName) prog_13_method_5_code (1 : Nat) (Option.some Jvm.ClassFile.FieldType.int)) ∈ lw_all := lw_g (lw_at lw_m3 2 rfl) rfl
theorem q591 : (Jvm.Cond.selects "BladeBetweenThumbs$Soft" ({ cls := "BladeBetweenThumbs$Blow", name := "kind", desc := "()I" } : Jvm.MethodName) ({ cls := "BladeBetweenThumbs$Soft", name := "kind", desc := "()I" } : Jvm.MethodName)) ∈ lw_all := lw_g (lw_at lw_m3 42 rfl) rfl
theorem q592 : (Jvm.Cond.instanceMethod ({ cls := "BladeBetweenThumbs$Soft", name := "kind", desc := "()I" } : Jvm.MethodName)) ∈ lw_all := lw_g (lw_at lw_m3 43 rfl) rfl
theorem q593 : (Jvm.Cond.code ({ cls := "BladeBetweenThumbs$Soft", name := "kind", desc := "()I" } : Jvm.MethodName) prog_13_method_2_code (1 : Nat) (Option.some Jvm.ClassFile.FieldType.int)) ∈ lw_all := lw_g (lw_at lw_m3 44 rfl) rfl
theorem q658 : (Jvm.Cond.selects "BladeBetweenThumbs$Soft" ({ cls := "BladeBetweenThumbs$Sounds", name := "pitch", desc := "(III)I" } : Jvm.MethodName) ({ cls := "BladeBetweenThumbs$Cupped", name := "pitch", desc := "(III)I" } : Jvm.MethodName)) ∈ lw_all := lw_g (lw_at lw_m3 109 rfl) rfl
theorem q1137 : (Jvm.Cond.selects "BladeBetweenThumbs$Soft" ({ cls := "BladeBetweenThumbs$Blow", name := "cost", desc := "()I" } : Jvm.MethodName) ({ cls := "BladeBetweenThumbs$Soft", name := "cost", desc := "()I" } : Jvm.MethodName)) ∈ lw_all := lw_g (lw_at lw_m5 108 rfl) rfl
theorem q1138 : (Jvm.Cond.instanceMethod ({ cls := "BladeBetweenThumbs$Soft", name := "cost", desc := "()I" } : Jvm.MethodName)) ∈ lw_all := lw_g (lw_at lw_m5 109 rfl) rfl
theorem q1139 : (Jvm.Cond.code ({ cls := "BladeBetweenThumbs$Soft", name := "cost", desc := "()I" } : Jvm.MethodName) prog_13_method_7_code (1 : Nat) (Option.some Jvm.ClassFile.FieldType.int)) ∈ lw_all := lw_g (lw_at lw_m5 110 rfl) rfl
theorem q1140 : (Jvm.Cond.methodLink "BladeBetweenThumbs$Soft" (21 : Nat) ({ cls := "BladeBetweenThumbs$Cupped", name := "cost", desc := "()I" } : Jvm.MethodName)) ∈ lw_all := lw_g (lw_at lw_m5 111 rfl) rfl
theorem q1193 : (Jvm.Cond.selects "BladeBetweenThumbs$Soft" ({ cls := "BladeBetweenThumbs$Blow", name := "failure", desc := "()LBladeBetweenThumbs$Tossed;" } : Jvm.MethodName) ({ cls := "BladeBetweenThumbs$Sounding", name := "failure", desc := "()LBladeBetweenThumbs$Tossed;" } : Jvm.MethodName)) ∈ lw_all := lw_g (lw_at lw_m5 164 rfl) rfl
theorem q1734 : (Jvm.Cond.castable "BladeBetweenThumbs$Soft" "BladeBetweenThumbs$Blow") ∈ lw_tbl := lw_at lw_m7 225 rfl
theorem in_X14 : ∀ w ∈ wsX140, w ∈ lw_all := lw_in wsX140 [393] (by decide +kernel) (by decide +kernel)

/-! BladeBetweenThumbs$Slipped -/
set_option maxRecDepth 100000
def RX15 : String := "BladeBetweenThumbs$Slipped"
def TX15 : u_T := fun k => match k with
  | _ => ("BladeBetweenThumbs$Blow", "figure", "I", true)
def tyX15 : Nat → FieldType := fun k => match k with
  | _ => .int
abbrev wsX150 : List Cond := u_ws RX15 TX15 1
theorem nmX15 : ∀ a, a < 1 → ∀ b, b < 1 → a ≠ b → (TX15 a).2.1 ≠ (TX15 b).2.1 := by decide +kernel
theorem tyX15_ok : ∀ k, k < 1 → parseFieldDescriptor (TX15 k).2.2.1 = some (tyX15 k) := by decide +kernel
abbrev cX15_init : ByteArray := prog_12_method_1_code
def yX15_init : MethodName := ⟨RX15, "<init>", "(I)V"⟩
def dkwX15_init_0 : List UInt8 := [42, 27, 183, 0, 1, 177]
abbrev dktX15_init_0 : List UInt8 := dkwX15_init_0 ++ []
theorem dksX15_init_0 : cX15_init.data.toList.drop 0 = dktX15_init_0 := by decide +kernel
theorem dX15_init_0 : decode cX15_init 0 = .ok (.aload_n 0, 1) := dk_42 (dk_at dksX15_init_0 0 rfl rfl)
theorem dX15_init_1 : decode cX15_init 1 = .ok (.iload_n 1, 1) := dk_27 (dk_at dksX15_init_0 1 rfl rfl)
theorem dX15_init_2 : decode cX15_init 2 = .ok (.invokespecial 1, 3) := dk_183 0 1 (dk_at dksX15_init_0 2 rfl rfl)
theorem dX15_init_5 : decode cX15_init 5 = .ok (.return_, 1) := dk_177 (dk_at dksX15_init_0 5 rfl rfl)
abbrev cX15_wears : ByteArray := prog_12_method_3_code
def yX15_wears : MethodName := ⟨RX15, "wears", "(I)I"⟩
def dkwX15_wears_0 : List UInt8 := [42, 27, 183, 0, 7, 4, 96, 172]
abbrev dktX15_wears_0 : List UInt8 := dkwX15_wears_0 ++ []
theorem dksX15_wears_0 : cX15_wears.data.toList.drop 0 = dktX15_wears_0 := by decide +kernel
theorem dX15_wears_0 : decode cX15_wears 0 = .ok (.aload_n 0, 1) := dk_42 (dk_at dksX15_wears_0 0 rfl rfl)
theorem dX15_wears_1 : decode cX15_wears 1 = .ok (.iload_n 1, 1) := dk_27 (dk_at dksX15_wears_0 1 rfl rfl)
theorem dX15_wears_2 : decode cX15_wears 2 = .ok (.invokespecial 7, 3) := dk_183 0 7 (dk_at dksX15_wears_0 2 rfl rfl)
theorem dX15_wears_5 : decode cX15_wears 5 = .ok (.iconst 1, 1) := dk_4 (dk_at dksX15_wears_0 5 rfl rfl)
theorem dX15_wears_6 : decode cX15_wears 6 = .ok (.iadd, 1) := dk_96 (dk_at dksX15_wears_0 6 rfl rfl)
theorem dX15_wears_7 : decode cX15_wears 7 = .ok (.ireturn, 1) := dk_172 (dk_at dksX15_wears_0 7 rfl rfl)
abbrev cX15_kind : ByteArray := prog_12_method_2_code
def yX15_kind : MethodName := ⟨RX15, "kind", "()I"⟩
theorem dX15_kind_0 : decode cX15_kind 0 = .ok (.bipush 7, 2) := by decide +kernel
theorem dX15_kind_2 : decode cX15_kind 2 = .ok (.ireturn, 1) := by decide +kernel
abbrev cX15_cost : ByteArray := prog_12_method_4_code
def yX15_cost : MethodName := ⟨RX15, "cost", "()I"⟩
def dkwX15_cost_0 : List UInt8 := [42, 183, 0, 11, 42, 180, 0, 15, 96, 172]
abbrev dktX15_cost_0 : List UInt8 := dkwX15_cost_0 ++ []
theorem dksX15_cost_0 : cX15_cost.data.toList.drop 0 = dktX15_cost_0 := by decide +kernel
theorem dX15_cost_0 : decode cX15_cost 0 = .ok (.aload_n 0, 1) := dk_42 (dk_at dksX15_cost_0 0 rfl rfl)
theorem dX15_cost_1 : decode cX15_cost 1 = .ok (.invokespecial 11, 3) := dk_183 0 11 (dk_at dksX15_cost_0 1 rfl rfl)
theorem dX15_cost_4 : decode cX15_cost 4 = .ok (.aload_n 0, 1) := dk_42 (dk_at dksX15_cost_0 4 rfl rfl)
theorem dX15_cost_5 : decode cX15_cost 5 = .ok (.getfield 15, 3) := dk_180 0 15 (dk_at dksX15_cost_0 5 rfl rfl)
theorem dX15_cost_8 : decode cX15_cost 8 = .ok (.iadd, 1) := dk_96 (dk_at dksX15_cost_0 8 rfl rfl)
theorem dX15_cost_9 : decode cX15_cost 9 = .ok (.ireturn, 1) := dk_172 (dk_at dksX15_cost_0 9 rfl rfl)
theorem q90 : (Jvm.Cond.initialized "BladeBetweenThumbs$Slipped") ∈ lw_all := lw_g (lw_at lw_m1 21 rfl) rfl
theorem q339 : (Jvm.Cond.fieldLink "BladeBetweenThumbs$Slipped" (15 : Nat) "BladeBetweenThumbs$Slipped" "figure" "I") ∈ lw_all := lw_g (lw_at lw_m2 30 rfl) rfl
theorem q340 : (Jvm.Cond.sameField "BladeBetweenThumbs$Slipped" "BladeBetweenThumbs$Blow" "figure" "I") ∈ lw_all := lw_g (lw_at lw_m2 31 rfl) rfl
theorem q396 : (Jvm.Cond.instantiable "BladeBetweenThumbs$Slipped" (1 : Nat)) ∈ lw_all := lw_g (lw_at lw_m2 87 rfl) rfl
theorem q398 : (Jvm.Cond.instanceMethod ({ cls := "BladeBetweenThumbs$Slipped", name := "<init>", desc := "(I)V" } : Jvm.MethodName)) ∈ lw_all := lw_g (lw_at lw_m2 89 rfl) rfl
theorem q399 : (Jvm.Cond.code ({ cls := "BladeBetweenThumbs$Slipped", name := "<init>", desc := "(I)V" } : Jvm.MethodName) prog_12_method_1_code (2 : Nat) (Option.none : Option Jvm.ClassFile.FieldType)) ∈ lw_all := lw_g (lw_at lw_m2 90 rfl) rfl
theorem q400 : (Jvm.Cond.methodLink "BladeBetweenThumbs$Slipped" (1 : Nat) ({ cls := "BladeBetweenThumbs$Empty", name := "<init>", desc := "(I)V" } : Jvm.MethodName)) ∈ lw_all := lw_g (lw_at lw_m2 91 rfl) rfl
theorem q401 : (Jvm.Cond.laysFinal "BladeBetweenThumbs$Slipped" "BladeBetweenThumbs$Blow" "figure" "I") ∈ lw_all := lw_g (lw_at lw_m2 92 rfl) rfl
theorem q402 : (Jvm.Cond.superclass "BladeBetweenThumbs$Slipped" "BladeBetweenThumbs$Empty") ∈ lw_all := lw_g (lw_at lw_m2 93 rfl) rfl
theorem q444 : (Jvm.Cond.selects "BladeBetweenThumbs$Slipped" ({ cls := "BladeBetweenThumbs$Wears", name := "wears", desc := "(I)I" } : Jvm.MethodName) ({ cls := "BladeBetweenThumbs$Slipped", name := "wears", desc := "(I)I" } : Jvm.MethodName)) ∈ lw_all := lw_g (lw_at lw_m2 135 rfl) rfl
theorem q445 : (Jvm.Cond.instanceMethod ({ cls := "BladeBetweenThumbs$Slipped", name := "wears", desc := "(I)I" } : Jvm.MethodName)) ∈ lw_all := lw_g (lw_at lw_m2 136 rfl) rfl
theorem q446 : (Jvm.Cond.code ({ cls := "BladeBetweenThumbs$Slipped", name := "wears", desc := "(I)I" } : Jvm.MethodName) prog_12_method_3_code (2 : Nat) (Option.some Jvm.ClassFile.FieldType.int)) ∈ lw_all := lw_g (lw_at lw_m2 137 rfl) rfl
theorem q484 : (Jvm.Cond.selects "BladeBetweenThumbs$Slipped" ({ cls := "BladeBetweenThumbs$Blow", name := "low", desc := "(II)I" } : Jvm.MethodName) ({ cls := "BladeBetweenThumbs$Blow", name := "low", desc := "(II)I" } : Jvm.MethodName)) ∈ lw_all := lw_g (lw_at lw_m2 175 rfl) rfl
theorem q507 : (Jvm.Cond.unhidden "BladeBetweenThumbs$Slipped" "above" "(I)I") ∈ lw_tbl := lw_at lw_m2 198 rfl
theorem q531 : (Jvm.Cond.selects "BladeBetweenThumbs$Slipped" ({ cls := "BladeBetweenThumbs$Blow", name := "softest", desc := "(I)I" } : Jvm.MethodName) ({ cls := "BladeBetweenThumbs$Empty", name := "softest", desc := "(I)I" } : Jvm.MethodName)) ∈ lw_all := lw_g (lw_at lw_m2 222 rfl) rfl
theorem q548 : (Jvm.Cond.unhidden "BladeBetweenThumbs$Slipped" "over" "()I") ∈ lw_tbl := lw_at lw_m2 239 rfl
theorem q588 : (Jvm.Cond.selects "BladeBetweenThumbs$Slipped" ({ cls := "BladeBetweenThumbs$Blow", name := "kind", desc := "()I" } : Jvm.MethodName) ({ cls := "BladeBetweenThumbs$Slipped", name := "kind", desc := "()I" } : Jvm.MethodName)) ∈ lw_all := lw_g (lw_at lw_m3 39 rfl) rfl
theorem q589 : (Jvm.Cond.instanceMethod ({ cls := "BladeBetweenThumbs$Slipped", name := "kind", desc := "()I" } : Jvm.MethodName)) ∈ lw_all := lw_g (lw_at lw_m3 40 rfl) rfl
theorem q590 : (Jvm.Cond.code ({ cls := "BladeBetweenThumbs$Slipped", name := "kind", desc := "()I" } : Jvm.MethodName) prog_12_method_2_code (1 : Nat) (Option.some Jvm.ClassFile.FieldType.int)) ∈ lw_all := lw_g (lw_at lw_m3 41 rfl) rfl
theorem q657 : (Jvm.Cond.unhidden "BladeBetweenThumbs$Slipped" "pitch" "(III)I") ∈ lw_tbl := lw_at lw_m3 108 rfl
theorem q1133 : (Jvm.Cond.selects "BladeBetweenThumbs$Slipped" ({ cls := "BladeBetweenThumbs$Blow", name := "cost", desc := "()I" } : Jvm.MethodName) ({ cls := "BladeBetweenThumbs$Slipped", name := "cost", desc := "()I" } : Jvm.MethodName)) ∈ lw_all := lw_g (lw_at lw_m5 104 rfl) rfl
theorem q1134 : (Jvm.Cond.instanceMethod ({ cls := "BladeBetweenThumbs$Slipped", name := "cost", desc := "()I" } : Jvm.MethodName)) ∈ lw_all := lw_g (lw_at lw_m5 105 rfl) rfl
theorem q1135 : (Jvm.Cond.code ({ cls := "BladeBetweenThumbs$Slipped", name := "cost", desc := "()I" } : Jvm.MethodName) prog_12_method_4_code (1 : Nat) (Option.some Jvm.ClassFile.FieldType.int)) ∈ lw_all := lw_g (lw_at lw_m5 106 rfl) rfl
theorem q1136 : (Jvm.Cond.methodLink "BladeBetweenThumbs$Slipped" (11 : Nat) ({ cls := "BladeBetweenThumbs$Empty", name := "cost", desc := "()I" } : Jvm.MethodName)) ∈ lw_all := lw_g (lw_at lw_m5 107 rfl) rfl
theorem q1192 : (Jvm.Cond.selects "BladeBetweenThumbs$Slipped" ({ cls := "BladeBetweenThumbs$Blow", name := "failure", desc := "()LBladeBetweenThumbs$Tossed;" } : Jvm.MethodName) ({ cls := "BladeBetweenThumbs$Empty", name := "failure", desc := "()LBladeBetweenThumbs$Tossed;" } : Jvm.MethodName)) ∈ lw_all := lw_g (lw_at lw_m5 163 rfl) rfl
theorem q1733 : (Jvm.Cond.castable "BladeBetweenThumbs$Slipped" "BladeBetweenThumbs$Blow") ∈ lw_tbl := lw_at lw_m7 224 rfl
theorem in_X15 : ∀ w ∈ wsX150, w ∈ lw_all := lw_in wsX150 [401] (by decide +kernel) (by decide +kernel)

/-! BladeBetweenThumbs$Tossed -/
set_option maxRecDepth 100000
def RX16 : String := "BladeBetweenThumbs$Tossed"
def TX16 : u_T := fun k => match k with
  | 0 => ("java/lang/Throwable", "cause", "Ljava/lang/Throwable;", false)
  | 1 => ("java/lang/Throwable", "stackTrace", "[Ljava/lang/StackTraceElement;", false)
  | 2 => ("java/lang/Throwable", "suppressedExceptions", "Ljava/util/List;", false)
  | 3 => ("java/lang/Throwable", "detailMessage", "Ljava/lang/String;", false)
  | 4 => ("java/lang/Throwable", "backtrace", "Ljava/lang/Object;", false)
  | 5 => ("java/lang/Throwable", "depth", "I", false)
  | _ => ("BladeBetweenThumbs$Tossed", "n", "I", true)
def tyX16 : Nat → FieldType := fun k => match k with
  | 0 => .object "java/lang/Throwable"
  | 1 => .array (.object "java/lang/StackTraceElement")
  | 2 => .object "java/util/List"
  | 3 => .object "java/lang/String"
  | 4 => .object "java/lang/Object"
  | 5 => .int
  | _ => .int
abbrev wsX160 : List Cond := u_ws RX16 TX16 7
theorem nmX16 : ∀ a, a < 7 → ∀ b, b < 7 → a ≠ b → (TX16 a).2.1 ≠ (TX16 b).2.1 := by decide +kernel
theorem tyX16_ok : ∀ k, k < 7 → parseFieldDescriptor (TX16 k).2.2.1 = some (tyX16 k) := by decide +kernel
abbrev cX16_init : ByteArray := prog_19_method_1_code
def yX16_init : MethodName := ⟨RX16, "<init>", "(I)V"⟩
def dkwX16_init_0 : List UInt8 := [42, 183, 0, 1, 42, 27, 181, 0, 7, 177]
abbrev dktX16_init_0 : List UInt8 := dkwX16_init_0 ++ []
theorem dksX16_init_0 : cX16_init.data.toList.drop 0 = dktX16_init_0 := by decide +kernel
theorem dX16_init_0 : decode cX16_init 0 = .ok (.aload_n 0, 1) := dk_42 (dk_at dksX16_init_0 0 rfl rfl)
theorem dX16_init_1 : decode cX16_init 1 = .ok (.invokespecial 1, 3) := dk_183 0 1 (dk_at dksX16_init_0 1 rfl rfl)
theorem dX16_init_4 : decode cX16_init 4 = .ok (.aload_n 0, 1) := dk_42 (dk_at dksX16_init_0 4 rfl rfl)
theorem dX16_init_5 : decode cX16_init 5 = .ok (.iload_n 1, 1) := dk_27 (dk_at dksX16_init_0 5 rfl rfl)
theorem dX16_init_6 : decode cX16_init 6 = .ok (.putfield 7, 3) := dk_181 0 7 (dk_at dksX16_init_0 6 rfl rfl)
theorem dX16_init_9 : decode cX16_init 9 = .ok (.return_, 1) := dk_177 (dk_at dksX16_init_0 9 rfl rfl)
theorem q100 : (Jvm.Cond.initialized "BladeBetweenThumbs$Tossed") ∈ lw_all := lw_g (lw_at lw_m1 31 rfl) rfl
theorem q129 : (Jvm.Cond.selects "BladeBetweenThumbs$Tossed" ({ cls := "java/lang/Throwable", name := "fillInStackTrace", desc := "()Ljava/lang/Throwable;" } : Jvm.MethodName) ({ cls := "java/lang/Throwable", name := "fillInStackTrace", desc := "()Ljava/lang/Throwable;" } : Jvm.MethodName)) ∈ lw_all := lw_g (lw_at lw_m1 60 rfl) rfl
theorem q1161 : (Jvm.Cond.instantiable "BladeBetweenThumbs$Tossed" (7 : Nat)) ∈ lw_all := lw_g (lw_at lw_m5 132 rfl) rfl
theorem q1162 : (Jvm.Cond.castable "BladeBetweenThumbs$Tossed" "BladeBetweenThumbs$Tossed") ∈ lw_tbl := lw_at lw_m5 133 rfl
theorem q1163 : (Jvm.Cond.selects "BladeBetweenThumbs$Tossed" ({ cls := "java/lang/Throwable", name := "fillInStackTrace", desc := "(I)Ljava/lang/Throwable;" } : Jvm.MethodName) ({ cls := "java/lang/Throwable", name := "fillInStackTrace", desc := "(I)Ljava/lang/Throwable;" } : Jvm.MethodName)) ∈ lw_all := lw_g (lw_at lw_m5 134 rfl) rfl
theorem q1164 : (Jvm.Cond.lays "BladeBetweenThumbs$Tossed" "java/lang/Throwable" "cause" "Ljava/lang/Throwable;") ∈ lw_all := lw_g (lw_at lw_m5 135 rfl) rfl
theorem q1165 : (Jvm.Cond.lays "BladeBetweenThumbs$Tossed" "java/lang/Throwable" "stackTrace" "[Ljava/lang/StackTraceElement;") ∈ lw_all := lw_g (lw_at lw_m5 136 rfl) rfl
theorem q1166 : (Jvm.Cond.lays "BladeBetweenThumbs$Tossed" "java/lang/Throwable" "suppressedExceptions" "Ljava/util/List;") ∈ lw_all := lw_g (lw_at lw_m5 137 rfl) rfl
theorem q1167 : (Jvm.Cond.lays "BladeBetweenThumbs$Tossed" "java/lang/Throwable" "detailMessage" "Ljava/lang/String;") ∈ lw_all := lw_g (lw_at lw_m5 138 rfl) rfl
theorem q1168 : (Jvm.Cond.lays "BladeBetweenThumbs$Tossed" "java/lang/Throwable" "backtrace" "Ljava/lang/Object;") ∈ lw_all := lw_g (lw_at lw_m5 139 rfl) rfl
theorem q1170 : (Jvm.Cond.instanceMethod ({ cls := "BladeBetweenThumbs$Tossed", name := "<init>", desc := "(I)V" } : Jvm.MethodName)) ∈ lw_all := lw_g (lw_at lw_m5 141 rfl) rfl
theorem q1171 : (Jvm.Cond.code ({ cls := "BladeBetweenThumbs$Tossed", name := "<init>", desc := "(I)V" } : Jvm.MethodName) prog_19_method_1_code (2 : Nat) (Option.none : Option Jvm.ClassFile.FieldType)) ∈ lw_all := lw_g (lw_at lw_m5 142 rfl) rfl
theorem q1172 : (Jvm.Cond.methodLink "BladeBetweenThumbs$Tossed" (1 : Nat) ({ cls := "java/lang/RuntimeException", name := "<init>", desc := "()V" } : Jvm.MethodName)) ∈ lw_all := lw_g (lw_at lw_m5 143 rfl) rfl
theorem q1173 : (Jvm.Cond.fieldLink "BladeBetweenThumbs$Tossed" (7 : Nat) "BladeBetweenThumbs$Tossed" "n" "I") ∈ lw_all := lw_g (lw_at lw_m5 144 rfl) rfl
theorem q1176 : (Jvm.Cond.laysFinal "BladeBetweenThumbs$Tossed" "BladeBetweenThumbs$Tossed" "n" "I") ∈ lw_all := lw_g (lw_at lw_m5 147 rfl) rfl
theorem q1177 : (Jvm.Cond.soleField "BladeBetweenThumbs$Tossed" "n") ∈ lw_all := lw_g (lw_at lw_m5 148 rfl) rfl
theorem q1178 : (Jvm.Cond.lays "BladeBetweenThumbs$Tossed" "java/lang/Throwable" "depth" "I") ∈ lw_all := lw_g (lw_at lw_m5 149 rfl) rfl
theorem q1179 : (Jvm.Cond.superclass "BladeBetweenThumbs$Tossed" "java/lang/RuntimeException") ∈ lw_all := lw_g (lw_at lw_m5 150 rfl) rfl
theorem in_X16 : ∀ w ∈ wsX160, w ∈ lw_all := lw_in wsX160 [1164, 1165, 1166, 1167, 1168, 1178, 1176] (by decide +kernel) (by decide +kernel)

/-! BladeBetweenThumbs$Wears -/
set_option maxRecDepth 100000
def RX17 : String := "BladeBetweenThumbs$Wears"
abbrev cX17_wears : ByteArray := prog_20_method_1_code
def yX17_wears : MethodName := ⟨RX17, "wears", "(I)I"⟩
def dkwX17_wears_0 : List UInt8 := [27, 16, 10, 108, 172]
abbrev dktX17_wears_0 : List UInt8 := dkwX17_wears_0 ++ []
theorem dksX17_wears_0 : cX17_wears.data.toList.drop 0 = dktX17_wears_0 := by decide +kernel
theorem dX17_wears_0 : decode cX17_wears 0 = .ok (.iload_n 1, 1) := dk_27 (dk_at dksX17_wears_0 0 rfl rfl)
theorem dX17_wears_1 : decode cX17_wears 1 = .ok (.bipush 10, 2) := dk_16 10 (dk_at dksX17_wears_0 1 rfl rfl)
theorem dX17_wears_3 : decode cX17_wears 3 = .ok (.idiv, 1) := dk_108 (dk_at dksX17_wears_0 3 rfl rfl)
theorem dX17_wears_4 : decode cX17_wears 4 = .ok (.ireturn, 1) := dk_172 (dk_at dksX17_wears_0 4 rfl rfl)
theorem q432 : (Jvm.Cond.declares ({ cls := "BladeBetweenThumbs$Wears", name := "wears", desc := "(I)I" } : Jvm.MethodName)) ∈ lw_tbl := lw_at lw_m2 123 rfl
theorem q437 : (Jvm.Cond.instanceMethod ({ cls := "BladeBetweenThumbs$Wears", name := "wears", desc := "(I)I" } : Jvm.MethodName)) ∈ lw_all := lw_g (lw_at lw_m2 128 rfl) rfl
theorem q438 : (Jvm.Cond.code ({ cls := "BladeBetweenThumbs$Wears", name := "wears", desc := "(I)I" } : Jvm.MethodName) prog_20_method_1_code (2 : Nat) (Option.some Jvm.ClassFile.FieldType.int)) ∈ lw_all := lw_g (lw_at lw_m2 129 rfl) rfl
theorem q454 : (Jvm.Cond.publicMethod ({ cls := "BladeBetweenThumbs$Wears", name := "wears", desc := "(I)I" } : Jvm.MethodName)) ∈ lw_tbl := lw_at lw_m2 145 rfl
theorem q1725 : (Jvm.Cond.initialized "BladeBetweenThumbs$Wears") ∈ lw_all := lw_g (lw_at lw_m7 216 rfl) rfl

/-! BladeBetweenThumbs$Stretches -/
set_option maxRecDepth 100000
def RX18 : String := "BladeBetweenThumbs$Stretches"
abbrev cX18_above : ByteArray := prog_17_method_2_code
def yX18_above : MethodName := ⟨RX18, "above", "(I)I"⟩
def dkwX18_above_0 : List UInt8 := [16, 8, 27, 96, 172]
abbrev dktX18_above_0 : List UInt8 := dkwX18_above_0 ++ []
theorem dksX18_above_0 : cX18_above.data.toList.drop 0 = dktX18_above_0 := by decide +kernel
theorem dX18_above_0 : decode cX18_above 0 = .ok (.bipush 8, 2) := dk_16 8 (dk_at dksX18_above_0 0 rfl rfl)
theorem dX18_above_2 : decode cX18_above 2 = .ok (.iload_n 1, 1) := dk_27 (dk_at dksX18_above_0 2 rfl rfl)
theorem dX18_above_3 : decode cX18_above 3 = .ok (.iadd, 1) := dk_96 (dk_at dksX18_above_0 3 rfl rfl)
theorem dX18_above_4 : decode cX18_above 4 = .ok (.ireturn, 1) := dk_172 (dk_at dksX18_above_0 4 rfl rfl)
theorem q498 : (Jvm.Cond.declares ({ cls := "BladeBetweenThumbs$Stretches", name := "above", desc := "(I)I" } : Jvm.MethodName)) ∈ lw_tbl := lw_at lw_m2 189 rfl
theorem q505 : (Jvm.Cond.instanceMethod ({ cls := "BladeBetweenThumbs$Stretches", name := "above", desc := "(I)I" } : Jvm.MethodName)) ∈ lw_all := lw_g (lw_at lw_m2 196 rfl) rfl
theorem q506 : (Jvm.Cond.code ({ cls := "BladeBetweenThumbs$Stretches", name := "above", desc := "(I)I" } : Jvm.MethodName) prog_17_method_2_code (2 : Nat) (Option.some Jvm.ClassFile.FieldType.int)) ∈ lw_all := lw_g (lw_at lw_m2 197 rfl) rfl
theorem q511 : (Jvm.Cond.publicMethod ({ cls := "BladeBetweenThumbs$Stretches", name := "above", desc := "(I)I" } : Jvm.MethodName)) ∈ lw_tbl := lw_at lw_m2 202 rfl
theorem q1726 : (Jvm.Cond.initialized "BladeBetweenThumbs$Stretches") ∈ lw_all := lw_g (lw_at lw_m7 217 rfl) rfl

/-! BladeBetweenThumbs$Blows -/
set_option maxRecDepth 100000
def RX19 : String := "BladeBetweenThumbs$Blows"
abbrev cX19_over : ByteArray := prog_3_method_2_code
def yX19_over : MethodName := ⟨RX19, "over", "()I"⟩
theorem dX19_over_0 : decode cX19_over 0 = .ok (.bipush 20, 2) := by decide +kernel
theorem dX19_over_2 : decode cX19_over 2 = .ok (.ireturn, 1) := by decide +kernel
theorem q543 : (Jvm.Cond.declares ({ cls := "BladeBetweenThumbs$Blows", name := "over", desc := "()I" } : Jvm.MethodName)) ∈ lw_tbl := lw_at lw_m2 234 rfl
theorem q552 : (Jvm.Cond.instanceMethod ({ cls := "BladeBetweenThumbs$Blows", name := "over", desc := "()I" } : Jvm.MethodName)) ∈ lw_all := lw_g (lw_at lw_m3 3 rfl) rfl
theorem q553 : (Jvm.Cond.code ({ cls := "BladeBetweenThumbs$Blows", name := "over", desc := "()I" } : Jvm.MethodName) prog_3_method_2_code (1 : Nat) (Option.some Jvm.ClassFile.FieldType.int)) ∈ lw_all := lw_g (lw_at lw_m3 4 rfl) rfl
theorem q558 : (Jvm.Cond.publicMethod ({ cls := "BladeBetweenThumbs$Blows", name := "over", desc := "()I" } : Jvm.MethodName)) ∈ lw_tbl := lw_at lw_m3 9 rfl
theorem q1727 : (Jvm.Cond.initialized "BladeBetweenThumbs$Blows") ∈ lw_all := lw_g (lw_at lw_m7 218 rfl) rfl

/-! BladeBetweenThumbs$Hedge -/
set_option maxRecDepth 100000
def RX2 : String := "BladeBetweenThumbs$Hedge"
def TX2 : u_T := fun k => match k with
  | 0 => ("BladeBetweenThumbs$Hedge", "breadth", "[I", true)
  | 1 => ("BladeBetweenThumbs$Hedge", "length", "[I", true)
  | 2 => ("BladeBetweenThumbs$Hedge", "wet", "[I", true)
  | 3 => ("BladeBetweenThumbs$Hedge", "wear", "[I", true)
  | 4 => ("BladeBetweenThumbs$Hedge", "slit", "[I", true)
  | 5 => ("BladeBetweenThumbs$Hedge", "grip", "[I", true)
  | 6 => ("BladeBetweenThumbs$Hedge", "blow", "[LBladeBetweenThumbs$Blow;", true)
  | 7 => ("BladeBetweenThumbs$Hedge", "blades", "I", false)
  | 8 => ("BladeBetweenThumbs$Hedge", "thumbs", "I", false)
  | 9 => ("BladeBetweenThumbs$Hedge", "blows", "I", false)
  | _ => ("BladeBetweenThumbs$Hedge", "lower", "I", false)
def tyX2 : Nat → FieldType := fun k => match k with
  | 0 => .array .int
  | 1 => .array .int
  | 2 => .array .int
  | 3 => .array .int
  | 4 => .array .int
  | 5 => .array .int
  | 6 => .array (.object "BladeBetweenThumbs$Blow")
  | 7 => .int
  | 8 => .int
  | 9 => .int
  | _ => .int
abbrev wsX20 : List Cond := u_ws RX2 TX2 11
theorem nmX2 : ∀ a, a < 11 → ∀ b, b < 11 → a ≠ b → (TX2 a).2.1 ≠ (TX2 b).2.1 := by decide +kernel
theorem tyX2_ok : ∀ k, k < 11 → parseFieldDescriptor (TX2 k).2.2.1 = some (tyX2 k) := by decide +kernel
abbrev cX2_takes : ByteArray := prog_8_method_3_code
def yX2_takes : MethodName := ⟨RX2, "takes", "(LBladeBetweenThumbs$Hedge;)V"⟩
def dkwX2_takes_4 : List UInt8 := [180, 0, 50, 181, 0, 50, 42, 43, 180, 0, 53, 181, 0, 53, 42, 3, 181, 0, 56, 177]
abbrev dktX2_takes_4 : List UInt8 := dkwX2_takes_4 ++ []
def dkwX2_takes_3 : List UInt8 := [180, 0, 32, 3, 42, 180, 0, 32, 3, 16, 6, 184, 0, 36, 42, 43, 180, 0, 46, 181, 0, 46, 42, 43]
abbrev dktX2_takes_3 : List UInt8 := dkwX2_takes_3 ++ dktX2_takes_4
def dkwX2_takes_2 : List UInt8 := [180, 0, 24, 42, 180, 0, 24, 184, 0, 42, 43, 180, 0, 27, 42, 180, 0, 27, 184, 0, 42, 43]
abbrev dktX2_takes_2 : List UInt8 := dkwX2_takes_2 ++ dktX2_takes_3
def dkwX2_takes_1 : List UInt8 := [180, 0, 18, 42, 180, 0, 18, 184, 0, 42, 43, 180, 0, 21, 42, 180, 0, 21, 184, 0, 42, 43]
abbrev dktX2_takes_1 : List UInt8 := dkwX2_takes_1 ++ dktX2_takes_2
def dkwX2_takes_0 : List UInt8 := [43, 180, 0, 9, 42, 180, 0, 9, 184, 0, 42, 43, 180, 0, 15, 42, 180, 0, 15, 184, 0, 42, 43]
abbrev dktX2_takes_0 : List UInt8 := dkwX2_takes_0 ++ dktX2_takes_1
theorem dksX2_takes_0 : cX2_takes.data.toList.drop 0 = dktX2_takes_0 := by decide +kernel
theorem dksX2_takes_1 : cX2_takes.data.toList.drop 23 = dktX2_takes_1 := dk_seg dksX2_takes_0 23 rfl rfl
theorem dksX2_takes_2 : cX2_takes.data.toList.drop 45 = dktX2_takes_2 := dk_seg dksX2_takes_1 22 rfl rfl
theorem dksX2_takes_3 : cX2_takes.data.toList.drop 67 = dktX2_takes_3 := dk_seg dksX2_takes_2 22 rfl rfl
theorem dksX2_takes_4 : cX2_takes.data.toList.drop 91 = dktX2_takes_4 := dk_seg dksX2_takes_3 24 rfl rfl
theorem dX2_takes_0 : decode cX2_takes 0 = .ok (.aload_n 1, 1) := dk_43 (dk_at dksX2_takes_0 0 rfl rfl)
theorem dX2_takes_1 : decode cX2_takes 1 = .ok (.getfield 9, 3) := dk_180 0 9 (dk_at dksX2_takes_0 1 rfl rfl)
theorem dX2_takes_4 : decode cX2_takes 4 = .ok (.aload_n 0, 1) := dk_42 (dk_at dksX2_takes_0 4 rfl rfl)
theorem dX2_takes_5 : decode cX2_takes 5 = .ok (.getfield 9, 3) := dk_180 0 9 (dk_at dksX2_takes_0 5 rfl rfl)
theorem dX2_takes_8 : decode cX2_takes 8 = .ok (.invokestatic 42, 3) := dk_184 0 42 (dk_at dksX2_takes_0 8 rfl rfl)
theorem dX2_takes_11 : decode cX2_takes 11 = .ok (.aload_n 1, 1) := dk_43 (dk_at dksX2_takes_0 11 rfl rfl)
theorem dX2_takes_12 : decode cX2_takes 12 = .ok (.getfield 15, 3) := dk_180 0 15 (dk_at dksX2_takes_0 12 rfl rfl)
theorem dX2_takes_15 : decode cX2_takes 15 = .ok (.aload_n 0, 1) := dk_42 (dk_at dksX2_takes_0 15 rfl rfl)
theorem dX2_takes_16 : decode cX2_takes 16 = .ok (.getfield 15, 3) := dk_180 0 15 (dk_at dksX2_takes_0 16 rfl rfl)
theorem dX2_takes_19 : decode cX2_takes 19 = .ok (.invokestatic 42, 3) := dk_184 0 42 (dk_at dksX2_takes_0 19 rfl rfl)
theorem dX2_takes_22 : decode cX2_takes 22 = .ok (.aload_n 1, 1) := dk_43 (dk_at dksX2_takes_0 22 rfl rfl)
theorem dX2_takes_23 : decode cX2_takes 23 = .ok (.getfield 18, 3) := dk_180 0 18 (dk_at dksX2_takes_1 0 rfl rfl)
theorem dX2_takes_26 : decode cX2_takes 26 = .ok (.aload_n 0, 1) := dk_42 (dk_at dksX2_takes_1 3 rfl rfl)
theorem dX2_takes_27 : decode cX2_takes 27 = .ok (.getfield 18, 3) := dk_180 0 18 (dk_at dksX2_takes_1 4 rfl rfl)
theorem dX2_takes_30 : decode cX2_takes 30 = .ok (.invokestatic 42, 3) := dk_184 0 42 (dk_at dksX2_takes_1 7 rfl rfl)
theorem dX2_takes_33 : decode cX2_takes 33 = .ok (.aload_n 1, 1) := dk_43 (dk_at dksX2_takes_1 10 rfl rfl)
theorem dX2_takes_34 : decode cX2_takes 34 = .ok (.getfield 21, 3) := dk_180 0 21 (dk_at dksX2_takes_1 11 rfl rfl)
theorem dX2_takes_37 : decode cX2_takes 37 = .ok (.aload_n 0, 1) := dk_42 (dk_at dksX2_takes_1 14 rfl rfl)
theorem dX2_takes_38 : decode cX2_takes 38 = .ok (.getfield 21, 3) := dk_180 0 21 (dk_at dksX2_takes_1 15 rfl rfl)
theorem dX2_takes_41 : decode cX2_takes 41 = .ok (.invokestatic 42, 3) := dk_184 0 42 (dk_at dksX2_takes_1 18 rfl rfl)
theorem dX2_takes_44 : decode cX2_takes 44 = .ok (.aload_n 1, 1) := dk_43 (dk_at dksX2_takes_1 21 rfl rfl)
theorem dX2_takes_45 : decode cX2_takes 45 = .ok (.getfield 24, 3) := dk_180 0 24 (dk_at dksX2_takes_2 0 rfl rfl)
theorem dX2_takes_48 : decode cX2_takes 48 = .ok (.aload_n 0, 1) := dk_42 (dk_at dksX2_takes_2 3 rfl rfl)
theorem dX2_takes_49 : decode cX2_takes 49 = .ok (.getfield 24, 3) := dk_180 0 24 (dk_at dksX2_takes_2 4 rfl rfl)
theorem dX2_takes_52 : decode cX2_takes 52 = .ok (.invokestatic 42, 3) := dk_184 0 42 (dk_at dksX2_takes_2 7 rfl rfl)
theorem dX2_takes_55 : decode cX2_takes 55 = .ok (.aload_n 1, 1) := dk_43 (dk_at dksX2_takes_2 10 rfl rfl)
theorem dX2_takes_56 : decode cX2_takes 56 = .ok (.getfield 27, 3) := dk_180 0 27 (dk_at dksX2_takes_2 11 rfl rfl)
theorem dX2_takes_59 : decode cX2_takes 59 = .ok (.aload_n 0, 1) := dk_42 (dk_at dksX2_takes_2 14 rfl rfl)
theorem dX2_takes_60 : decode cX2_takes 60 = .ok (.getfield 27, 3) := dk_180 0 27 (dk_at dksX2_takes_2 15 rfl rfl)
theorem dX2_takes_63 : decode cX2_takes 63 = .ok (.invokestatic 42, 3) := dk_184 0 42 (dk_at dksX2_takes_2 18 rfl rfl)
theorem dX2_takes_66 : decode cX2_takes 66 = .ok (.aload_n 1, 1) := dk_43 (dk_at dksX2_takes_2 21 rfl rfl)
theorem dX2_takes_67 : decode cX2_takes 67 = .ok (.getfield 32, 3) := dk_180 0 32 (dk_at dksX2_takes_3 0 rfl rfl)
theorem dX2_takes_70 : decode cX2_takes 70 = .ok (.iconst 0, 1) := dk_3 (dk_at dksX2_takes_3 3 rfl rfl)
theorem dX2_takes_71 : decode cX2_takes 71 = .ok (.aload_n 0, 1) := dk_42 (dk_at dksX2_takes_3 4 rfl rfl)
theorem dX2_takes_72 : decode cX2_takes 72 = .ok (.getfield 32, 3) := dk_180 0 32 (dk_at dksX2_takes_3 5 rfl rfl)
theorem dX2_takes_75 : decode cX2_takes 75 = .ok (.iconst 0, 1) := dk_3 (dk_at dksX2_takes_3 8 rfl rfl)
theorem dX2_takes_76 : decode cX2_takes 76 = .ok (.bipush 6, 2) := dk_16 6 (dk_at dksX2_takes_3 9 rfl rfl)
theorem dX2_takes_78 : decode cX2_takes 78 = .ok (.invokestatic 36, 3) := dk_184 0 36 (dk_at dksX2_takes_3 11 rfl rfl)
theorem dX2_takes_81 : decode cX2_takes 81 = .ok (.aload_n 0, 1) := dk_42 (dk_at dksX2_takes_3 14 rfl rfl)
theorem dX2_takes_82 : decode cX2_takes 82 = .ok (.aload_n 1, 1) := dk_43 (dk_at dksX2_takes_3 15 rfl rfl)
theorem dX2_takes_83 : decode cX2_takes 83 = .ok (.getfield 46, 3) := dk_180 0 46 (dk_at dksX2_takes_3 16 rfl rfl)
theorem dX2_takes_86 : decode cX2_takes 86 = .ok (.putfield 46, 3) := dk_181 0 46 (dk_at dksX2_takes_3 19 rfl rfl)
theorem dX2_takes_89 : decode cX2_takes 89 = .ok (.aload_n 0, 1) := dk_42 (dk_at dksX2_takes_3 22 rfl rfl)
theorem dX2_takes_90 : decode cX2_takes 90 = .ok (.aload_n 1, 1) := dk_43 (dk_at dksX2_takes_3 23 rfl rfl)
theorem dX2_takes_91 : decode cX2_takes 91 = .ok (.getfield 50, 3) := dk_180 0 50 (dk_at dksX2_takes_4 0 rfl rfl)
theorem dX2_takes_94 : decode cX2_takes 94 = .ok (.putfield 50, 3) := dk_181 0 50 (dk_at dksX2_takes_4 3 rfl rfl)
theorem dX2_takes_97 : decode cX2_takes 97 = .ok (.aload_n 0, 1) := dk_42 (dk_at dksX2_takes_4 6 rfl rfl)
theorem dX2_takes_98 : decode cX2_takes 98 = .ok (.aload_n 1, 1) := dk_43 (dk_at dksX2_takes_4 7 rfl rfl)
theorem dX2_takes_99 : decode cX2_takes 99 = .ok (.getfield 53, 3) := dk_180 0 53 (dk_at dksX2_takes_4 8 rfl rfl)
theorem dX2_takes_102 : decode cX2_takes 102 = .ok (.putfield 53, 3) := dk_181 0 53 (dk_at dksX2_takes_4 11 rfl rfl)
theorem dX2_takes_105 : decode cX2_takes 105 = .ok (.aload_n 0, 1) := dk_42 (dk_at dksX2_takes_4 14 rfl rfl)
theorem dX2_takes_106 : decode cX2_takes 106 = .ok (.iconst 0, 1) := dk_3 (dk_at dksX2_takes_4 15 rfl rfl)
theorem dX2_takes_107 : decode cX2_takes 107 = .ok (.putfield 56, 3) := dk_181 0 56 (dk_at dksX2_takes_4 16 rfl rfl)
theorem dX2_takes_110 : decode cX2_takes 110 = .ok (.return_, 1) := dk_177 (dk_at dksX2_takes_4 19 rfl rfl)
abbrev cX2_copies : ByteArray := prog_8_method_2_code
def yX2_copies : MethodName := ⟨RX2, "copies", "([I[I)V"⟩
def dkwX2_copies_0 : List UInt8 := [42, 3, 43, 3, 43, 190, 184, 0, 36, 177]
abbrev dktX2_copies_0 : List UInt8 := dkwX2_copies_0 ++ []
theorem dksX2_copies_0 : cX2_copies.data.toList.drop 0 = dktX2_copies_0 := by decide +kernel
theorem dX2_copies_0 : decode cX2_copies 0 = .ok (.aload_n 0, 1) := dk_42 (dk_at dksX2_copies_0 0 rfl rfl)
theorem dX2_copies_1 : decode cX2_copies 1 = .ok (.iconst 0, 1) := dk_3 (dk_at dksX2_copies_0 1 rfl rfl)
theorem dX2_copies_2 : decode cX2_copies 2 = .ok (.aload_n 1, 1) := dk_43 (dk_at dksX2_copies_0 2 rfl rfl)
theorem dX2_copies_3 : decode cX2_copies 3 = .ok (.iconst 0, 1) := dk_3 (dk_at dksX2_copies_0 3 rfl rfl)
theorem dX2_copies_4 : decode cX2_copies 4 = .ok (.aload_n 1, 1) := dk_43 (dk_at dksX2_copies_0 4 rfl rfl)
theorem dX2_copies_5 : decode cX2_copies 5 = .ok (.arraylength, 1) := dk_190 (dk_at dksX2_copies_0 5 rfl rfl)
theorem dX2_copies_6 : decode cX2_copies 6 = .ok (.invokestatic 36, 3) := dk_184 0 36 (dk_at dksX2_copies_0 6 rfl rfl)
theorem dX2_copies_9 : decode cX2_copies 9 = .ok (.return_, 1) := dk_177 (dk_at dksX2_copies_0 9 rfl rfl)
abbrev cX2_grows : ByteArray := prog_8_method_8_code
def yX2_grows : MethodName := ⟨RX2, "grows", "(III)I"⟩
def dkwX2_grows_2 : List UInt8 := [181, 0, 46, 42, 180, 0, 46, 4, 100, 172]
abbrev dktX2_grows_2 : List UInt8 := dkwX2_grows_2 ++ []
def dkwX2_grows_1 : List UInt8 := [42, 180, 0, 46, 29, 79, 42, 180, 0, 21, 42, 180, 0, 46, 3, 79, 42, 89, 180, 0, 46, 4, 96]
abbrev dktX2_grows_1 : List UInt8 := dkwX2_grows_1 ++ dktX2_grows_2
def dkwX2_grows_0 : List UInt8 := [42, 180, 0, 9, 42, 180, 0, 46, 27, 79, 42, 180, 0, 15, 42, 180, 0, 46, 28, 79, 42, 180, 0, 18]
abbrev dktX2_grows_0 : List UInt8 := dkwX2_grows_0 ++ dktX2_grows_1
theorem dksX2_grows_0 : cX2_grows.data.toList.drop 0 = dktX2_grows_0 := by decide +kernel
theorem dksX2_grows_1 : cX2_grows.data.toList.drop 24 = dktX2_grows_1 := dk_seg dksX2_grows_0 24 rfl rfl
theorem dksX2_grows_2 : cX2_grows.data.toList.drop 47 = dktX2_grows_2 := dk_seg dksX2_grows_1 23 rfl rfl
theorem dX2_grows_0 : decode cX2_grows 0 = .ok (.aload_n 0, 1) := dk_42 (dk_at dksX2_grows_0 0 rfl rfl)
theorem dX2_grows_1 : decode cX2_grows 1 = .ok (.getfield 9, 3) := dk_180 0 9 (dk_at dksX2_grows_0 1 rfl rfl)
theorem dX2_grows_4 : decode cX2_grows 4 = .ok (.aload_n 0, 1) := dk_42 (dk_at dksX2_grows_0 4 rfl rfl)
theorem dX2_grows_5 : decode cX2_grows 5 = .ok (.getfield 46, 3) := dk_180 0 46 (dk_at dksX2_grows_0 5 rfl rfl)
theorem dX2_grows_8 : decode cX2_grows 8 = .ok (.iload_n 1, 1) := dk_27 (dk_at dksX2_grows_0 8 rfl rfl)
theorem dX2_grows_9 : decode cX2_grows 9 = .ok (.iastore, 1) := dk_79 (dk_at dksX2_grows_0 9 rfl rfl)
theorem dX2_grows_10 : decode cX2_grows 10 = .ok (.aload_n 0, 1) := dk_42 (dk_at dksX2_grows_0 10 rfl rfl)
theorem dX2_grows_11 : decode cX2_grows 11 = .ok (.getfield 15, 3) := dk_180 0 15 (dk_at dksX2_grows_0 11 rfl rfl)
theorem dX2_grows_14 : decode cX2_grows 14 = .ok (.aload_n 0, 1) := dk_42 (dk_at dksX2_grows_0 14 rfl rfl)
theorem dX2_grows_15 : decode cX2_grows 15 = .ok (.getfield 46, 3) := dk_180 0 46 (dk_at dksX2_grows_0 15 rfl rfl)
theorem dX2_grows_18 : decode cX2_grows 18 = .ok (.iload_n 2, 1) := dk_28 (dk_at dksX2_grows_0 18 rfl rfl)
theorem dX2_grows_19 : decode cX2_grows 19 = .ok (.iastore, 1) := dk_79 (dk_at dksX2_grows_0 19 rfl rfl)
theorem dX2_grows_20 : decode cX2_grows 20 = .ok (.aload_n 0, 1) := dk_42 (dk_at dksX2_grows_0 20 rfl rfl)
theorem dX2_grows_21 : decode cX2_grows 21 = .ok (.getfield 18, 3) := dk_180 0 18 (dk_at dksX2_grows_0 21 rfl rfl)
theorem dX2_grows_24 : decode cX2_grows 24 = .ok (.aload_n 0, 1) := dk_42 (dk_at dksX2_grows_1 0 rfl rfl)
theorem dX2_grows_25 : decode cX2_grows 25 = .ok (.getfield 46, 3) := dk_180 0 46 (dk_at dksX2_grows_1 1 rfl rfl)
theorem dX2_grows_28 : decode cX2_grows 28 = .ok (.iload_n 3, 1) := dk_29 (dk_at dksX2_grows_1 4 rfl rfl)
theorem dX2_grows_29 : decode cX2_grows 29 = .ok (.iastore, 1) := dk_79 (dk_at dksX2_grows_1 5 rfl rfl)
theorem dX2_grows_30 : decode cX2_grows 30 = .ok (.aload_n 0, 1) := dk_42 (dk_at dksX2_grows_1 6 rfl rfl)
theorem dX2_grows_31 : decode cX2_grows 31 = .ok (.getfield 21, 3) := dk_180 0 21 (dk_at dksX2_grows_1 7 rfl rfl)
theorem dX2_grows_34 : decode cX2_grows 34 = .ok (.aload_n 0, 1) := dk_42 (dk_at dksX2_grows_1 10 rfl rfl)
theorem dX2_grows_35 : decode cX2_grows 35 = .ok (.getfield 46, 3) := dk_180 0 46 (dk_at dksX2_grows_1 11 rfl rfl)
theorem dX2_grows_38 : decode cX2_grows 38 = .ok (.iconst 0, 1) := dk_3 (dk_at dksX2_grows_1 14 rfl rfl)
theorem dX2_grows_39 : decode cX2_grows 39 = .ok (.iastore, 1) := dk_79 (dk_at dksX2_grows_1 15 rfl rfl)
theorem dX2_grows_40 : decode cX2_grows 40 = .ok (.aload_n 0, 1) := dk_42 (dk_at dksX2_grows_1 16 rfl rfl)
theorem dX2_grows_41 : decode cX2_grows 41 = .ok (.dup, 1) := dk_89 (dk_at dksX2_grows_1 17 rfl rfl)
theorem dX2_grows_42 : decode cX2_grows 42 = .ok (.getfield 46, 3) := dk_180 0 46 (dk_at dksX2_grows_1 18 rfl rfl)
theorem dX2_grows_45 : decode cX2_grows 45 = .ok (.iconst 1, 1) := dk_4 (dk_at dksX2_grows_1 21 rfl rfl)
theorem dX2_grows_46 : decode cX2_grows 46 = .ok (.iadd, 1) := dk_96 (dk_at dksX2_grows_1 22 rfl rfl)
theorem dX2_grows_47 : decode cX2_grows 47 = .ok (.putfield 46, 3) := dk_181 0 46 (dk_at dksX2_grows_2 0 rfl rfl)
theorem dX2_grows_50 : decode cX2_grows 50 = .ok (.aload_n 0, 1) := dk_42 (dk_at dksX2_grows_2 3 rfl rfl)
theorem dX2_grows_51 : decode cX2_grows 51 = .ok (.getfield 46, 3) := dk_180 0 46 (dk_at dksX2_grows_2 4 rfl rfl)
theorem dX2_grows_54 : decode cX2_grows 54 = .ok (.iconst 1, 1) := dk_4 (dk_at dksX2_grows_2 7 rfl rfl)
theorem dX2_grows_55 : decode cX2_grows 55 = .ok (.isub, 1) := dk_100 (dk_at dksX2_grows_2 8 rfl rfl)
theorem dX2_grows_56 : decode cX2_grows 56 = .ok (.ireturn, 1) := dk_172 (dk_at dksX2_grows_2 9 rfl rfl)
abbrev cX2_comes : ByteArray := prog_8_method_9_code
def yX2_comes : MethodName := ⟨RX2, "comes", "(II)I"⟩
def dkwX2_comes_1 : List UInt8 := [180, 0, 50, 4, 96, 181, 0, 50, 42, 180, 0, 50, 4, 100, 172]
abbrev dktX2_comes_1 : List UInt8 := dkwX2_comes_1 ++ []
def dkwX2_comes_0 : List UInt8 := [42, 180, 0, 24, 42, 180, 0, 50, 27, 79, 42, 180, 0, 27, 42, 180, 0, 50, 28, 79, 42, 89]
abbrev dktX2_comes_0 : List UInt8 := dkwX2_comes_0 ++ dktX2_comes_1
theorem dksX2_comes_0 : cX2_comes.data.toList.drop 0 = dktX2_comes_0 := by decide +kernel
theorem dksX2_comes_1 : cX2_comes.data.toList.drop 22 = dktX2_comes_1 := dk_seg dksX2_comes_0 22 rfl rfl
theorem dX2_comes_0 : decode cX2_comes 0 = .ok (.aload_n 0, 1) := dk_42 (dk_at dksX2_comes_0 0 rfl rfl)
theorem dX2_comes_1 : decode cX2_comes 1 = .ok (.getfield 24, 3) := dk_180 0 24 (dk_at dksX2_comes_0 1 rfl rfl)
theorem dX2_comes_4 : decode cX2_comes 4 = .ok (.aload_n 0, 1) := dk_42 (dk_at dksX2_comes_0 4 rfl rfl)
theorem dX2_comes_5 : decode cX2_comes 5 = .ok (.getfield 50, 3) := dk_180 0 50 (dk_at dksX2_comes_0 5 rfl rfl)
theorem dX2_comes_8 : decode cX2_comes 8 = .ok (.iload_n 1, 1) := dk_27 (dk_at dksX2_comes_0 8 rfl rfl)
theorem dX2_comes_9 : decode cX2_comes 9 = .ok (.iastore, 1) := dk_79 (dk_at dksX2_comes_0 9 rfl rfl)
theorem dX2_comes_10 : decode cX2_comes 10 = .ok (.aload_n 0, 1) := dk_42 (dk_at dksX2_comes_0 10 rfl rfl)
theorem dX2_comes_11 : decode cX2_comes 11 = .ok (.getfield 27, 3) := dk_180 0 27 (dk_at dksX2_comes_0 11 rfl rfl)
theorem dX2_comes_14 : decode cX2_comes 14 = .ok (.aload_n 0, 1) := dk_42 (dk_at dksX2_comes_0 14 rfl rfl)
theorem dX2_comes_15 : decode cX2_comes 15 = .ok (.getfield 50, 3) := dk_180 0 50 (dk_at dksX2_comes_0 15 rfl rfl)
theorem dX2_comes_18 : decode cX2_comes 18 = .ok (.iload_n 2, 1) := dk_28 (dk_at dksX2_comes_0 18 rfl rfl)
theorem dX2_comes_19 : decode cX2_comes 19 = .ok (.iastore, 1) := dk_79 (dk_at dksX2_comes_0 19 rfl rfl)
theorem dX2_comes_20 : decode cX2_comes 20 = .ok (.aload_n 0, 1) := dk_42 (dk_at dksX2_comes_0 20 rfl rfl)
theorem dX2_comes_21 : decode cX2_comes 21 = .ok (.dup, 1) := dk_89 (dk_at dksX2_comes_0 21 rfl rfl)
theorem dX2_comes_22 : decode cX2_comes 22 = .ok (.getfield 50, 3) := dk_180 0 50 (dk_at dksX2_comes_1 0 rfl rfl)
theorem dX2_comes_25 : decode cX2_comes 25 = .ok (.iconst 1, 1) := dk_4 (dk_at dksX2_comes_1 3 rfl rfl)
theorem dX2_comes_26 : decode cX2_comes 26 = .ok (.iadd, 1) := dk_96 (dk_at dksX2_comes_1 4 rfl rfl)
theorem dX2_comes_27 : decode cX2_comes 27 = .ok (.putfield 50, 3) := dk_181 0 50 (dk_at dksX2_comes_1 5 rfl rfl)
theorem dX2_comes_30 : decode cX2_comes 30 = .ok (.aload_n 0, 1) := dk_42 (dk_at dksX2_comes_1 8 rfl rfl)
theorem dX2_comes_31 : decode cX2_comes 31 = .ok (.getfield 50, 3) := dk_180 0 50 (dk_at dksX2_comes_1 9 rfl rfl)
theorem dX2_comes_34 : decode cX2_comes 34 = .ok (.iconst 1, 1) := dk_4 (dk_at dksX2_comes_1 12 rfl rfl)
theorem dX2_comes_35 : decode cX2_comes 35 = .ok (.isub, 1) := dk_100 (dk_at dksX2_comes_1 13 rfl rfl)
theorem dX2_comes_36 : decode cX2_comes 36 = .ok (.ireturn, 1) := dk_172 (dk_at dksX2_comes_1 14 rfl rfl)
abbrev cX2_learns : ByteArray := prog_8_method_10_code
def yX2_learns : MethodName := ⟨RX2, "learns", "(LBladeBetweenThumbs$Blow;)I"⟩
def dkwX2_learns_1 : List UInt8 := [4, 100, 172]
abbrev dktX2_learns_1 : List UInt8 := dkwX2_learns_1 ++ []
def dkwX2_learns_0 : List UInt8 := [42, 180, 0, 32, 42, 180, 0, 53, 43, 83, 42, 89, 180, 0, 53, 4, 96, 181, 0, 53, 42, 180, 0, 53]
abbrev dktX2_learns_0 : List UInt8 := dkwX2_learns_0 ++ dktX2_learns_1
theorem dksX2_learns_0 : cX2_learns.data.toList.drop 0 = dktX2_learns_0 := by decide +kernel
theorem dksX2_learns_1 : cX2_learns.data.toList.drop 24 = dktX2_learns_1 := dk_seg dksX2_learns_0 24 rfl rfl
theorem dX2_learns_0 : decode cX2_learns 0 = .ok (.aload_n 0, 1) := dk_42 (dk_at dksX2_learns_0 0 rfl rfl)
theorem dX2_learns_1 : decode cX2_learns 1 = .ok (.getfield 32, 3) := dk_180 0 32 (dk_at dksX2_learns_0 1 rfl rfl)
theorem dX2_learns_4 : decode cX2_learns 4 = .ok (.aload_n 0, 1) := dk_42 (dk_at dksX2_learns_0 4 rfl rfl)
theorem dX2_learns_5 : decode cX2_learns 5 = .ok (.getfield 53, 3) := dk_180 0 53 (dk_at dksX2_learns_0 5 rfl rfl)
theorem dX2_learns_8 : decode cX2_learns 8 = .ok (.aload_n 1, 1) := dk_43 (dk_at dksX2_learns_0 8 rfl rfl)
theorem dX2_learns_9 : decode cX2_learns 9 = .ok (.aastore, 1) := dk_83 (dk_at dksX2_learns_0 9 rfl rfl)
theorem dX2_learns_10 : decode cX2_learns 10 = .ok (.aload_n 0, 1) := dk_42 (dk_at dksX2_learns_0 10 rfl rfl)
theorem dX2_learns_11 : decode cX2_learns 11 = .ok (.dup, 1) := dk_89 (dk_at dksX2_learns_0 11 rfl rfl)
theorem dX2_learns_12 : decode cX2_learns 12 = .ok (.getfield 53, 3) := dk_180 0 53 (dk_at dksX2_learns_0 12 rfl rfl)
theorem dX2_learns_15 : decode cX2_learns 15 = .ok (.iconst 1, 1) := dk_4 (dk_at dksX2_learns_0 15 rfl rfl)
theorem dX2_learns_16 : decode cX2_learns 16 = .ok (.iadd, 1) := dk_96 (dk_at dksX2_learns_0 16 rfl rfl)
theorem dX2_learns_17 : decode cX2_learns 17 = .ok (.putfield 53, 3) := dk_181 0 53 (dk_at dksX2_learns_0 17 rfl rfl)
theorem dX2_learns_20 : decode cX2_learns 20 = .ok (.aload_n 0, 1) := dk_42 (dk_at dksX2_learns_0 20 rfl rfl)
theorem dX2_learns_21 : decode cX2_learns 21 = .ok (.getfield 53, 3) := dk_180 0 53 (dk_at dksX2_learns_0 21 rfl rfl)
theorem dX2_learns_24 : decode cX2_learns 24 = .ok (.iconst 1, 1) := dk_4 (dk_at dksX2_learns_1 0 rfl rfl)
theorem dX2_learns_25 : decode cX2_learns 25 = .ok (.isub, 1) := dk_100 (dk_at dksX2_learns_1 1 rfl rfl)
theorem dX2_learns_26 : decode cX2_learns 26 = .ok (.ireturn, 1) := dk_172 (dk_at dksX2_learns_1 2 rfl rfl)
abbrev cX2_areAll : ByteArray := prog_8_method_7_code
def yX2_areAll : MethodName := ⟨RX2, "areAll", "(III)Z"⟩
def dkwX2_areAll_1 : List UInt8 := [4, 167, 0, 4, 3, 172]
abbrev dktX2_areAll_1 : List UInt8 := dkwX2_areAll_1 ++ []
def dkwX2_areAll_0 : List UInt8 := [42, 27, 182, 0, 63, 153, 0, 23, 42, 28, 182, 0, 67, 153, 0, 15, 42, 29, 182, 0, 70, 153, 0, 7]
abbrev dktX2_areAll_0 : List UInt8 := dkwX2_areAll_0 ++ dktX2_areAll_1
theorem dksX2_areAll_0 : cX2_areAll.data.toList.drop 0 = dktX2_areAll_0 := by decide +kernel
theorem dksX2_areAll_1 : cX2_areAll.data.toList.drop 24 = dktX2_areAll_1 := dk_seg dksX2_areAll_0 24 rfl rfl
theorem dX2_areAll_0 : decode cX2_areAll 0 = .ok (.aload_n 0, 1) := dk_42 (dk_at dksX2_areAll_0 0 rfl rfl)
theorem dX2_areAll_1 : decode cX2_areAll 1 = .ok (.iload_n 1, 1) := dk_27 (dk_at dksX2_areAll_0 1 rfl rfl)
theorem dX2_areAll_2 : decode cX2_areAll 2 = .ok (.invokevirtual 63, 3) := dk_182 0 63 (dk_at dksX2_areAll_0 2 rfl rfl)
theorem dX2_areAll_5 : decode cX2_areAll 5 = .ok (.ifCond .eq 23, 3) := dk_153 0 23 (dk_at dksX2_areAll_0 5 rfl rfl)
theorem dX2_areAll_8 : decode cX2_areAll 8 = .ok (.aload_n 0, 1) := dk_42 (dk_at dksX2_areAll_0 8 rfl rfl)
theorem dX2_areAll_9 : decode cX2_areAll 9 = .ok (.iload_n 2, 1) := dk_28 (dk_at dksX2_areAll_0 9 rfl rfl)
theorem dX2_areAll_10 : decode cX2_areAll 10 = .ok (.invokevirtual 67, 3) := dk_182 0 67 (dk_at dksX2_areAll_0 10 rfl rfl)
theorem dX2_areAll_13 : decode cX2_areAll 13 = .ok (.ifCond .eq 15, 3) := dk_153 0 15 (dk_at dksX2_areAll_0 13 rfl rfl)
theorem dX2_areAll_16 : decode cX2_areAll 16 = .ok (.aload_n 0, 1) := dk_42 (dk_at dksX2_areAll_0 16 rfl rfl)
theorem dX2_areAll_17 : decode cX2_areAll 17 = .ok (.iload_n 3, 1) := dk_29 (dk_at dksX2_areAll_0 17 rfl rfl)
theorem dX2_areAll_18 : decode cX2_areAll 18 = .ok (.invokevirtual 70, 3) := dk_182 0 70 (dk_at dksX2_areAll_0 18 rfl rfl)
theorem dX2_areAll_21 : decode cX2_areAll 21 = .ok (.ifCond .eq 7, 3) := dk_153 0 7 (dk_at dksX2_areAll_0 21 rfl rfl)
theorem dX2_areAll_24 : decode cX2_areAll 24 = .ok (.iconst 1, 1) := dk_4 (dk_at dksX2_areAll_1 0 rfl rfl)
theorem dX2_areAll_25 : decode cX2_areAll 25 = .ok (.goto 4, 3) := dk_167 0 4 (dk_at dksX2_areAll_1 1 rfl rfl)
theorem dX2_areAll_28 : decode cX2_areAll 28 = .ok (.iconst 0, 1) := dk_3 (dk_at dksX2_areAll_1 4 rfl rfl)
theorem dX2_areAll_29 : decode cX2_areAll 29 = .ok (.ireturn, 1) := dk_172 (dk_at dksX2_areAll_1 5 rfl rfl)
abbrev cX2_isBlade : ByteArray := prog_8_method_4_code
def yX2_isBlade : MethodName := ⟨RX2, "isBlade", "(I)Z"⟩
def dkwX2_isBlade_0 : List UInt8 := [27, 3, 42, 180, 0, 46, 4, 100, 184, 0, 59, 172]
abbrev dktX2_isBlade_0 : List UInt8 := dkwX2_isBlade_0 ++ []
theorem dksX2_isBlade_0 : cX2_isBlade.data.toList.drop 0 = dktX2_isBlade_0 := by decide +kernel
theorem dX2_isBlade_0 : decode cX2_isBlade 0 = .ok (.iload_n 1, 1) := dk_27 (dk_at dksX2_isBlade_0 0 rfl rfl)
theorem dX2_isBlade_1 : decode cX2_isBlade 1 = .ok (.iconst 0, 1) := dk_3 (dk_at dksX2_isBlade_0 1 rfl rfl)
theorem dX2_isBlade_2 : decode cX2_isBlade 2 = .ok (.aload_n 0, 1) := dk_42 (dk_at dksX2_isBlade_0 2 rfl rfl)
theorem dX2_isBlade_3 : decode cX2_isBlade 3 = .ok (.getfield 46, 3) := dk_180 0 46 (dk_at dksX2_isBlade_0 3 rfl rfl)
theorem dX2_isBlade_6 : decode cX2_isBlade 6 = .ok (.iconst 1, 1) := dk_4 (dk_at dksX2_isBlade_0 6 rfl rfl)
theorem dX2_isBlade_7 : decode cX2_isBlade 7 = .ok (.isub, 1) := dk_100 (dk_at dksX2_isBlade_0 7 rfl rfl)
theorem dX2_isBlade_8 : decode cX2_isBlade 8 = .ok (.invokestatic 59, 3) := dk_184 0 59 (dk_at dksX2_isBlade_0 8 rfl rfl)
theorem dX2_isBlade_11 : decode cX2_isBlade 11 = .ok (.ireturn, 1) := dk_172 (dk_at dksX2_isBlade_0 11 rfl rfl)
abbrev cX2_areThumbs : ByteArray := prog_8_method_5_code
def yX2_areThumbs : MethodName := ⟨RX2, "areThumbs", "(I)Z"⟩
def dkwX2_areThumbs_0 : List UInt8 := [27, 3, 42, 180, 0, 50, 4, 100, 184, 0, 59, 172]
abbrev dktX2_areThumbs_0 : List UInt8 := dkwX2_areThumbs_0 ++ []
theorem dksX2_areThumbs_0 : cX2_areThumbs.data.toList.drop 0 = dktX2_areThumbs_0 := by decide +kernel
theorem dX2_areThumbs_0 : decode cX2_areThumbs 0 = .ok (.iload_n 1, 1) := dk_27 (dk_at dksX2_areThumbs_0 0 rfl rfl)
theorem dX2_areThumbs_1 : decode cX2_areThumbs 1 = .ok (.iconst 0, 1) := dk_3 (dk_at dksX2_areThumbs_0 1 rfl rfl)
theorem dX2_areThumbs_2 : decode cX2_areThumbs 2 = .ok (.aload_n 0, 1) := dk_42 (dk_at dksX2_areThumbs_0 2 rfl rfl)
theorem dX2_areThumbs_3 : decode cX2_areThumbs 3 = .ok (.getfield 50, 3) := dk_180 0 50 (dk_at dksX2_areThumbs_0 3 rfl rfl)
theorem dX2_areThumbs_6 : decode cX2_areThumbs 6 = .ok (.iconst 1, 1) := dk_4 (dk_at dksX2_areThumbs_0 6 rfl rfl)
theorem dX2_areThumbs_7 : decode cX2_areThumbs 7 = .ok (.isub, 1) := dk_100 (dk_at dksX2_areThumbs_0 7 rfl rfl)
theorem dX2_areThumbs_8 : decode cX2_areThumbs 8 = .ok (.invokestatic 59, 3) := dk_184 0 59 (dk_at dksX2_areThumbs_0 8 rfl rfl)
theorem dX2_areThumbs_11 : decode cX2_areThumbs 11 = .ok (.ireturn, 1) := dk_172 (dk_at dksX2_areThumbs_0 11 rfl rfl)
abbrev cX2_isBlow : ByteArray := prog_8_method_6_code
def yX2_isBlow : MethodName := ⟨RX2, "isBlow", "(I)Z"⟩
def dkwX2_isBlow_0 : List UInt8 := [27, 3, 42, 180, 0, 53, 4, 100, 184, 0, 59, 172]
abbrev dktX2_isBlow_0 : List UInt8 := dkwX2_isBlow_0 ++ []
theorem dksX2_isBlow_0 : cX2_isBlow.data.toList.drop 0 = dktX2_isBlow_0 := by decide +kernel
theorem dX2_isBlow_0 : decode cX2_isBlow 0 = .ok (.iload_n 1, 1) := dk_27 (dk_at dksX2_isBlow_0 0 rfl rfl)
theorem dX2_isBlow_1 : decode cX2_isBlow 1 = .ok (.iconst 0, 1) := dk_3 (dk_at dksX2_isBlow_0 1 rfl rfl)
theorem dX2_isBlow_2 : decode cX2_isBlow 2 = .ok (.aload_n 0, 1) := dk_42 (dk_at dksX2_isBlow_0 2 rfl rfl)
theorem dX2_isBlow_3 : decode cX2_isBlow 3 = .ok (.getfield 53, 3) := dk_180 0 53 (dk_at dksX2_isBlow_0 3 rfl rfl)
theorem dX2_isBlow_6 : decode cX2_isBlow 6 = .ok (.iconst 1, 1) := dk_4 (dk_at dksX2_isBlow_0 6 rfl rfl)
theorem dX2_isBlow_7 : decode cX2_isBlow 7 = .ok (.isub, 1) := dk_100 (dk_at dksX2_isBlow_0 7 rfl rfl)
theorem dX2_isBlow_8 : decode cX2_isBlow 8 = .ok (.invokestatic 59, 3) := dk_184 0 59 (dk_at dksX2_isBlow_0 8 rfl rfl)
theorem dX2_isBlow_11 : decode cX2_isBlow 11 = .ok (.ireturn, 1) := dk_172 (dk_at dksX2_isBlow_0 11 rfl rfl)
abbrev cX2_isSplit : ByteArray := prog_8_method_11_code
def yX2_isSplit : MethodName := ⟨RX2, "isSplit", "(I)Z"⟩
def dkwX2_isSplit_1 : List UInt8 := [167, 0, 4, 3, 172]
abbrev dktX2_isSplit_1 : List UInt8 := dkwX2_isSplit_1 ++ []
def dkwX2_isSplit_0 : List UInt8 := [42, 180, 0, 21, 27, 46, 42, 180, 0, 15, 27, 46, 42, 180, 0, 18, 27, 46, 96, 164, 0, 7, 4]
abbrev dktX2_isSplit_0 : List UInt8 := dkwX2_isSplit_0 ++ dktX2_isSplit_1
theorem dksX2_isSplit_0 : cX2_isSplit.data.toList.drop 0 = dktX2_isSplit_0 := by decide +kernel
theorem dksX2_isSplit_1 : cX2_isSplit.data.toList.drop 23 = dktX2_isSplit_1 := dk_seg dksX2_isSplit_0 23 rfl rfl
theorem dX2_isSplit_0 : decode cX2_isSplit 0 = .ok (.aload_n 0, 1) := dk_42 (dk_at dksX2_isSplit_0 0 rfl rfl)
theorem dX2_isSplit_1 : decode cX2_isSplit 1 = .ok (.getfield 21, 3) := dk_180 0 21 (dk_at dksX2_isSplit_0 1 rfl rfl)
theorem dX2_isSplit_4 : decode cX2_isSplit 4 = .ok (.iload_n 1, 1) := dk_27 (dk_at dksX2_isSplit_0 4 rfl rfl)
theorem dX2_isSplit_5 : decode cX2_isSplit 5 = .ok (.iaload, 1) := dk_46 (dk_at dksX2_isSplit_0 5 rfl rfl)
theorem dX2_isSplit_6 : decode cX2_isSplit 6 = .ok (.aload_n 0, 1) := dk_42 (dk_at dksX2_isSplit_0 6 rfl rfl)
theorem dX2_isSplit_7 : decode cX2_isSplit 7 = .ok (.getfield 15, 3) := dk_180 0 15 (dk_at dksX2_isSplit_0 7 rfl rfl)
theorem dX2_isSplit_10 : decode cX2_isSplit 10 = .ok (.iload_n 1, 1) := dk_27 (dk_at dksX2_isSplit_0 10 rfl rfl)
theorem dX2_isSplit_11 : decode cX2_isSplit 11 = .ok (.iaload, 1) := dk_46 (dk_at dksX2_isSplit_0 11 rfl rfl)
theorem dX2_isSplit_12 : decode cX2_isSplit 12 = .ok (.aload_n 0, 1) := dk_42 (dk_at dksX2_isSplit_0 12 rfl rfl)
theorem dX2_isSplit_13 : decode cX2_isSplit 13 = .ok (.getfield 18, 3) := dk_180 0 18 (dk_at dksX2_isSplit_0 13 rfl rfl)
theorem dX2_isSplit_16 : decode cX2_isSplit 16 = .ok (.iload_n 1, 1) := dk_27 (dk_at dksX2_isSplit_0 16 rfl rfl)
theorem dX2_isSplit_17 : decode cX2_isSplit 17 = .ok (.iaload, 1) := dk_46 (dk_at dksX2_isSplit_0 17 rfl rfl)
theorem dX2_isSplit_18 : decode cX2_isSplit 18 = .ok (.iadd, 1) := dk_96 (dk_at dksX2_isSplit_0 18 rfl rfl)
theorem dX2_isSplit_19 : decode cX2_isSplit 19 = .ok (.if_icmp .le 7, 3) := dk_164 0 7 (dk_at dksX2_isSplit_0 19 rfl rfl)
theorem dX2_isSplit_22 : decode cX2_isSplit 22 = .ok (.iconst 1, 1) := dk_4 (dk_at dksX2_isSplit_0 22 rfl rfl)
theorem dX2_isSplit_23 : decode cX2_isSplit 23 = .ok (.goto 4, 3) := dk_167 0 4 (dk_at dksX2_isSplit_1 0 rfl rfl)
theorem dX2_isSplit_26 : decode cX2_isSplit 26 = .ok (.iconst 0, 1) := dk_3 (dk_at dksX2_isSplit_1 3 rfl rfl)
theorem dX2_isSplit_27 : decode cX2_isSplit 27 = .ok (.ireturn, 1) := dk_172 (dk_at dksX2_isSplit_1 4 rfl rfl)
abbrev cX2_tries : ByteArray := prog_8_method_19_code
def yX2_tries : MethodName := ⟨RX2, "tries", "(IIIII)Z"⟩
def dkwX2_tries_1 : List UInt8 := [21, 4, 21, 5, 182, 0, 114, 172]
abbrev dktX2_tries_1 : List UInt8 := dkwX2_tries_1 ++ []
def dkwX2_tries_0 : List UInt8 := [42, 180, 0, 21, 27, 92, 46, 42, 180, 0, 32, 29, 50, 21, 5, 182, 0, 111, 96, 79, 42, 27, 28, 29]
abbrev dktX2_tries_0 : List UInt8 := dkwX2_tries_0 ++ dktX2_tries_1
theorem dksX2_tries_0 : cX2_tries.data.toList.drop 0 = dktX2_tries_0 := by decide +kernel
theorem dksX2_tries_1 : cX2_tries.data.toList.drop 24 = dktX2_tries_1 := dk_seg dksX2_tries_0 24 rfl rfl
theorem dX2_tries_0 : decode cX2_tries 0 = .ok (.aload_n 0, 1) := dk_42 (dk_at dksX2_tries_0 0 rfl rfl)
theorem dX2_tries_1 : decode cX2_tries 1 = .ok (.getfield 21, 3) := dk_180 0 21 (dk_at dksX2_tries_0 1 rfl rfl)
theorem dX2_tries_4 : decode cX2_tries 4 = .ok (.iload_n 1, 1) := dk_27 (dk_at dksX2_tries_0 4 rfl rfl)
theorem dX2_tries_5 : decode cX2_tries 5 = .ok (.dup2, 1) := dk_92 (dk_at dksX2_tries_0 5 rfl rfl)
theorem dX2_tries_6 : decode cX2_tries 6 = .ok (.iaload, 1) := dk_46 (dk_at dksX2_tries_0 6 rfl rfl)
theorem dX2_tries_7 : decode cX2_tries 7 = .ok (.aload_n 0, 1) := dk_42 (dk_at dksX2_tries_0 7 rfl rfl)
theorem dX2_tries_8 : decode cX2_tries 8 = .ok (.getfield 32, 3) := dk_180 0 32 (dk_at dksX2_tries_0 8 rfl rfl)
theorem dX2_tries_11 : decode cX2_tries 11 = .ok (.iload_n 3, 1) := dk_29 (dk_at dksX2_tries_0 11 rfl rfl)
theorem dX2_tries_12 : decode cX2_tries 12 = .ok (.aaload, 1) := dk_50 (dk_at dksX2_tries_0 12 rfl rfl)
theorem dX2_tries_13 : decode cX2_tries 13 = .ok (.iload 5, 2) := dk_21 5 (dk_at dksX2_tries_0 13 rfl rfl)
theorem dX2_tries_15 : decode cX2_tries 15 = .ok (.invokevirtual 111, 3) := dk_182 0 111 (dk_at dksX2_tries_0 15 rfl rfl)
theorem dX2_tries_18 : decode cX2_tries 18 = .ok (.iadd, 1) := dk_96 (dk_at dksX2_tries_0 18 rfl rfl)
theorem dX2_tries_19 : decode cX2_tries 19 = .ok (.iastore, 1) := dk_79 (dk_at dksX2_tries_0 19 rfl rfl)
theorem dX2_tries_20 : decode cX2_tries 20 = .ok (.aload_n 0, 1) := dk_42 (dk_at dksX2_tries_0 20 rfl rfl)
theorem dX2_tries_21 : decode cX2_tries 21 = .ok (.iload_n 1, 1) := dk_27 (dk_at dksX2_tries_0 21 rfl rfl)
theorem dX2_tries_22 : decode cX2_tries 22 = .ok (.iload_n 2, 1) := dk_28 (dk_at dksX2_tries_0 22 rfl rfl)
theorem dX2_tries_23 : decode cX2_tries 23 = .ok (.iload_n 3, 1) := dk_29 (dk_at dksX2_tries_0 23 rfl rfl)
theorem dX2_tries_24 : decode cX2_tries 24 = .ok (.iload 4, 2) := dk_21 4 (dk_at dksX2_tries_1 0 rfl rfl)
theorem dX2_tries_26 : decode cX2_tries 26 = .ok (.iload 5, 2) := dk_21 5 (dk_at dksX2_tries_1 2 rfl rfl)
theorem dX2_tries_28 : decode cX2_tries 28 = .ok (.invokevirtual 114, 3) := dk_182 0 114 (dk_at dksX2_tries_1 4 rfl rfl)
theorem dX2_tries_31 : decode cX2_tries 31 = .ok (.ireturn, 1) := dk_172 (dk_at dksX2_tries_1 7 rfl rfl)
abbrev cX2_sounds : ByteArray := prog_8_method_17_code
def yX2_sounds : MethodName := ⟨RX2, "sounds", "(IIIII)Z"⟩
def dkwX2_sounds_0 : List UInt8 := [42, 27, 28, 29, 21, 4, 21, 5, 182, 0, 104, 154, 0, 7, 4, 167, 0, 4, 3, 172]
abbrev dktX2_sounds_0 : List UInt8 := dkwX2_sounds_0 ++ []
theorem dksX2_sounds_0 : cX2_sounds.data.toList.drop 0 = dktX2_sounds_0 := by decide +kernel
theorem dX2_sounds_0 : decode cX2_sounds 0 = .ok (.aload_n 0, 1) := dk_42 (dk_at dksX2_sounds_0 0 rfl rfl)
theorem dX2_sounds_1 : decode cX2_sounds 1 = .ok (.iload_n 1, 1) := dk_27 (dk_at dksX2_sounds_0 1 rfl rfl)
theorem dX2_sounds_2 : decode cX2_sounds 2 = .ok (.iload_n 2, 1) := dk_28 (dk_at dksX2_sounds_0 2 rfl rfl)
theorem dX2_sounds_3 : decode cX2_sounds 3 = .ok (.iload_n 3, 1) := dk_29 (dk_at dksX2_sounds_0 3 rfl rfl)
theorem dX2_sounds_4 : decode cX2_sounds 4 = .ok (.iload 4, 2) := dk_21 4 (dk_at dksX2_sounds_0 4 rfl rfl)
theorem dX2_sounds_6 : decode cX2_sounds 6 = .ok (.iload 5, 2) := dk_21 5 (dk_at dksX2_sounds_0 6 rfl rfl)
theorem dX2_sounds_8 : decode cX2_sounds 8 = .ok (.invokevirtual 104, 3) := dk_182 0 104 (dk_at dksX2_sounds_0 8 rfl rfl)
theorem dX2_sounds_11 : decode cX2_sounds 11 = .ok (.ifCond .ne 7, 3) := dk_154 0 7 (dk_at dksX2_sounds_0 11 rfl rfl)
theorem dX2_sounds_14 : decode cX2_sounds 14 = .ok (.iconst 1, 1) := dk_4 (dk_at dksX2_sounds_0 14 rfl rfl)
theorem dX2_sounds_15 : decode cX2_sounds 15 = .ok (.goto 4, 3) := dk_167 0 4 (dk_at dksX2_sounds_0 15 rfl rfl)
theorem dX2_sounds_18 : decode cX2_sounds 18 = .ok (.iconst 0, 1) := dk_3 (dk_at dksX2_sounds_0 18 rfl rfl)
theorem dX2_sounds_19 : decode cX2_sounds 19 = .ok (.ireturn, 1) := dk_172 (dk_at dksX2_sounds_0 19 rfl rfl)
abbrev cX2_wrong : ByteArray := prog_8_method_16_code
def yX2_wrong : MethodName := ⟨RX2, "wrong", "(IIIII)I"⟩
def dkwX2_wrong_3 : List UInt8 := [16, 8, 167, 0, 20, 21, 5, 42, 28, 29, 182, 0, 101, 164, 0, 8, 16, 16, 167, 0, 4, 3, 128, 172]
abbrev dktX2_wrong_3 : List UInt8 := dkwX2_wrong_3 ++ []
def dkwX2_wrong_2 : List UInt8 := [164, 0, 7, 7, 167, 0, 4, 3, 128, 54, 6, 21, 6, 21, 5, 42, 28, 29, 182, 0, 89, 162, 0, 8]
abbrev dktX2_wrong_2 : List UInt8 := dkwX2_wrong_2 ++ dktX2_wrong_3
def dkwX2_wrong_1 : List UInt8 := [182, 0, 98, 164, 0, 7, 5, 167, 0, 4, 3, 54, 6, 21, 6, 21, 4, 42, 180, 0, 27, 28, 46]
abbrev dktX2_wrong_1 : List UInt8 := dkwX2_wrong_1 ++ dktX2_wrong_2
def dkwX2_wrong_0 : List UInt8 := [21, 4, 42, 27, 28, 29, 182, 0, 95, 162, 0, 7, 4, 167, 0, 20, 21, 4, 42, 27, 28, 29]
abbrev dktX2_wrong_0 : List UInt8 := dkwX2_wrong_0 ++ dktX2_wrong_1
theorem dksX2_wrong_0 : cX2_wrong.data.toList.drop 0 = dktX2_wrong_0 := by decide +kernel
theorem dksX2_wrong_1 : cX2_wrong.data.toList.drop 22 = dktX2_wrong_1 := dk_seg dksX2_wrong_0 22 rfl rfl
theorem dksX2_wrong_2 : cX2_wrong.data.toList.drop 45 = dktX2_wrong_2 := dk_seg dksX2_wrong_1 23 rfl rfl
theorem dksX2_wrong_3 : cX2_wrong.data.toList.drop 69 = dktX2_wrong_3 := dk_seg dksX2_wrong_2 24 rfl rfl
theorem dX2_wrong_0 : decode cX2_wrong 0 = .ok (.iload 4, 2) := dk_21 4 (dk_at dksX2_wrong_0 0 rfl rfl)
theorem dX2_wrong_2 : decode cX2_wrong 2 = .ok (.aload_n 0, 1) := dk_42 (dk_at dksX2_wrong_0 2 rfl rfl)
theorem dX2_wrong_3 : decode cX2_wrong 3 = .ok (.iload_n 1, 1) := dk_27 (dk_at dksX2_wrong_0 3 rfl rfl)
theorem dX2_wrong_4 : decode cX2_wrong 4 = .ok (.iload_n 2, 1) := dk_28 (dk_at dksX2_wrong_0 4 rfl rfl)
theorem dX2_wrong_5 : decode cX2_wrong 5 = .ok (.iload_n 3, 1) := dk_29 (dk_at dksX2_wrong_0 5 rfl rfl)
theorem dX2_wrong_6 : decode cX2_wrong 6 = .ok (.invokevirtual 95, 3) := dk_182 0 95 (dk_at dksX2_wrong_0 6 rfl rfl)
theorem dX2_wrong_9 : decode cX2_wrong 9 = .ok (.if_icmp .ge 7, 3) := dk_162 0 7 (dk_at dksX2_wrong_0 9 rfl rfl)
theorem dX2_wrong_12 : decode cX2_wrong 12 = .ok (.iconst 1, 1) := dk_4 (dk_at dksX2_wrong_0 12 rfl rfl)
theorem dX2_wrong_13 : decode cX2_wrong 13 = .ok (.goto 20, 3) := dk_167 0 20 (dk_at dksX2_wrong_0 13 rfl rfl)
theorem dX2_wrong_16 : decode cX2_wrong 16 = .ok (.iload 4, 2) := dk_21 4 (dk_at dksX2_wrong_0 16 rfl rfl)
theorem dX2_wrong_18 : decode cX2_wrong 18 = .ok (.aload_n 0, 1) := dk_42 (dk_at dksX2_wrong_0 18 rfl rfl)
theorem dX2_wrong_19 : decode cX2_wrong 19 = .ok (.iload_n 1, 1) := dk_27 (dk_at dksX2_wrong_0 19 rfl rfl)
theorem dX2_wrong_20 : decode cX2_wrong 20 = .ok (.iload_n 2, 1) := dk_28 (dk_at dksX2_wrong_0 20 rfl rfl)
theorem dX2_wrong_21 : decode cX2_wrong 21 = .ok (.iload_n 3, 1) := dk_29 (dk_at dksX2_wrong_0 21 rfl rfl)
theorem dX2_wrong_22 : decode cX2_wrong 22 = .ok (.invokevirtual 98, 3) := dk_182 0 98 (dk_at dksX2_wrong_1 0 rfl rfl)
theorem dX2_wrong_25 : decode cX2_wrong 25 = .ok (.if_icmp .le 7, 3) := dk_164 0 7 (dk_at dksX2_wrong_1 3 rfl rfl)
theorem dX2_wrong_28 : decode cX2_wrong 28 = .ok (.iconst 2, 1) := dk_5 (dk_at dksX2_wrong_1 6 rfl rfl)
theorem dX2_wrong_29 : decode cX2_wrong 29 = .ok (.goto 4, 3) := dk_167 0 4 (dk_at dksX2_wrong_1 7 rfl rfl)
theorem dX2_wrong_32 : decode cX2_wrong 32 = .ok (.iconst 0, 1) := dk_3 (dk_at dksX2_wrong_1 10 rfl rfl)
theorem dX2_wrong_33 : decode cX2_wrong 33 = .ok (.istore 6, 2) := dk_54 6 (dk_at dksX2_wrong_1 11 rfl rfl)
theorem dX2_wrong_35 : decode cX2_wrong 35 = .ok (.iload 6, 2) := dk_21 6 (dk_at dksX2_wrong_1 13 rfl rfl)
theorem dX2_wrong_37 : decode cX2_wrong 37 = .ok (.iload 4, 2) := dk_21 4 (dk_at dksX2_wrong_1 15 rfl rfl)
theorem dX2_wrong_39 : decode cX2_wrong 39 = .ok (.aload_n 0, 1) := dk_42 (dk_at dksX2_wrong_1 17 rfl rfl)
theorem dX2_wrong_40 : decode cX2_wrong 40 = .ok (.getfield 27, 3) := dk_180 0 27 (dk_at dksX2_wrong_1 18 rfl rfl)
theorem dX2_wrong_43 : decode cX2_wrong 43 = .ok (.iload_n 2, 1) := dk_28 (dk_at dksX2_wrong_1 21 rfl rfl)
theorem dX2_wrong_44 : decode cX2_wrong 44 = .ok (.iaload, 1) := dk_46 (dk_at dksX2_wrong_1 22 rfl rfl)
theorem dX2_wrong_45 : decode cX2_wrong 45 = .ok (.if_icmp .le 7, 3) := dk_164 0 7 (dk_at dksX2_wrong_2 0 rfl rfl)
theorem dX2_wrong_48 : decode cX2_wrong 48 = .ok (.iconst 4, 1) := dk_7 (dk_at dksX2_wrong_2 3 rfl rfl)
theorem dX2_wrong_49 : decode cX2_wrong 49 = .ok (.goto 4, 3) := dk_167 0 4 (dk_at dksX2_wrong_2 4 rfl rfl)
theorem dX2_wrong_52 : decode cX2_wrong 52 = .ok (.iconst 0, 1) := dk_3 (dk_at dksX2_wrong_2 7 rfl rfl)
theorem dX2_wrong_53 : decode cX2_wrong 53 = .ok (.ior, 1) := dk_128 (dk_at dksX2_wrong_2 8 rfl rfl)
theorem dX2_wrong_54 : decode cX2_wrong 54 = .ok (.istore 6, 2) := dk_54 6 (dk_at dksX2_wrong_2 9 rfl rfl)
theorem dX2_wrong_56 : decode cX2_wrong 56 = .ok (.iload 6, 2) := dk_21 6 (dk_at dksX2_wrong_2 11 rfl rfl)
theorem dX2_wrong_58 : decode cX2_wrong 58 = .ok (.iload 5, 2) := dk_21 5 (dk_at dksX2_wrong_2 13 rfl rfl)
theorem dX2_wrong_60 : decode cX2_wrong 60 = .ok (.aload_n 0, 1) := dk_42 (dk_at dksX2_wrong_2 15 rfl rfl)
theorem dX2_wrong_61 : decode cX2_wrong 61 = .ok (.iload_n 2, 1) := dk_28 (dk_at dksX2_wrong_2 16 rfl rfl)
theorem dX2_wrong_62 : decode cX2_wrong 62 = .ok (.iload_n 3, 1) := dk_29 (dk_at dksX2_wrong_2 17 rfl rfl)
theorem dX2_wrong_63 : decode cX2_wrong 63 = .ok (.invokevirtual 89, 3) := dk_182 0 89 (dk_at dksX2_wrong_2 18 rfl rfl)
theorem dX2_wrong_66 : decode cX2_wrong 66 = .ok (.if_icmp .ge 8, 3) := dk_162 0 8 (dk_at dksX2_wrong_2 21 rfl rfl)
theorem dX2_wrong_69 : decode cX2_wrong 69 = .ok (.bipush 8, 2) := dk_16 8 (dk_at dksX2_wrong_3 0 rfl rfl)
theorem dX2_wrong_71 : decode cX2_wrong 71 = .ok (.goto 20, 3) := dk_167 0 20 (dk_at dksX2_wrong_3 2 rfl rfl)
theorem dX2_wrong_74 : decode cX2_wrong 74 = .ok (.iload 5, 2) := dk_21 5 (dk_at dksX2_wrong_3 5 rfl rfl)
theorem dX2_wrong_76 : decode cX2_wrong 76 = .ok (.aload_n 0, 1) := dk_42 (dk_at dksX2_wrong_3 7 rfl rfl)
theorem dX2_wrong_77 : decode cX2_wrong 77 = .ok (.iload_n 2, 1) := dk_28 (dk_at dksX2_wrong_3 8 rfl rfl)
theorem dX2_wrong_78 : decode cX2_wrong 78 = .ok (.iload_n 3, 1) := dk_29 (dk_at dksX2_wrong_3 9 rfl rfl)
theorem dX2_wrong_79 : decode cX2_wrong 79 = .ok (.invokevirtual 101, 3) := dk_182 0 101 (dk_at dksX2_wrong_3 10 rfl rfl)
theorem dX2_wrong_82 : decode cX2_wrong 82 = .ok (.if_icmp .le 8, 3) := dk_164 0 8 (dk_at dksX2_wrong_3 13 rfl rfl)
theorem dX2_wrong_85 : decode cX2_wrong 85 = .ok (.bipush 16, 2) := dk_16 16 (dk_at dksX2_wrong_3 16 rfl rfl)
theorem dX2_wrong_87 : decode cX2_wrong 87 = .ok (.goto 4, 3) := dk_167 0 4 (dk_at dksX2_wrong_3 18 rfl rfl)
theorem dX2_wrong_90 : decode cX2_wrong 90 = .ok (.iconst 0, 1) := dk_3 (dk_at dksX2_wrong_3 21 rfl rfl)
theorem dX2_wrong_91 : decode cX2_wrong 91 = .ok (.ior, 1) := dk_128 (dk_at dksX2_wrong_3 22 rfl rfl)
theorem dX2_wrong_92 : decode cX2_wrong 92 = .ok (.ireturn, 1) := dk_172 (dk_at dksX2_wrong_3 23 rfl rfl)
abbrev cX2_low : ByteArray := prog_8_method_12_code
def yX2_low : MethodName := ⟨RX2, "low", "(III)I"⟩
def dkwX2_low_1 : List UInt8 := [180, 0, 56, 100, 184, 0, 77, 172]
abbrev dktX2_low_1 : List UInt8 := dkwX2_low_1 ++ []
def dkwX2_low_0 : List UInt8 := [3, 42, 180, 0, 32, 29, 50, 42, 180, 0, 9, 27, 46, 42, 180, 0, 24, 28, 46, 182, 0, 73, 42]
abbrev dktX2_low_0 : List UInt8 := dkwX2_low_0 ++ dktX2_low_1
theorem dksX2_low_0 : cX2_low.data.toList.drop 0 = dktX2_low_0 := by decide +kernel
theorem dksX2_low_1 : cX2_low.data.toList.drop 23 = dktX2_low_1 := dk_seg dksX2_low_0 23 rfl rfl
theorem dX2_low_0 : decode cX2_low 0 = .ok (.iconst 0, 1) := dk_3 (dk_at dksX2_low_0 0 rfl rfl)
theorem dX2_low_1 : decode cX2_low 1 = .ok (.aload_n 0, 1) := dk_42 (dk_at dksX2_low_0 1 rfl rfl)
theorem dX2_low_2 : decode cX2_low 2 = .ok (.getfield 32, 3) := dk_180 0 32 (dk_at dksX2_low_0 2 rfl rfl)
theorem dX2_low_5 : decode cX2_low 5 = .ok (.iload_n 3, 1) := dk_29 (dk_at dksX2_low_0 5 rfl rfl)
theorem dX2_low_6 : decode cX2_low 6 = .ok (.aaload, 1) := dk_50 (dk_at dksX2_low_0 6 rfl rfl)
theorem dX2_low_7 : decode cX2_low 7 = .ok (.aload_n 0, 1) := dk_42 (dk_at dksX2_low_0 7 rfl rfl)
theorem dX2_low_8 : decode cX2_low 8 = .ok (.getfield 9, 3) := dk_180 0 9 (dk_at dksX2_low_0 8 rfl rfl)
theorem dX2_low_11 : decode cX2_low 11 = .ok (.iload_n 1, 1) := dk_27 (dk_at dksX2_low_0 11 rfl rfl)
theorem dX2_low_12 : decode cX2_low 12 = .ok (.iaload, 1) := dk_46 (dk_at dksX2_low_0 12 rfl rfl)
theorem dX2_low_13 : decode cX2_low 13 = .ok (.aload_n 0, 1) := dk_42 (dk_at dksX2_low_0 13 rfl rfl)
theorem dX2_low_14 : decode cX2_low 14 = .ok (.getfield 24, 3) := dk_180 0 24 (dk_at dksX2_low_0 14 rfl rfl)
theorem dX2_low_17 : decode cX2_low 17 = .ok (.iload_n 2, 1) := dk_28 (dk_at dksX2_low_0 17 rfl rfl)
theorem dX2_low_18 : decode cX2_low 18 = .ok (.iaload, 1) := dk_46 (dk_at dksX2_low_0 18 rfl rfl)
theorem dX2_low_19 : decode cX2_low 19 = .ok (.invokevirtual 73, 3) := dk_182 0 73 (dk_at dksX2_low_0 19 rfl rfl)
theorem dX2_low_22 : decode cX2_low 22 = .ok (.aload_n 0, 1) := dk_42 (dk_at dksX2_low_0 22 rfl rfl)
theorem dX2_low_23 : decode cX2_low 23 = .ok (.getfield 56, 3) := dk_180 0 56 (dk_at dksX2_low_1 0 rfl rfl)
theorem dX2_low_26 : decode cX2_low 26 = .ok (.isub, 1) := dk_100 (dk_at dksX2_low_1 3 rfl rfl)
theorem dX2_low_27 : decode cX2_low 27 = .ok (.invokestatic 77, 3) := dk_184 0 77 (dk_at dksX2_low_1 4 rfl rfl)
theorem dX2_low_30 : decode cX2_low 30 = .ok (.ireturn, 1) := dk_172 (dk_at dksX2_low_1 7 rfl rfl)
abbrev cX2_high : ByteArray := prog_8_method_13_code
def yX2_high : MethodName := ⟨RX2, "high", "(III)I"⟩
def dkwX2_high_1 : List UInt8 := [180, 0, 32, 29, 50, 42, 180, 0, 18, 27, 46, 182, 0, 82, 96, 172]
abbrev dktX2_high_1 : List UInt8 := dkwX2_high_1 ++ []
def dkwX2_high_0 : List UInt8 := [42, 180, 0, 32, 29, 50, 42, 180, 0, 9, 27, 46, 42, 180, 0, 24, 28, 46, 182, 0, 73, 42]
abbrev dktX2_high_0 : List UInt8 := dkwX2_high_0 ++ dktX2_high_1
theorem dksX2_high_0 : cX2_high.data.toList.drop 0 = dktX2_high_0 := by decide +kernel
theorem dksX2_high_1 : cX2_high.data.toList.drop 22 = dktX2_high_1 := dk_seg dksX2_high_0 22 rfl rfl
theorem dX2_high_0 : decode cX2_high 0 = .ok (.aload_n 0, 1) := dk_42 (dk_at dksX2_high_0 0 rfl rfl)
theorem dX2_high_1 : decode cX2_high 1 = .ok (.getfield 32, 3) := dk_180 0 32 (dk_at dksX2_high_0 1 rfl rfl)
theorem dX2_high_4 : decode cX2_high 4 = .ok (.iload_n 3, 1) := dk_29 (dk_at dksX2_high_0 4 rfl rfl)
theorem dX2_high_5 : decode cX2_high 5 = .ok (.aaload, 1) := dk_50 (dk_at dksX2_high_0 5 rfl rfl)
theorem dX2_high_6 : decode cX2_high 6 = .ok (.aload_n 0, 1) := dk_42 (dk_at dksX2_high_0 6 rfl rfl)
theorem dX2_high_7 : decode cX2_high 7 = .ok (.getfield 9, 3) := dk_180 0 9 (dk_at dksX2_high_0 7 rfl rfl)
theorem dX2_high_10 : decode cX2_high 10 = .ok (.iload_n 1, 1) := dk_27 (dk_at dksX2_high_0 10 rfl rfl)
theorem dX2_high_11 : decode cX2_high 11 = .ok (.iaload, 1) := dk_46 (dk_at dksX2_high_0 11 rfl rfl)
theorem dX2_high_12 : decode cX2_high 12 = .ok (.aload_n 0, 1) := dk_42 (dk_at dksX2_high_0 12 rfl rfl)
theorem dX2_high_13 : decode cX2_high 13 = .ok (.getfield 24, 3) := dk_180 0 24 (dk_at dksX2_high_0 13 rfl rfl)
theorem dX2_high_16 : decode cX2_high 16 = .ok (.iload_n 2, 1) := dk_28 (dk_at dksX2_high_0 16 rfl rfl)
theorem dX2_high_17 : decode cX2_high 17 = .ok (.iaload, 1) := dk_46 (dk_at dksX2_high_0 17 rfl rfl)
theorem dX2_high_18 : decode cX2_high 18 = .ok (.invokevirtual 73, 3) := dk_182 0 73 (dk_at dksX2_high_0 18 rfl rfl)
theorem dX2_high_21 : decode cX2_high 21 = .ok (.aload_n 0, 1) := dk_42 (dk_at dksX2_high_0 21 rfl rfl)
theorem dX2_high_22 : decode cX2_high 22 = .ok (.getfield 32, 3) := dk_180 0 32 (dk_at dksX2_high_1 0 rfl rfl)
theorem dX2_high_25 : decode cX2_high 25 = .ok (.iload_n 3, 1) := dk_29 (dk_at dksX2_high_1 3 rfl rfl)
theorem dX2_high_26 : decode cX2_high 26 = .ok (.aaload, 1) := dk_50 (dk_at dksX2_high_1 4 rfl rfl)
theorem dX2_high_27 : decode cX2_high 27 = .ok (.aload_n 0, 1) := dk_42 (dk_at dksX2_high_1 5 rfl rfl)
theorem dX2_high_28 : decode cX2_high 28 = .ok (.getfield 18, 3) := dk_180 0 18 (dk_at dksX2_high_1 6 rfl rfl)
theorem dX2_high_31 : decode cX2_high 31 = .ok (.iload_n 1, 1) := dk_27 (dk_at dksX2_high_1 9 rfl rfl)
theorem dX2_high_32 : decode cX2_high 32 = .ok (.iaload, 1) := dk_46 (dk_at dksX2_high_1 10 rfl rfl)
theorem dX2_high_33 : decode cX2_high 33 = .ok (.invokevirtual 82, 3) := dk_182 0 82 (dk_at dksX2_high_1 11 rfl rfl)
theorem dX2_high_36 : decode cX2_high 36 = .ok (.iadd, 1) := dk_96 (dk_at dksX2_high_1 14 rfl rfl)
theorem dX2_high_37 : decode cX2_high 37 = .ok (.ireturn, 1) := dk_172 (dk_at dksX2_high_1 15 rfl rfl)
abbrev cX2_softest : ByteArray := prog_8_method_14_code
def yX2_softest : MethodName := ⟨RX2, "softest", "(II)I"⟩
def dkwX2_softest_0 : List UInt8 := [42, 180, 0, 32, 28, 50, 42, 180, 0, 24, 27, 46, 182, 0, 86, 172]
abbrev dktX2_softest_0 : List UInt8 := dkwX2_softest_0 ++ []
theorem dksX2_softest_0 : cX2_softest.data.toList.drop 0 = dktX2_softest_0 := by decide +kernel
theorem dX2_softest_0 : decode cX2_softest 0 = .ok (.aload_n 0, 1) := dk_42 (dk_at dksX2_softest_0 0 rfl rfl)
theorem dX2_softest_1 : decode cX2_softest 1 = .ok (.getfield 32, 3) := dk_180 0 32 (dk_at dksX2_softest_0 1 rfl rfl)
theorem dX2_softest_4 : decode cX2_softest 4 = .ok (.iload_n 2, 1) := dk_28 (dk_at dksX2_softest_0 4 rfl rfl)
theorem dX2_softest_5 : decode cX2_softest 5 = .ok (.aaload, 1) := dk_50 (dk_at dksX2_softest_0 5 rfl rfl)
theorem dX2_softest_6 : decode cX2_softest 6 = .ok (.aload_n 0, 1) := dk_42 (dk_at dksX2_softest_0 6 rfl rfl)
theorem dX2_softest_7 : decode cX2_softest 7 = .ok (.getfield 24, 3) := dk_180 0 24 (dk_at dksX2_softest_0 7 rfl rfl)
theorem dX2_softest_10 : decode cX2_softest 10 = .ok (.iload_n 1, 1) := dk_27 (dk_at dksX2_softest_0 10 rfl rfl)
theorem dX2_softest_11 : decode cX2_softest 11 = .ok (.iaload, 1) := dk_46 (dk_at dksX2_softest_0 11 rfl rfl)
theorem dX2_softest_12 : decode cX2_softest 12 = .ok (.invokevirtual 86, 3) := dk_182 0 86 (dk_at dksX2_softest_0 12 rfl rfl)
theorem dX2_softest_15 : decode cX2_softest 15 = .ok (.ireturn, 1) := dk_172 (dk_at dksX2_softest_0 15 rfl rfl)
abbrev cX2_hardest : ByteArray := prog_8_method_15_code
def yX2_hardest : MethodName := ⟨RX2, "hardest", "(II)I"⟩
def dkwX2_hardest_0 : List UInt8 := [42, 27, 28, 182, 0, 89, 42, 180, 0, 32, 28, 50, 182, 0, 91, 96, 172]
abbrev dktX2_hardest_0 : List UInt8 := dkwX2_hardest_0 ++ []
theorem dksX2_hardest_0 : cX2_hardest.data.toList.drop 0 = dktX2_hardest_0 := by decide +kernel
theorem dX2_hardest_0 : decode cX2_hardest 0 = .ok (.aload_n 0, 1) := dk_42 (dk_at dksX2_hardest_0 0 rfl rfl)
theorem dX2_hardest_1 : decode cX2_hardest 1 = .ok (.iload_n 1, 1) := dk_27 (dk_at dksX2_hardest_0 1 rfl rfl)
theorem dX2_hardest_2 : decode cX2_hardest 2 = .ok (.iload_n 2, 1) := dk_28 (dk_at dksX2_hardest_0 2 rfl rfl)
theorem dX2_hardest_3 : decode cX2_hardest 3 = .ok (.invokevirtual 89, 3) := dk_182 0 89 (dk_at dksX2_hardest_0 3 rfl rfl)
theorem dX2_hardest_6 : decode cX2_hardest 6 = .ok (.aload_n 0, 1) := dk_42 (dk_at dksX2_hardest_0 6 rfl rfl)
theorem dX2_hardest_7 : decode cX2_hardest 7 = .ok (.getfield 32, 3) := dk_180 0 32 (dk_at dksX2_hardest_0 7 rfl rfl)
theorem dX2_hardest_10 : decode cX2_hardest 10 = .ok (.iload_n 2, 1) := dk_28 (dk_at dksX2_hardest_0 10 rfl rfl)
theorem dX2_hardest_11 : decode cX2_hardest 11 = .ok (.aaload, 1) := dk_50 (dk_at dksX2_hardest_0 11 rfl rfl)
theorem dX2_hardest_12 : decode cX2_hardest 12 = .ok (.invokevirtual 91, 3) := dk_182 0 91 (dk_at dksX2_hardest_0 12 rfl rfl)
theorem dX2_hardest_15 : decode cX2_hardest 15 = .ok (.iadd, 1) := dk_96 (dk_at dksX2_hardest_0 15 rfl rfl)
theorem dX2_hardest_16 : decode cX2_hardest 16 = .ok (.ireturn, 1) := dk_172 (dk_at dksX2_hardest_0 16 rfl rfl)
abbrev cX2_pitch : ByteArray := prog_8_method_18_code
def yX2_pitch : MethodName := ⟨RX2, "pitch", "(IIII)I"⟩
def dkwX2_pitch_0 : List UInt8 := [42, 180, 0, 32, 28, 50, 42, 180, 0, 9, 27, 46, 29, 21, 4, 182, 0, 108, 172]
abbrev dktX2_pitch_0 : List UInt8 := dkwX2_pitch_0 ++ []
theorem dksX2_pitch_0 : cX2_pitch.data.toList.drop 0 = dktX2_pitch_0 := by decide +kernel
theorem dX2_pitch_0 : decode cX2_pitch 0 = .ok (.aload_n 0, 1) := dk_42 (dk_at dksX2_pitch_0 0 rfl rfl)
theorem dX2_pitch_1 : decode cX2_pitch 1 = .ok (.getfield 32, 3) := dk_180 0 32 (dk_at dksX2_pitch_0 1 rfl rfl)
theorem dX2_pitch_4 : decode cX2_pitch 4 = .ok (.iload_n 2, 1) := dk_28 (dk_at dksX2_pitch_0 4 rfl rfl)
theorem dX2_pitch_5 : decode cX2_pitch 5 = .ok (.aaload, 1) := dk_50 (dk_at dksX2_pitch_0 5 rfl rfl)
theorem dX2_pitch_6 : decode cX2_pitch 6 = .ok (.aload_n 0, 1) := dk_42 (dk_at dksX2_pitch_0 6 rfl rfl)
theorem dX2_pitch_7 : decode cX2_pitch 7 = .ok (.getfield 9, 3) := dk_180 0 9 (dk_at dksX2_pitch_0 7 rfl rfl)
theorem dX2_pitch_10 : decode cX2_pitch 10 = .ok (.iload_n 1, 1) := dk_27 (dk_at dksX2_pitch_0 10 rfl rfl)
theorem dX2_pitch_11 : decode cX2_pitch 11 = .ok (.iaload, 1) := dk_46 (dk_at dksX2_pitch_0 11 rfl rfl)
theorem dX2_pitch_12 : decode cX2_pitch 12 = .ok (.iload_n 3, 1) := dk_29 (dk_at dksX2_pitch_0 12 rfl rfl)
theorem dX2_pitch_13 : decode cX2_pitch 13 = .ok (.iload 4, 2) := dk_21 4 (dk_at dksX2_pitch_0 13 rfl rfl)
theorem dX2_pitch_15 : decode cX2_pitch 15 = .ok (.invokevirtual 108, 3) := dk_182 0 108 (dk_at dksX2_pitch_0 15 rfl rfl)
theorem dX2_pitch_18 : decode cX2_pitch 18 = .ok (.ireturn, 1) := dk_172 (dk_at dksX2_pitch_0 18 rfl rfl)
abbrev cX2_where : ByteArray := prog_8_method_22_code
def yX2_where : MethodName := ⟨RX2, "where", "(III)I"⟩
def dkwX2_where_0 : List UInt8 := [42, 27, 28, 29, 182, 0, 121, 42, 28, 29, 182, 0, 124, 104, 172]
abbrev dktX2_where_0 : List UInt8 := dkwX2_where_0 ++ []
theorem dksX2_where_0 : cX2_where.data.toList.drop 0 = dktX2_where_0 := by decide +kernel
theorem dX2_where_0 : decode cX2_where 0 = .ok (.aload_n 0, 1) := dk_42 (dk_at dksX2_where_0 0 rfl rfl)
theorem dX2_where_1 : decode cX2_where 1 = .ok (.iload_n 1, 1) := dk_27 (dk_at dksX2_where_0 1 rfl rfl)
theorem dX2_where_2 : decode cX2_where 2 = .ok (.iload_n 2, 1) := dk_28 (dk_at dksX2_where_0 2 rfl rfl)
theorem dX2_where_3 : decode cX2_where 3 = .ok (.iload_n 3, 1) := dk_29 (dk_at dksX2_where_0 3 rfl rfl)
theorem dX2_where_4 : decode cX2_where 4 = .ok (.invokevirtual 121, 3) := dk_182 0 121 (dk_at dksX2_where_0 4 rfl rfl)
theorem dX2_where_7 : decode cX2_where 7 = .ok (.aload_n 0, 1) := dk_42 (dk_at dksX2_where_0 7 rfl rfl)
theorem dX2_where_8 : decode cX2_where 8 = .ok (.iload_n 2, 1) := dk_28 (dk_at dksX2_where_0 8 rfl rfl)
theorem dX2_where_9 : decode cX2_where 9 = .ok (.iload_n 3, 1) := dk_29 (dk_at dksX2_where_0 9 rfl rfl)
theorem dX2_where_10 : decode cX2_where 10 = .ok (.invokevirtual 124, 3) := dk_182 0 124 (dk_at dksX2_where_0 10 rfl rfl)
theorem dX2_where_13 : decode cX2_where 13 = .ok (.imul, 1) := dk_104 (dk_at dksX2_where_0 13 rfl rfl)
theorem dX2_where_14 : decode cX2_where 14 = .ok (.ireturn, 1) := dk_172 (dk_at dksX2_where_0 14 rfl rfl)
abbrev cX2_tights : ByteArray := prog_8_method_20_code
def yX2_tights : MethodName := ⟨RX2, "tights", "(III)I"⟩
def dkwX2_tights_1 : List UInt8 := [28, 29, 182, 0, 95, 100, 4, 96, 184, 0, 77, 172]
abbrev dktX2_tights_1 : List UInt8 := dkwX2_tights_1 ++ []
def dkwX2_tights_0 : List UInt8 := [3, 16, 60, 42, 180, 0, 27, 28, 46, 184, 0, 118, 42, 27, 28, 29, 182, 0, 98, 184, 0, 118, 42, 27]
abbrev dktX2_tights_0 : List UInt8 := dkwX2_tights_0 ++ dktX2_tights_1
theorem dksX2_tights_0 : cX2_tights.data.toList.drop 0 = dktX2_tights_0 := by decide +kernel
theorem dksX2_tights_1 : cX2_tights.data.toList.drop 24 = dktX2_tights_1 := dk_seg dksX2_tights_0 24 rfl rfl
theorem dX2_tights_0 : decode cX2_tights 0 = .ok (.iconst 0, 1) := dk_3 (dk_at dksX2_tights_0 0 rfl rfl)
theorem dX2_tights_1 : decode cX2_tights 1 = .ok (.bipush 60, 2) := dk_16 60 (dk_at dksX2_tights_0 1 rfl rfl)
theorem dX2_tights_3 : decode cX2_tights 3 = .ok (.aload_n 0, 1) := dk_42 (dk_at dksX2_tights_0 3 rfl rfl)
theorem dX2_tights_4 : decode cX2_tights 4 = .ok (.getfield 27, 3) := dk_180 0 27 (dk_at dksX2_tights_0 4 rfl rfl)
theorem dX2_tights_7 : decode cX2_tights 7 = .ok (.iload_n 2, 1) := dk_28 (dk_at dksX2_tights_0 7 rfl rfl)
theorem dX2_tights_8 : decode cX2_tights 8 = .ok (.iaload, 1) := dk_46 (dk_at dksX2_tights_0 8 rfl rfl)
theorem dX2_tights_9 : decode cX2_tights 9 = .ok (.invokestatic 118, 3) := dk_184 0 118 (dk_at dksX2_tights_0 9 rfl rfl)
theorem dX2_tights_12 : decode cX2_tights 12 = .ok (.aload_n 0, 1) := dk_42 (dk_at dksX2_tights_0 12 rfl rfl)
theorem dX2_tights_13 : decode cX2_tights 13 = .ok (.iload_n 1, 1) := dk_27 (dk_at dksX2_tights_0 13 rfl rfl)
theorem dX2_tights_14 : decode cX2_tights 14 = .ok (.iload_n 2, 1) := dk_28 (dk_at dksX2_tights_0 14 rfl rfl)
theorem dX2_tights_15 : decode cX2_tights 15 = .ok (.iload_n 3, 1) := dk_29 (dk_at dksX2_tights_0 15 rfl rfl)
theorem dX2_tights_16 : decode cX2_tights 16 = .ok (.invokevirtual 98, 3) := dk_182 0 98 (dk_at dksX2_tights_0 16 rfl rfl)
theorem dX2_tights_19 : decode cX2_tights 19 = .ok (.invokestatic 118, 3) := dk_184 0 118 (dk_at dksX2_tights_0 19 rfl rfl)
theorem dX2_tights_22 : decode cX2_tights 22 = .ok (.aload_n 0, 1) := dk_42 (dk_at dksX2_tights_0 22 rfl rfl)
theorem dX2_tights_23 : decode cX2_tights 23 = .ok (.iload_n 1, 1) := dk_27 (dk_at dksX2_tights_0 23 rfl rfl)
theorem dX2_tights_24 : decode cX2_tights 24 = .ok (.iload_n 2, 1) := dk_28 (dk_at dksX2_tights_1 0 rfl rfl)
theorem dX2_tights_25 : decode cX2_tights 25 = .ok (.iload_n 3, 1) := dk_29 (dk_at dksX2_tights_1 1 rfl rfl)
theorem dX2_tights_26 : decode cX2_tights 26 = .ok (.invokevirtual 95, 3) := dk_182 0 95 (dk_at dksX2_tights_1 2 rfl rfl)
theorem dX2_tights_29 : decode cX2_tights 29 = .ok (.isub, 1) := dk_100 (dk_at dksX2_tights_1 5 rfl rfl)
theorem dX2_tights_30 : decode cX2_tights 30 = .ok (.iconst 1, 1) := dk_4 (dk_at dksX2_tights_1 6 rfl rfl)
theorem dX2_tights_31 : decode cX2_tights 31 = .ok (.iadd, 1) := dk_96 (dk_at dksX2_tights_1 7 rfl rfl)
theorem dX2_tights_32 : decode cX2_tights 32 = .ok (.invokestatic 77, 3) := dk_184 0 77 (dk_at dksX2_tights_1 8 rfl rfl)
theorem dX2_tights_35 : decode cX2_tights 35 = .ok (.ireturn, 1) := dk_172 (dk_at dksX2_tights_1 11 rfl rfl)
abbrev cX2_forces : ByteArray := prog_8_method_21_code
def yX2_forces : MethodName := ⟨RX2, "forces", "(II)I"⟩
def dkwX2_forces_1 : List UInt8 := [172]
abbrev dktX2_forces_1 : List UInt8 := dkwX2_forces_1 ++ []
def dkwX2_forces_0 : List UInt8 := [3, 16, 60, 42, 27, 28, 182, 0, 101, 184, 0, 118, 42, 27, 28, 182, 0, 89, 100, 4, 96, 184, 0, 77]
abbrev dktX2_forces_0 : List UInt8 := dkwX2_forces_0 ++ dktX2_forces_1
theorem dksX2_forces_0 : cX2_forces.data.toList.drop 0 = dktX2_forces_0 := by decide +kernel
theorem dksX2_forces_1 : cX2_forces.data.toList.drop 24 = dktX2_forces_1 := dk_seg dksX2_forces_0 24 rfl rfl
theorem dX2_forces_0 : decode cX2_forces 0 = .ok (.iconst 0, 1) := dk_3 (dk_at dksX2_forces_0 0 rfl rfl)
theorem dX2_forces_1 : decode cX2_forces 1 = .ok (.bipush 60, 2) := dk_16 60 (dk_at dksX2_forces_0 1 rfl rfl)
theorem dX2_forces_3 : decode cX2_forces 3 = .ok (.aload_n 0, 1) := dk_42 (dk_at dksX2_forces_0 3 rfl rfl)
theorem dX2_forces_4 : decode cX2_forces 4 = .ok (.iload_n 1, 1) := dk_27 (dk_at dksX2_forces_0 4 rfl rfl)
theorem dX2_forces_5 : decode cX2_forces 5 = .ok (.iload_n 2, 1) := dk_28 (dk_at dksX2_forces_0 5 rfl rfl)
theorem dX2_forces_6 : decode cX2_forces 6 = .ok (.invokevirtual 101, 3) := dk_182 0 101 (dk_at dksX2_forces_0 6 rfl rfl)
theorem dX2_forces_9 : decode cX2_forces 9 = .ok (.invokestatic 118, 3) := dk_184 0 118 (dk_at dksX2_forces_0 9 rfl rfl)
theorem dX2_forces_12 : decode cX2_forces 12 = .ok (.aload_n 0, 1) := dk_42 (dk_at dksX2_forces_0 12 rfl rfl)
theorem dX2_forces_13 : decode cX2_forces 13 = .ok (.iload_n 1, 1) := dk_27 (dk_at dksX2_forces_0 13 rfl rfl)
theorem dX2_forces_14 : decode cX2_forces 14 = .ok (.iload_n 2, 1) := dk_28 (dk_at dksX2_forces_0 14 rfl rfl)
theorem dX2_forces_15 : decode cX2_forces 15 = .ok (.invokevirtual 89, 3) := dk_182 0 89 (dk_at dksX2_forces_0 15 rfl rfl)
theorem dX2_forces_18 : decode cX2_forces 18 = .ok (.isub, 1) := dk_100 (dk_at dksX2_forces_0 18 rfl rfl)
theorem dX2_forces_19 : decode cX2_forces 19 = .ok (.iconst 1, 1) := dk_4 (dk_at dksX2_forces_0 19 rfl rfl)
theorem dX2_forces_20 : decode cX2_forces 20 = .ok (.iadd, 1) := dk_96 (dk_at dksX2_forces_0 20 rfl rfl)
theorem dX2_forces_21 : decode cX2_forces 21 = .ok (.invokestatic 77, 3) := dk_184 0 77 (dk_at dksX2_forces_0 21 rfl rfl)
theorem dX2_forces_24 : decode cX2_forces 24 = .ok (.ireturn, 1) := dk_172 (dk_at dksX2_forces_1 0 rfl rfl)
abbrev cX2_init : ByteArray := prog_8_method_1_code
def yX2_init : MethodName := ⟨RX2, "<init>", "()V"⟩
def dkwX2_init_2 : List UInt8 := [181, 0, 27, 42, 16, 6, 189, 0, 30, 181, 0, 32, 177]
abbrev dktX2_init_2 : List UInt8 := dkwX2_init_2 ++ []
def dkwX2_init_1 : List UInt8 := [188, 10, 181, 0, 18, 42, 16, 6, 188, 10, 181, 0, 21, 42, 7, 188, 10, 181, 0, 24, 42, 7, 188, 10]
abbrev dktX2_init_1 : List UInt8 := dkwX2_init_1 ++ dktX2_init_2
def dkwX2_init_0 : List UInt8 := [42, 183, 0, 3, 42, 16, 6, 188, 10, 181, 0, 9, 42, 16, 6, 188, 10, 181, 0, 15, 42, 16, 6]
abbrev dktX2_init_0 : List UInt8 := dkwX2_init_0 ++ dktX2_init_1
theorem dksX2_init_0 : cX2_init.data.toList.drop 0 = dktX2_init_0 := by decide +kernel
theorem dksX2_init_1 : cX2_init.data.toList.drop 23 = dktX2_init_1 := dk_seg dksX2_init_0 23 rfl rfl
theorem dksX2_init_2 : cX2_init.data.toList.drop 47 = dktX2_init_2 := dk_seg dksX2_init_1 24 rfl rfl
theorem dX2_init_0 : decode cX2_init 0 = .ok (.aload_n 0, 1) := dk_42 (dk_at dksX2_init_0 0 rfl rfl)
theorem dX2_init_1 : decode cX2_init 1 = .ok (.invokespecial 3, 3) := dk_183 0 3 (dk_at dksX2_init_0 1 rfl rfl)
theorem dX2_init_4 : decode cX2_init 4 = .ok (.aload_n 0, 1) := dk_42 (dk_at dksX2_init_0 4 rfl rfl)
theorem dX2_init_5 : decode cX2_init 5 = .ok (.bipush 6, 2) := dk_16 6 (dk_at dksX2_init_0 5 rfl rfl)
theorem dX2_init_7 : decode cX2_init 7 = .ok (.newarray .int, 2) := dk_188_10 (dk_at dksX2_init_0 7 rfl rfl)
theorem dX2_init_9 : decode cX2_init 9 = .ok (.putfield 9, 3) := dk_181 0 9 (dk_at dksX2_init_0 9 rfl rfl)
theorem dX2_init_12 : decode cX2_init 12 = .ok (.aload_n 0, 1) := dk_42 (dk_at dksX2_init_0 12 rfl rfl)
theorem dX2_init_13 : decode cX2_init 13 = .ok (.bipush 6, 2) := dk_16 6 (dk_at dksX2_init_0 13 rfl rfl)
theorem dX2_init_15 : decode cX2_init 15 = .ok (.newarray .int, 2) := dk_188_10 (dk_at dksX2_init_0 15 rfl rfl)
theorem dX2_init_17 : decode cX2_init 17 = .ok (.putfield 15, 3) := dk_181 0 15 (dk_at dksX2_init_0 17 rfl rfl)
theorem dX2_init_20 : decode cX2_init 20 = .ok (.aload_n 0, 1) := dk_42 (dk_at dksX2_init_0 20 rfl rfl)
theorem dX2_init_21 : decode cX2_init 21 = .ok (.bipush 6, 2) := dk_16 6 (dk_at dksX2_init_0 21 rfl rfl)
theorem dX2_init_23 : decode cX2_init 23 = .ok (.newarray .int, 2) := dk_188_10 (dk_at dksX2_init_1 0 rfl rfl)
theorem dX2_init_25 : decode cX2_init 25 = .ok (.putfield 18, 3) := dk_181 0 18 (dk_at dksX2_init_1 2 rfl rfl)
theorem dX2_init_28 : decode cX2_init 28 = .ok (.aload_n 0, 1) := dk_42 (dk_at dksX2_init_1 5 rfl rfl)
theorem dX2_init_29 : decode cX2_init 29 = .ok (.bipush 6, 2) := dk_16 6 (dk_at dksX2_init_1 6 rfl rfl)
theorem dX2_init_31 : decode cX2_init 31 = .ok (.newarray .int, 2) := dk_188_10 (dk_at dksX2_init_1 8 rfl rfl)
theorem dX2_init_33 : decode cX2_init 33 = .ok (.putfield 21, 3) := dk_181 0 21 (dk_at dksX2_init_1 10 rfl rfl)
theorem dX2_init_36 : decode cX2_init 36 = .ok (.aload_n 0, 1) := dk_42 (dk_at dksX2_init_1 13 rfl rfl)
theorem dX2_init_37 : decode cX2_init 37 = .ok (.iconst 4, 1) := dk_7 (dk_at dksX2_init_1 14 rfl rfl)
theorem dX2_init_38 : decode cX2_init 38 = .ok (.newarray .int, 2) := dk_188_10 (dk_at dksX2_init_1 15 rfl rfl)
theorem dX2_init_40 : decode cX2_init 40 = .ok (.putfield 24, 3) := dk_181 0 24 (dk_at dksX2_init_1 17 rfl rfl)
theorem dX2_init_43 : decode cX2_init 43 = .ok (.aload_n 0, 1) := dk_42 (dk_at dksX2_init_1 20 rfl rfl)
theorem dX2_init_44 : decode cX2_init 44 = .ok (.iconst 4, 1) := dk_7 (dk_at dksX2_init_1 21 rfl rfl)
theorem dX2_init_45 : decode cX2_init 45 = .ok (.newarray .int, 2) := dk_188_10 (dk_at dksX2_init_1 22 rfl rfl)
theorem dX2_init_47 : decode cX2_init 47 = .ok (.putfield 27, 3) := dk_181 0 27 (dk_at dksX2_init_2 0 rfl rfl)
theorem dX2_init_50 : decode cX2_init 50 = .ok (.aload_n 0, 1) := dk_42 (dk_at dksX2_init_2 3 rfl rfl)
theorem dX2_init_51 : decode cX2_init 51 = .ok (.bipush 6, 2) := dk_16 6 (dk_at dksX2_init_2 4 rfl rfl)
theorem dX2_init_53 : decode cX2_init 53 = .ok (.anewarray 30, 3) := dk_189 0 30 (dk_at dksX2_init_2 6 rfl rfl)
theorem dX2_init_56 : decode cX2_init 56 = .ok (.putfield 32, 3) := dk_181 0 32 (dk_at dksX2_init_2 9 rfl rfl)
theorem dX2_init_59 : decode cX2_init 59 = .ok (.return_, 1) := dk_177 (dk_at dksX2_init_2 12 rfl rfl)
theorem q71 : (Jvm.Cond.initialized "BladeBetweenThumbs$Hedge") ∈ lw_all := lw_g (lw_at lw_m1 2 rfl) rfl
theorem q300 : (Jvm.Cond.instanceMethod ({ cls := "BladeBetweenThumbs$Hedge", name := "takes", desc := "(LBladeBetweenThumbs$Hedge;)V" } : Jvm.MethodName)) ∈ lw_all := lw_g (lw_at lw_m1 231 rfl) rfl
theorem q301 : (Jvm.Cond.selects "BladeBetweenThumbs$Hedge" ({ cls := "BladeBetweenThumbs$Hedge", name := "takes", desc := "(LBladeBetweenThumbs$Hedge;)V" } : Jvm.MethodName) ({ cls := "BladeBetweenThumbs$Hedge", name := "takes", desc := "(LBladeBetweenThumbs$Hedge;)V" } : Jvm.MethodName)) ∈ lw_all := lw_g (lw_at lw_m1 232 rfl) rfl
theorem q302 : (Jvm.Cond.code ({ cls := "BladeBetweenThumbs$Hedge", name := "takes", desc := "(LBladeBetweenThumbs$Hedge;)V" } : Jvm.MethodName) prog_8_method_3_code (2 : Nat) (Option.none : Option Jvm.ClassFile.FieldType)) ∈ lw_all := lw_g (lw_at lw_m1 233 rfl) rfl
theorem q303 : (Jvm.Cond.methodLink "BladeBetweenThumbs$Hedge" (42 : Nat) ({ cls := "BladeBetweenThumbs$Hedge", name := "copies", desc := "([I[I)V" } : Jvm.MethodName)) ∈ lw_all := lw_g (lw_at lw_m1 234 rfl) rfl
theorem q304 : (Jvm.Cond.static ({ cls := "BladeBetweenThumbs$Hedge", name := "copies", desc := "([I[I)V" } : Jvm.MethodName)) ∈ lw_all := lw_g (lw_at lw_m1 235 rfl) rfl
theorem q305 : (Jvm.Cond.code ({ cls := "BladeBetweenThumbs$Hedge", name := "copies", desc := "([I[I)V" } : Jvm.MethodName) prog_8_method_2_code (2 : Nat) (Option.none : Option Jvm.ClassFile.FieldType)) ∈ lw_all := lw_g (lw_at lw_m1 236 rfl) rfl
theorem q306 : (Jvm.Cond.methodLink "BladeBetweenThumbs$Hedge" (36 : Nat) ({ cls := "java/lang/System", name := "arraycopy", desc := "(Ljava/lang/Object;ILjava/lang/Object;II)V" } : Jvm.MethodName)) ∈ lw_all := lw_g (lw_at lw_m1 237 rfl) rfl
theorem q317 : (Jvm.Cond.instanceMethod ({ cls := "BladeBetweenThumbs$Hedge", name := "grows", desc := "(III)I" } : Jvm.MethodName)) ∈ lw_all := lw_g (lw_at lw_m2 8 rfl) rfl
theorem q318 : (Jvm.Cond.selects "BladeBetweenThumbs$Hedge" ({ cls := "BladeBetweenThumbs$Hedge", name := "grows", desc := "(III)I" } : Jvm.MethodName) ({ cls := "BladeBetweenThumbs$Hedge", name := "grows", desc := "(III)I" } : Jvm.MethodName)) ∈ lw_all := lw_g (lw_at lw_m2 9 rfl) rfl
theorem q319 : (Jvm.Cond.code ({ cls := "BladeBetweenThumbs$Hedge", name := "grows", desc := "(III)I" } : Jvm.MethodName) prog_8_method_8_code (4 : Nat) (Option.some Jvm.ClassFile.FieldType.int)) ∈ lw_all := lw_g (lw_at lw_m2 10 rfl) rfl
theorem q324 : (Jvm.Cond.instanceMethod ({ cls := "BladeBetweenThumbs$Hedge", name := "comes", desc := "(II)I" } : Jvm.MethodName)) ∈ lw_all := lw_g (lw_at lw_m2 15 rfl) rfl
theorem q325 : (Jvm.Cond.selects "BladeBetweenThumbs$Hedge" ({ cls := "BladeBetweenThumbs$Hedge", name := "comes", desc := "(II)I" } : Jvm.MethodName) ({ cls := "BladeBetweenThumbs$Hedge", name := "comes", desc := "(II)I" } : Jvm.MethodName)) ∈ lw_all := lw_g (lw_at lw_m2 16 rfl) rfl
theorem q326 : (Jvm.Cond.code ({ cls := "BladeBetweenThumbs$Hedge", name := "comes", desc := "(II)I" } : Jvm.MethodName) prog_8_method_9_code (3 : Nat) (Option.some Jvm.ClassFile.FieldType.int)) ∈ lw_all := lw_g (lw_at lw_m2 17 rfl) rfl
theorem q404 : (Jvm.Cond.instanceMethod ({ cls := "BladeBetweenThumbs$Hedge", name := "learns", desc := "(LBladeBetweenThumbs$Blow;)I" } : Jvm.MethodName)) ∈ lw_all := lw_g (lw_at lw_m2 95 rfl) rfl
theorem q405 : (Jvm.Cond.selects "BladeBetweenThumbs$Hedge" ({ cls := "BladeBetweenThumbs$Hedge", name := "learns", desc := "(LBladeBetweenThumbs$Blow;)I" } : Jvm.MethodName) ({ cls := "BladeBetweenThumbs$Hedge", name := "learns", desc := "(LBladeBetweenThumbs$Blow;)I" } : Jvm.MethodName)) ∈ lw_all := lw_g (lw_at lw_m2 96 rfl) rfl
theorem q406 : (Jvm.Cond.code ({ cls := "BladeBetweenThumbs$Hedge", name := "learns", desc := "(LBladeBetweenThumbs$Blow;)I" } : Jvm.MethodName) prog_8_method_10_code (2 : Nat) (Option.some Jvm.ClassFile.FieldType.int)) ∈ lw_all := lw_g (lw_at lw_m2 97 rfl) rfl
theorem q408 : (Jvm.Cond.instanceMethod ({ cls := "BladeBetweenThumbs$Hedge", name := "areAll", desc := "(III)Z" } : Jvm.MethodName)) ∈ lw_all := lw_g (lw_at lw_m2 99 rfl) rfl
theorem q409 : (Jvm.Cond.selects "BladeBetweenThumbs$Hedge" ({ cls := "BladeBetweenThumbs$Hedge", name := "areAll", desc := "(III)Z" } : Jvm.MethodName) ({ cls := "BladeBetweenThumbs$Hedge", name := "areAll", desc := "(III)Z" } : Jvm.MethodName)) ∈ lw_all := lw_g (lw_at lw_m2 100 rfl) rfl
theorem q410 : (Jvm.Cond.code ({ cls := "BladeBetweenThumbs$Hedge", name := "areAll", desc := "(III)Z" } : Jvm.MethodName) prog_8_method_7_code (4 : Nat) (Option.some Jvm.ClassFile.FieldType.boolean)) ∈ lw_all := lw_g (lw_at lw_m2 101 rfl) rfl
theorem q411 : (Jvm.Cond.methodLink "BladeBetweenThumbs$Hedge" (63 : Nat) ({ cls := "BladeBetweenThumbs$Hedge", name := "isBlade", desc := "(I)Z" } : Jvm.MethodName)) ∈ lw_all := lw_g (lw_at lw_m2 102 rfl) rfl
theorem q412 : (Jvm.Cond.instanceMethod ({ cls := "BladeBetweenThumbs$Hedge", name := "isBlade", desc := "(I)Z" } : Jvm.MethodName)) ∈ lw_all := lw_g (lw_at lw_m2 103 rfl) rfl
theorem q413 : (Jvm.Cond.selects "BladeBetweenThumbs$Hedge" ({ cls := "BladeBetweenThumbs$Hedge", name := "isBlade", desc := "(I)Z" } : Jvm.MethodName) ({ cls := "BladeBetweenThumbs$Hedge", name := "isBlade", desc := "(I)Z" } : Jvm.MethodName)) ∈ lw_all := lw_g (lw_at lw_m2 104 rfl) rfl
theorem q414 : (Jvm.Cond.code ({ cls := "BladeBetweenThumbs$Hedge", name := "isBlade", desc := "(I)Z" } : Jvm.MethodName) prog_8_method_4_code (2 : Nat) (Option.some Jvm.ClassFile.FieldType.boolean)) ∈ lw_all := lw_g (lw_at lw_m2 105 rfl) rfl
theorem q415 : (Jvm.Cond.methodLinkNest "BladeBetweenThumbs$Hedge" (59 : Nat) ({ cls := "BladeBetweenThumbs", name := "isIn", desc := "(III)Z" } : Jvm.MethodName) "BladeBetweenThumbs") ∈ lw_tbl := lw_at lw_m2 106 rfl
theorem q416 : (Jvm.Cond.methodLink "BladeBetweenThumbs$Hedge" (67 : Nat) ({ cls := "BladeBetweenThumbs$Hedge", name := "areThumbs", desc := "(I)Z" } : Jvm.MethodName)) ∈ lw_all := lw_g (lw_at lw_m2 107 rfl) rfl
theorem q417 : (Jvm.Cond.instanceMethod ({ cls := "BladeBetweenThumbs$Hedge", name := "areThumbs", desc := "(I)Z" } : Jvm.MethodName)) ∈ lw_all := lw_g (lw_at lw_m2 108 rfl) rfl
theorem q418 : (Jvm.Cond.selects "BladeBetweenThumbs$Hedge" ({ cls := "BladeBetweenThumbs$Hedge", name := "areThumbs", desc := "(I)Z" } : Jvm.MethodName) ({ cls := "BladeBetweenThumbs$Hedge", name := "areThumbs", desc := "(I)Z" } : Jvm.MethodName)) ∈ lw_all := lw_g (lw_at lw_m2 109 rfl) rfl
theorem q419 : (Jvm.Cond.code ({ cls := "BladeBetweenThumbs$Hedge", name := "areThumbs", desc := "(I)Z" } : Jvm.MethodName) prog_8_method_5_code (2 : Nat) (Option.some Jvm.ClassFile.FieldType.boolean)) ∈ lw_all := lw_g (lw_at lw_m2 110 rfl) rfl
theorem q420 : (Jvm.Cond.methodLink "BladeBetweenThumbs$Hedge" (70 : Nat) ({ cls := "BladeBetweenThumbs$Hedge", name := "isBlow", desc := "(I)Z" } : Jvm.MethodName)) ∈ lw_all := lw_g (lw_at lw_m2 111 rfl) rfl
theorem q421 : (Jvm.Cond.instanceMethod ({ cls := "BladeBetweenThumbs$Hedge", name := "isBlow", desc := "(I)Z" } : Jvm.MethodName)) ∈ lw_all := lw_g (lw_at lw_m2 112 rfl) rfl
theorem q422 : (Jvm.Cond.selects "BladeBetweenThumbs$Hedge" ({ cls := "BladeBetweenThumbs$Hedge", name := "isBlow", desc := "(I)Z" } : Jvm.MethodName) ({ cls := "BladeBetweenThumbs$Hedge", name := "isBlow", desc := "(I)Z" } : Jvm.MethodName)) ∈ lw_all := lw_g (lw_at lw_m2 113 rfl) rfl
theorem q423 : (Jvm.Cond.code ({ cls := "BladeBetweenThumbs$Hedge", name := "isBlow", desc := "(I)Z" } : Jvm.MethodName) prog_8_method_6_code (2 : Nat) (Option.some Jvm.ClassFile.FieldType.boolean)) ∈ lw_all := lw_g (lw_at lw_m2 114 rfl) rfl
theorem q425 : (Jvm.Cond.instanceMethod ({ cls := "BladeBetweenThumbs$Hedge", name := "isSplit", desc := "(I)Z" } : Jvm.MethodName)) ∈ lw_all := lw_g (lw_at lw_m2 116 rfl) rfl
theorem q426 : (Jvm.Cond.selects "BladeBetweenThumbs$Hedge" ({ cls := "BladeBetweenThumbs$Hedge", name := "isSplit", desc := "(I)Z" } : Jvm.MethodName) ({ cls := "BladeBetweenThumbs$Hedge", name := "isSplit", desc := "(I)Z" } : Jvm.MethodName)) ∈ lw_all := lw_g (lw_at lw_m2 117 rfl) rfl
theorem q427 : (Jvm.Cond.code ({ cls := "BladeBetweenThumbs$Hedge", name := "isSplit", desc := "(I)Z" } : Jvm.MethodName) prog_8_method_11_code (2 : Nat) (Option.some Jvm.ClassFile.FieldType.boolean)) ∈ lw_all := lw_g (lw_at lw_m2 118 rfl) rfl
theorem q429 : (Jvm.Cond.instanceMethod ({ cls := "BladeBetweenThumbs$Hedge", name := "tries", desc := "(IIIII)Z" } : Jvm.MethodName)) ∈ lw_all := lw_g (lw_at lw_m2 120 rfl) rfl
theorem q430 : (Jvm.Cond.selects "BladeBetweenThumbs$Hedge" ({ cls := "BladeBetweenThumbs$Hedge", name := "tries", desc := "(IIIII)Z" } : Jvm.MethodName) ({ cls := "BladeBetweenThumbs$Hedge", name := "tries", desc := "(IIIII)Z" } : Jvm.MethodName)) ∈ lw_all := lw_g (lw_at lw_m2 121 rfl) rfl
theorem q431 : (Jvm.Cond.code ({ cls := "BladeBetweenThumbs$Hedge", name := "tries", desc := "(IIIII)Z" } : Jvm.MethodName) prog_8_method_19_code (6 : Nat) (Option.some Jvm.ClassFile.FieldType.boolean)) ∈ lw_all := lw_g (lw_at lw_m2 122 rfl) rfl
theorem q455 : (Jvm.Cond.methodLink "BladeBetweenThumbs$Hedge" (114 : Nat) ({ cls := "BladeBetweenThumbs$Hedge", name := "sounds", desc := "(IIIII)Z" } : Jvm.MethodName)) ∈ lw_all := lw_g (lw_at lw_m2 146 rfl) rfl
theorem q456 : (Jvm.Cond.instanceMethod ({ cls := "BladeBetweenThumbs$Hedge", name := "sounds", desc := "(IIIII)Z" } : Jvm.MethodName)) ∈ lw_all := lw_g (lw_at lw_m2 147 rfl) rfl
theorem q457 : (Jvm.Cond.selects "BladeBetweenThumbs$Hedge" ({ cls := "BladeBetweenThumbs$Hedge", name := "sounds", desc := "(IIIII)Z" } : Jvm.MethodName) ({ cls := "BladeBetweenThumbs$Hedge", name := "sounds", desc := "(IIIII)Z" } : Jvm.MethodName)) ∈ lw_all := lw_g (lw_at lw_m2 148 rfl) rfl
theorem q458 : (Jvm.Cond.code ({ cls := "BladeBetweenThumbs$Hedge", name := "sounds", desc := "(IIIII)Z" } : Jvm.MethodName) prog_8_method_17_code (6 : Nat) (Option.some Jvm.ClassFile.FieldType.boolean)) ∈ lw_all := lw_g (lw_at lw_m2 149 rfl) rfl
theorem q459 : (Jvm.Cond.methodLink "BladeBetweenThumbs$Hedge" (104 : Nat) ({ cls := "BladeBetweenThumbs$Hedge", name := "wrong", desc := "(IIIII)I" } : Jvm.MethodName)) ∈ lw_all := lw_g (lw_at lw_m2 150 rfl) rfl
theorem q460 : (Jvm.Cond.instanceMethod ({ cls := "BladeBetweenThumbs$Hedge", name := "wrong", desc := "(IIIII)I" } : Jvm.MethodName)) ∈ lw_all := lw_g (lw_at lw_m2 151 rfl) rfl
theorem q461 : (Jvm.Cond.selects "BladeBetweenThumbs$Hedge" ({ cls := "BladeBetweenThumbs$Hedge", name := "wrong", desc := "(IIIII)I" } : Jvm.MethodName) ({ cls := "BladeBetweenThumbs$Hedge", name := "wrong", desc := "(IIIII)I" } : Jvm.MethodName)) ∈ lw_all := lw_g (lw_at lw_m2 152 rfl) rfl
theorem q462 : (Jvm.Cond.code ({ cls := "BladeBetweenThumbs$Hedge", name := "wrong", desc := "(IIIII)I" } : Jvm.MethodName) prog_8_method_16_code (7 : Nat) (Option.some Jvm.ClassFile.FieldType.int)) ∈ lw_all := lw_g (lw_at lw_m2 153 rfl) rfl
theorem q463 : (Jvm.Cond.methodLink "BladeBetweenThumbs$Hedge" (95 : Nat) ({ cls := "BladeBetweenThumbs$Hedge", name := "low", desc := "(III)I" } : Jvm.MethodName)) ∈ lw_all := lw_g (lw_at lw_m2 154 rfl) rfl
theorem q464 : (Jvm.Cond.instanceMethod ({ cls := "BladeBetweenThumbs$Hedge", name := "low", desc := "(III)I" } : Jvm.MethodName)) ∈ lw_all := lw_g (lw_at lw_m2 155 rfl) rfl
theorem q465 : (Jvm.Cond.selects "BladeBetweenThumbs$Hedge" ({ cls := "BladeBetweenThumbs$Hedge", name := "low", desc := "(III)I" } : Jvm.MethodName) ({ cls := "BladeBetweenThumbs$Hedge", name := "low", desc := "(III)I" } : Jvm.MethodName)) ∈ lw_all := lw_g (lw_at lw_m2 156 rfl) rfl
theorem q466 : (Jvm.Cond.code ({ cls := "BladeBetweenThumbs$Hedge", name := "low", desc := "(III)I" } : Jvm.MethodName) prog_8_method_12_code (4 : Nat) (Option.some Jvm.ClassFile.FieldType.int)) ∈ lw_all := lw_g (lw_at lw_m2 157 rfl) rfl
theorem q467 : (Jvm.Cond.methodLink "BladeBetweenThumbs$Hedge" (73 : Nat) ({ cls := "BladeBetweenThumbs$Blow", name := "low", desc := "(II)I" } : Jvm.MethodName)) ∈ lw_all := lw_g (lw_at lw_m2 158 rfl) rfl
theorem q493 : (Jvm.Cond.methodLink "BladeBetweenThumbs$Hedge" (77 : Nat) ({ cls := "java/lang/Math", name := "max", desc := "(II)I" } : Jvm.MethodName)) ∈ lw_all := lw_g (lw_at lw_m2 184 rfl) rfl
theorem q494 : (Jvm.Cond.methodLink "BladeBetweenThumbs$Hedge" (98 : Nat) ({ cls := "BladeBetweenThumbs$Hedge", name := "high", desc := "(III)I" } : Jvm.MethodName)) ∈ lw_all := lw_g (lw_at lw_m2 185 rfl) rfl
theorem q495 : (Jvm.Cond.instanceMethod ({ cls := "BladeBetweenThumbs$Hedge", name := "high", desc := "(III)I" } : Jvm.MethodName)) ∈ lw_all := lw_g (lw_at lw_m2 186 rfl) rfl
theorem q496 : (Jvm.Cond.selects "BladeBetweenThumbs$Hedge" ({ cls := "BladeBetweenThumbs$Hedge", name := "high", desc := "(III)I" } : Jvm.MethodName) ({ cls := "BladeBetweenThumbs$Hedge", name := "high", desc := "(III)I" } : Jvm.MethodName)) ∈ lw_all := lw_g (lw_at lw_m2 187 rfl) rfl
theorem q497 : (Jvm.Cond.code ({ cls := "BladeBetweenThumbs$Hedge", name := "high", desc := "(III)I" } : Jvm.MethodName) prog_8_method_13_code (4 : Nat) (Option.some Jvm.ClassFile.FieldType.int)) ∈ lw_all := lw_g (lw_at lw_m2 188 rfl) rfl
theorem q512 : (Jvm.Cond.methodLink "BladeBetweenThumbs$Hedge" (89 : Nat) ({ cls := "BladeBetweenThumbs$Hedge", name := "softest", desc := "(II)I" } : Jvm.MethodName)) ∈ lw_all := lw_g (lw_at lw_m2 203 rfl) rfl
theorem q513 : (Jvm.Cond.instanceMethod ({ cls := "BladeBetweenThumbs$Hedge", name := "softest", desc := "(II)I" } : Jvm.MethodName)) ∈ lw_all := lw_g (lw_at lw_m2 204 rfl) rfl
theorem q514 : (Jvm.Cond.selects "BladeBetweenThumbs$Hedge" ({ cls := "BladeBetweenThumbs$Hedge", name := "softest", desc := "(II)I" } : Jvm.MethodName) ({ cls := "BladeBetweenThumbs$Hedge", name := "softest", desc := "(II)I" } : Jvm.MethodName)) ∈ lw_all := lw_g (lw_at lw_m2 205 rfl) rfl
theorem q515 : (Jvm.Cond.code ({ cls := "BladeBetweenThumbs$Hedge", name := "softest", desc := "(II)I" } : Jvm.MethodName) prog_8_method_14_code (3 : Nat) (Option.some Jvm.ClassFile.FieldType.int)) ∈ lw_all := lw_g (lw_at lw_m2 206 rfl) rfl
theorem q516 : (Jvm.Cond.methodLink "BladeBetweenThumbs$Hedge" (86 : Nat) ({ cls := "BladeBetweenThumbs$Blow", name := "softest", desc := "(I)I" } : Jvm.MethodName)) ∈ lw_all := lw_g (lw_at lw_m2 207 rfl) rfl
theorem q539 : (Jvm.Cond.methodLink "BladeBetweenThumbs$Hedge" (101 : Nat) ({ cls := "BladeBetweenThumbs$Hedge", name := "hardest", desc := "(II)I" } : Jvm.MethodName)) ∈ lw_all := lw_g (lw_at lw_m2 230 rfl) rfl
theorem q540 : (Jvm.Cond.instanceMethod ({ cls := "BladeBetweenThumbs$Hedge", name := "hardest", desc := "(II)I" } : Jvm.MethodName)) ∈ lw_all := lw_g (lw_at lw_m2 231 rfl) rfl
theorem q541 : (Jvm.Cond.selects "BladeBetweenThumbs$Hedge" ({ cls := "BladeBetweenThumbs$Hedge", name := "hardest", desc := "(II)I" } : Jvm.MethodName) ({ cls := "BladeBetweenThumbs$Hedge", name := "hardest", desc := "(II)I" } : Jvm.MethodName)) ∈ lw_all := lw_g (lw_at lw_m2 232 rfl) rfl
theorem q542 : (Jvm.Cond.code ({ cls := "BladeBetweenThumbs$Hedge", name := "hardest", desc := "(II)I" } : Jvm.MethodName) prog_8_method_15_code (3 : Nat) (Option.some Jvm.ClassFile.FieldType.int)) ∈ lw_all := lw_g (lw_at lw_m2 233 rfl) rfl
theorem q643 : (Jvm.Cond.instanceMethod ({ cls := "BladeBetweenThumbs$Hedge", name := "pitch", desc := "(IIII)I" } : Jvm.MethodName)) ∈ lw_all := lw_g (lw_at lw_m3 94 rfl) rfl
theorem q644 : (Jvm.Cond.selects "BladeBetweenThumbs$Hedge" ({ cls := "BladeBetweenThumbs$Hedge", name := "pitch", desc := "(IIII)I" } : Jvm.MethodName) ({ cls := "BladeBetweenThumbs$Hedge", name := "pitch", desc := "(IIII)I" } : Jvm.MethodName)) ∈ lw_all := lw_g (lw_at lw_m3 95 rfl) rfl
theorem q645 : (Jvm.Cond.code ({ cls := "BladeBetweenThumbs$Hedge", name := "pitch", desc := "(IIII)I" } : Jvm.MethodName) prog_8_method_18_code (5 : Nat) (Option.some Jvm.ClassFile.FieldType.int)) ∈ lw_all := lw_g (lw_at lw_m3 96 rfl) rfl
theorem q673 : (Jvm.Cond.instanceMethod ({ cls := "BladeBetweenThumbs$Hedge", name := "where", desc := "(III)I" } : Jvm.MethodName)) ∈ lw_all := lw_g (lw_at lw_m3 124 rfl) rfl
theorem q674 : (Jvm.Cond.selects "BladeBetweenThumbs$Hedge" ({ cls := "BladeBetweenThumbs$Hedge", name := "where", desc := "(III)I" } : Jvm.MethodName) ({ cls := "BladeBetweenThumbs$Hedge", name := "where", desc := "(III)I" } : Jvm.MethodName)) ∈ lw_all := lw_g (lw_at lw_m3 125 rfl) rfl
theorem q675 : (Jvm.Cond.code ({ cls := "BladeBetweenThumbs$Hedge", name := "where", desc := "(III)I" } : Jvm.MethodName) prog_8_method_22_code (4 : Nat) (Option.some Jvm.ClassFile.FieldType.int)) ∈ lw_all := lw_g (lw_at lw_m3 126 rfl) rfl
theorem q676 : (Jvm.Cond.methodLink "BladeBetweenThumbs$Hedge" (121 : Nat) ({ cls := "BladeBetweenThumbs$Hedge", name := "tights", desc := "(III)I" } : Jvm.MethodName)) ∈ lw_all := lw_g (lw_at lw_m3 127 rfl) rfl
theorem q677 : (Jvm.Cond.instanceMethod ({ cls := "BladeBetweenThumbs$Hedge", name := "tights", desc := "(III)I" } : Jvm.MethodName)) ∈ lw_all := lw_g (lw_at lw_m3 128 rfl) rfl
theorem q678 : (Jvm.Cond.selects "BladeBetweenThumbs$Hedge" ({ cls := "BladeBetweenThumbs$Hedge", name := "tights", desc := "(III)I" } : Jvm.MethodName) ({ cls := "BladeBetweenThumbs$Hedge", name := "tights", desc := "(III)I" } : Jvm.MethodName)) ∈ lw_all := lw_g (lw_at lw_m3 129 rfl) rfl
theorem q679 : (Jvm.Cond.code ({ cls := "BladeBetweenThumbs$Hedge", name := "tights", desc := "(III)I" } : Jvm.MethodName) prog_8_method_20_code (4 : Nat) (Option.some Jvm.ClassFile.FieldType.int)) ∈ lw_all := lw_g (lw_at lw_m3 130 rfl) rfl
theorem q680 : (Jvm.Cond.methodLink "BladeBetweenThumbs$Hedge" (118 : Nat) ({ cls := "java/lang/Math", name := "min", desc := "(II)I" } : Jvm.MethodName)) ∈ lw_all := lw_g (lw_at lw_m3 131 rfl) rfl
theorem q683 : (Jvm.Cond.methodLink "BladeBetweenThumbs$Hedge" (124 : Nat) ({ cls := "BladeBetweenThumbs$Hedge", name := "forces", desc := "(II)I" } : Jvm.MethodName)) ∈ lw_all := lw_g (lw_at lw_m3 134 rfl) rfl
theorem q684 : (Jvm.Cond.instanceMethod ({ cls := "BladeBetweenThumbs$Hedge", name := "forces", desc := "(II)I" } : Jvm.MethodName)) ∈ lw_all := lw_g (lw_at lw_m3 135 rfl) rfl
theorem q685 : (Jvm.Cond.selects "BladeBetweenThumbs$Hedge" ({ cls := "BladeBetweenThumbs$Hedge", name := "forces", desc := "(II)I" } : Jvm.MethodName) ({ cls := "BladeBetweenThumbs$Hedge", name := "forces", desc := "(II)I" } : Jvm.MethodName)) ∈ lw_all := lw_g (lw_at lw_m3 136 rfl) rfl
theorem q686 : (Jvm.Cond.code ({ cls := "BladeBetweenThumbs$Hedge", name := "forces", desc := "(II)I" } : Jvm.MethodName) prog_8_method_21_code (3 : Nat) (Option.some Jvm.ClassFile.FieldType.int)) ∈ lw_all := lw_g (lw_at lw_m3 137 rfl) rfl
theorem q954 : (Jvm.Cond.instantiable "BladeBetweenThumbs$Hedge" (11 : Nat)) ∈ lw_all := lw_g (lw_at lw_m4 165 rfl) rfl
theorem q956 : (Jvm.Cond.instanceMethod ({ cls := "BladeBetweenThumbs$Hedge", name := "<init>", desc := "()V" } : Jvm.MethodName)) ∈ lw_all := lw_g (lw_at lw_m4 167 rfl) rfl
theorem q957 : (Jvm.Cond.code ({ cls := "BladeBetweenThumbs$Hedge", name := "<init>", desc := "()V" } : Jvm.MethodName) prog_8_method_1_code (1 : Nat) (Option.none : Option Jvm.ClassFile.FieldType)) ∈ lw_all := lw_g (lw_at lw_m4 168 rfl) rfl
theorem q958 : (Jvm.Cond.methodLink "BladeBetweenThumbs$Hedge" (3 : Nat) ({ cls := "java/lang/Object", name := "<init>", desc := "()V" } : Jvm.MethodName)) ∈ lw_all := lw_g (lw_at lw_m4 169 rfl) rfl
theorem q959 : (Jvm.Cond.classLink "BladeBetweenThumbs$Hedge" (30 : Nat) "BladeBetweenThumbs$Blow") ∈ lw_all := lw_g (lw_at lw_m4 170 rfl) rfl
theorem q961 : (Jvm.Cond.fieldLink "BladeBetweenThumbs$Hedge" (9 : Nat) "BladeBetweenThumbs$Hedge" "breadth" "[I") ∈ lw_all := lw_g (lw_at lw_m4 172 rfl) rfl
theorem q963 : (Jvm.Cond.fieldLink "BladeBetweenThumbs$Hedge" (15 : Nat) "BladeBetweenThumbs$Hedge" "length" "[I") ∈ lw_all := lw_g (lw_at lw_m4 174 rfl) rfl
theorem q965 : (Jvm.Cond.fieldLink "BladeBetweenThumbs$Hedge" (18 : Nat) "BladeBetweenThumbs$Hedge" "wet" "[I") ∈ lw_all := lw_g (lw_at lw_m4 176 rfl) rfl
theorem q967 : (Jvm.Cond.fieldLink "BladeBetweenThumbs$Hedge" (21 : Nat) "BladeBetweenThumbs$Hedge" "wear" "[I") ∈ lw_all := lw_g (lw_at lw_m4 178 rfl) rfl
theorem q969 : (Jvm.Cond.fieldLink "BladeBetweenThumbs$Hedge" (24 : Nat) "BladeBetweenThumbs$Hedge" "slit" "[I") ∈ lw_all := lw_g (lw_at lw_m4 180 rfl) rfl
theorem q971 : (Jvm.Cond.fieldLink "BladeBetweenThumbs$Hedge" (27 : Nat) "BladeBetweenThumbs$Hedge" "grip" "[I") ∈ lw_all := lw_g (lw_at lw_m4 182 rfl) rfl
theorem q973 : (Jvm.Cond.fieldLink "BladeBetweenThumbs$Hedge" (32 : Nat) "BladeBetweenThumbs$Hedge" "blow" "[LBladeBetweenThumbs$Blow;") ∈ lw_all := lw_g (lw_at lw_m4 184 rfl) rfl
theorem q975 : (Jvm.Cond.fieldLink "BladeBetweenThumbs$Hedge" (46 : Nat) "BladeBetweenThumbs$Hedge" "blades" "I") ∈ lw_all := lw_g (lw_at lw_m4 186 rfl) rfl
theorem q977 : (Jvm.Cond.fieldLink "BladeBetweenThumbs$Hedge" (50 : Nat) "BladeBetweenThumbs$Hedge" "thumbs" "I") ∈ lw_all := lw_g (lw_at lw_m4 188 rfl) rfl
theorem q979 : (Jvm.Cond.fieldLink "BladeBetweenThumbs$Hedge" (53 : Nat) "BladeBetweenThumbs$Hedge" "blows" "I") ∈ lw_all := lw_g (lw_at lw_m4 190 rfl) rfl
theorem q981 : (Jvm.Cond.fieldLink "BladeBetweenThumbs$Hedge" (56 : Nat) "BladeBetweenThumbs$Hedge" "lower" "I") ∈ lw_all := lw_g (lw_at lw_m4 192 rfl) rfl
theorem q983 : (Jvm.Cond.laysFinal "BladeBetweenThumbs$Hedge" "BladeBetweenThumbs$Hedge" "breadth" "[I") ∈ lw_all := lw_g (lw_at lw_m4 194 rfl) rfl
theorem q984 : (Jvm.Cond.soleField "BladeBetweenThumbs$Hedge" "breadth") ∈ lw_all := lw_g (lw_at lw_m4 195 rfl) rfl
theorem q985 : (Jvm.Cond.laysFinal "BladeBetweenThumbs$Hedge" "BladeBetweenThumbs$Hedge" "length" "[I") ∈ lw_all := lw_g (lw_at lw_m4 196 rfl) rfl
theorem q986 : (Jvm.Cond.soleField "BladeBetweenThumbs$Hedge" "length") ∈ lw_all := lw_g (lw_at lw_m4 197 rfl) rfl
theorem q987 : (Jvm.Cond.laysFinal "BladeBetweenThumbs$Hedge" "BladeBetweenThumbs$Hedge" "wet" "[I") ∈ lw_all := lw_g (lw_at lw_m4 198 rfl) rfl
theorem q988 : (Jvm.Cond.soleField "BladeBetweenThumbs$Hedge" "wet") ∈ lw_all := lw_g (lw_at lw_m4 199 rfl) rfl
theorem q989 : (Jvm.Cond.laysFinal "BladeBetweenThumbs$Hedge" "BladeBetweenThumbs$Hedge" "wear" "[I") ∈ lw_all := lw_g (lw_at lw_m4 200 rfl) rfl
theorem q990 : (Jvm.Cond.soleField "BladeBetweenThumbs$Hedge" "wear") ∈ lw_all := lw_g (lw_at lw_m4 201 rfl) rfl
theorem q991 : (Jvm.Cond.laysFinal "BladeBetweenThumbs$Hedge" "BladeBetweenThumbs$Hedge" "slit" "[I") ∈ lw_all := lw_g (lw_at lw_m4 202 rfl) rfl
theorem q992 : (Jvm.Cond.soleField "BladeBetweenThumbs$Hedge" "slit") ∈ lw_all := lw_g (lw_at lw_m4 203 rfl) rfl
theorem q993 : (Jvm.Cond.laysFinal "BladeBetweenThumbs$Hedge" "BladeBetweenThumbs$Hedge" "grip" "[I") ∈ lw_all := lw_g (lw_at lw_m4 204 rfl) rfl
theorem q994 : (Jvm.Cond.soleField "BladeBetweenThumbs$Hedge" "grip") ∈ lw_all := lw_g (lw_at lw_m4 205 rfl) rfl
theorem q995 : (Jvm.Cond.laysFinal "BladeBetweenThumbs$Hedge" "BladeBetweenThumbs$Hedge" "blow" "[LBladeBetweenThumbs$Blow;") ∈ lw_all := lw_g (lw_at lw_m4 206 rfl) rfl
theorem q996 : (Jvm.Cond.soleField "BladeBetweenThumbs$Hedge" "blow") ∈ lw_all := lw_g (lw_at lw_m4 207 rfl) rfl
theorem q997 : (Jvm.Cond.lays "BladeBetweenThumbs$Hedge" "BladeBetweenThumbs$Hedge" "blades" "I") ∈ lw_all := lw_g (lw_at lw_m4 208 rfl) rfl
theorem q998 : (Jvm.Cond.soleField "BladeBetweenThumbs$Hedge" "blades") ∈ lw_all := lw_g (lw_at lw_m4 209 rfl) rfl
theorem q999 : (Jvm.Cond.lays "BladeBetweenThumbs$Hedge" "BladeBetweenThumbs$Hedge" "thumbs" "I") ∈ lw_all := lw_g (lw_at lw_m4 210 rfl) rfl
theorem q1000 : (Jvm.Cond.soleField "BladeBetweenThumbs$Hedge" "thumbs") ∈ lw_all := lw_g (lw_at lw_m4 211 rfl) rfl
theorem q1001 : (Jvm.Cond.lays "BladeBetweenThumbs$Hedge" "BladeBetweenThumbs$Hedge" "blows" "I") ∈ lw_all := lw_g (lw_at lw_m4 212 rfl) rfl
theorem q1002 : (Jvm.Cond.soleField "BladeBetweenThumbs$Hedge" "blows") ∈ lw_all := lw_g (lw_at lw_m4 213 rfl) rfl
theorem q1003 : (Jvm.Cond.lays "BladeBetweenThumbs$Hedge" "BladeBetweenThumbs$Hedge" "lower" "I") ∈ lw_all := lw_g (lw_at lw_m4 214 rfl) rfl
theorem q1004 : (Jvm.Cond.soleField "BladeBetweenThumbs$Hedge" "lower") ∈ lw_all := lw_g (lw_at lw_m4 215 rfl) rfl
theorem q1005 : (Jvm.Cond.superclass "BladeBetweenThumbs$Hedge" "java/lang/Object") ∈ lw_all := lw_g (lw_at lw_m4 216 rfl) rfl
theorem in_X2 : ∀ w ∈ wsX20, w ∈ lw_all := lw_in wsX20 [983, 985, 987, 989, 991, 993, 995, 997, 999, 1001, 1003] (by decide +kernel) (by decide +kernel)

/-! BladeBetweenThumbs$Sounds -/
set_option maxRecDepth 100000
def RX20 : String := "BladeBetweenThumbs$Sounds"
abbrev cX20_pitch : ByteArray := prog_15_method_1_code
def yX20_pitch : MethodName := ⟨RX20, "pitch", "(III)I"⟩
def dkwX20_pitch_0 : List UInt8 := [16, 60, 27, 100, 28, 96, 172]
abbrev dktX20_pitch_0 : List UInt8 := dkwX20_pitch_0 ++ []
theorem dksX20_pitch_0 : cX20_pitch.data.toList.drop 0 = dktX20_pitch_0 := by decide +kernel
theorem dX20_pitch_0 : decode cX20_pitch 0 = .ok (.bipush 60, 2) := dk_16 60 (dk_at dksX20_pitch_0 0 rfl rfl)
theorem dX20_pitch_2 : decode cX20_pitch 2 = .ok (.iload_n 1, 1) := dk_27 (dk_at dksX20_pitch_0 2 rfl rfl)
theorem dX20_pitch_3 : decode cX20_pitch 3 = .ok (.isub, 1) := dk_100 (dk_at dksX20_pitch_0 3 rfl rfl)
theorem dX20_pitch_4 : decode cX20_pitch 4 = .ok (.iload_n 2, 1) := dk_28 (dk_at dksX20_pitch_0 4 rfl rfl)
theorem dX20_pitch_5 : decode cX20_pitch 5 = .ok (.iadd, 1) := dk_96 (dk_at dksX20_pitch_0 5 rfl rfl)
theorem dX20_pitch_6 : decode cX20_pitch 6 = .ok (.ireturn, 1) := dk_172 (dk_at dksX20_pitch_0 6 rfl rfl)
theorem q646 : (Jvm.Cond.declares ({ cls := "BladeBetweenThumbs$Sounds", name := "pitch", desc := "(III)I" } : Jvm.MethodName)) ∈ lw_tbl := lw_at lw_m3 97 rfl
theorem q651 : (Jvm.Cond.instanceMethod ({ cls := "BladeBetweenThumbs$Sounds", name := "pitch", desc := "(III)I" } : Jvm.MethodName)) ∈ lw_all := lw_g (lw_at lw_m3 102 rfl) rfl
theorem q652 : (Jvm.Cond.code ({ cls := "BladeBetweenThumbs$Sounds", name := "pitch", desc := "(III)I" } : Jvm.MethodName) prog_15_method_1_code (4 : Nat) (Option.some Jvm.ClassFile.FieldType.int)) ∈ lw_all := lw_g (lw_at lw_m3 103 rfl) rfl
theorem q663 : (Jvm.Cond.publicMethod ({ cls := "BladeBetweenThumbs$Sounds", name := "pitch", desc := "(III)I" } : Jvm.MethodName)) ∈ lw_tbl := lw_at lw_m3 114 rfl
theorem q1728 : (Jvm.Cond.initialized "BladeBetweenThumbs$Sounds") ∈ lw_all := lw_g (lw_at lw_m7 219 rfl) rfl

/-! BladeBetweenThumbs$Shelf -/
set_option maxRecDepth 100000
def RX3 : String := "BladeBetweenThumbs$Shelf"
def TX3 : u_T := fun k => match k with
  | _ => ("BladeBetweenThumbs$Shelf", "held", "Ljava/lang/Object;", false)
def tyX3 : Nat → FieldType := fun k => match k with
  | _ => .object "java/lang/Object"
abbrev wsX30 : List Cond := u_ws RX3 TX3 1
theorem nmX3 : ∀ a, a < 1 → ∀ b, b < 1 → a ≠ b → (TX3 a).2.1 ≠ (TX3 b).2.1 := by decide +kernel
theorem tyX3_ok : ∀ k, k < 1 → parseFieldDescriptor (TX3 k).2.2.1 = some (tyX3 k) := by decide +kernel
abbrev cX3_init : ByteArray := prog_10_method_1_code
def yX3_init : MethodName := ⟨RX3, "<init>", "()V"⟩
theorem dX3_init_0 : decode cX3_init 0 = .ok (.aload_n 0, 1) := by decide +kernel
theorem dX3_init_1 : decode cX3_init 1 = .ok (.invokespecial 1, 3) := by decide +kernel
theorem dX3_init_4 : decode cX3_init 4 = .ok (.return_, 1) := by decide +kernel
theorem q72 : (Jvm.Cond.initialized "BladeBetweenThumbs$Shelf") ∈ lw_all := lw_g (lw_at lw_m1 3 rfl) rfl
theorem q1010 : (Jvm.Cond.instantiable "BladeBetweenThumbs$Shelf" (1 : Nat)) ∈ lw_all := lw_g (lw_at lw_m4 221 rfl) rfl
theorem q1012 : (Jvm.Cond.instanceMethod ({ cls := "BladeBetweenThumbs$Shelf", name := "<init>", desc := "()V" } : Jvm.MethodName)) ∈ lw_all := lw_g (lw_at lw_m4 223 rfl) rfl
theorem q1013 : (Jvm.Cond.code ({ cls := "BladeBetweenThumbs$Shelf", name := "<init>", desc := "()V" } : Jvm.MethodName) prog_10_method_1_code (1 : Nat) (Option.none : Option Jvm.ClassFile.FieldType)) ∈ lw_all := lw_g (lw_at lw_m4 224 rfl) rfl
theorem q1014 : (Jvm.Cond.methodLink "BladeBetweenThumbs$Shelf" (1 : Nat) ({ cls := "java/lang/Object", name := "<init>", desc := "()V" } : Jvm.MethodName)) ∈ lw_all := lw_g (lw_at lw_m4 225 rfl) rfl
theorem q1016 : (Jvm.Cond.lays "BladeBetweenThumbs$Shelf" "BladeBetweenThumbs$Shelf" "held" "Ljava/lang/Object;") ∈ lw_all := lw_g (lw_at lw_m4 227 rfl) rfl
theorem q1017 : (Jvm.Cond.soleField "BladeBetweenThumbs$Shelf" "held") ∈ lw_all := lw_g (lw_at lw_m4 228 rfl) rfl
theorem q1018 : (Jvm.Cond.superclass "BladeBetweenThumbs$Shelf" "java/lang/Object") ∈ lw_all := lw_g (lw_at lw_m4 229 rfl) rfl
theorem in_X3 : ∀ w ∈ wsX30, w ∈ lw_all := lw_in wsX30 [1016] (by decide +kernel) (by decide +kernel)

/-! BladeBetweenThumbs$HedgeReader -/
set_option maxRecDepth 100000
def RX5 : String := "BladeBetweenThumbs$HedgeReader"
def TX5 : u_T := fun k => match k with
  | 0 => ("BladeBetweenThumbs$HedgeReader", "text", "[B", true)
  | _ => ("BladeBetweenThumbs$HedgeReader", "at", "I", false)
def tyX5 : Nat → FieldType := fun k => match k with
  | 0 => .array .byte
  | _ => .int
abbrev wsX50 : List Cond := u_ws RX5 TX5 2
theorem nmX5 : ∀ a, a < 2 → ∀ b, b < 2 → a ≠ b → (TX5 a).2.1 ≠ (TX5 b).2.1 := by decide +kernel
theorem tyX5_ok : ∀ k, k < 2 → parseFieldDescriptor (TX5 k).2.2.1 = some (tyX5 k) := by decide +kernel
abbrev cX5_init : ByteArray := prog_9_method_1_code
def yX5_init : MethodName := ⟨RX5, "<init>", "([B)V"⟩
def dkwX5_init_0 : List UInt8 := [42, 183, 0, 3, 42, 43, 181, 0, 9, 177]
abbrev dktX5_init_0 : List UInt8 := dkwX5_init_0 ++ []
theorem dksX5_init_0 : cX5_init.data.toList.drop 0 = dktX5_init_0 := by decide +kernel
theorem dX5_init_0 : decode cX5_init 0 = .ok (.aload_n 0, 1) := dk_42 (dk_at dksX5_init_0 0 rfl rfl)
theorem dX5_init_1 : decode cX5_init 1 = .ok (.invokespecial 3, 3) := dk_183 0 3 (dk_at dksX5_init_0 1 rfl rfl)
theorem dX5_init_4 : decode cX5_init 4 = .ok (.aload_n 0, 1) := dk_42 (dk_at dksX5_init_0 4 rfl rfl)
theorem dX5_init_5 : decode cX5_init 5 = .ok (.aload_n 1, 1) := dk_43 (dk_at dksX5_init_0 5 rfl rfl)
theorem dX5_init_6 : decode cX5_init 6 = .ok (.putfield 9, 3) := dk_181 0 9 (dk_at dksX5_init_0 6 rfl rfl)
theorem dX5_init_9 : decode cX5_init 9 = .ok (.return_, 1) := dk_177 (dk_at dksX5_init_0 9 rfl rfl)
abbrev cX5_whole : ByteArray := prog_9_method_7_code
def yX5_whole : MethodName := ⟨RX5, "whole", "([LBladeBetweenThumbs$Told;)I"⟩
def dkwX5_whole_1 : List UInt8 := [28, 172]
abbrev dktX5_whole_1 : List UInt8 := dkwX5_whole_1 ++ []
def dkwX5_whole_0 : List UInt8 := [3, 61, 43, 28, 42, 182, 0, 55, 83, 132, 2, 1, 42, 180, 0, 15, 42, 180, 0, 9, 190, 161, 255, 237]
abbrev dktX5_whole_0 : List UInt8 := dkwX5_whole_0 ++ dktX5_whole_1
theorem dksX5_whole_0 : cX5_whole.data.toList.drop 0 = dktX5_whole_0 := by decide +kernel
theorem dksX5_whole_1 : cX5_whole.data.toList.drop 24 = dktX5_whole_1 := dk_seg dksX5_whole_0 24 rfl rfl
theorem dX5_whole_0 : decode cX5_whole 0 = .ok (.iconst 0, 1) := dk_3 (dk_at dksX5_whole_0 0 rfl rfl)
theorem dX5_whole_1 : decode cX5_whole 1 = .ok (.istore_n 2, 1) := dk_61 (dk_at dksX5_whole_0 1 rfl rfl)
theorem dX5_whole_2 : decode cX5_whole 2 = .ok (.aload_n 1, 1) := dk_43 (dk_at dksX5_whole_0 2 rfl rfl)
theorem dX5_whole_3 : decode cX5_whole 3 = .ok (.iload_n 2, 1) := dk_28 (dk_at dksX5_whole_0 3 rfl rfl)
theorem dX5_whole_4 : decode cX5_whole 4 = .ok (.aload_n 0, 1) := dk_42 (dk_at dksX5_whole_0 4 rfl rfl)
theorem dX5_whole_5 : decode cX5_whole 5 = .ok (.invokevirtual 55, 3) := dk_182 0 55 (dk_at dksX5_whole_0 5 rfl rfl)
theorem dX5_whole_8 : decode cX5_whole 8 = .ok (.aastore, 1) := dk_83 (dk_at dksX5_whole_0 8 rfl rfl)
theorem dX5_whole_9 : decode cX5_whole 9 = .ok (.iinc 2 1, 3) := dk_132 2 1 (dk_at dksX5_whole_0 9 rfl rfl)
theorem dX5_whole_12 : decode cX5_whole 12 = .ok (.aload_n 0, 1) := dk_42 (dk_at dksX5_whole_0 12 rfl rfl)
theorem dX5_whole_13 : decode cX5_whole 13 = .ok (.getfield 15, 3) := dk_180 0 15 (dk_at dksX5_whole_0 13 rfl rfl)
theorem dX5_whole_16 : decode cX5_whole 16 = .ok (.aload_n 0, 1) := dk_42 (dk_at dksX5_whole_0 16 rfl rfl)
theorem dX5_whole_17 : decode cX5_whole 17 = .ok (.getfield 9, 3) := dk_180 0 9 (dk_at dksX5_whole_0 17 rfl rfl)
theorem dX5_whole_20 : decode cX5_whole 20 = .ok (.arraylength, 1) := dk_190 (dk_at dksX5_whole_0 20 rfl rfl)
theorem dX5_whole_21 : decode cX5_whole 21 = .ok (.if_icmp .lt (-19), 3) := dk_161 255 237 (dk_at dksX5_whole_0 21 rfl rfl)
theorem dX5_whole_24 : decode cX5_whole 24 = .ok (.iload_n 2, 1) := dk_28 (dk_at dksX5_whole_1 0 rfl rfl)
theorem dX5_whole_25 : decode cX5_whole 25 = .ok (.ireturn, 1) := dk_172 (dk_at dksX5_whole_1 1 rfl rfl)
abbrev cX5_statement : ByteArray := prog_9_method_6_code
def yX5_statement : MethodName := ⟨RX5, "statement", "()LBladeBetweenThumbs$Told;"⟩
def dkwX5_statement_2 : List UInt8 := [180, 0, 15, 4, 96, 181, 0, 15, 43, 176]
abbrev dktX5_statement_2 : List UInt8 := dkwX5_statement_2 ++ []
def dkwX5_statement_1 : List UInt8 := [181, 0, 15, 42, 43, 182, 0, 51, 42, 182, 0, 24, 16, 59, 159, 0, 8, 42, 182, 0, 32, 191, 42, 89]
abbrev dktX5_statement_1 : List UInt8 := dkwX5_statement_1 ++ dktX5_statement_2
def dkwX5_statement_0 : List UInt8 := [187, 0, 37, 89, 42, 182, 0, 24, 42, 180, 0, 15, 183, 0, 48, 76, 42, 89, 180, 0, 15, 4, 96]
abbrev dktX5_statement_0 : List UInt8 := dkwX5_statement_0 ++ dktX5_statement_1
theorem dksX5_statement_0 : cX5_statement.data.toList.drop 0 = dktX5_statement_0 := by decide +kernel
theorem dksX5_statement_1 : cX5_statement.data.toList.drop 23 = dktX5_statement_1 := dk_seg dksX5_statement_0 23 rfl rfl
theorem dksX5_statement_2 : cX5_statement.data.toList.drop 47 = dktX5_statement_2 := dk_seg dksX5_statement_1 24 rfl rfl
theorem dX5_statement_0 : decode cX5_statement 0 = .ok (.new 37, 3) := dk_187 0 37 (dk_at dksX5_statement_0 0 rfl rfl)
theorem dX5_statement_3 : decode cX5_statement 3 = .ok (.dup, 1) := dk_89 (dk_at dksX5_statement_0 3 rfl rfl)
theorem dX5_statement_4 : decode cX5_statement 4 = .ok (.aload_n 0, 1) := dk_42 (dk_at dksX5_statement_0 4 rfl rfl)
theorem dX5_statement_5 : decode cX5_statement 5 = .ok (.invokevirtual 24, 3) := dk_182 0 24 (dk_at dksX5_statement_0 5 rfl rfl)
theorem dX5_statement_8 : decode cX5_statement 8 = .ok (.aload_n 0, 1) := dk_42 (dk_at dksX5_statement_0 8 rfl rfl)
theorem dX5_statement_9 : decode cX5_statement 9 = .ok (.getfield 15, 3) := dk_180 0 15 (dk_at dksX5_statement_0 9 rfl rfl)
theorem dX5_statement_12 : decode cX5_statement 12 = .ok (.invokespecial 48, 3) := dk_183 0 48 (dk_at dksX5_statement_0 12 rfl rfl)
theorem dX5_statement_15 : decode cX5_statement 15 = .ok (.astore_n 1, 1) := dk_76 (dk_at dksX5_statement_0 15 rfl rfl)
theorem dX5_statement_16 : decode cX5_statement 16 = .ok (.aload_n 0, 1) := dk_42 (dk_at dksX5_statement_0 16 rfl rfl)
theorem dX5_statement_17 : decode cX5_statement 17 = .ok (.dup, 1) := dk_89 (dk_at dksX5_statement_0 17 rfl rfl)
theorem dX5_statement_18 : decode cX5_statement 18 = .ok (.getfield 15, 3) := dk_180 0 15 (dk_at dksX5_statement_0 18 rfl rfl)
theorem dX5_statement_21 : decode cX5_statement 21 = .ok (.iconst 1, 1) := dk_4 (dk_at dksX5_statement_0 21 rfl rfl)
theorem dX5_statement_22 : decode cX5_statement 22 = .ok (.iadd, 1) := dk_96 (dk_at dksX5_statement_0 22 rfl rfl)
theorem dX5_statement_23 : decode cX5_statement 23 = .ok (.putfield 15, 3) := dk_181 0 15 (dk_at dksX5_statement_1 0 rfl rfl)
theorem dX5_statement_26 : decode cX5_statement 26 = .ok (.aload_n 0, 1) := dk_42 (dk_at dksX5_statement_1 3 rfl rfl)
theorem dX5_statement_27 : decode cX5_statement 27 = .ok (.aload_n 1, 1) := dk_43 (dk_at dksX5_statement_1 4 rfl rfl)
theorem dX5_statement_28 : decode cX5_statement 28 = .ok (.invokevirtual 51, 3) := dk_182 0 51 (dk_at dksX5_statement_1 5 rfl rfl)
theorem dX5_statement_31 : decode cX5_statement 31 = .ok (.aload_n 0, 1) := dk_42 (dk_at dksX5_statement_1 8 rfl rfl)
theorem dX5_statement_32 : decode cX5_statement 32 = .ok (.invokevirtual 24, 3) := dk_182 0 24 (dk_at dksX5_statement_1 9 rfl rfl)
theorem dX5_statement_35 : decode cX5_statement 35 = .ok (.bipush 59, 2) := dk_16 59 (dk_at dksX5_statement_1 12 rfl rfl)
theorem dX5_statement_37 : decode cX5_statement 37 = .ok (.if_icmp .eq 8, 3) := dk_159 0 8 (dk_at dksX5_statement_1 14 rfl rfl)
theorem dX5_statement_40 : decode cX5_statement 40 = .ok (.aload_n 0, 1) := dk_42 (dk_at dksX5_statement_1 17 rfl rfl)
theorem dX5_statement_41 : decode cX5_statement 41 = .ok (.invokevirtual 32, 3) := dk_182 0 32 (dk_at dksX5_statement_1 18 rfl rfl)
theorem dX5_statement_44 : decode cX5_statement 44 = .ok (.athrow, 1) := dk_191 (dk_at dksX5_statement_1 21 rfl rfl)
theorem dX5_statement_45 : decode cX5_statement 45 = .ok (.aload_n 0, 1) := dk_42 (dk_at dksX5_statement_1 22 rfl rfl)
theorem dX5_statement_46 : decode cX5_statement 46 = .ok (.dup, 1) := dk_89 (dk_at dksX5_statement_1 23 rfl rfl)
theorem dX5_statement_47 : decode cX5_statement 47 = .ok (.getfield 15, 3) := dk_180 0 15 (dk_at dksX5_statement_2 0 rfl rfl)
theorem dX5_statement_50 : decode cX5_statement 50 = .ok (.iconst 1, 1) := dk_4 (dk_at dksX5_statement_2 3 rfl rfl)
theorem dX5_statement_51 : decode cX5_statement 51 = .ok (.iadd, 1) := dk_96 (dk_at dksX5_statement_2 4 rfl rfl)
theorem dX5_statement_52 : decode cX5_statement 52 = .ok (.putfield 15, 3) := dk_181 0 15 (dk_at dksX5_statement_2 5 rfl rfl)
theorem dX5_statement_55 : decode cX5_statement 55 = .ok (.aload_n 1, 1) := dk_43 (dk_at dksX5_statement_2 8 rfl rfl)
theorem dX5_statement_56 : decode cX5_statement 56 = .ok (.areturn, 1) := dk_176 (dk_at dksX5_statement_2 9 rfl rfl)
abbrev cX5_sign : ByteArray := prog_9_method_2_code
def yX5_sign : MethodName := ⟨RX5, "sign", "()I"⟩
def dkwX5_sign_1 : List UInt8 := [2, 172]
abbrev dktX5_sign_1 : List UInt8 := dkwX5_sign_1 ++ []
def dkwX5_sign_0 : List UInt8 := [42, 180, 0, 15, 42, 180, 0, 9, 190, 162, 0, 15, 42, 180, 0, 9, 42, 180, 0, 15, 51, 167, 0, 4]
abbrev dktX5_sign_0 : List UInt8 := dkwX5_sign_0 ++ dktX5_sign_1
theorem dksX5_sign_0 : cX5_sign.data.toList.drop 0 = dktX5_sign_0 := by decide +kernel
theorem dksX5_sign_1 : cX5_sign.data.toList.drop 24 = dktX5_sign_1 := dk_seg dksX5_sign_0 24 rfl rfl
theorem dX5_sign_0 : decode cX5_sign 0 = .ok (.aload_n 0, 1) := dk_42 (dk_at dksX5_sign_0 0 rfl rfl)
theorem dX5_sign_1 : decode cX5_sign 1 = .ok (.getfield 15, 3) := dk_180 0 15 (dk_at dksX5_sign_0 1 rfl rfl)
theorem dX5_sign_4 : decode cX5_sign 4 = .ok (.aload_n 0, 1) := dk_42 (dk_at dksX5_sign_0 4 rfl rfl)
theorem dX5_sign_5 : decode cX5_sign 5 = .ok (.getfield 9, 3) := dk_180 0 9 (dk_at dksX5_sign_0 5 rfl rfl)
theorem dX5_sign_8 : decode cX5_sign 8 = .ok (.arraylength, 1) := dk_190 (dk_at dksX5_sign_0 8 rfl rfl)
theorem dX5_sign_9 : decode cX5_sign 9 = .ok (.if_icmp .ge 15, 3) := dk_162 0 15 (dk_at dksX5_sign_0 9 rfl rfl)
theorem dX5_sign_12 : decode cX5_sign 12 = .ok (.aload_n 0, 1) := dk_42 (dk_at dksX5_sign_0 12 rfl rfl)
theorem dX5_sign_13 : decode cX5_sign 13 = .ok (.getfield 9, 3) := dk_180 0 9 (dk_at dksX5_sign_0 13 rfl rfl)
theorem dX5_sign_16 : decode cX5_sign 16 = .ok (.aload_n 0, 1) := dk_42 (dk_at dksX5_sign_0 16 rfl rfl)
theorem dX5_sign_17 : decode cX5_sign 17 = .ok (.getfield 15, 3) := dk_180 0 15 (dk_at dksX5_sign_0 17 rfl rfl)
theorem dX5_sign_20 : decode cX5_sign 20 = .ok (.baload, 1) := dk_51 (dk_at dksX5_sign_0 20 rfl rfl)
theorem dX5_sign_21 : decode cX5_sign 21 = .ok (.goto 4, 3) := dk_167 0 4 (dk_at dksX5_sign_0 21 rfl rfl)
theorem dX5_sign_24 : decode cX5_sign 24 = .ok (.iconst (-1), 1) := dk_2 (dk_at dksX5_sign_1 0 rfl rfl)
theorem dX5_sign_25 : decode cX5_sign 25 = .ok (.ireturn, 1) := dk_172 (dk_at dksX5_sign_1 1 rfl rfl)
abbrev cX5_reads : ByteArray := prog_9_method_5_code
def yX5_reads : MethodName := ⟨RX5, "reads", "(LBladeBetweenThumbs$Told;)V"⟩
def dkwX5_reads_7 : List UInt8 := [182, 0, 32, 191, 177]
abbrev dktX5_reads_7 : List UInt8 := dkwX5_reads_7 ++ []
def dkwX5_reads_6 : List UInt8 := [182, 0, 45, 132, 2, 1, 167, 255, 230, 167, 0, 18, 42, 89, 180, 0, 15, 4, 100, 181, 0, 15, 42]
abbrev dktX5_reads_6 : List UInt8 := dkwX5_reads_6 ++ dktX5_reads_7
def dkwX5_reads_5 : List UInt8 := [3, 61, 28, 8, 162, 0, 27, 43, 42, 28, 6, 162, 0, 7, 4, 167, 0, 4, 5, 182, 0, 41]
abbrev dktX5_reads_5 : List UInt8 := dkwX5_reads_5 ++ dktX5_reads_6
def dkwX5_reads_4 : List UInt8 := [167, 0, 73, 43, 42, 4, 182, 0, 41, 182, 0, 45, 43, 42, 4, 182, 0, 41, 182, 0, 45, 167, 0, 52]
abbrev dktX5_reads_4 : List UInt8 := dkwX5_reads_4 ++ dktX5_reads_5
def dkwX5_reads_3 : List UInt8 := [182, 0, 45, 167, 0, 94, 43, 42, 4, 182, 0, 41, 182, 0, 45, 43, 42, 5, 182, 0, 41, 182, 0, 45]
abbrev dktX5_reads_3 : List UInt8 := dkwX5_reads_3 ++ dktX5_reads_4
def dkwX5_reads_2 : List UInt8 := [43, 42, 5, 182, 0, 41, 182, 0, 45, 43, 42, 5, 182, 0, 41, 182, 0, 45, 43, 42, 4, 182, 0, 41]
abbrev dktX5_reads_2 : List UInt8 := dkwX5_reads_2 ++ dktX5_reads_3
def dkwX5_reads_1 : List UInt8 := [171, 0, 0, 0, 0, 0, 0, 150, 0, 0, 0, 4, 0, 0, 0, 98, 0, 0, 0, 44, 0, 0, 0, 107, 0, 0, 0, 95, 0, 0, 0, 116, 0, 0, 0, 74, 0, 0, 0, 121, 0, 0, 0, 116]
abbrev dktX5_reads_1 : List UInt8 := dkwX5_reads_1 ++ dktX5_reads_2
def dkwX5_reads_0 : List UInt8 := [43, 180, 0, 36]
abbrev dktX5_reads_0 : List UInt8 := dkwX5_reads_0 ++ dktX5_reads_1
theorem dksX5_reads_0 : cX5_reads.data.toList.drop 0 = dktX5_reads_0 := by decide +kernel
theorem dksX5_reads_1 : cX5_reads.data.toList.drop 4 = dktX5_reads_1 := dk_seg dksX5_reads_0 4 rfl rfl
theorem dksX5_reads_2 : cX5_reads.data.toList.drop 48 = dktX5_reads_2 := dk_seg dksX5_reads_1 44 rfl rfl
theorem dksX5_reads_3 : cX5_reads.data.toList.drop 72 = dktX5_reads_3 := dk_seg dksX5_reads_2 24 rfl rfl
theorem dksX5_reads_4 : cX5_reads.data.toList.drop 96 = dktX5_reads_4 := dk_seg dksX5_reads_3 24 rfl rfl
theorem dksX5_reads_5 : cX5_reads.data.toList.drop 120 = dktX5_reads_5 := dk_seg dksX5_reads_4 24 rfl rfl
theorem dksX5_reads_6 : cX5_reads.data.toList.drop 142 = dktX5_reads_6 := dk_seg dksX5_reads_5 22 rfl rfl
theorem dksX5_reads_7 : cX5_reads.data.toList.drop 165 = dktX5_reads_7 := dk_seg dksX5_reads_6 23 rfl rfl
theorem dX5_reads_0 : decode cX5_reads 0 = .ok (.aload_n 1, 1) := dk_43 (dk_at dksX5_reads_0 0 rfl rfl)
theorem dX5_reads_1 : decode cX5_reads 1 = .ok (.getfield 36, 3) := dk_180 0 36 (dk_at dksX5_reads_0 1 rfl rfl)
theorem dX5_reads_4 : decode cX5_reads 4 = .ok (.lookupswitch 150 #[(98, 44), (107, 95), (116, 74), (121, 116)], 44) := by decide +kernel
theorem dX5_reads_48 : decode cX5_reads 48 = .ok (.aload_n 1, 1) := dk_43 (dk_at dksX5_reads_2 0 rfl rfl)
theorem dX5_reads_49 : decode cX5_reads 49 = .ok (.aload_n 0, 1) := dk_42 (dk_at dksX5_reads_2 1 rfl rfl)
theorem dX5_reads_50 : decode cX5_reads 50 = .ok (.iconst 2, 1) := dk_5 (dk_at dksX5_reads_2 2 rfl rfl)
theorem dX5_reads_51 : decode cX5_reads 51 = .ok (.invokevirtual 41, 3) := dk_182 0 41 (dk_at dksX5_reads_2 3 rfl rfl)
theorem dX5_reads_54 : decode cX5_reads 54 = .ok (.invokevirtual 45, 3) := dk_182 0 45 (dk_at dksX5_reads_2 6 rfl rfl)
theorem dX5_reads_57 : decode cX5_reads 57 = .ok (.aload_n 1, 1) := dk_43 (dk_at dksX5_reads_2 9 rfl rfl)
theorem dX5_reads_58 : decode cX5_reads 58 = .ok (.aload_n 0, 1) := dk_42 (dk_at dksX5_reads_2 10 rfl rfl)
theorem dX5_reads_59 : decode cX5_reads 59 = .ok (.iconst 2, 1) := dk_5 (dk_at dksX5_reads_2 11 rfl rfl)
theorem dX5_reads_60 : decode cX5_reads 60 = .ok (.invokevirtual 41, 3) := dk_182 0 41 (dk_at dksX5_reads_2 12 rfl rfl)
theorem dX5_reads_63 : decode cX5_reads 63 = .ok (.invokevirtual 45, 3) := dk_182 0 45 (dk_at dksX5_reads_2 15 rfl rfl)
theorem dX5_reads_66 : decode cX5_reads 66 = .ok (.aload_n 1, 1) := dk_43 (dk_at dksX5_reads_2 18 rfl rfl)
theorem dX5_reads_67 : decode cX5_reads 67 = .ok (.aload_n 0, 1) := dk_42 (dk_at dksX5_reads_2 19 rfl rfl)
theorem dX5_reads_68 : decode cX5_reads 68 = .ok (.iconst 1, 1) := dk_4 (dk_at dksX5_reads_2 20 rfl rfl)
theorem dX5_reads_69 : decode cX5_reads 69 = .ok (.invokevirtual 41, 3) := dk_182 0 41 (dk_at dksX5_reads_2 21 rfl rfl)
theorem dX5_reads_72 : decode cX5_reads 72 = .ok (.invokevirtual 45, 3) := dk_182 0 45 (dk_at dksX5_reads_3 0 rfl rfl)
theorem dX5_reads_75 : decode cX5_reads 75 = .ok (.goto 94, 3) := dk_167 0 94 (dk_at dksX5_reads_3 3 rfl rfl)
theorem dX5_reads_78 : decode cX5_reads 78 = .ok (.aload_n 1, 1) := dk_43 (dk_at dksX5_reads_3 6 rfl rfl)
theorem dX5_reads_79 : decode cX5_reads 79 = .ok (.aload_n 0, 1) := dk_42 (dk_at dksX5_reads_3 7 rfl rfl)
theorem dX5_reads_80 : decode cX5_reads 80 = .ok (.iconst 1, 1) := dk_4 (dk_at dksX5_reads_3 8 rfl rfl)
theorem dX5_reads_81 : decode cX5_reads 81 = .ok (.invokevirtual 41, 3) := dk_182 0 41 (dk_at dksX5_reads_3 9 rfl rfl)
theorem dX5_reads_84 : decode cX5_reads 84 = .ok (.invokevirtual 45, 3) := dk_182 0 45 (dk_at dksX5_reads_3 12 rfl rfl)
theorem dX5_reads_87 : decode cX5_reads 87 = .ok (.aload_n 1, 1) := dk_43 (dk_at dksX5_reads_3 15 rfl rfl)
theorem dX5_reads_88 : decode cX5_reads 88 = .ok (.aload_n 0, 1) := dk_42 (dk_at dksX5_reads_3 16 rfl rfl)
theorem dX5_reads_89 : decode cX5_reads 89 = .ok (.iconst 2, 1) := dk_5 (dk_at dksX5_reads_3 17 rfl rfl)
theorem dX5_reads_90 : decode cX5_reads 90 = .ok (.invokevirtual 41, 3) := dk_182 0 41 (dk_at dksX5_reads_3 18 rfl rfl)
theorem dX5_reads_93 : decode cX5_reads 93 = .ok (.invokevirtual 45, 3) := dk_182 0 45 (dk_at dksX5_reads_3 21 rfl rfl)
theorem dX5_reads_96 : decode cX5_reads 96 = .ok (.goto 73, 3) := dk_167 0 73 (dk_at dksX5_reads_4 0 rfl rfl)
theorem dX5_reads_99 : decode cX5_reads 99 = .ok (.aload_n 1, 1) := dk_43 (dk_at dksX5_reads_4 3 rfl rfl)
theorem dX5_reads_100 : decode cX5_reads 100 = .ok (.aload_n 0, 1) := dk_42 (dk_at dksX5_reads_4 4 rfl rfl)
theorem dX5_reads_101 : decode cX5_reads 101 = .ok (.iconst 1, 1) := dk_4 (dk_at dksX5_reads_4 5 rfl rfl)
theorem dX5_reads_102 : decode cX5_reads 102 = .ok (.invokevirtual 41, 3) := dk_182 0 41 (dk_at dksX5_reads_4 6 rfl rfl)
theorem dX5_reads_105 : decode cX5_reads 105 = .ok (.invokevirtual 45, 3) := dk_182 0 45 (dk_at dksX5_reads_4 9 rfl rfl)
theorem dX5_reads_108 : decode cX5_reads 108 = .ok (.aload_n 1, 1) := dk_43 (dk_at dksX5_reads_4 12 rfl rfl)
theorem dX5_reads_109 : decode cX5_reads 109 = .ok (.aload_n 0, 1) := dk_42 (dk_at dksX5_reads_4 13 rfl rfl)
theorem dX5_reads_110 : decode cX5_reads 110 = .ok (.iconst 1, 1) := dk_4 (dk_at dksX5_reads_4 14 rfl rfl)
theorem dX5_reads_111 : decode cX5_reads 111 = .ok (.invokevirtual 41, 3) := dk_182 0 41 (dk_at dksX5_reads_4 15 rfl rfl)
theorem dX5_reads_114 : decode cX5_reads 114 = .ok (.invokevirtual 45, 3) := dk_182 0 45 (dk_at dksX5_reads_4 18 rfl rfl)
theorem dX5_reads_117 : decode cX5_reads 117 = .ok (.goto 52, 3) := dk_167 0 52 (dk_at dksX5_reads_4 21 rfl rfl)
theorem dX5_reads_120 : decode cX5_reads 120 = .ok (.iconst 0, 1) := dk_3 (dk_at dksX5_reads_5 0 rfl rfl)
theorem dX5_reads_121 : decode cX5_reads 121 = .ok (.istore_n 2, 1) := dk_61 (dk_at dksX5_reads_5 1 rfl rfl)
theorem dX5_reads_122 : decode cX5_reads 122 = .ok (.iload_n 2, 1) := dk_28 (dk_at dksX5_reads_5 2 rfl rfl)
theorem dX5_reads_123 : decode cX5_reads 123 = .ok (.iconst 5, 1) := dk_8 (dk_at dksX5_reads_5 3 rfl rfl)
theorem dX5_reads_124 : decode cX5_reads 124 = .ok (.if_icmp .ge 27, 3) := dk_162 0 27 (dk_at dksX5_reads_5 4 rfl rfl)
theorem dX5_reads_127 : decode cX5_reads 127 = .ok (.aload_n 1, 1) := dk_43 (dk_at dksX5_reads_5 7 rfl rfl)
theorem dX5_reads_128 : decode cX5_reads 128 = .ok (.aload_n 0, 1) := dk_42 (dk_at dksX5_reads_5 8 rfl rfl)
theorem dX5_reads_129 : decode cX5_reads 129 = .ok (.iload_n 2, 1) := dk_28 (dk_at dksX5_reads_5 9 rfl rfl)
theorem dX5_reads_130 : decode cX5_reads 130 = .ok (.iconst 3, 1) := dk_6 (dk_at dksX5_reads_5 10 rfl rfl)
theorem dX5_reads_131 : decode cX5_reads 131 = .ok (.if_icmp .ge 7, 3) := dk_162 0 7 (dk_at dksX5_reads_5 11 rfl rfl)
theorem dX5_reads_134 : decode cX5_reads 134 = .ok (.iconst 1, 1) := dk_4 (dk_at dksX5_reads_5 14 rfl rfl)
theorem dX5_reads_135 : decode cX5_reads 135 = .ok (.goto 4, 3) := dk_167 0 4 (dk_at dksX5_reads_5 15 rfl rfl)
theorem dX5_reads_138 : decode cX5_reads 138 = .ok (.iconst 2, 1) := dk_5 (dk_at dksX5_reads_5 18 rfl rfl)
theorem dX5_reads_139 : decode cX5_reads 139 = .ok (.invokevirtual 41, 3) := dk_182 0 41 (dk_at dksX5_reads_5 19 rfl rfl)
theorem dX5_reads_142 : decode cX5_reads 142 = .ok (.invokevirtual 45, 3) := dk_182 0 45 (dk_at dksX5_reads_6 0 rfl rfl)
theorem dX5_reads_145 : decode cX5_reads 145 = .ok (.iinc 2 1, 3) := dk_132 2 1 (dk_at dksX5_reads_6 3 rfl rfl)
theorem dX5_reads_148 : decode cX5_reads 148 = .ok (.goto (-26), 3) := dk_167 255 230 (dk_at dksX5_reads_6 6 rfl rfl)
theorem dX5_reads_151 : decode cX5_reads 151 = .ok (.goto 18, 3) := dk_167 0 18 (dk_at dksX5_reads_6 9 rfl rfl)
theorem dX5_reads_154 : decode cX5_reads 154 = .ok (.aload_n 0, 1) := dk_42 (dk_at dksX5_reads_6 12 rfl rfl)
theorem dX5_reads_155 : decode cX5_reads 155 = .ok (.dup, 1) := dk_89 (dk_at dksX5_reads_6 13 rfl rfl)
theorem dX5_reads_156 : decode cX5_reads 156 = .ok (.getfield 15, 3) := dk_180 0 15 (dk_at dksX5_reads_6 14 rfl rfl)
theorem dX5_reads_159 : decode cX5_reads 159 = .ok (.iconst 1, 1) := dk_4 (dk_at dksX5_reads_6 17 rfl rfl)
theorem dX5_reads_160 : decode cX5_reads 160 = .ok (.isub, 1) := dk_100 (dk_at dksX5_reads_6 18 rfl rfl)
theorem dX5_reads_161 : decode cX5_reads 161 = .ok (.putfield 15, 3) := dk_181 0 15 (dk_at dksX5_reads_6 19 rfl rfl)
theorem dX5_reads_164 : decode cX5_reads 164 = .ok (.aload_n 0, 1) := dk_42 (dk_at dksX5_reads_6 22 rfl rfl)
theorem dX5_reads_165 : decode cX5_reads 165 = .ok (.invokevirtual 32, 3) := dk_182 0 32 (dk_at dksX5_reads_7 0 rfl rfl)
theorem dX5_reads_168 : decode cX5_reads 168 = .ok (.athrow, 1) := dk_191 (dk_at dksX5_reads_7 3 rfl rfl)
theorem dX5_reads_169 : decode cX5_reads 169 = .ok (.return_, 1) := dk_177 (dk_at dksX5_reads_7 4 rfl rfl)
abbrev cX5_number : ByteArray := prog_9_method_4_code
def yX5_number : MethodName := ⟨RX5, "number", "(I)I"⟩
def dkwX5_number_2 : List UInt8 := [181, 0, 15, 132, 3, 1, 167, 255, 206, 28, 172]
abbrev dktX5_number_2 : List UInt8 := dkwX5_number_2 ++ []
def dkwX5_number_1 : List UInt8 := [182, 0, 32, 191, 16, 10, 28, 104, 42, 182, 0, 24, 96, 16, 48, 100, 61, 42, 89, 180, 0, 15, 4, 96]
abbrev dktX5_number_1 : List UInt8 := dkwX5_number_1 ++ dktX5_number_2
def dkwX5_number_0 : List UInt8 := [3, 61, 3, 62, 29, 27, 162, 0, 51, 42, 182, 0, 24, 16, 48, 16, 57, 184, 0, 28, 154, 0, 8, 42]
abbrev dktX5_number_0 : List UInt8 := dkwX5_number_0 ++ dktX5_number_1
theorem dksX5_number_0 : cX5_number.data.toList.drop 0 = dktX5_number_0 := by decide +kernel
theorem dksX5_number_1 : cX5_number.data.toList.drop 24 = dktX5_number_1 := dk_seg dksX5_number_0 24 rfl rfl
theorem dksX5_number_2 : cX5_number.data.toList.drop 48 = dktX5_number_2 := dk_seg dksX5_number_1 24 rfl rfl
theorem dX5_number_0 : decode cX5_number 0 = .ok (.iconst 0, 1) := dk_3 (dk_at dksX5_number_0 0 rfl rfl)
theorem dX5_number_1 : decode cX5_number 1 = .ok (.istore_n 2, 1) := dk_61 (dk_at dksX5_number_0 1 rfl rfl)
theorem dX5_number_2 : decode cX5_number 2 = .ok (.iconst 0, 1) := dk_3 (dk_at dksX5_number_0 2 rfl rfl)
theorem dX5_number_3 : decode cX5_number 3 = .ok (.istore_n 3, 1) := dk_62 (dk_at dksX5_number_0 3 rfl rfl)
theorem dX5_number_4 : decode cX5_number 4 = .ok (.iload_n 3, 1) := dk_29 (dk_at dksX5_number_0 4 rfl rfl)
theorem dX5_number_5 : decode cX5_number 5 = .ok (.iload_n 1, 1) := dk_27 (dk_at dksX5_number_0 5 rfl rfl)
theorem dX5_number_6 : decode cX5_number 6 = .ok (.if_icmp .ge 51, 3) := dk_162 0 51 (dk_at dksX5_number_0 6 rfl rfl)
theorem dX5_number_9 : decode cX5_number 9 = .ok (.aload_n 0, 1) := dk_42 (dk_at dksX5_number_0 9 rfl rfl)
theorem dX5_number_10 : decode cX5_number 10 = .ok (.invokevirtual 24, 3) := dk_182 0 24 (dk_at dksX5_number_0 10 rfl rfl)
theorem dX5_number_13 : decode cX5_number 13 = .ok (.bipush 48, 2) := dk_16 48 (dk_at dksX5_number_0 13 rfl rfl)
theorem dX5_number_15 : decode cX5_number 15 = .ok (.bipush 57, 2) := dk_16 57 (dk_at dksX5_number_0 15 rfl rfl)
theorem dX5_number_17 : decode cX5_number 17 = .ok (.invokestatic 28, 3) := dk_184 0 28 (dk_at dksX5_number_0 17 rfl rfl)
theorem dX5_number_20 : decode cX5_number 20 = .ok (.ifCond .ne 8, 3) := dk_154 0 8 (dk_at dksX5_number_0 20 rfl rfl)
theorem dX5_number_23 : decode cX5_number 23 = .ok (.aload_n 0, 1) := dk_42 (dk_at dksX5_number_0 23 rfl rfl)
theorem dX5_number_24 : decode cX5_number 24 = .ok (.invokevirtual 32, 3) := dk_182 0 32 (dk_at dksX5_number_1 0 rfl rfl)
theorem dX5_number_27 : decode cX5_number 27 = .ok (.athrow, 1) := dk_191 (dk_at dksX5_number_1 3 rfl rfl)
theorem dX5_number_28 : decode cX5_number 28 = .ok (.bipush 10, 2) := dk_16 10 (dk_at dksX5_number_1 4 rfl rfl)
theorem dX5_number_30 : decode cX5_number 30 = .ok (.iload_n 2, 1) := dk_28 (dk_at dksX5_number_1 6 rfl rfl)
theorem dX5_number_31 : decode cX5_number 31 = .ok (.imul, 1) := dk_104 (dk_at dksX5_number_1 7 rfl rfl)
theorem dX5_number_32 : decode cX5_number 32 = .ok (.aload_n 0, 1) := dk_42 (dk_at dksX5_number_1 8 rfl rfl)
theorem dX5_number_33 : decode cX5_number 33 = .ok (.invokevirtual 24, 3) := dk_182 0 24 (dk_at dksX5_number_1 9 rfl rfl)
theorem dX5_number_36 : decode cX5_number 36 = .ok (.iadd, 1) := dk_96 (dk_at dksX5_number_1 12 rfl rfl)
theorem dX5_number_37 : decode cX5_number 37 = .ok (.bipush 48, 2) := dk_16 48 (dk_at dksX5_number_1 13 rfl rfl)
theorem dX5_number_39 : decode cX5_number 39 = .ok (.isub, 1) := dk_100 (dk_at dksX5_number_1 15 rfl rfl)
theorem dX5_number_40 : decode cX5_number 40 = .ok (.istore_n 2, 1) := dk_61 (dk_at dksX5_number_1 16 rfl rfl)
theorem dX5_number_41 : decode cX5_number 41 = .ok (.aload_n 0, 1) := dk_42 (dk_at dksX5_number_1 17 rfl rfl)
theorem dX5_number_42 : decode cX5_number 42 = .ok (.dup, 1) := dk_89 (dk_at dksX5_number_1 18 rfl rfl)
theorem dX5_number_43 : decode cX5_number 43 = .ok (.getfield 15, 3) := dk_180 0 15 (dk_at dksX5_number_1 19 rfl rfl)
theorem dX5_number_46 : decode cX5_number 46 = .ok (.iconst 1, 1) := dk_4 (dk_at dksX5_number_1 22 rfl rfl)
theorem dX5_number_47 : decode cX5_number 47 = .ok (.iadd, 1) := dk_96 (dk_at dksX5_number_1 23 rfl rfl)
theorem dX5_number_48 : decode cX5_number 48 = .ok (.putfield 15, 3) := dk_181 0 15 (dk_at dksX5_number_2 0 rfl rfl)
theorem dX5_number_51 : decode cX5_number 51 = .ok (.iinc 3 1, 3) := dk_132 3 1 (dk_at dksX5_number_2 3 rfl rfl)
theorem dX5_number_54 : decode cX5_number 54 = .ok (.goto (-50), 3) := dk_167 255 206 (dk_at dksX5_number_2 6 rfl rfl)
theorem dX5_number_57 : decode cX5_number 57 = .ok (.iload_n 2, 1) := dk_28 (dk_at dksX5_number_2 9 rfl rfl)
theorem dX5_number_58 : decode cX5_number 58 = .ok (.ireturn, 1) := dk_172 (dk_at dksX5_number_2 10 rfl rfl)
abbrev cX5_broken : ByteArray := prog_9_method_3_code
def yX5_broken : MethodName := ⟨RX5, "broken", "()LBladeBetweenThumbs$Broken;"⟩
def dkwX5_broken_0 : List UInt8 := [187, 0, 19, 89, 17, 252, 24, 42, 180, 0, 15, 100, 183, 0, 21, 176]
abbrev dktX5_broken_0 : List UInt8 := dkwX5_broken_0 ++ []
theorem dksX5_broken_0 : cX5_broken.data.toList.drop 0 = dktX5_broken_0 := by decide +kernel
theorem dX5_broken_0 : decode cX5_broken 0 = .ok (.new 19, 3) := dk_187 0 19 (dk_at dksX5_broken_0 0 rfl rfl)
theorem dX5_broken_3 : decode cX5_broken 3 = .ok (.dup, 1) := dk_89 (dk_at dksX5_broken_0 3 rfl rfl)
theorem dX5_broken_4 : decode cX5_broken 4 = .ok (.sipush (-1000), 3) := dk_17 252 24 (dk_at dksX5_broken_0 4 rfl rfl)
theorem dX5_broken_7 : decode cX5_broken 7 = .ok (.aload_n 0, 1) := dk_42 (dk_at dksX5_broken_0 7 rfl rfl)
theorem dX5_broken_8 : decode cX5_broken 8 = .ok (.getfield 15, 3) := dk_180 0 15 (dk_at dksX5_broken_0 8 rfl rfl)
theorem dX5_broken_11 : decode cX5_broken 11 = .ok (.isub, 1) := dk_100 (dk_at dksX5_broken_0 11 rfl rfl)
theorem dX5_broken_12 : decode cX5_broken 12 = .ok (.invokespecial 21, 3) := dk_183 0 21 (dk_at dksX5_broken_0 12 rfl rfl)
theorem dX5_broken_15 : decode cX5_broken 15 = .ok (.areturn, 1) := dk_176 (dk_at dksX5_broken_0 15 rfl rfl)
theorem q79 : (Jvm.Cond.initialized "BladeBetweenThumbs$HedgeReader") ∈ lw_all := lw_g (lw_at lw_m1 10 rfl) rfl
theorem q212 : (Jvm.Cond.instantiable "BladeBetweenThumbs$HedgeReader" (2 : Nat)) ∈ lw_all := lw_g (lw_at lw_m1 143 rfl) rfl
theorem q214 : (Jvm.Cond.instanceMethod ({ cls := "BladeBetweenThumbs$HedgeReader", name := "<init>", desc := "([B)V" } : Jvm.MethodName)) ∈ lw_all := lw_g (lw_at lw_m1 145 rfl) rfl
theorem q215 : (Jvm.Cond.code ({ cls := "BladeBetweenThumbs$HedgeReader", name := "<init>", desc := "([B)V" } : Jvm.MethodName) prog_9_method_1_code (2 : Nat) (Option.none : Option Jvm.ClassFile.FieldType)) ∈ lw_all := lw_g (lw_at lw_m1 146 rfl) rfl
theorem q216 : (Jvm.Cond.methodLink "BladeBetweenThumbs$HedgeReader" (3 : Nat) ({ cls := "java/lang/Object", name := "<init>", desc := "()V" } : Jvm.MethodName)) ∈ lw_all := lw_g (lw_at lw_m1 147 rfl) rfl
theorem q217 : (Jvm.Cond.fieldLink "BladeBetweenThumbs$HedgeReader" (9 : Nat) "BladeBetweenThumbs$HedgeReader" "text" "[B") ∈ lw_all := lw_g (lw_at lw_m1 148 rfl) rfl
theorem q218 : (Jvm.Cond.fieldLink "BladeBetweenThumbs$HedgeReader" (15 : Nat) "BladeBetweenThumbs$HedgeReader" "at" "I") ∈ lw_all := lw_g (lw_at lw_m1 149 rfl) rfl
theorem q219 : (Jvm.Cond.laysFinal "BladeBetweenThumbs$HedgeReader" "BladeBetweenThumbs$HedgeReader" "text" "[B") ∈ lw_all := lw_g (lw_at lw_m1 150 rfl) rfl
theorem q220 : (Jvm.Cond.soleField "BladeBetweenThumbs$HedgeReader" "text") ∈ lw_all := lw_g (lw_at lw_m1 151 rfl) rfl
theorem q221 : (Jvm.Cond.lays "BladeBetweenThumbs$HedgeReader" "BladeBetweenThumbs$HedgeReader" "at" "I") ∈ lw_all := lw_g (lw_at lw_m1 152 rfl) rfl
theorem q222 : (Jvm.Cond.soleField "BladeBetweenThumbs$HedgeReader" "at") ∈ lw_all := lw_g (lw_at lw_m1 153 rfl) rfl
theorem q223 : (Jvm.Cond.superclass "BladeBetweenThumbs$HedgeReader" "java/lang/Object") ∈ lw_all := lw_g (lw_at lw_m1 154 rfl) rfl
theorem q225 : (Jvm.Cond.instanceMethod ({ cls := "BladeBetweenThumbs$HedgeReader", name := "whole", desc := "([LBladeBetweenThumbs$Told;)I" } : Jvm.MethodName)) ∈ lw_all := lw_g (lw_at lw_m1 156 rfl) rfl
theorem q226 : (Jvm.Cond.selects "BladeBetweenThumbs$HedgeReader" ({ cls := "BladeBetweenThumbs$HedgeReader", name := "whole", desc := "([LBladeBetweenThumbs$Told;)I" } : Jvm.MethodName) ({ cls := "BladeBetweenThumbs$HedgeReader", name := "whole", desc := "([LBladeBetweenThumbs$Told;)I" } : Jvm.MethodName)) ∈ lw_all := lw_g (lw_at lw_m1 157 rfl) rfl
theorem q227 : (Jvm.Cond.code ({ cls := "BladeBetweenThumbs$HedgeReader", name := "whole", desc := "([LBladeBetweenThumbs$Told;)I" } : Jvm.MethodName) prog_9_method_7_code (3 : Nat) (Option.some Jvm.ClassFile.FieldType.int)) ∈ lw_all := lw_g (lw_at lw_m1 158 rfl) rfl
theorem q228 : (Jvm.Cond.methodLink "BladeBetweenThumbs$HedgeReader" (55 : Nat) ({ cls := "BladeBetweenThumbs$HedgeReader", name := "statement", desc := "()LBladeBetweenThumbs$Told;" } : Jvm.MethodName)) ∈ lw_all := lw_g (lw_at lw_m1 159 rfl) rfl
theorem q229 : (Jvm.Cond.privateMethod ({ cls := "BladeBetweenThumbs$HedgeReader", name := "statement", desc := "()LBladeBetweenThumbs$Told;" } : Jvm.MethodName)) ∈ lw_tbl := lw_at lw_m1 160 rfl
theorem q230 : (Jvm.Cond.instanceMethod ({ cls := "BladeBetweenThumbs$HedgeReader", name := "statement", desc := "()LBladeBetweenThumbs$Told;" } : Jvm.MethodName)) ∈ lw_all := lw_g (lw_at lw_m1 161 rfl) rfl
theorem q231 : (Jvm.Cond.code ({ cls := "BladeBetweenThumbs$HedgeReader", name := "statement", desc := "()LBladeBetweenThumbs$Told;" } : Jvm.MethodName) prog_9_method_6_code (2 : Nat) (Option.some (Jvm.ClassFile.FieldType.object "BladeBetweenThumbs$Told"))) ∈ lw_all := lw_g (lw_at lw_m1 162 rfl) rfl
theorem q232 : (Jvm.Cond.classLink "BladeBetweenThumbs$HedgeReader" (37 : Nat) "BladeBetweenThumbs$Told") ∈ lw_all := lw_g (lw_at lw_m1 163 rfl) rfl
theorem q234 : (Jvm.Cond.methodLink "BladeBetweenThumbs$HedgeReader" (24 : Nat) ({ cls := "BladeBetweenThumbs$HedgeReader", name := "sign", desc := "()I" } : Jvm.MethodName)) ∈ lw_all := lw_g (lw_at lw_m1 165 rfl) rfl
theorem q235 : (Jvm.Cond.privateMethod ({ cls := "BladeBetweenThumbs$HedgeReader", name := "sign", desc := "()I" } : Jvm.MethodName)) ∈ lw_tbl := lw_at lw_m1 166 rfl
theorem q236 : (Jvm.Cond.instanceMethod ({ cls := "BladeBetweenThumbs$HedgeReader", name := "sign", desc := "()I" } : Jvm.MethodName)) ∈ lw_all := lw_g (lw_at lw_m1 167 rfl) rfl
theorem q237 : (Jvm.Cond.code ({ cls := "BladeBetweenThumbs$HedgeReader", name := "sign", desc := "()I" } : Jvm.MethodName) prog_9_method_2_code (1 : Nat) (Option.some Jvm.ClassFile.FieldType.int)) ∈ lw_all := lw_g (lw_at lw_m1 168 rfl) rfl
theorem q238 : (Jvm.Cond.methodLink "BladeBetweenThumbs$HedgeReader" (48 : Nat) ({ cls := "BladeBetweenThumbs$Told", name := "<init>", desc := "(II)V" } : Jvm.MethodName)) ∈ lw_all := lw_g (lw_at lw_m1 169 rfl) rfl
theorem q243 : (Jvm.Cond.fieldLink "BladeBetweenThumbs$HedgeReader" (36 : Nat) "BladeBetweenThumbs$Told" "letter" "I") ∈ lw_all := lw_g (lw_at lw_m1 174 rfl) rfl
theorem q260 : (Jvm.Cond.methodLink "BladeBetweenThumbs$HedgeReader" (51 : Nat) ({ cls := "BladeBetweenThumbs$HedgeReader", name := "reads", desc := "(LBladeBetweenThumbs$Told;)V" } : Jvm.MethodName)) ∈ lw_all := lw_g (lw_at lw_m1 191 rfl) rfl
theorem q261 : (Jvm.Cond.privateMethod ({ cls := "BladeBetweenThumbs$HedgeReader", name := "reads", desc := "(LBladeBetweenThumbs$Told;)V" } : Jvm.MethodName)) ∈ lw_tbl := lw_at lw_m1 192 rfl
theorem q262 : (Jvm.Cond.instanceMethod ({ cls := "BladeBetweenThumbs$HedgeReader", name := "reads", desc := "(LBladeBetweenThumbs$Told;)V" } : Jvm.MethodName)) ∈ lw_all := lw_g (lw_at lw_m1 193 rfl) rfl
theorem q263 : (Jvm.Cond.code ({ cls := "BladeBetweenThumbs$HedgeReader", name := "reads", desc := "(LBladeBetweenThumbs$Told;)V" } : Jvm.MethodName) prog_9_method_5_code (3 : Nat) (Option.none : Option Jvm.ClassFile.FieldType)) ∈ lw_all := lw_g (lw_at lw_m1 194 rfl) rfl
theorem q264 : (Jvm.Cond.methodLink "BladeBetweenThumbs$HedgeReader" (41 : Nat) ({ cls := "BladeBetweenThumbs$HedgeReader", name := "number", desc := "(I)I" } : Jvm.MethodName)) ∈ lw_all := lw_g (lw_at lw_m1 195 rfl) rfl
theorem q265 : (Jvm.Cond.privateMethod ({ cls := "BladeBetweenThumbs$HedgeReader", name := "number", desc := "(I)I" } : Jvm.MethodName)) ∈ lw_tbl := lw_at lw_m1 196 rfl
theorem q266 : (Jvm.Cond.instanceMethod ({ cls := "BladeBetweenThumbs$HedgeReader", name := "number", desc := "(I)I" } : Jvm.MethodName)) ∈ lw_all := lw_g (lw_at lw_m1 197 rfl) rfl
theorem q267 : (Jvm.Cond.code ({ cls := "BladeBetweenThumbs$HedgeReader", name := "number", desc := "(I)I" } : Jvm.MethodName) prog_9_method_4_code (4 : Nat) (Option.some Jvm.ClassFile.FieldType.int)) ∈ lw_all := lw_g (lw_at lw_m1 198 rfl) rfl
theorem q268 : (Jvm.Cond.methodLinkNest "BladeBetweenThumbs$HedgeReader" (28 : Nat) ({ cls := "BladeBetweenThumbs", name := "isIn", desc := "(III)Z" } : Jvm.MethodName) "BladeBetweenThumbs") ∈ lw_tbl := lw_at lw_m1 199 rfl
theorem q269 : (Jvm.Cond.methodLink "BladeBetweenThumbs$HedgeReader" (32 : Nat) ({ cls := "BladeBetweenThumbs$HedgeReader", name := "broken", desc := "()LBladeBetweenThumbs$Broken;" } : Jvm.MethodName)) ∈ lw_all := lw_g (lw_at lw_m1 200 rfl) rfl
theorem q270 : (Jvm.Cond.privateMethod ({ cls := "BladeBetweenThumbs$HedgeReader", name := "broken", desc := "()LBladeBetweenThumbs$Broken;" } : Jvm.MethodName)) ∈ lw_tbl := lw_at lw_m1 201 rfl
theorem q271 : (Jvm.Cond.instanceMethod ({ cls := "BladeBetweenThumbs$HedgeReader", name := "broken", desc := "()LBladeBetweenThumbs$Broken;" } : Jvm.MethodName)) ∈ lw_all := lw_g (lw_at lw_m1 202 rfl) rfl
theorem q272 : (Jvm.Cond.code ({ cls := "BladeBetweenThumbs$HedgeReader", name := "broken", desc := "()LBladeBetweenThumbs$Broken;" } : Jvm.MethodName) prog_9_method_3_code (1 : Nat) (Option.some (Jvm.ClassFile.FieldType.object "BladeBetweenThumbs$Broken"))) ∈ lw_all := lw_g (lw_at lw_m1 203 rfl) rfl
theorem q273 : (Jvm.Cond.classLink "BladeBetweenThumbs$HedgeReader" (19 : Nat) "BladeBetweenThumbs$Broken") ∈ lw_all := lw_g (lw_at lw_m1 204 rfl) rfl
theorem q282 : (Jvm.Cond.methodLink "BladeBetweenThumbs$HedgeReader" (21 : Nat) ({ cls := "BladeBetweenThumbs$Broken", name := "<init>", desc := "(I)V" } : Jvm.MethodName)) ∈ lw_all := lw_g (lw_at lw_m1 213 rfl) rfl
theorem q295 : (Jvm.Cond.methodLink "BladeBetweenThumbs$HedgeReader" (45 : Nat) ({ cls := "BladeBetweenThumbs$Told", name := "tells", desc := "(I)V" } : Jvm.MethodName)) ∈ lw_all := lw_g (lw_at lw_m1 226 rfl) rfl
theorem in_X5 : ∀ w ∈ wsX50, w ∈ lw_all := lw_in wsX50 [219, 221] (by decide +kernel) (by decide +kernel)

/-! BladeBetweenThumbs$Told -/
set_option maxRecDepth 100000
def RX6 : String := "BladeBetweenThumbs$Told"
def TX6 : u_T := fun k => match k with
  | 0 => ("BladeBetweenThumbs$Told", "letter", "I", true)
  | 1 => ("BladeBetweenThumbs$Told", "at", "I", true)
  | 2 => ("BladeBetweenThumbs$Told", "numbers", "[I", true)
  | _ => ("BladeBetweenThumbs$Told", "many", "I", false)
def tyX6 : Nat → FieldType := fun k => match k with
  | 0 => .int
  | 1 => .int
  | 2 => .array .int
  | _ => .int
abbrev wsX60 : List Cond := u_ws RX6 TX6 4
theorem nmX6 : ∀ a, a < 4 → ∀ b, b < 4 → a ≠ b → (TX6 a).2.1 ≠ (TX6 b).2.1 := by decide +kernel
theorem tyX6_ok : ∀ k, k < 4 → parseFieldDescriptor (TX6 k).2.2.1 = some (tyX6 k) := by decide +kernel
abbrev cX6_init : ByteArray := prog_18_method_1_code
def yX6_init : MethodName := ⟨RX6, "<init>", "(II)V"⟩
def dkwX6_init_0 : List UInt8 := [42, 183, 0, 1, 42, 8, 188, 10, 181, 0, 7, 42, 27, 181, 0, 13, 42, 28, 181, 0, 17, 177]
abbrev dktX6_init_0 : List UInt8 := dkwX6_init_0 ++ []
theorem dksX6_init_0 : cX6_init.data.toList.drop 0 = dktX6_init_0 := by decide +kernel
theorem dX6_init_0 : decode cX6_init 0 = .ok (.aload_n 0, 1) := dk_42 (dk_at dksX6_init_0 0 rfl rfl)
theorem dX6_init_1 : decode cX6_init 1 = .ok (.invokespecial 1, 3) := dk_183 0 1 (dk_at dksX6_init_0 1 rfl rfl)
theorem dX6_init_4 : decode cX6_init 4 = .ok (.aload_n 0, 1) := dk_42 (dk_at dksX6_init_0 4 rfl rfl)
theorem dX6_init_5 : decode cX6_init 5 = .ok (.iconst 5, 1) := dk_8 (dk_at dksX6_init_0 5 rfl rfl)
theorem dX6_init_6 : decode cX6_init 6 = .ok (.newarray .int, 2) := dk_188_10 (dk_at dksX6_init_0 6 rfl rfl)
theorem dX6_init_8 : decode cX6_init 8 = .ok (.putfield 7, 3) := dk_181 0 7 (dk_at dksX6_init_0 8 rfl rfl)
theorem dX6_init_11 : decode cX6_init 11 = .ok (.aload_n 0, 1) := dk_42 (dk_at dksX6_init_0 11 rfl rfl)
theorem dX6_init_12 : decode cX6_init 12 = .ok (.iload_n 1, 1) := dk_27 (dk_at dksX6_init_0 12 rfl rfl)
theorem dX6_init_13 : decode cX6_init 13 = .ok (.putfield 13, 3) := dk_181 0 13 (dk_at dksX6_init_0 13 rfl rfl)
theorem dX6_init_16 : decode cX6_init 16 = .ok (.aload_n 0, 1) := dk_42 (dk_at dksX6_init_0 16 rfl rfl)
theorem dX6_init_17 : decode cX6_init 17 = .ok (.iload_n 2, 1) := dk_28 (dk_at dksX6_init_0 17 rfl rfl)
theorem dX6_init_18 : decode cX6_init 18 = .ok (.putfield 17, 3) := dk_181 0 17 (dk_at dksX6_init_0 18 rfl rfl)
theorem dX6_init_21 : decode cX6_init 21 = .ok (.return_, 1) := dk_177 (dk_at dksX6_init_0 21 rfl rfl)
abbrev cX6_tells : ByteArray := prog_18_method_2_code
def yX6_tells : MethodName := ⟨RX6, "tells", "(I)V"⟩
def dkwX6_tells_0 : List UInt8 := [42, 180, 0, 7, 42, 180, 0, 20, 27, 79, 42, 89, 180, 0, 20, 4, 96, 181, 0, 20, 177]
abbrev dktX6_tells_0 : List UInt8 := dkwX6_tells_0 ++ []
theorem dksX6_tells_0 : cX6_tells.data.toList.drop 0 = dktX6_tells_0 := by decide +kernel
theorem dX6_tells_0 : decode cX6_tells 0 = .ok (.aload_n 0, 1) := dk_42 (dk_at dksX6_tells_0 0 rfl rfl)
theorem dX6_tells_1 : decode cX6_tells 1 = .ok (.getfield 7, 3) := dk_180 0 7 (dk_at dksX6_tells_0 1 rfl rfl)
theorem dX6_tells_4 : decode cX6_tells 4 = .ok (.aload_n 0, 1) := dk_42 (dk_at dksX6_tells_0 4 rfl rfl)
theorem dX6_tells_5 : decode cX6_tells 5 = .ok (.getfield 20, 3) := dk_180 0 20 (dk_at dksX6_tells_0 5 rfl rfl)
theorem dX6_tells_8 : decode cX6_tells 8 = .ok (.iload_n 1, 1) := dk_27 (dk_at dksX6_tells_0 8 rfl rfl)
theorem dX6_tells_9 : decode cX6_tells 9 = .ok (.iastore, 1) := dk_79 (dk_at dksX6_tells_0 9 rfl rfl)
theorem dX6_tells_10 : decode cX6_tells 10 = .ok (.aload_n 0, 1) := dk_42 (dk_at dksX6_tells_0 10 rfl rfl)
theorem dX6_tells_11 : decode cX6_tells 11 = .ok (.dup, 1) := dk_89 (dk_at dksX6_tells_0 11 rfl rfl)
theorem dX6_tells_12 : decode cX6_tells 12 = .ok (.getfield 20, 3) := dk_180 0 20 (dk_at dksX6_tells_0 12 rfl rfl)
theorem dX6_tells_15 : decode cX6_tells 15 = .ok (.iconst 1, 1) := dk_4 (dk_at dksX6_tells_0 15 rfl rfl)
theorem dX6_tells_16 : decode cX6_tells 16 = .ok (.iadd, 1) := dk_96 (dk_at dksX6_tells_0 16 rfl rfl)
theorem dX6_tells_17 : decode cX6_tells 17 = .ok (.putfield 20, 3) := dk_181 0 20 (dk_at dksX6_tells_0 17 rfl rfl)
theorem dX6_tells_20 : decode cX6_tells 20 = .ok (.return_, 1) := dk_177 (dk_at dksX6_tells_0 20 rfl rfl)
theorem q80 : (Jvm.Cond.initialized "BladeBetweenThumbs$Told") ∈ lw_all := lw_g (lw_at lw_m1 11 rfl) rfl
theorem q233 : (Jvm.Cond.instantiable "BladeBetweenThumbs$Told" (4 : Nat)) ∈ lw_all := lw_g (lw_at lw_m1 164 rfl) rfl
theorem q239 : (Jvm.Cond.instanceMethod ({ cls := "BladeBetweenThumbs$Told", name := "<init>", desc := "(II)V" } : Jvm.MethodName)) ∈ lw_all := lw_g (lw_at lw_m1 170 rfl) rfl
theorem q240 : (Jvm.Cond.code ({ cls := "BladeBetweenThumbs$Told", name := "<init>", desc := "(II)V" } : Jvm.MethodName) prog_18_method_1_code (3 : Nat) (Option.none : Option Jvm.ClassFile.FieldType)) ∈ lw_all := lw_g (lw_at lw_m1 171 rfl) rfl
theorem q241 : (Jvm.Cond.methodLink "BladeBetweenThumbs$Told" (1 : Nat) ({ cls := "java/lang/Object", name := "<init>", desc := "()V" } : Jvm.MethodName)) ∈ lw_all := lw_g (lw_at lw_m1 172 rfl) rfl
theorem q242 : (Jvm.Cond.fieldLink "BladeBetweenThumbs$Told" (13 : Nat) "BladeBetweenThumbs$Told" "letter" "I") ∈ lw_all := lw_g (lw_at lw_m1 173 rfl) rfl
theorem q245 : (Jvm.Cond.fieldLink "BladeBetweenThumbs$Told" (17 : Nat) "BladeBetweenThumbs$Told" "at" "I") ∈ lw_all := lw_g (lw_at lw_m1 176 rfl) rfl
theorem q247 : (Jvm.Cond.fieldLink "BladeBetweenThumbs$Told" (7 : Nat) "BladeBetweenThumbs$Told" "numbers" "[I") ∈ lw_all := lw_g (lw_at lw_m1 178 rfl) rfl
theorem q249 : (Jvm.Cond.fieldLink "BladeBetweenThumbs$Told" (20 : Nat) "BladeBetweenThumbs$Told" "many" "I") ∈ lw_all := lw_g (lw_at lw_m1 180 rfl) rfl
theorem q250 : (Jvm.Cond.laysFinal "BladeBetweenThumbs$Told" "BladeBetweenThumbs$Told" "letter" "I") ∈ lw_all := lw_g (lw_at lw_m1 181 rfl) rfl
theorem q251 : (Jvm.Cond.soleField "BladeBetweenThumbs$Told" "letter") ∈ lw_all := lw_g (lw_at lw_m1 182 rfl) rfl
theorem q252 : (Jvm.Cond.laysFinal "BladeBetweenThumbs$Told" "BladeBetweenThumbs$Told" "at" "I") ∈ lw_all := lw_g (lw_at lw_m1 183 rfl) rfl
theorem q253 : (Jvm.Cond.soleField "BladeBetweenThumbs$Told" "at") ∈ lw_all := lw_g (lw_at lw_m1 184 rfl) rfl
theorem q254 : (Jvm.Cond.laysFinal "BladeBetweenThumbs$Told" "BladeBetweenThumbs$Told" "numbers" "[I") ∈ lw_all := lw_g (lw_at lw_m1 185 rfl) rfl
theorem q255 : (Jvm.Cond.soleField "BladeBetweenThumbs$Told" "numbers") ∈ lw_all := lw_g (lw_at lw_m1 186 rfl) rfl
theorem q256 : (Jvm.Cond.lays "BladeBetweenThumbs$Told" "BladeBetweenThumbs$Told" "many" "I") ∈ lw_all := lw_g (lw_at lw_m1 187 rfl) rfl
theorem q257 : (Jvm.Cond.soleField "BladeBetweenThumbs$Told" "many") ∈ lw_all := lw_g (lw_at lw_m1 188 rfl) rfl
theorem q258 : (Jvm.Cond.superclass "BladeBetweenThumbs$Told" "java/lang/Object") ∈ lw_all := lw_g (lw_at lw_m1 189 rfl) rfl
theorem q296 : (Jvm.Cond.instanceMethod ({ cls := "BladeBetweenThumbs$Told", name := "tells", desc := "(I)V" } : Jvm.MethodName)) ∈ lw_all := lw_g (lw_at lw_m1 227 rfl) rfl
theorem q297 : (Jvm.Cond.selects "BladeBetweenThumbs$Told" ({ cls := "BladeBetweenThumbs$Told", name := "tells", desc := "(I)V" } : Jvm.MethodName) ({ cls := "BladeBetweenThumbs$Told", name := "tells", desc := "(I)V" } : Jvm.MethodName)) ∈ lw_all := lw_g (lw_at lw_m1 228 rfl) rfl
theorem q298 : (Jvm.Cond.code ({ cls := "BladeBetweenThumbs$Told", name := "tells", desc := "(I)V" } : Jvm.MethodName) prog_18_method_2_code (2 : Nat) (Option.none : Option Jvm.ClassFile.FieldType)) ∈ lw_all := lw_g (lw_at lw_m1 229 rfl) rfl
theorem in_X6 : ∀ w ∈ wsX60, w ∈ lw_all := lw_in wsX60 [250, 252, 254, 256] (by decide +kernel) (by decide +kernel)

/-! BladeBetweenThumbs$Broken -/
set_option maxRecDepth 100000
def RX7 : String := "BladeBetweenThumbs$Broken"
def TX7 : u_T := fun k => match k with
  | 0 => ("java/lang/Throwable", "cause", "Ljava/lang/Throwable;", false)
  | 1 => ("java/lang/Throwable", "stackTrace", "[Ljava/lang/StackTraceElement;", false)
  | 2 => ("java/lang/Throwable", "suppressedExceptions", "Ljava/util/List;", false)
  | 3 => ("java/lang/Throwable", "detailMessage", "Ljava/lang/String;", false)
  | 4 => ("java/lang/Throwable", "backtrace", "Ljava/lang/Object;", false)
  | 5 => ("java/lang/Throwable", "depth", "I", false)
  | _ => ("BladeBetweenThumbs$Broken", "code", "I", true)
def tyX7 : Nat → FieldType := fun k => match k with
  | 0 => .object "java/lang/Throwable"
  | 1 => .array (.object "java/lang/StackTraceElement")
  | 2 => .object "java/util/List"
  | 3 => .object "java/lang/String"
  | 4 => .object "java/lang/Object"
  | 5 => .int
  | _ => .int
abbrev wsX70 : List Cond := u_ws RX7 TX7 7
theorem nmX7 : ∀ a, a < 7 → ∀ b, b < 7 → a ≠ b → (TX7 a).2.1 ≠ (TX7 b).2.1 := by decide +kernel
theorem tyX7_ok : ∀ k, k < 7 → parseFieldDescriptor (TX7 k).2.2.1 = some (tyX7 k) := by decide +kernel
abbrev cX7_init : ByteArray := prog_4_method_1_code
def yX7_init : MethodName := ⟨RX7, "<init>", "(I)V"⟩
def dkwX7_init_0 : List UInt8 := [42, 183, 0, 1, 42, 27, 181, 0, 7, 177]
abbrev dktX7_init_0 : List UInt8 := dkwX7_init_0 ++ []
theorem dksX7_init_0 : cX7_init.data.toList.drop 0 = dktX7_init_0 := by decide +kernel
theorem dX7_init_0 : decode cX7_init 0 = .ok (.aload_n 0, 1) := dk_42 (dk_at dksX7_init_0 0 rfl rfl)
theorem dX7_init_1 : decode cX7_init 1 = .ok (.invokespecial 1, 3) := dk_183 0 1 (dk_at dksX7_init_0 1 rfl rfl)
theorem dX7_init_4 : decode cX7_init 4 = .ok (.aload_n 0, 1) := dk_42 (dk_at dksX7_init_0 4 rfl rfl)
theorem dX7_init_5 : decode cX7_init 5 = .ok (.iload_n 1, 1) := dk_27 (dk_at dksX7_init_0 5 rfl rfl)
theorem dX7_init_6 : decode cX7_init 6 = .ok (.putfield 7, 3) := dk_181 0 7 (dk_at dksX7_init_0 6 rfl rfl)
theorem dX7_init_9 : decode cX7_init 9 = .ok (.return_, 1) := dk_177 (dk_at dksX7_init_0 9 rfl rfl)
theorem q81 : (Jvm.Cond.initialized "BladeBetweenThumbs$Broken") ∈ lw_all := lw_g (lw_at lw_m1 12 rfl) rfl
theorem q128 : (Jvm.Cond.selects "BladeBetweenThumbs$Broken" ({ cls := "java/lang/Throwable", name := "fillInStackTrace", desc := "()Ljava/lang/Throwable;" } : Jvm.MethodName) ({ cls := "java/lang/Throwable", name := "fillInStackTrace", desc := "()Ljava/lang/Throwable;" } : Jvm.MethodName)) ∈ lw_all := lw_g (lw_at lw_m1 59 rfl) rfl
theorem q274 : (Jvm.Cond.instantiable "BladeBetweenThumbs$Broken" (7 : Nat)) ∈ lw_all := lw_g (lw_at lw_m1 205 rfl) rfl
theorem q275 : (Jvm.Cond.castable "BladeBetweenThumbs$Broken" "BladeBetweenThumbs$Broken") ∈ lw_tbl := lw_at lw_m1 206 rfl
theorem q276 : (Jvm.Cond.selects "BladeBetweenThumbs$Broken" ({ cls := "java/lang/Throwable", name := "fillInStackTrace", desc := "(I)Ljava/lang/Throwable;" } : Jvm.MethodName) ({ cls := "java/lang/Throwable", name := "fillInStackTrace", desc := "(I)Ljava/lang/Throwable;" } : Jvm.MethodName)) ∈ lw_all := lw_g (lw_at lw_m1 207 rfl) rfl
theorem q277 : (Jvm.Cond.lays "BladeBetweenThumbs$Broken" "java/lang/Throwable" "cause" "Ljava/lang/Throwable;") ∈ lw_all := lw_g (lw_at lw_m1 208 rfl) rfl
theorem q278 : (Jvm.Cond.lays "BladeBetweenThumbs$Broken" "java/lang/Throwable" "stackTrace" "[Ljava/lang/StackTraceElement;") ∈ lw_all := lw_g (lw_at lw_m1 209 rfl) rfl
theorem q279 : (Jvm.Cond.lays "BladeBetweenThumbs$Broken" "java/lang/Throwable" "suppressedExceptions" "Ljava/util/List;") ∈ lw_all := lw_g (lw_at lw_m1 210 rfl) rfl
theorem q280 : (Jvm.Cond.lays "BladeBetweenThumbs$Broken" "java/lang/Throwable" "detailMessage" "Ljava/lang/String;") ∈ lw_all := lw_g (lw_at lw_m1 211 rfl) rfl
theorem q281 : (Jvm.Cond.lays "BladeBetweenThumbs$Broken" "java/lang/Throwable" "backtrace" "Ljava/lang/Object;") ∈ lw_all := lw_g (lw_at lw_m1 212 rfl) rfl
theorem q283 : (Jvm.Cond.instanceMethod ({ cls := "BladeBetweenThumbs$Broken", name := "<init>", desc := "(I)V" } : Jvm.MethodName)) ∈ lw_all := lw_g (lw_at lw_m1 214 rfl) rfl
theorem q284 : (Jvm.Cond.code ({ cls := "BladeBetweenThumbs$Broken", name := "<init>", desc := "(I)V" } : Jvm.MethodName) prog_4_method_1_code (2 : Nat) (Option.none : Option Jvm.ClassFile.FieldType)) ∈ lw_all := lw_g (lw_at lw_m1 215 rfl) rfl
theorem q285 : (Jvm.Cond.methodLink "BladeBetweenThumbs$Broken" (1 : Nat) ({ cls := "java/lang/Exception", name := "<init>", desc := "()V" } : Jvm.MethodName)) ∈ lw_all := lw_g (lw_at lw_m1 216 rfl) rfl
theorem q289 : (Jvm.Cond.fieldLink "BladeBetweenThumbs$Broken" (7 : Nat) "BladeBetweenThumbs$Broken" "code" "I") ∈ lw_all := lw_g (lw_at lw_m1 220 rfl) rfl
theorem q291 : (Jvm.Cond.laysFinal "BladeBetweenThumbs$Broken" "BladeBetweenThumbs$Broken" "code" "I") ∈ lw_all := lw_g (lw_at lw_m1 222 rfl) rfl
theorem q292 : (Jvm.Cond.soleField "BladeBetweenThumbs$Broken" "code") ∈ lw_all := lw_g (lw_at lw_m1 223 rfl) rfl
theorem q293 : (Jvm.Cond.lays "BladeBetweenThumbs$Broken" "java/lang/Throwable" "depth" "I") ∈ lw_all := lw_g (lw_at lw_m1 224 rfl) rfl
theorem q294 : (Jvm.Cond.superclass "BladeBetweenThumbs$Broken" "java/lang/Exception") ∈ lw_all := lw_g (lw_at lw_m1 225 rfl) rfl
theorem in_X7 : ∀ w ∈ wsX70, w ∈ lw_all := lw_in wsX70 [277, 278, 279, 280, 281, 293, 291] (by decide +kernel) (by decide +kernel)

/-! BladeBetweenThumbs$Blow -/
set_option maxRecDepth 100000
def RX8 : String := "BladeBetweenThumbs$Blow"
def TX8 : u_T := fun k => match k with
  | _ => ("BladeBetweenThumbs$Blow", "figure", "I", true)
def tyX8 : Nat → FieldType := fun k => match k with
  | _ => .int
abbrev wsX80 : List Cond := u_ws RX8 TX8 1
theorem nmX8 : ∀ a, a < 1 → ∀ b, b < 1 → a ≠ b → (TX8 a).2.1 ≠ (TX8 b).2.1 := by decide +kernel
theorem tyX8_ok : ∀ k, k < 1 → parseFieldDescriptor (TX8 k).2.2.1 = some (tyX8 k) := by decide +kernel
abbrev cX8_init : ByteArray := prog_2_method_1_code
def yX8_init : MethodName := ⟨RX8, "<init>", "(I)V"⟩
def dkwX8_init_0 : List UInt8 := [42, 183, 0, 1, 42, 27, 181, 0, 7, 177]
abbrev dktX8_init_0 : List UInt8 := dkwX8_init_0 ++ []
theorem dksX8_init_0 : cX8_init.data.toList.drop 0 = dktX8_init_0 := by decide +kernel
theorem dX8_init_0 : decode cX8_init 0 = .ok (.aload_n 0, 1) := dk_42 (dk_at dksX8_init_0 0 rfl rfl)
theorem dX8_init_1 : decode cX8_init 1 = .ok (.invokespecial 1, 3) := dk_183 0 1 (dk_at dksX8_init_0 1 rfl rfl)
theorem dX8_init_4 : decode cX8_init 4 = .ok (.aload_n 0, 1) := dk_42 (dk_at dksX8_init_0 4 rfl rfl)
theorem dX8_init_5 : decode cX8_init 5 = .ok (.iload_n 1, 1) := dk_27 (dk_at dksX8_init_0 5 rfl rfl)
theorem dX8_init_6 : decode cX8_init 6 = .ok (.putfield 7, 3) := dk_181 0 7 (dk_at dksX8_init_0 6 rfl rfl)
theorem dX8_init_9 : decode cX8_init 9 = .ok (.return_, 1) := dk_177 (dk_at dksX8_init_0 9 rfl rfl)
abbrev cX8_low : ByteArray := prog_2_method_3_code
def yX8_low : MethodName := ⟨RX8, "low", "(II)I"⟩
def dkwX8_low_0 : List UInt8 := [27, 28, 96, 172]
abbrev dktX8_low_0 : List UInt8 := dkwX8_low_0 ++ []
theorem dksX8_low_0 : cX8_low.data.toList.drop 0 = dktX8_low_0 := by decide +kernel
theorem dX8_low_0 : decode cX8_low 0 = .ok (.iload_n 1, 1) := dk_27 (dk_at dksX8_low_0 0 rfl rfl)
theorem dX8_low_1 : decode cX8_low 1 = .ok (.iload_n 2, 1) := dk_28 (dk_at dksX8_low_0 1 rfl rfl)
theorem dX8_low_2 : decode cX8_low 2 = .ok (.iadd, 1) := dk_96 (dk_at dksX8_low_0 2 rfl rfl)
theorem dX8_low_3 : decode cX8_low 3 = .ok (.ireturn, 1) := dk_172 (dk_at dksX8_low_0 3 rfl rfl)
abbrev cX8_softest : ByteArray := prog_2_method_4_code
def yX8_softest : MethodName := ⟨RX8, "softest", "(I)I"⟩
def dkwX8_softest_0 : List UInt8 := [16, 6, 5, 27, 104, 96, 172]
abbrev dktX8_softest_0 : List UInt8 := dkwX8_softest_0 ++ []
theorem dksX8_softest_0 : cX8_softest.data.toList.drop 0 = dktX8_softest_0 := by decide +kernel
theorem dX8_softest_0 : decode cX8_softest 0 = .ok (.bipush 6, 2) := dk_16 6 (dk_at dksX8_softest_0 0 rfl rfl)
theorem dX8_softest_2 : decode cX8_softest 2 = .ok (.iconst 2, 1) := dk_5 (dk_at dksX8_softest_0 2 rfl rfl)
theorem dX8_softest_3 : decode cX8_softest 3 = .ok (.iload_n 1, 1) := dk_27 (dk_at dksX8_softest_0 3 rfl rfl)
theorem dX8_softest_4 : decode cX8_softest 4 = .ok (.imul, 1) := dk_104 (dk_at dksX8_softest_0 4 rfl rfl)
theorem dX8_softest_5 : decode cX8_softest 5 = .ok (.iadd, 1) := dk_96 (dk_at dksX8_softest_0 5 rfl rfl)
theorem dX8_softest_6 : decode cX8_softest 6 = .ok (.ireturn, 1) := dk_172 (dk_at dksX8_softest_0 6 rfl rfl)
abbrev cX8_kind : ByteArray := prog_2_method_2_code
def yX8_kind : MethodName := ⟨RX8, "kind", "()I"⟩
theorem dX8_kind_0 : decode cX8_kind 0 = .ok (.iconst 0, 1) := by decide +kernel
theorem dX8_kind_1 : decode cX8_kind 1 = .ok (.ireturn, 1) := by decide +kernel
abbrev cX8_cost : ByteArray := prog_2_method_5_code
def yX8_cost : MethodName := ⟨RX8, "cost", "()I"⟩
theorem dX8_cost_0 : decode cX8_cost 0 = .ok (.iconst 3, 1) := by decide +kernel
theorem dX8_cost_1 : decode cX8_cost 1 = .ok (.ireturn, 1) := by decide +kernel
abbrev cX8_failure : ByteArray := prog_2_method_6_code
def yX8_failure : MethodName := ⟨RX8, "failure", "()LBladeBetweenThumbs$Tossed;"⟩
def dkwX8_failure_0 : List UInt8 := [42, 180, 0, 7, 154, 0, 7, 1, 167, 0, 14, 187, 0, 13, 89, 42, 180, 0, 7, 183, 0, 15, 176]
abbrev dktX8_failure_0 : List UInt8 := dkwX8_failure_0 ++ []
theorem dksX8_failure_0 : cX8_failure.data.toList.drop 0 = dktX8_failure_0 := by decide +kernel
theorem dX8_failure_0 : decode cX8_failure 0 = .ok (.aload_n 0, 1) := dk_42 (dk_at dksX8_failure_0 0 rfl rfl)
theorem dX8_failure_1 : decode cX8_failure 1 = .ok (.getfield 7, 3) := dk_180 0 7 (dk_at dksX8_failure_0 1 rfl rfl)
theorem dX8_failure_4 : decode cX8_failure 4 = .ok (.ifCond .ne 7, 3) := dk_154 0 7 (dk_at dksX8_failure_0 4 rfl rfl)
theorem dX8_failure_7 : decode cX8_failure 7 = .ok (.aconst_null, 1) := dk_1 (dk_at dksX8_failure_0 7 rfl rfl)
theorem dX8_failure_8 : decode cX8_failure 8 = .ok (.goto 14, 3) := dk_167 0 14 (dk_at dksX8_failure_0 8 rfl rfl)
theorem dX8_failure_11 : decode cX8_failure 11 = .ok (.new 13, 3) := dk_187 0 13 (dk_at dksX8_failure_0 11 rfl rfl)
theorem dX8_failure_14 : decode cX8_failure 14 = .ok (.dup, 1) := dk_89 (dk_at dksX8_failure_0 14 rfl rfl)
theorem dX8_failure_15 : decode cX8_failure 15 = .ok (.aload_n 0, 1) := dk_42 (dk_at dksX8_failure_0 15 rfl rfl)
theorem dX8_failure_16 : decode cX8_failure 16 = .ok (.getfield 7, 3) := dk_180 0 7 (dk_at dksX8_failure_0 16 rfl rfl)
theorem dX8_failure_19 : decode cX8_failure 19 = .ok (.invokespecial 15, 3) := dk_183 0 15 (dk_at dksX8_failure_0 19 rfl rfl)
theorem dX8_failure_22 : decode cX8_failure 22 = .ok (.areturn, 1) := dk_176 (dk_at dksX8_failure_0 22 rfl rfl)
theorem q83 : (Jvm.Cond.initialized "BladeBetweenThumbs$Blow") ∈ lw_all := lw_g (lw_at lw_m1 14 rfl) rfl
theorem q331 : (Jvm.Cond.instantiable "BladeBetweenThumbs$Blow" (1 : Nat)) ∈ lw_all := lw_g (lw_at lw_m2 22 rfl) rfl
theorem q333 : (Jvm.Cond.instanceMethod ({ cls := "BladeBetweenThumbs$Blow", name := "<init>", desc := "(I)V" } : Jvm.MethodName)) ∈ lw_all := lw_g (lw_at lw_m2 24 rfl) rfl
theorem q334 : (Jvm.Cond.code ({ cls := "BladeBetweenThumbs$Blow", name := "<init>", desc := "(I)V" } : Jvm.MethodName) prog_2_method_1_code (2 : Nat) (Option.none : Option Jvm.ClassFile.FieldType)) ∈ lw_all := lw_g (lw_at lw_m2 25 rfl) rfl
theorem q335 : (Jvm.Cond.methodLink "BladeBetweenThumbs$Blow" (1 : Nat) ({ cls := "java/lang/Object", name := "<init>", desc := "()V" } : Jvm.MethodName)) ∈ lw_all := lw_g (lw_at lw_m2 26 rfl) rfl
theorem q336 : (Jvm.Cond.fieldLink "BladeBetweenThumbs$Blow" (7 : Nat) "BladeBetweenThumbs$Blow" "figure" "I") ∈ lw_all := lw_g (lw_at lw_m2 27 rfl) rfl
theorem q344 : (Jvm.Cond.laysFinal "BladeBetweenThumbs$Blow" "BladeBetweenThumbs$Blow" "figure" "I") ∈ lw_all := lw_g (lw_at lw_m2 35 rfl) rfl
theorem q345 : (Jvm.Cond.soleField "BladeBetweenThumbs$Blow" "figure") ∈ lw_all := lw_g (lw_at lw_m2 36 rfl) rfl
theorem q346 : (Jvm.Cond.superclass "BladeBetweenThumbs$Blow" "java/lang/Object") ∈ lw_all := lw_g (lw_at lw_m2 37 rfl) rfl
theorem q433 : (Jvm.Cond.unhidden "BladeBetweenThumbs$Blow" "wears" "(I)I") ∈ lw_tbl := lw_at lw_m2 124 rfl
theorem q468 : (Jvm.Cond.instanceMethod ({ cls := "BladeBetweenThumbs$Blow", name := "low", desc := "(II)I" } : Jvm.MethodName)) ∈ lw_all := lw_g (lw_at lw_m2 159 rfl) rfl
theorem q469 : (Jvm.Cond.selects "BladeBetweenThumbs$Blow" ({ cls := "BladeBetweenThumbs$Blow", name := "low", desc := "(II)I" } : Jvm.MethodName) ({ cls := "BladeBetweenThumbs$Blow", name := "low", desc := "(II)I" } : Jvm.MethodName)) ∈ lw_all := lw_g (lw_at lw_m2 160 rfl) rfl
theorem q470 : (Jvm.Cond.sameMethod "BladeBetweenThumbs$Blow" "BladeBetweenThumbs$Blow" "low" "(II)I") ∈ lw_all := lw_g (lw_at lw_m2 161 rfl) rfl
theorem q475 : (Jvm.Cond.code ({ cls := "BladeBetweenThumbs$Blow", name := "low", desc := "(II)I" } : Jvm.MethodName) prog_2_method_3_code (3 : Nat) (Option.some Jvm.ClassFile.FieldType.int)) ∈ lw_all := lw_g (lw_at lw_m2 166 rfl) rfl
theorem q499 : (Jvm.Cond.unhidden "BladeBetweenThumbs$Blow" "above" "(I)I") ∈ lw_tbl := lw_at lw_m2 190 rfl
theorem q517 : (Jvm.Cond.instanceMethod ({ cls := "BladeBetweenThumbs$Blow", name := "softest", desc := "(I)I" } : Jvm.MethodName)) ∈ lw_all := lw_g (lw_at lw_m2 208 rfl) rfl
theorem q518 : (Jvm.Cond.selects "BladeBetweenThumbs$Blow" ({ cls := "BladeBetweenThumbs$Blow", name := "softest", desc := "(I)I" } : Jvm.MethodName) ({ cls := "BladeBetweenThumbs$Blow", name := "softest", desc := "(I)I" } : Jvm.MethodName)) ∈ lw_all := lw_g (lw_at lw_m2 209 rfl) rfl
theorem q519 : (Jvm.Cond.sameMethod "BladeBetweenThumbs$Blow" "BladeBetweenThumbs$Blow" "softest" "(I)I") ∈ lw_all := lw_g (lw_at lw_m2 210 rfl) rfl
theorem q529 : (Jvm.Cond.declares ({ cls := "BladeBetweenThumbs$Blow", name := "softest", desc := "(I)I" } : Jvm.MethodName)) ∈ lw_tbl := lw_at lw_m2 220 rfl
theorem q530 : (Jvm.Cond.code ({ cls := "BladeBetweenThumbs$Blow", name := "softest", desc := "(I)I" } : Jvm.MethodName) prog_2_method_4_code (2 : Nat) (Option.some Jvm.ClassFile.FieldType.int)) ∈ lw_all := lw_g (lw_at lw_m2 221 rfl) rfl
theorem q544 : (Jvm.Cond.unhidden "BladeBetweenThumbs$Blow" "over" "()I") ∈ lw_tbl := lw_at lw_m2 235 rfl
theorem q576 : (Jvm.Cond.instanceMethod ({ cls := "BladeBetweenThumbs$Blow", name := "kind", desc := "()I" } : Jvm.MethodName)) ∈ lw_all := lw_g (lw_at lw_m3 27 rfl) rfl
theorem q577 : (Jvm.Cond.selects "BladeBetweenThumbs$Blow" ({ cls := "BladeBetweenThumbs$Blow", name := "kind", desc := "()I" } : Jvm.MethodName) ({ cls := "BladeBetweenThumbs$Blow", name := "kind", desc := "()I" } : Jvm.MethodName)) ∈ lw_all := lw_g (lw_at lw_m3 28 rfl) rfl
theorem q578 : (Jvm.Cond.sameMethod "BladeBetweenThumbs$Blow" "BladeBetweenThumbs$Blow" "kind" "()I") ∈ lw_all := lw_g (lw_at lw_m3 29 rfl) rfl
theorem q600 : (Jvm.Cond.code ({ cls := "BladeBetweenThumbs$Blow", name := "kind", desc := "()I" } : Jvm.MethodName) prog_2_method_2_code (1 : Nat) (Option.some Jvm.ClassFile.FieldType.int)) ∈ lw_all := lw_g (lw_at lw_m3 51 rfl) rfl
theorem q647 : (Jvm.Cond.unhidden "BladeBetweenThumbs$Blow" "pitch" "(III)I") ∈ lw_tbl := lw_at lw_m3 98 rfl
theorem q1114 : (Jvm.Cond.instanceMethod ({ cls := "BladeBetweenThumbs$Blow", name := "cost", desc := "()I" } : Jvm.MethodName)) ∈ lw_all := lw_g (lw_at lw_m5 85 rfl) rfl
theorem q1115 : (Jvm.Cond.selects "BladeBetweenThumbs$Blow" ({ cls := "BladeBetweenThumbs$Blow", name := "cost", desc := "()I" } : Jvm.MethodName) ({ cls := "BladeBetweenThumbs$Blow", name := "cost", desc := "()I" } : Jvm.MethodName)) ∈ lw_all := lw_g (lw_at lw_m5 86 rfl) rfl
theorem q1116 : (Jvm.Cond.sameMethod "BladeBetweenThumbs$Blow" "BladeBetweenThumbs$Blow" "cost" "()I") ∈ lw_all := lw_g (lw_at lw_m5 87 rfl) rfl
theorem q1124 : (Jvm.Cond.code ({ cls := "BladeBetweenThumbs$Blow", name := "cost", desc := "()I" } : Jvm.MethodName) prog_2_method_5_code (1 : Nat) (Option.some Jvm.ClassFile.FieldType.int)) ∈ lw_all := lw_g (lw_at lw_m5 95 rfl) rfl
theorem q1152 : (Jvm.Cond.instanceMethod ({ cls := "BladeBetweenThumbs$Blow", name := "failure", desc := "()LBladeBetweenThumbs$Tossed;" } : Jvm.MethodName)) ∈ lw_all := lw_g (lw_at lw_m5 123 rfl) rfl
theorem q1153 : (Jvm.Cond.selects "BladeBetweenThumbs$Blow" ({ cls := "BladeBetweenThumbs$Blow", name := "failure", desc := "()LBladeBetweenThumbs$Tossed;" } : Jvm.MethodName) ({ cls := "BladeBetweenThumbs$Blow", name := "failure", desc := "()LBladeBetweenThumbs$Tossed;" } : Jvm.MethodName)) ∈ lw_all := lw_g (lw_at lw_m5 124 rfl) rfl
theorem q1154 : (Jvm.Cond.sameMethod "BladeBetweenThumbs$Blow" "BladeBetweenThumbs$Blow" "failure" "()LBladeBetweenThumbs$Tossed;") ∈ lw_all := lw_g (lw_at lw_m5 125 rfl) rfl
theorem q1159 : (Jvm.Cond.code ({ cls := "BladeBetweenThumbs$Blow", name := "failure", desc := "()LBladeBetweenThumbs$Tossed;" } : Jvm.MethodName) prog_2_method_6_code (1 : Nat) (Option.some (Jvm.ClassFile.FieldType.object "BladeBetweenThumbs$Tossed"))) ∈ lw_all := lw_g (lw_at lw_m5 130 rfl) rfl
theorem q1160 : (Jvm.Cond.classLink "BladeBetweenThumbs$Blow" (13 : Nat) "BladeBetweenThumbs$Tossed") ∈ lw_all := lw_g (lw_at lw_m5 131 rfl) rfl
theorem q1169 : (Jvm.Cond.methodLink "BladeBetweenThumbs$Blow" (15 : Nat) ({ cls := "BladeBetweenThumbs$Tossed", name := "<init>", desc := "(I)V" } : Jvm.MethodName)) ∈ lw_all := lw_g (lw_at lw_m5 140 rfl) rfl
theorem in_X8 : ∀ w ∈ wsX80, w ∈ lw_all := lw_in wsX80 [344] (by decide +kernel) (by decide +kernel)

/-! BladeBetweenThumbs$Empty -/
set_option maxRecDepth 100000
def RX9 : String := "BladeBetweenThumbs$Empty"
def TX9 : u_T := fun k => match k with
  | _ => ("BladeBetweenThumbs$Blow", "figure", "I", true)
def tyX9 : Nat → FieldType := fun k => match k with
  | _ => .int
abbrev wsX90 : List Cond := u_ws RX9 TX9 1
theorem nmX9 : ∀ a, a < 1 → ∀ b, b < 1 → a ≠ b → (TX9 a).2.1 ≠ (TX9 b).2.1 := by decide +kernel
theorem tyX9_ok : ∀ k, k < 1 → parseFieldDescriptor (TX9 k).2.2.1 = some (tyX9 k) := by decide +kernel
abbrev cX9_init : ByteArray := prog_6_method_1_code
def yX9_init : MethodName := ⟨RX9, "<init>", "(I)V"⟩
def dkwX9_init_0 : List UInt8 := [42, 27, 183, 0, 3, 177]
abbrev dktX9_init_0 : List UInt8 := dkwX9_init_0 ++ []
theorem dksX9_init_0 : cX9_init.data.toList.drop 0 = dktX9_init_0 := by decide +kernel
theorem dX9_init_0 : decode cX9_init 0 = .ok (.aload_n 0, 1) := dk_42 (dk_at dksX9_init_0 0 rfl rfl)
theorem dX9_init_1 : decode cX9_init 1 = .ok (.iload_n 1, 1) := dk_27 (dk_at dksX9_init_0 1 rfl rfl)
theorem dX9_init_2 : decode cX9_init 2 = .ok (.invokespecial 3, 3) := dk_183 0 3 (dk_at dksX9_init_0 2 rfl rfl)
theorem dX9_init_5 : decode cX9_init 5 = .ok (.return_, 1) := dk_177 (dk_at dksX9_init_0 5 rfl rfl)
abbrev cX9_softest : ByteArray := prog_6_method_3_code
def yX9_softest : MethodName := ⟨RX9, "softest", "(I)I"⟩
theorem dX9_softest_0 : decode cX9_softest 0 = .ok (.bipush 61, 2) := by decide +kernel
theorem dX9_softest_2 : decode cX9_softest 2 = .ok (.ireturn, 1) := by decide +kernel
abbrev cX9_kind : ByteArray := prog_6_method_2_code
def yX9_kind : MethodName := ⟨RX9, "kind", "()I"⟩
theorem dX9_kind_0 : decode cX9_kind 0 = .ok (.iconst 1, 1) := by decide +kernel
theorem dX9_kind_1 : decode cX9_kind 1 = .ok (.ireturn, 1) := by decide +kernel
abbrev cX9_cost : ByteArray := prog_6_method_4_code
def yX9_cost : MethodName := ⟨RX9, "cost", "()I"⟩
def dkwX9_cost_0 : List UInt8 := [42, 183, 0, 9, 4, 100, 172]
abbrev dktX9_cost_0 : List UInt8 := dkwX9_cost_0 ++ []
theorem dksX9_cost_0 : cX9_cost.data.toList.drop 0 = dktX9_cost_0 := by decide +kernel
theorem dX9_cost_0 : decode cX9_cost 0 = .ok (.aload_n 0, 1) := dk_42 (dk_at dksX9_cost_0 0 rfl rfl)
theorem dX9_cost_1 : decode cX9_cost 1 = .ok (.invokespecial 9, 3) := dk_183 0 9 (dk_at dksX9_cost_0 1 rfl rfl)
theorem dX9_cost_4 : decode cX9_cost 4 = .ok (.iconst 1, 1) := dk_4 (dk_at dksX9_cost_0 4 rfl rfl)
theorem dX9_cost_5 : decode cX9_cost 5 = .ok (.isub, 1) := dk_100 (dk_at dksX9_cost_0 5 rfl rfl)
theorem dX9_cost_6 : decode cX9_cost 6 = .ok (.ireturn, 1) := dk_172 (dk_at dksX9_cost_0 6 rfl rfl)
abbrev cX9_failure : ByteArray := prog_6_method_5_code
def yX9_failure : MethodName := ⟨RX9, "failure", "()LBladeBetweenThumbs$Tossed;"⟩
theorem dX9_failure_0 : decode cX9_failure 0 = .ok (.aconst_null, 1) := by decide +kernel
theorem dX9_failure_1 : decode cX9_failure 1 = .ok (.areturn, 1) := by decide +kernel
theorem q84 : (Jvm.Cond.initialized "BladeBetweenThumbs$Empty") ∈ lw_all := lw_g (lw_at lw_m1 15 rfl) rfl
theorem q348 : (Jvm.Cond.instantiable "BladeBetweenThumbs$Empty" (1 : Nat)) ∈ lw_all := lw_g (lw_at lw_m2 39 rfl) rfl
theorem q350 : (Jvm.Cond.instanceMethod ({ cls := "BladeBetweenThumbs$Empty", name := "<init>", desc := "(I)V" } : Jvm.MethodName)) ∈ lw_all := lw_g (lw_at lw_m2 41 rfl) rfl
theorem q351 : (Jvm.Cond.code ({ cls := "BladeBetweenThumbs$Empty", name := "<init>", desc := "(I)V" } : Jvm.MethodName) prog_6_method_1_code (2 : Nat) (Option.none : Option Jvm.ClassFile.FieldType)) ∈ lw_all := lw_g (lw_at lw_m2 42 rfl) rfl
theorem q352 : (Jvm.Cond.methodLink "BladeBetweenThumbs$Empty" (3 : Nat) ({ cls := "BladeBetweenThumbs$Blow", name := "<init>", desc := "(I)V" } : Jvm.MethodName)) ∈ lw_all := lw_g (lw_at lw_m2 43 rfl) rfl
theorem q353 : (Jvm.Cond.laysFinal "BladeBetweenThumbs$Empty" "BladeBetweenThumbs$Blow" "figure" "I") ∈ lw_all := lw_g (lw_at lw_m2 44 rfl) rfl
theorem q354 : (Jvm.Cond.superclass "BladeBetweenThumbs$Empty" "BladeBetweenThumbs$Blow") ∈ lw_all := lw_g (lw_at lw_m2 45 rfl) rfl
theorem q439 : (Jvm.Cond.unhidden "BladeBetweenThumbs$Empty" "wears" "(I)I") ∈ lw_tbl := lw_at lw_m2 130 rfl
theorem q479 : (Jvm.Cond.selects "BladeBetweenThumbs$Empty" ({ cls := "BladeBetweenThumbs$Blow", name := "low", desc := "(II)I" } : Jvm.MethodName) ({ cls := "BladeBetweenThumbs$Blow", name := "low", desc := "(II)I" } : Jvm.MethodName)) ∈ lw_all := lw_g (lw_at lw_m2 170 rfl) rfl
theorem q501 : (Jvm.Cond.unhidden "BladeBetweenThumbs$Empty" "above" "(I)I") ∈ lw_tbl := lw_at lw_m2 192 rfl
theorem q521 : (Jvm.Cond.selects "BladeBetweenThumbs$Empty" ({ cls := "BladeBetweenThumbs$Blow", name := "softest", desc := "(I)I" } : Jvm.MethodName) ({ cls := "BladeBetweenThumbs$Empty", name := "softest", desc := "(I)I" } : Jvm.MethodName)) ∈ lw_all := lw_g (lw_at lw_m2 212 rfl) rfl
theorem q522 : (Jvm.Cond.instanceMethod ({ cls := "BladeBetweenThumbs$Empty", name := "softest", desc := "(I)I" } : Jvm.MethodName)) ∈ lw_all := lw_g (lw_at lw_m2 213 rfl) rfl
theorem q523 : (Jvm.Cond.code ({ cls := "BladeBetweenThumbs$Empty", name := "softest", desc := "(I)I" } : Jvm.MethodName) prog_6_method_3_code (2 : Nat) (Option.some Jvm.ClassFile.FieldType.int)) ∈ lw_all := lw_g (lw_at lw_m2 214 rfl) rfl
theorem q546 : (Jvm.Cond.unhidden "BladeBetweenThumbs$Empty" "over" "()I") ∈ lw_tbl := lw_at lw_m2 237 rfl
theorem q582 : (Jvm.Cond.selects "BladeBetweenThumbs$Empty" ({ cls := "BladeBetweenThumbs$Blow", name := "kind", desc := "()I" } : Jvm.MethodName) ({ cls := "BladeBetweenThumbs$Empty", name := "kind", desc := "()I" } : Jvm.MethodName)) ∈ lw_all := lw_g (lw_at lw_m3 33 rfl) rfl
theorem q583 : (Jvm.Cond.instanceMethod ({ cls := "BladeBetweenThumbs$Empty", name := "kind", desc := "()I" } : Jvm.MethodName)) ∈ lw_all := lw_g (lw_at lw_m3 34 rfl) rfl
theorem q584 : (Jvm.Cond.code ({ cls := "BladeBetweenThumbs$Empty", name := "kind", desc := "()I" } : Jvm.MethodName) prog_6_method_2_code (1 : Nat) (Option.some Jvm.ClassFile.FieldType.int)) ∈ lw_all := lw_g (lw_at lw_m3 35 rfl) rfl
theorem q653 : (Jvm.Cond.unhidden "BladeBetweenThumbs$Empty" "pitch" "(III)I") ∈ lw_tbl := lw_at lw_m3 104 rfl
theorem q1125 : (Jvm.Cond.selects "BladeBetweenThumbs$Empty" ({ cls := "BladeBetweenThumbs$Blow", name := "cost", desc := "()I" } : Jvm.MethodName) ({ cls := "BladeBetweenThumbs$Empty", name := "cost", desc := "()I" } : Jvm.MethodName)) ∈ lw_all := lw_g (lw_at lw_m5 96 rfl) rfl
theorem q1126 : (Jvm.Cond.instanceMethod ({ cls := "BladeBetweenThumbs$Empty", name := "cost", desc := "()I" } : Jvm.MethodName)) ∈ lw_all := lw_g (lw_at lw_m5 97 rfl) rfl
theorem q1127 : (Jvm.Cond.code ({ cls := "BladeBetweenThumbs$Empty", name := "cost", desc := "()I" } : Jvm.MethodName) prog_6_method_4_code (1 : Nat) (Option.some Jvm.ClassFile.FieldType.int)) ∈ lw_all := lw_g (lw_at lw_m5 98 rfl) rfl
theorem q1128 : (Jvm.Cond.methodLink "BladeBetweenThumbs$Empty" (9 : Nat) ({ cls := "BladeBetweenThumbs$Blow", name := "cost", desc := "()I" } : Jvm.MethodName)) ∈ lw_all := lw_g (lw_at lw_m5 99 rfl) rfl
theorem q1182 : (Jvm.Cond.selects "BladeBetweenThumbs$Empty" ({ cls := "BladeBetweenThumbs$Blow", name := "failure", desc := "()LBladeBetweenThumbs$Tossed;" } : Jvm.MethodName) ({ cls := "BladeBetweenThumbs$Empty", name := "failure", desc := "()LBladeBetweenThumbs$Tossed;" } : Jvm.MethodName)) ∈ lw_all := lw_g (lw_at lw_m5 153 rfl) rfl
theorem q1183 : (Jvm.Cond.instanceMethod ({ cls := "BladeBetweenThumbs$Empty", name := "failure", desc := "()LBladeBetweenThumbs$Tossed;" } : Jvm.MethodName)) ∈ lw_all := lw_g (lw_at lw_m5 154 rfl) rfl
theorem q1184 : (Jvm.Cond.code ({ cls := "BladeBetweenThumbs$Empty", name := "failure", desc := "()LBladeBetweenThumbs$Tossed;" } : Jvm.MethodName) prog_6_method_5_code (1 : Nat) (Option.some (Jvm.ClassFile.FieldType.object "BladeBetweenThumbs$Tossed"))) ∈ lw_all := lw_g (lw_at lw_m5 155 rfl) rfl
theorem q1721 : (Jvm.Cond.sameMethod "BladeBetweenThumbs$Empty" "BladeBetweenThumbs$Empty" "cost" "()I") ∈ lw_all := lw_g (lw_at lw_m7 212 rfl) rfl
theorem q1731 : (Jvm.Cond.castable "BladeBetweenThumbs$Empty" "BladeBetweenThumbs$Blow") ∈ lw_tbl := lw_at lw_m7 222 rfl
theorem in_X9 : ∀ w ∈ wsX90, w ∈ lw_all := lw_in wsX90 [353] (by decide +kernel) (by decide +kernel)
