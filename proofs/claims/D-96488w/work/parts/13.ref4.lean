set_option maxRecDepth 100000
-- heap
def hf_M_heap_52 : Nat → Int32 → Int32 → Int32 → Int32 → Int32 → Int32 → hd_St → (Option (Int32 × hd_St))
  | 0, _, _, _, _, _, _, _ => none
  | n + 1, x1, x2, x3, x5, x6, x7, S =>
    if x7 < 0 then
    (if x3 = 0 then
    (some (x5, S))
    else
    (some (x6, S)))
    else
    (if hd_ck (((100 : Int32) * x2) + x7) 800 = true then
    (hf_M_forcesFor x1 (hd_I S 50 (((100 : Int32) * x2) + x7).toNatClampNeg) S).bind fun p6 =>
    if p6.1 = 0 then
    (some ((-4), p6.2))
    else
    (if p6.1 = (1 : Int32) then
    (hd_nm (x5 + 1) fun v10 =>
    hd_nm (hd_I p6.2 38 11) fun v11 =>
    hf_M_heap_52 n x1 x2 x3 v10 v11 (x7 + (-1)) p6.2)
    else
    (hd_nm (x5 + 0) fun v8 =>
    hd_nm (hd_I p6.2 38 11) fun v9 =>
    hf_M_heap_52 n x1 x2 x3 v8 v9 (x7 + (-1)) p6.2))
    else none)
theorem hw_M_heap_52 {κ : hd_VK} {E : hd_EV} (X : hd_Cx κ E cX4_heap RX4 9 (hd_Rm 5 0 0)) (hr : (hd_kQ κ).sig.returnType = some .int) {y : (Int32 × hd_St)} : ∀ (n : Nat) (x1 : Int32) (x2 : Int32) (x3 : Int32) (x5 : Int32) (x6 : Int32) (x7 : Int32) (S : hd_St), hf_M_heap_52 n x1 x2 x3 x5 x6 x7 S = some y → hd_V κ E 9 0 0 (hd_Qf κ E (some (.int y.1)) y.2) S 52 [(0, .ref (hd_ad E 38)), (1, .int x1), (2, .int x2), (3, .int x3), (5, .int x5), (6, .int x6), (7, .int x7)] [] := by
  intro n
  induction n with
  | zero => intro x1 x2 x3 x5 x6 x7 S h; have h : (none : Option (Int32 × hd_St)) = some y := h; cases h
  | succ n ih =>
    intro x1 x2 x3 x5 x6 x7 S h
    rw [hf_M_heap_52] at h
    refine hv_iload X dX4_heap_52 6 rfl ?_
    refine hv_if_lt X 112 h dX4_heap_54 (by decide) (fun h => ?_) (fun h => ?_)
    · refine hv_iload_n X dX4_heap_112 3 rfl ?_
      refine hv_if_ne X 121 h dX4_heap_113 (by decide) (fun h => ?_) (fun h => ?_)
      · refine hv_iload X dX4_heap_121 5 rfl ?_
        obtain rfl := Option.some.inj h
        exact hv_iret X hr dX4_heap_123 (Nat.zero_le _) (Nat.zero_le _)
      · refine hv_iload X dX4_heap_116 4 rfl ?_
        refine hv_goto X 123 dX4_heap_118 (by decide) ?_
        obtain rfl := Option.some.inj h
        exact hv_iret X hr dX4_heap_123 (Nat.zero_le _) (Nat.zero_le _)
    · refine hv_aload_n X dX4_heap_57 0 rfl ?_
      refine hv_iload_n X dX4_heap_58 1 rfl ?_
      refine hv_aload_n X dX4_heap_59 0 rfl ?_
      refine hg_M_element X q1261 dX4_heap_60 ?_
      refine hv_bipush X (v := 100) dX4_heap_63 (by decide) ?_
      refine hv_iload_n X dX4_heap_65 2 rfl ?_
      refine hv_imul X dX4_heap_66 ?_
      refine hv_iload X dX4_heap_67 6 rfl ?_
      refine hv_iadd X dX4_heap_69 ?_
      refine hv_iald X h hd_ia50 dX4_heap_70 (fun h => ?_)
      obtain ⟨p6, e7, h⟩ := hd_bind h
      refine hv_cV X pk_M_forcesFor hd_rcM (hw_M_forcesFor _ E x1 (hd_I S 50 (((100 : Int32) * x2) + x7).toNatClampNeg) S p6 e7) q1638 dX4_heap_71 (by decide) (by decide) (Nat.zero_le _) (Nat.zero_le _) rfl rfl (Nat.le_of_ble_eq_true rfl) rfl ?_
      refine hv_istore X [(8, .int p6.1), (0, .ref (hd_ad E 38)), (1, .int x1), (2, .int x2), (3, .int x3), (5, .int x5), (6, .int x6), (7, .int x7)] dX4_heap_74 (by decide) rfl ?_
      refine hv_iload X dX4_heap_76 0 rfl ?_
      refine hv_if_ne X 84 h dX4_heap_78 (by decide) (fun h => ?_) (fun h => ?_)
      · refine hv_iload X dX4_heap_84 5 rfl ?_
        refine hv_iload X dX4_heap_86 0 rfl ?_
        refine hv_iconst X (v := 1) dX4_heap_88 (by decide) ?_
        refine hv_icmp_ne X 96 h dX4_heap_89 (by decide) (fun h => ?_) (fun h => ?_)
        · refine hv_iconst X (v := 0) dX4_heap_96 (by decide) ?_
          refine hv_iadd X dX4_heap_97 ?_
          refine hv_nmI h (fun v8 h => ?_)
          refine hv_istore X [(5, .int v8), (8, .int p6.1), (0, .ref (hd_ad E 38)), (1, .int x1), (2, .int x2), (3, .int x3), (6, .int x6), (7, .int x7)] dX4_heap_98 (by decide) rfl ?_
          refine hv_aload_n X dX4_heap_100 2 rfl ?_
          refine hg_M_leastForce X q1252 dX4_heap_101 ?_
          refine hv_nmI h (fun v9 h => ?_)
          refine hv_istore X [(6, .int v9), (5, .int v8), (8, .int p6.1), (0, .ref (hd_ad E 38)), (1, .int x1), (2, .int x2), (3, .int x3), (7, .int x7)] dX4_heap_104 (by decide) rfl ?_
          refine hv_iinc X (v := (-1)) [(7, .int (x7 + (-1))), (6, .int v9), (5, .int v8), (8, .int p6.1), (0, .ref (hd_ad E 38)), (1, .int x1), (2, .int x2), (3, .int x3)] dX4_heap_106 7 rfl (by decide) (by decide) rfl ?_
          refine hv_goto X 52 dX4_heap_109 (by decide) ?_
          refine hv_sub [(0, .ref (hd_ad E 38)), (1, .int x1), (2, .int x2), (3, .int x3), (5, .int v8), (6, .int v9), (7, .int (x7 + (-1)))] [4, 5, 6, 7, 2, 1, 0] rfl ?_
          exact ih x1 x2 x3 v8 v9 (x7 + (-1)) p6.2 h
        · refine hv_iconst X (v := 1) dX4_heap_92 (by decide) ?_
          refine hv_goto X 97 dX4_heap_93 (by decide) ?_
          refine hv_iadd X dX4_heap_97 ?_
          refine hv_nmI h (fun v10 h => ?_)
          refine hv_istore X [(5, .int v10), (8, .int p6.1), (0, .ref (hd_ad E 38)), (1, .int x1), (2, .int x2), (3, .int x3), (6, .int x6), (7, .int x7)] dX4_heap_98 (by decide) rfl ?_
          refine hv_aload_n X dX4_heap_100 2 rfl ?_
          refine hg_M_leastForce X q1252 dX4_heap_101 ?_
          refine hv_nmI h (fun v11 h => ?_)
          refine hv_istore X [(6, .int v11), (5, .int v10), (8, .int p6.1), (0, .ref (hd_ad E 38)), (1, .int x1), (2, .int x2), (3, .int x3), (7, .int x7)] dX4_heap_104 (by decide) rfl ?_
          refine hv_iinc X (v := (-1)) [(7, .int (x7 + (-1))), (6, .int v11), (5, .int v10), (8, .int p6.1), (0, .ref (hd_ad E 38)), (1, .int x1), (2, .int x2), (3, .int x3)] dX4_heap_106 7 rfl (by decide) (by decide) rfl ?_
          refine hv_goto X 52 dX4_heap_109 (by decide) ?_
          refine hv_sub [(0, .ref (hd_ad E 38)), (1, .int x1), (2, .int x2), (3, .int x3), (5, .int v10), (6, .int v11), (7, .int (x7 + (-1)))] [4, 5, 6, 7, 2, 1, 0] rfl ?_
          exact ih x1 x2 x3 v10 v11 (x7 + (-1)) p6.2 h
      · refine hv_bipush X (v := (-4)) dX4_heap_81 (by decide) ?_
        obtain rfl := Option.some.inj h
        exact hv_iret X hr dX4_heap_83 (Nat.zero_le _) (Nat.zero_le _)
def hf_M_heap (a1 : Int32) (a2 : Int32) (a3 : Int32) (S : hd_St) : (Option (Int32 × hd_St)) :=
  (hf_M_isBlow a1 S).bind fun r1 =>
    if r1 = true then
    (if (hf_M_isIn a3 0 1) = true then
    ((hf_M_wrongRow a2 (-1) S).bind fun r3 =>
    if r3 = 0 then
    (if hd_ck a2 8 = true then
    hd_nm ((hd_I S 49 a2.toNatClampNeg) - 1) fun v5 =>
    hf_M_heap_52 hd_fuel a1 a2 a3 0 (-4) v5 S
    else none)
    else
    (some (r3, S)))
    else
    (some ((-1), S)))
    else
    (some ((-1), S))
theorem hw_M_heap (l : Launch) (E : hd_EV) (a1 : Int32) (a2 : Int32) (a3 : Int32) (S : hd_St) (y : (Int32 × hd_St)) (h : hf_M_heap a1 a2 a3 S = some y) : hd_Mt l E yX4_heap cX4_heap 9 (some .int) (hd_Rm 5 0 0) [.ref (hd_ad E 38), .int a1, .int a2, .int a3] S (some (.int y.1)) y.2 := by
  refine hd_Mt.start [(0, .ref (hd_ad E 38)), (1, .int a1), (2, .int a2), (3, .int a3)] hd_pnX4 rfl (Nat.le_of_ble_eq_true rfl) (fun κ X hl hr hn => ?_)
  have X : hd_Cx κ E cX4_heap RX4 9 (hd_Rm 5 0 0) := X
  unfold hf_M_heap at h
  refine hv_aload_n X dX4_heap_0 0 rfl ?_
  refine hv_iload_n X dX4_heap_1 1 rfl ?_
  obtain ⟨r1, e2, h⟩ := hd_bind h
  refine hv_cV X pk_M_isBlow hd_rcM (hw_M_isBlow _ E a1 S r1 e2) q1377 dX4_heap_2 (by decide) (by decide) (Nat.zero_le _) (Nat.zero_le _) rfl rfl (Nat.le_of_ble_eq_true rfl) rfl ?_
  refine hv_ifb_eq X 17 h dX4_heap_5 (by decide) (fun h => ?_) (fun h => ?_)
  · refine hv_iconst X (v := (-1)) dX4_heap_17 (by decide) ?_
    obtain rfl := Option.some.inj h
    exact hv_iret X hr dX4_heap_18 (Nat.zero_le _) (Nat.zero_le _)
  · refine hv_iload_n X dX4_heap_8 3 rfl ?_
    refine hv_iconst X (v := 0) dX4_heap_9 (by decide) ?_
    refine hv_iconst X (v := 1) dX4_heap_10 (by decide) ?_
    refine hv_cS X pk_M_isIn (hw_M_isIn _ E a3 0 1 S) q1319 dX4_heap_11 (by decide) (by decide) (Nat.zero_le _) (Nat.zero_le _) rfl rfl (Nat.le_of_ble_eq_true rfl) rfl ?_
    refine hv_ifb_ne X 19 h dX4_heap_14 (by decide) (fun h => ?_) (fun h => ?_)
    · refine hv_aload_n X dX4_heap_19 0 rfl ?_
      refine hv_iload_n X dX4_heap_20 2 rfl ?_
      refine hv_iconst X (v := (-1)) dX4_heap_21 (by decide) ?_
      obtain ⟨r3, e4, h⟩ := hd_bind h
      refine hv_cV X pk_M_wrongRow hd_rcM (hw_M_wrongRow _ E a2 (-1) S r3 e4) q1312 dX4_heap_22 (by decide) (by decide) (Nat.zero_le _) (Nat.zero_le _) rfl rfl (Nat.le_of_ble_eq_true rfl) rfl ?_
      refine hv_istore X [(4, .int r3), (0, .ref (hd_ad E 38)), (1, .int a1), (2, .int a2), (3, .int a3)] dX4_heap_25 (by decide) rfl ?_
      refine hv_iload X dX4_heap_27 0 rfl ?_
      refine hv_if_eq X 35 h dX4_heap_29 (by decide) (fun h => ?_) (fun h => ?_)
      · refine hv_iconst X (v := 0) dX4_heap_35 (by decide) ?_
        refine hv_istore X [(5, .int 0), (4, .int r3), (0, .ref (hd_ad E 38)), (1, .int a1), (2, .int a2), (3, .int a3)] dX4_heap_36 (by decide) rfl ?_
        refine hv_bipush X (v := (-4)) dX4_heap_38 (by decide) ?_
        refine hv_istore X [(6, .int (-4)), (5, .int 0), (4, .int r3), (0, .ref (hd_ad E 38)), (1, .int a1), (2, .int a2), (3, .int a3)] dX4_heap_40 (by decide) rfl ?_
        refine hv_aload_n X dX4_heap_42 3 rfl ?_
        refine hg_M_size X q1260 dX4_heap_43 ?_
        refine hv_iload_n X dX4_heap_46 5 rfl ?_
        refine hv_iald X h hd_ia49 dX4_heap_47 (fun h => ?_)
        refine hv_iconst X (v := 1) dX4_heap_48 (by decide) ?_
        refine hv_isub X dX4_heap_49 ?_
        refine hv_nmI h (fun v5 h => ?_)
        refine hv_istore X [(7, .int v5), (6, .int (-4)), (5, .int 0), (4, .int r3), (0, .ref (hd_ad E 38)), (1, .int a1), (2, .int a2), (3, .int a3)] dX4_heap_50 (by decide) rfl ?_
        refine hv_sub [(0, .ref (hd_ad E 38)), (1, .int a1), (2, .int a2), (3, .int a3), (5, .int 0), (6, .int (-4)), (7, .int v5)] [4, 5, 6, 7, 2, 1, 0] rfl ?_
        exact hw_M_heap_52 X hr hd_fuel a1 a2 a3 0 (-4) v5 S h
      · refine hv_iload X dX4_heap_32 0 rfl ?_
        obtain rfl := Option.some.inj h
        exact hv_iret X hr dX4_heap_34 (Nat.zero_le _) (Nat.zero_le _)
    · refine hv_iconst X (v := (-1)) dX4_heap_17 (by decide) ?_
      obtain rfl := Option.some.inj h
      exact hv_iret X hr dX4_heap_18 (Nat.zero_le _) (Nat.zero_le _)
theorem pk_M_heap : hd_PkV RX4 yX4_heap cX4_heap 9 (some .int) 3 := ⟨q1635, q1636, q73, q1637, rfl, by decide +kernel, by decide +kernel, by decide +kernel⟩
-- forged
def hf_M_forged_26 : Nat → Int32 → Int32 → Int32 → hd_St → (Option (Int32 × hd_St))
  | 0, _, _, _, _ => none
  | n + 1, x1, x2, x4, S =>
    if hd_ck x2 8 = true then
    if (hd_I S 49 x2.toNatClampNeg) ≤ x4 then
    (some ((-4), S))
    else
    (if hd_ck (((100 : Int32) * x2) + x4) 800 = true then
    (hf_M_forcesFor x1 (hd_I S 50 (((100 : Int32) * x2) + x4).toNatClampNeg) S).bind fun p5 =>
    if p5.1 = 0 then
    (some (x4, p5.2))
    else
    (hf_M_forged_26 n x1 x2 (x4 + 1) p5.2)
    else none)
    else none
theorem hw_M_forged_26 {κ : hd_VK} {E : hd_EV} (X : hd_Cx κ E cX4_forged RX4 5 (hd_Rm 5 0 0)) (hr : (hd_kQ κ).sig.returnType = some .int) {y : (Int32 × hd_St)} : ∀ (n : Nat) (x1 : Int32) (x2 : Int32) (x4 : Int32) (S : hd_St), hf_M_forged_26 n x1 x2 x4 S = some y → hd_V κ E 5 0 0 (hd_Qf κ E (some (.int y.1)) y.2) S 26 [(0, .ref (hd_ad E 38)), (1, .int x1), (2, .int x2), (4, .int x4)] [] := by
  intro n
  induction n with
  | zero => intro x1 x2 x4 S h; have h : (none : Option (Int32 × hd_St)) = some y := h; cases h
  | succ n ih =>
    intro x1 x2 x4 S h
    rw [hf_M_forged_26] at h
    refine hv_iload X dX4_forged_26 3 rfl ?_
    refine hv_aload_n X dX4_forged_28 0 rfl ?_
    refine hg_M_size X q1260 dX4_forged_29 ?_
    refine hv_iload_n X dX4_forged_32 2 rfl ?_
    refine hv_iald X h hd_ia49 dX4_forged_33 (fun h => ?_)
    refine hv_icmp_ge X 66 h dX4_forged_34 (by decide) (fun h => ?_) (fun h => ?_)
    · refine hv_bipush X (v := (-4)) dX4_forged_66 (by decide) ?_
      obtain rfl := Option.some.inj h
      exact hv_iret X hr dX4_forged_68 (Nat.zero_le _) (Nat.zero_le _)
    · refine hv_aload_n X dX4_forged_37 0 rfl ?_
      refine hv_iload_n X dX4_forged_38 1 rfl ?_
      refine hv_aload_n X dX4_forged_39 0 rfl ?_
      refine hg_M_element X q1261 dX4_forged_40 ?_
      refine hv_bipush X (v := 100) dX4_forged_43 (by decide) ?_
      refine hv_iload_n X dX4_forged_45 2 rfl ?_
      refine hv_imul X dX4_forged_46 ?_
      refine hv_iload X dX4_forged_47 3 rfl ?_
      refine hv_iadd X dX4_forged_49 ?_
      refine hv_iald X h hd_ia50 dX4_forged_50 (fun h => ?_)
      obtain ⟨p5, e6, h⟩ := hd_bind h
      refine hv_cV X pk_M_forcesFor hd_rcM (hw_M_forcesFor _ E x1 (hd_I S 50 (((100 : Int32) * x2) + x4).toNatClampNeg) S p5 e6) q1638 dX4_forged_51 (by decide) (by decide) (Nat.zero_le _) (Nat.zero_le _) rfl rfl (Nat.le_of_ble_eq_true rfl) rfl ?_
      refine hv_if_ne X 60 h dX4_forged_54 (by decide) (fun h => ?_) (fun h => ?_)
      · refine hv_iinc X (v := 1) [(4, .int (x4 + 1)), (0, .ref (hd_ad E 38)), (1, .int x1), (2, .int x2)] dX4_forged_60 3 rfl (by decide) (by decide) rfl ?_
        refine hv_goto X 26 dX4_forged_63 (by decide) ?_
        refine hv_sub [(0, .ref (hd_ad E 38)), (1, .int x1), (2, .int x2), (4, .int (x4 + 1))] [1, 2, 3, 0] rfl ?_
        exact ih x1 x2 (x4 + 1) p5.2 h
      · refine hv_iload X dX4_forged_57 3 rfl ?_
        obtain rfl := Option.some.inj h
        exact hv_iret X hr dX4_forged_59 (Nat.zero_le _) (Nat.zero_le _)
def hf_M_forged (a1 : Int32) (a2 : Int32) (S : hd_St) : (Option (Int32 × hd_St)) :=
  (hf_M_isBlow a1 S).bind fun r1 =>
    if r1 = true then
    ((hf_M_wrongRow a2 (-1) S).bind fun r3 =>
    if r3 = 0 then
    (hf_M_forged_26 hd_fuel a1 a2 0 S)
    else
    (some (r3, S)))
    else
    (some ((-1), S))
theorem hw_M_forged (l : Launch) (E : hd_EV) (a1 : Int32) (a2 : Int32) (S : hd_St) (y : (Int32 × hd_St)) (h : hf_M_forged a1 a2 S = some y) : hd_Mt l E yX4_forged cX4_forged 5 (some .int) (hd_Rm 5 0 0) [.ref (hd_ad E 38), .int a1, .int a2] S (some (.int y.1)) y.2 := by
  refine hd_Mt.start [(0, .ref (hd_ad E 38)), (1, .int a1), (2, .int a2)] hd_pnX4 rfl (Nat.le_of_ble_eq_true rfl) (fun κ X hl hr hn => ?_)
  have X : hd_Cx κ E cX4_forged RX4 5 (hd_Rm 5 0 0) := X
  unfold hf_M_forged at h
  refine hv_aload_n X dX4_forged_0 0 rfl ?_
  refine hv_iload_n X dX4_forged_1 1 rfl ?_
  obtain ⟨r1, e2, h⟩ := hd_bind h
  refine hv_cV X pk_M_isBlow hd_rcM (hw_M_isBlow _ E a1 S r1 e2) q1377 dX4_forged_2 (by decide) (by decide) (Nat.zero_le _) (Nat.zero_le _) rfl rfl (Nat.le_of_ble_eq_true rfl) rfl ?_
  refine hv_ifb_ne X 10 h dX4_forged_5 (by decide) (fun h => ?_) (fun h => ?_)
  · refine hv_aload_n X dX4_forged_10 0 rfl ?_
    refine hv_iload_n X dX4_forged_11 2 rfl ?_
    refine hv_iconst X (v := (-1)) dX4_forged_12 (by decide) ?_
    obtain ⟨r3, e4, h⟩ := hd_bind h
    refine hv_cV X pk_M_wrongRow hd_rcM (hw_M_wrongRow _ E a2 (-1) S r3 e4) q1312 dX4_forged_13 (by decide) (by decide) (Nat.zero_le _) (Nat.zero_le _) rfl rfl (Nat.le_of_ble_eq_true rfl) rfl ?_
    refine hv_istore_n X [(3, .int r3), (0, .ref (hd_ad E 38)), (1, .int a1), (2, .int a2)] dX4_forged_16 (by decide) rfl ?_
    refine hv_iload_n X dX4_forged_17 0 rfl ?_
    refine hv_if_eq X 23 h dX4_forged_18 (by decide) (fun h => ?_) (fun h => ?_)
    · refine hv_iconst X (v := 0) dX4_forged_23 (by decide) ?_
      refine hv_istore X [(4, .int 0), (3, .int r3), (0, .ref (hd_ad E 38)), (1, .int a1), (2, .int a2)] dX4_forged_24 (by decide) rfl ?_
      refine hv_sub [(0, .ref (hd_ad E 38)), (1, .int a1), (2, .int a2), (4, .int 0)] [2, 3, 4, 0] rfl ?_
      exact hw_M_forged_26 X hr hd_fuel a1 a2 0 S h
    · refine hv_iload_n X dX4_forged_21 0 rfl ?_
      obtain rfl := Option.some.inj h
      exact hv_iret X hr dX4_forged_22 (Nat.zero_le _) (Nat.zero_le _)
  · refine hv_iconst X (v := (-1)) dX4_forged_8 (by decide) ?_
    obtain rfl := Option.some.inj h
    exact hv_iret X hr dX4_forged_9 (Nat.zero_le _) (Nat.zero_le _)
theorem pk_M_forged : hd_PkV RX4 yX4_forged cX4_forged 5 (some .int) 2 := ⟨q1643, q1644, q73, q1645, rfl, by decide +kernel, by decide +kernel, by decide +kernel⟩
-- remainder
def hf_M_remainder_72 (S : hd_St) (x1 : Int32) (x2 : Int32) (x3 : Int32) (x4 : Int32) : (Option Int32) :=
  if x4 = 0 then
    (if hd_ck (((100 : Int32) * x1) + x2) 800 = true then
    if hd_ck (((100 : Int32) * x1) + x3) 800 = true then
    if (hd_I S 50 (((100 : Int32) * x1) + x3).toNatClampNeg) = 0 then none else
    some ((hd_I S 50 (((100 : Int32) * x1) + x2).toNatClampNeg) - (hd_I S 50 (((100 : Int32) * x1) + x2).toNatClampNeg) / (hd_I S 50 (((100 : Int32) * x1) + x3).toNatClampNeg) * (hd_I S 50 (((100 : Int32) * x1) + x3).toNatClampNeg))
    else none
    else none)
    else
    (some ((1000000000 : Int32) - x4))
theorem hw_M_remainder_72 {κ : hd_VK} {E : hd_EV} (X : hd_Cx κ E cX4_remainder RX4 5 (hd_Rm 4 0 0)) (hr : (hd_kQ κ).sig.returnType = some .int) {S : hd_St} {y : Int32} (x1 : Int32) (x2 : Int32) (x3 : Int32) (x4 : Int32) (h : hf_M_remainder_72 S x1 x2 x3 x4 = some y) : hd_V κ E 5 0 0 (hd_Qf κ E (some (.int y)) S) S 72 [(0, .ref (hd_ad E 38)), (1, .int x1), (2, .int x2), (3, .int x3), (4, .int x4)] [] := by
  unfold hf_M_remainder_72 at h
  refine hv_iload X dX4_remainder_72 4 rfl ?_
  refine hv_if_eq X 85 h dX4_remainder_74 (by decide) (fun h => ?_) (fun h => ?_)
  · refine hv_aload_n X dX4_remainder_85 0 rfl ?_
    refine hg_M_element X q1261 dX4_remainder_86 ?_
    refine hv_bipush X (v := 100) dX4_remainder_89 (by decide) ?_
    refine hv_iload_n X dX4_remainder_91 1 rfl ?_
    refine hv_imul X dX4_remainder_92 ?_
    refine hv_iload_n X dX4_remainder_93 2 rfl ?_
    refine hv_iadd X dX4_remainder_94 ?_
    refine hv_iald X h hd_ia50 dX4_remainder_95 (fun h => ?_)
    refine hv_aload_n X dX4_remainder_96 0 rfl ?_
    refine hg_M_element X q1261 dX4_remainder_97 ?_
    refine hv_bipush X (v := 100) dX4_remainder_100 (by decide) ?_
    refine hv_iload_n X dX4_remainder_102 1 rfl ?_
    refine hv_imul X dX4_remainder_103 ?_
    refine hv_iload_n X dX4_remainder_104 3 rfl ?_
    refine hv_iadd X dX4_remainder_105 ?_
    refine hv_iald X h hd_ia50 dX4_remainder_106 (fun h => ?_)
    refine hv_irem X h dX4_remainder_107 (fun h => ?_)
    obtain rfl := Option.some.inj h
    exact hv_iret X hr dX4_remainder_108 (Nat.zero_le _) (Nat.zero_le _)
  · refine hv_ldc X q1532 dX4_remainder_77 ?_
    refine hv_iload X dX4_remainder_79 4 rfl ?_
    refine hv_isub X dX4_remainder_81 ?_
    refine hv_goto X 108 dX4_remainder_82 (by decide) ?_
    obtain rfl := Option.some.inj h
    exact hv_iret X hr dX4_remainder_108 (Nat.zero_le _) (Nat.zero_le _)
def hf_M_remainder_49 (S : hd_St) (x1 : Int32) (x2 : Int32) (x3 : Int32) (x4 : Int32) : (Option Int32) :=
  if x4 = 0 then
    (if hd_ck (((100 : Int32) * x1) + x3) 800 = true then
    if (hd_I S 50 (((100 : Int32) * x1) + x3).toNatClampNeg) = 0 then
    (hf_M_remainder_72 S x1 x2 x3 (-16))
    else
    (hf_M_remainder_72 S x1 x2 x3 x4)
    else none)
    else
    (hf_M_remainder_72 S x1 x2 x3 x4)
theorem hw_M_remainder_49 {κ : hd_VK} {E : hd_EV} (X : hd_Cx κ E cX4_remainder RX4 5 (hd_Rm 4 0 0)) (hr : (hd_kQ κ).sig.returnType = some .int) {S : hd_St} {y : Int32} (x1 : Int32) (x2 : Int32) (x3 : Int32) (x4 : Int32) (h : hf_M_remainder_49 S x1 x2 x3 x4 = some y) : hd_V κ E 5 0 0 (hd_Qf κ E (some (.int y)) S) S 49 [(0, .ref (hd_ad E 38)), (1, .int x1), (2, .int x2), (3, .int x3), (4, .int x4)] [] := by
  unfold hf_M_remainder_49 at h
  refine hv_iload X dX4_remainder_49 4 rfl ?_
  refine hv_if_ne X 72 h dX4_remainder_51 (by decide) (fun h => ?_) (fun h => ?_)
  · exact hw_M_remainder_72 X hr x1 x2 x3 x4 h
  · refine hv_aload_n X dX4_remainder_54 0 rfl ?_
    refine hg_M_element X q1261 dX4_remainder_55 ?_
    refine hv_bipush X (v := 100) dX4_remainder_58 (by decide) ?_
    refine hv_iload_n X dX4_remainder_60 1 rfl ?_
    refine hv_imul X dX4_remainder_61 ?_
    refine hv_iload_n X dX4_remainder_62 3 rfl ?_
    refine hv_iadd X dX4_remainder_63 ?_
    refine hv_iald X h hd_ia50 dX4_remainder_64 (fun h => ?_)
    refine hv_if_ne X 72 h dX4_remainder_65 (by decide) (fun h => ?_) (fun h => ?_)
    · exact hw_M_remainder_72 X hr x1 x2 x3 x4 h
    · refine hv_bipush X (v := (-16)) dX4_remainder_68 (by decide) ?_
      refine hv_istore X [(4, .int (-16)), (0, .ref (hd_ad E 38)), (1, .int x1), (2, .int x2), (3, .int x3)] dX4_remainder_70 (by decide) rfl ?_
      refine hv_sub [(0, .ref (hd_ad E 38)), (1, .int x1), (2, .int x2), (3, .int x3), (4, .int (-16))] [1, 2, 3, 4, 0] rfl ?_
      exact hw_M_remainder_72 X hr x1 x2 x3 (-16) h
def hf_M_remainder_45 (S : hd_St) (x1 : Int32) (x2 : Int32) (x3 : Int32) : (Option Int32) :=
  hf_M_remainder_49 S x1 x2 x3 (-13)
theorem hw_M_remainder_45 {κ : hd_VK} {E : hd_EV} (X : hd_Cx κ E cX4_remainder RX4 5 (hd_Rm 4 0 0)) (hr : (hd_kQ κ).sig.returnType = some .int) {S : hd_St} {y : Int32} (x1 : Int32) (x2 : Int32) (x3 : Int32) (h : hf_M_remainder_45 S x1 x2 x3 = some y) : hd_V κ E 5 0 0 (hd_Qf κ E (some (.int y)) S) S 45 [(0, .ref (hd_ad E 38)), (1, .int x1), (2, .int x2), (3, .int x3)] [] := by
  unfold hf_M_remainder_45 at h
  refine hv_bipush X (v := (-13)) dX4_remainder_45 (by decide) ?_
  refine hv_istore X [(4, .int (-13)), (0, .ref (hd_ad E 38)), (1, .int x1), (2, .int x2), (3, .int x3)] dX4_remainder_47 (by decide) rfl ?_
  refine hv_sub [(0, .ref (hd_ad E 38)), (1, .int x1), (2, .int x2), (3, .int x3), (4, .int (-13))] [1, 2, 3, 4, 0] rfl ?_
  exact hw_M_remainder_49 X hr x1 x2 x3 (-13) h
def hf_M_remainder (a1 : Int32) (a2 : Int32) (a3 : Int32) (S : hd_St) : (Option Int32) :=
  (hf_M_wrongRow a1 (-1) S).bind fun r1 =>
    if r1 = 0 then
    (if hd_ck a1 8 = true then
    if (hf_M_isIn a2 0 ((hd_I S 49 a1.toNatClampNeg) - 1)) = true then
    (if hd_ck a1 8 = true then
    if (hf_M_isIn a3 0 ((hd_I S 49 a1.toNatClampNeg) - 1)) = true then
    (hf_M_remainder_49 S a1 a2 a3 r1)
    else
    (hf_M_remainder_45 S a1 a2 a3)
    else none)
    else
    (hf_M_remainder_45 S a1 a2 a3)
    else none)
    else
    (hf_M_remainder_49 S a1 a2 a3 r1)
theorem hw_M_remainder (l : Launch) (E : hd_EV) (a1 : Int32) (a2 : Int32) (a3 : Int32) (S : hd_St) (y : Int32) (h : hf_M_remainder a1 a2 a3 S = some y) : hd_Mt l E yX4_remainder cX4_remainder 5 (some .int) (hd_Rm 4 0 0) [.ref (hd_ad E 38), .int a1, .int a2, .int a3] S (some (.int y)) S := by
  refine hd_Mt.start [(0, .ref (hd_ad E 38)), (1, .int a1), (2, .int a2), (3, .int a3)] hd_pnX4 rfl (Nat.le_of_ble_eq_true rfl) (fun κ X hl hr hn => ?_)
  have X : hd_Cx κ E cX4_remainder RX4 5 (hd_Rm 4 0 0) := X
  unfold hf_M_remainder at h
  refine hv_aload_n X dX4_remainder_0 0 rfl ?_
  refine hv_iload_n X dX4_remainder_1 1 rfl ?_
  refine hv_iconst X (v := (-1)) dX4_remainder_2 (by decide) ?_
  obtain ⟨r1, e2, h⟩ := hd_bind h
  refine hv_cV X pk_M_wrongRow hd_rcM (hw_M_wrongRow _ E a1 (-1) S r1 e2) q1312 dX4_remainder_3 (by decide) (by decide) (Nat.zero_le _) (Nat.zero_le _) rfl rfl (Nat.le_of_ble_eq_true rfl) rfl ?_
  refine hv_istore X [(4, .int r1), (0, .ref (hd_ad E 38)), (1, .int a1), (2, .int a2), (3, .int a3)] dX4_remainder_6 (by decide) rfl ?_
  refine hv_iload X dX4_remainder_8 0 rfl ?_
  refine hv_if_ne X 49 h dX4_remainder_10 (by decide) (fun h => ?_) (fun h => ?_)
  · refine hv_sub [(0, .ref (hd_ad E 38)), (1, .int a1), (2, .int a2), (3, .int a3), (4, .int r1)] [1, 2, 3, 4, 0] rfl ?_
    exact hw_M_remainder_49 X hr a1 a2 a3 r1 h
  · refine hv_iload_n X dX4_remainder_13 3 rfl ?_
    refine hv_iconst X (v := 0) dX4_remainder_14 (by decide) ?_
    refine hv_aload_n X dX4_remainder_15 1 rfl ?_
    refine hg_M_size X q1260 dX4_remainder_16 ?_
    refine hv_iload_n X dX4_remainder_19 2 rfl ?_
    refine hv_iald X h hd_ia49 dX4_remainder_20 (fun h => ?_)
    refine hv_iconst X (v := 1) dX4_remainder_21 (by decide) ?_
    refine hv_isub X dX4_remainder_22 ?_
    refine hv_cS X pk_M_isIn (hw_M_isIn _ E a2 0 ((hd_I S 49 a1.toNatClampNeg) - 1) S) q1319 dX4_remainder_23 (by decide) (by decide) (Nat.zero_le _) (Nat.zero_le _) rfl rfl (Nat.le_of_ble_eq_true rfl) rfl ?_
    refine hv_ifb_eq X 45 h dX4_remainder_26 (by decide) (fun h => ?_) (fun h => ?_)
    · refine hv_sub [(0, .ref (hd_ad E 38)), (1, .int a1), (2, .int a2), (3, .int a3)] [1, 2, 3, 4] rfl ?_
      exact hw_M_remainder_45 X hr a1 a2 a3 h
    · refine hv_iload_n X dX4_remainder_29 4 rfl ?_
      refine hv_iconst X (v := 0) dX4_remainder_30 (by decide) ?_
      refine hv_aload_n X dX4_remainder_31 1 rfl ?_
      refine hg_M_size X q1260 dX4_remainder_32 ?_
      refine hv_iload_n X dX4_remainder_35 2 rfl ?_
      refine hv_iald X h hd_ia49 dX4_remainder_36 (fun h => ?_)
      refine hv_iconst X (v := 1) dX4_remainder_37 (by decide) ?_
      refine hv_isub X dX4_remainder_38 ?_
      refine hv_cS X pk_M_isIn (hw_M_isIn _ E a3 0 ((hd_I S 49 a1.toNatClampNeg) - 1) S) q1319 dX4_remainder_39 (by decide) (by decide) (Nat.zero_le _) (Nat.zero_le _) rfl rfl (Nat.le_of_ble_eq_true rfl) rfl ?_
      refine hv_ifb_ne X 49 h dX4_remainder_42 (by decide) (fun h => ?_) (fun h => ?_)
      · refine hv_sub [(0, .ref (hd_ad E 38)), (1, .int a1), (2, .int a2), (3, .int a3), (4, .int r1)] [1, 2, 3, 4, 0] rfl ?_
        exact hw_M_remainder_49 X hr a1 a2 a3 r1 h
      · refine hv_sub [(0, .ref (hd_ad E 38)), (1, .int a1), (2, .int a2), (3, .int a3)] [1, 2, 3, 4] rfl ?_
        exact hw_M_remainder_45 X hr a1 a2 a3 h
theorem pk_M_remainder : hd_PkV RX4 yX4_remainder cX4_remainder 5 (some .int) 3 := ⟨q1647, q1648, q73, q1649, rfl, by decide +kernel, by decide +kernel, by decide +kernel⟩
-- put
def hf_M_put (a1 : Int32) (a2 : Int32) (a3 : Int32) (S : hd_St) : (Option (Int32 × hd_St)) :=
  (hf_M_wrongRow a1 (-1) S).bind fun r1 =>
    if r1 = 0 then
    (if hd_ck a1 8 = true then
    if (hf_M_isIn a2 0 ((hd_I S 49 a1.toNatClampNeg) - 1)) = true then
    (if hd_ck a1 8 = true then
    if (hd_I S 48 a1.toNatClampNeg) = 0 then
    (if hd_ck (((100 : Int32) * a1) + a2) 800 = true then
    hd_nm (hd_sI S 50 (((100 : Int32) * a1) + a2).toNatClampNeg a3.toInt8.toInt32) fun S5 =>
    some (0, S5)
    else none)
    else
    (if hd_ck a1 8 = true then
    if (hd_I S 48 a1.toNatClampNeg) = (1 : Int32) then
    (if hd_ck (((100 : Int32) * a1) + a2) 800 = true then
    hd_nm (hd_sI S 50 (((100 : Int32) * a1) + a2).toNatClampNeg a3.toInt16.toInt32) fun S4 =>
    some (0, S4)
    else none)
    else
    (if hd_ck (((100 : Int32) * a1) + a2) 800 = true then
    hd_nm (hd_sI S 50 (((100 : Int32) * a1) + a2).toNatClampNeg a3) fun S3 =>
    some (0, S3)
    else none)
    else none)
    else none)
    else
    (some ((-13), S))
    else none)
    else
    (some (r1, S))
theorem hw_M_put (l : Launch) (E : hd_EV) (a1 : Int32) (a2 : Int32) (a3 : Int32) (S : hd_St) (y : (Int32 × hd_St)) (h : hf_M_put a1 a2 a3 S = some y) : hd_Mt l E yX4_put cX4_put 5 (some .int) (hd_Rm 4 0 0) [.ref (hd_ad E 38), .int a1, .int a2, .int a3] S (some (.int y.1)) y.2 := by
  refine hd_Mt.start [(0, .ref (hd_ad E 38)), (1, .int a1), (2, .int a2), (3, .int a3)] hd_pnX4 rfl (Nat.le_of_ble_eq_true rfl) (fun κ X hl hr hn => ?_)
  have X : hd_Cx κ E cX4_put RX4 5 (hd_Rm 4 0 0) := X
  unfold hf_M_put at h
  refine hv_aload_n X dX4_put_0 0 rfl ?_
  refine hv_iload_n X dX4_put_1 1 rfl ?_
  refine hv_iconst X (v := (-1)) dX4_put_2 (by decide) ?_
  obtain ⟨r1, e2, h⟩ := hd_bind h
  refine hv_cV X pk_M_wrongRow hd_rcM (hw_M_wrongRow _ E a1 (-1) S r1 e2) q1312 dX4_put_3 (by decide) (by decide) (Nat.zero_le _) (Nat.zero_le _) rfl rfl (Nat.le_of_ble_eq_true rfl) rfl ?_
  refine hv_istore X [(4, .int r1), (0, .ref (hd_ad E 38)), (1, .int a1), (2, .int a2), (3, .int a3)] dX4_put_6 (by decide) rfl ?_
  refine hv_iload X dX4_put_8 0 rfl ?_
  refine hv_if_eq X 16 h dX4_put_10 (by decide) (fun h => ?_) (fun h => ?_)
  · refine hv_iload_n X dX4_put_16 3 rfl ?_
    refine hv_iconst X (v := 0) dX4_put_17 (by decide) ?_
    refine hv_aload_n X dX4_put_18 1 rfl ?_
    refine hg_M_size X q1260 dX4_put_19 ?_
    refine hv_iload_n X dX4_put_22 2 rfl ?_
    refine hv_iald X h hd_ia49 dX4_put_23 (fun h => ?_)
    refine hv_iconst X (v := 1) dX4_put_24 (by decide) ?_
    refine hv_isub X dX4_put_25 ?_
    refine hv_cS X pk_M_isIn (hw_M_isIn _ E a2 0 ((hd_I S 49 a1.toNatClampNeg) - 1) S) q1319 dX4_put_26 (by decide) (by decide) (Nat.zero_le _) (Nat.zero_le _) rfl rfl (Nat.le_of_ble_eq_true rfl) rfl ?_
    refine hv_ifb_ne X 35 h dX4_put_29 (by decide) (fun h => ?_) (fun h => ?_)
    · refine hv_aload_n X dX4_put_35 1 rfl ?_
      refine hg_M_element X q1261 dX4_put_36 ?_
      refine hv_bipush X (v := 100) dX4_put_39 (by decide) ?_
      refine hv_iload_n X dX4_put_41 2 rfl ?_
      refine hv_imul X dX4_put_42 ?_
      refine hv_iload_n X dX4_put_43 3 rfl ?_
      refine hv_iadd X dX4_put_44 ?_
      refine hv_aload_n X dX4_put_45 1 rfl ?_
      refine hg_M_sort X q1259 dX4_put_46 ?_
      refine hv_iload_n X dX4_put_49 2 rfl ?_
      refine hv_iald X h hd_ia48 dX4_put_50 (fun h => ?_)
      refine hv_if_ne X 59 h dX4_put_51 (by decide) (fun h => ?_) (fun h => ?_)
      · refine hv_aload_n X dX4_put_59 1 rfl ?_
        refine hg_M_sort X q1259 dX4_put_60 ?_
        refine hv_iload_n X dX4_put_63 2 rfl ?_
        refine hv_iald X h hd_ia48 dX4_put_64 (fun h => ?_)
        refine hv_iconst X (v := 1) dX4_put_65 (by decide) ?_
        refine hv_icmp_ne X 74 h dX4_put_66 (by decide) (fun h => ?_) (fun h => ?_)
        · refine hv_iload_n X dX4_put_74 4 rfl ?_
          refine hv_iast X h hd_ia50 dX4_put_75 (fun h => ?_)
          refine hv_nmS h (fun S3 h => ?_)
          refine hv_iconst X (v := 0) dX4_put_76 (by decide) ?_
          obtain rfl := Option.some.inj h
          exact hv_iret X hr dX4_put_77 (Nat.zero_le _) (Nat.zero_le _)
        · refine hv_iload_n X dX4_put_69 4 rfl ?_
          refine hv_i2s X dX4_put_70 ?_
          refine hv_goto X 75 dX4_put_71 (by decide) ?_
          refine hv_iast X h hd_ia50 dX4_put_75 (fun h => ?_)
          refine hv_nmS h (fun S4 h => ?_)
          refine hv_iconst X (v := 0) dX4_put_76 (by decide) ?_
          obtain rfl := Option.some.inj h
          exact hv_iret X hr dX4_put_77 (Nat.zero_le _) (Nat.zero_le _)
      · refine hv_iload_n X dX4_put_54 4 rfl ?_
        refine hv_i2b X dX4_put_55 ?_
        refine hv_goto X 75 dX4_put_56 (by decide) ?_
        refine hv_iast X h hd_ia50 dX4_put_75 (fun h => ?_)
        refine hv_nmS h (fun S5 h => ?_)
        refine hv_iconst X (v := 0) dX4_put_76 (by decide) ?_
        obtain rfl := Option.some.inj h
        exact hv_iret X hr dX4_put_77 (Nat.zero_le _) (Nat.zero_le _)
    · refine hv_bipush X (v := (-13)) dX4_put_32 (by decide) ?_
      obtain rfl := Option.some.inj h
      exact hv_iret X hr dX4_put_34 (Nat.zero_le _) (Nat.zero_le _)
  · refine hv_iload X dX4_put_13 0 rfl ?_
    obtain rfl := Option.some.inj h
    exact hv_iret X hr dX4_put_15 (Nat.zero_le _) (Nat.zero_le _)
theorem pk_M_put : hd_PkV RX4 yX4_put cX4_put 5 (some .int) 3 := ⟨q1695, q1696, q73, q1697, rfl, by decide +kernel, by decide +kernel, by decide +kernel⟩
-- hedge
def hf_M_hedge_93 : Nat → Int32 → Int32 → hd_St → (Option (Int32 × hd_St))
  | 0, _, _, _ => none
  | n + 1, x3, x4, S =>
    if x4 = 0 then
    (if (hd_I S 38 7) ≤ (hd_I S 38 5) then
    (if x4 = 0 then
    (some (x3, S))
    else
    (some (x4, S)))
    else
    (hd_nm (hd_I S 38 5) fun v11 =>
    (hf_M_here S).bind fun r12 =>
    (hf_M_readsStatement S).bind fun p14 =>
    (hf_M_isDone r12 p14.2).bind fun p16 =>
    if p16.1 = true then
    (hf_M_hedge_93 n x3 x4 p16.2)
    else
    (hd_nm ((-2000 : Int32) - v11) fun v18 =>
    (hf_M_copies 41 39 p16.2).bind fun S19 =>
    hf_M_hedge_93 n x3 v18 S19)))
    else
    (if x4 = 0 then
    (some (x3, S))
    else
    (some (x4, S)))
theorem hw_M_hedge_93 {κ : hd_VK} {E : hd_EV} (X : hd_Cx κ E cX4_hedge RX4 8 (hd_Rm 5 0 0)) (hr : (hd_kQ κ).sig.returnType = some .int) {y : (Int32 × hd_St)} : ∀ (n : Nat) (x3 : Int32) (x4 : Int32) (S : hd_St), hf_M_hedge_93 n x3 x4 S = some y → hd_V κ E 8 0 0 (hd_Qf κ E (some (.int y.1)) y.2) S 93 [(0, .ref (hd_ad E 38)), (3, .int x3), (4, .int x4)] [] := by
  intro n
  induction n with
  | zero => intro x3 x4 S h; have h : (none : Option (Int32 × hd_St)) = some y := h; cases h
  | succ n ih =>
    intro x3 x4 S h
    rw [hf_M_hedge_93] at h
    refine hv_iload X dX4_hedge_93 2 rfl ?_
    refine hv_if_ne X 161 h dX4_hedge_95 (by decide) (fun h => ?_) (fun h => ?_)
    · refine hv_iload X dX4_hedge_161 2 rfl ?_
      refine hv_if_ne X 170 h dX4_hedge_163 (by decide) (fun h => ?_) (fun h => ?_)
      · refine hv_iload X dX4_hedge_170 2 rfl ?_
        obtain rfl := Option.some.inj h
        exact hv_iret X hr dX4_hedge_172 (Nat.zero_le _) (Nat.zero_le _)
      · refine hv_iload_n X dX4_hedge_166 1 rfl ?_
        refine hv_goto X 172 dX4_hedge_167 (by decide) ?_
        obtain rfl := Option.some.inj h
        exact hv_iret X hr dX4_hedge_172 (Nat.zero_le _) (Nat.zero_le _)
    · refine hv_aload_n X dX4_hedge_98 0 rfl ?_
      refine hg_M_at X q1246 dX4_hedge_99 ?_
      refine hv_aload_n X dX4_hedge_102 0 rfl ?_
      refine hg_M_rowEnd X q1248 dX4_hedge_103 ?_
      refine hv_icmp_ge X 161 h dX4_hedge_106 (by decide) (fun h => ?_) (fun h => ?_)
      · refine hv_iload X dX4_hedge_161 2 rfl ?_
        refine hv_if_ne X 170 h dX4_hedge_163 (by decide) (fun h => ?_) (fun h => ?_)
        · refine hv_iload X dX4_hedge_170 2 rfl ?_
          obtain rfl := Option.some.inj h
          exact hv_iret X hr dX4_hedge_172 (Nat.zero_le _) (Nat.zero_le _)
        · refine hv_iload_n X dX4_hedge_166 1 rfl ?_
          refine hv_goto X 172 dX4_hedge_167 (by decide) ?_
          obtain rfl := Option.some.inj h
          exact hv_iret X hr dX4_hedge_172 (Nat.zero_le _) (Nat.zero_le _)
      · refine hv_aload_n X dX4_hedge_109 0 rfl ?_
        refine hg_M_at X q1246 dX4_hedge_110 ?_
        refine hv_nmI h (fun v11 h => ?_)
        refine hv_istore X [(5, .int v11), (0, .ref (hd_ad E 38)), (3, .int x3), (4, .int x4)] dX4_hedge_113 (by decide) rfl ?_
        refine hv_aload_n X dX4_hedge_115 1 rfl ?_
        obtain ⟨r12, e13, h⟩ := hd_bind h
        refine hv_cV X pk_M_here hd_rcM (hw_M_here _ E S r12 e13) q1326 dX4_hedge_116 (by decide) (by decide) (Nat.zero_le _) (Nat.zero_le _) rfl rfl (Nat.le_of_ble_eq_true rfl) rfl ?_
        refine hv_istore X [(6, .int r12), (5, .int v11), (0, .ref (hd_ad E 38)), (3, .int x3), (4, .int x4)] dX4_hedge_119 (by decide) rfl ?_
        refine hv_aload_n X dX4_hedge_121 2 rfl ?_
        obtain ⟨p14, e15, h⟩ := hd_bind h
        refine hv_cV X pk_M_readsStatement hd_rcM (hw_M_readsStatement _ E S p14 e15) q1322 dX4_hedge_122 (by decide) (by decide) (Nat.zero_le _) (Nat.zero_le _) rfl rfl (Nat.le_of_ble_eq_true rfl) rfl ?_
        refine hv_istore X [(7, .int (hd_bI p14.1)), (6, .int r12), (5, .int v11), (0, .ref (hd_ad E 38)), (3, .int x3), (4, .int x4)] dX4_hedge_125 (by decide) rfl ?_
        refine hv_aload_n X dX4_hedge_127 3 rfl ?_
        refine hv_iload X dX4_hedge_128 1 rfl ?_
        obtain ⟨p16, e17, h⟩ := hd_bind h
        refine hv_cV X pk_M_isDone hd_rcM (hw_M_isDone _ E r12 p14.2 p16 e17) q1337 dX4_hedge_130 (by decide) (by decide) (Nat.zero_le _) (Nat.zero_le _) rfl rfl (Nat.le_of_ble_eq_true rfl) rfl ?_
        refine hv_ifb_eq X 139 h dX4_hedge_133 (by decide) (fun h => ?_) (fun h => ?_)
        · refine hv_sipush X (v := (-2000)) dX4_hedge_139 (by decide) ?_
          refine hv_iload X dX4_hedge_142 2 rfl ?_
          refine hv_isub X dX4_hedge_144 ?_
          refine hv_nmI h (fun v18 h => ?_)
          refine hv_istore X [(4, .int v18), (7, .int (hd_bI p14.1)), (6, .int r12), (5, .int v11), (0, .ref (hd_ad E 38)), (3, .int x3)] dX4_hedge_145 (by decide) rfl ?_
          refine hv_aload_n X dX4_hedge_147 4 rfl ?_
          refine hg_M_was X q1243 dX4_hedge_148 ?_
          refine hv_aload_n X dX4_hedge_151 4 rfl ?_
          refine hg_M_s X q1241 dX4_hedge_152 ?_
          obtain ⟨S19, e20, h⟩ := hd_bind h
          refine hv_cS X pk_M_copies (hw_M_copies _ E 41 39 hd_ia41 hd_ia39 p16.2 S19 e20) q1334 dX4_hedge_155 (by decide) (by decide) (Nat.zero_le _) (Nat.zero_le _) rfl rfl (Nat.le_of_ble_eq_true rfl) rfl ?_
          refine hv_goto X 93 dX4_hedge_158 (by decide) ?_
          refine hv_sub [(0, .ref (hd_ad E 38)), (3, .int x3), (4, .int v18)] [4, 5, 0] rfl ?_
          exact ih x3 v18 S19 h
        · refine hv_goto X 93 dX4_hedge_136 (by decide) ?_
          refine hv_sub [(0, .ref (hd_ad E 38)), (3, .int x3), (4, .int x4)] [3, 4, 5] rfl ?_
          exact ih x3 x4 p16.2 h
def hf_M_hedge_77 (x3 : Int32) (x4 : Int32) (S : hd_St) : (Option (Int32 × hd_St)) :=
  (hf_M_copies 39 41 S).bind fun S8 =>
    hd_nm (hd_sI S8 38 5 0) fun S10 =>
    hf_M_hedge_93 hd_fuel x3 x4 S10
theorem hw_M_hedge_77 {κ : hd_VK} {E : hd_EV} (X : hd_Cx κ E cX4_hedge RX4 8 (hd_Rm 5 0 0)) (hr : (hd_kQ κ).sig.returnType = some .int) {y : (Int32 × hd_St)} (x3 : Int32) (x4 : Int32) (S : hd_St) (h : hf_M_hedge_77 x3 x4 S = some y) : hd_V κ E 8 0 0 (hd_Qf κ E (some (.int y.1)) y.2) S 77 [(0, .ref (hd_ad E 38)), (3, .int x3), (4, .int x4)] [] := by
  unfold hf_M_hedge_77 at h
  refine hv_aload_n X dX4_hedge_77 0 rfl ?_
  refine hg_M_s X q1241 dX4_hedge_78 ?_
  refine hv_aload_n X dX4_hedge_81 0 rfl ?_
  refine hg_M_was X q1243 dX4_hedge_82 ?_
  obtain ⟨S8, e9, h⟩ := hd_bind h
  refine hv_cS X pk_M_copies (hw_M_copies _ E 39 41 hd_ia39 hd_ia41 S S8 e9) q1334 dX4_hedge_85 (by decide) (by decide) (Nat.zero_le _) (Nat.zero_le _) rfl rfl (Nat.le_of_ble_eq_true rfl) rfl ?_
  refine hv_aload_n X dX4_hedge_88 0 rfl ?_
  refine hv_iconst X (v := 0) dX4_hedge_89 (by decide) ?_
  refine hp_M_at X q1246 dX4_hedge_90 ?_
  refine hv_nmS h (fun S10 h => ?_)
  exact hw_M_hedge_93 X hr hd_fuel x3 x4 S10 h
def hf_M_hedge_58 (K41 : Int32 → Int32 → hd_St → (Option (Int32 × hd_St))) (x3 : Int32) (x4 : Int32) (S : hd_St) : (Option (Int32 × hd_St)) :=
  if x4 = 0 then
    (if (hd_I S 38 5) < (hd_I S 38 7) then
    (K41 (x3 + 1) x4 S)
    else
    (hf_M_hedge_77 (x3 + 1) x4 S))
    else
    (hf_M_hedge_77 (x3 + 1) x4 S)
theorem hw_M_hedge_58 {κ : hd_VK} {E : hd_EV} (X : hd_Cx κ E cX4_hedge RX4 8 (hd_Rm 5 0 0)) (hr : (hd_kQ κ).sig.returnType = some .int) {y : (Int32 × hd_St)} (K41 : Int32 → Int32 → hd_St → (Option (Int32 × hd_St))) (hK41 : ∀ (x3 : Int32) (x4 : Int32) (S : hd_St), K41 x3 x4 S = some y → hd_V κ E 8 0 0 (hd_Qf κ E (some (.int y.1)) y.2) S 41 [(0, .ref (hd_ad E 38)), (3, .int x3), (4, .int x4)] []) (x3 : Int32) (x4 : Int32) (S : hd_St) (h : hf_M_hedge_58 K41 x3 x4 S = some y) : hd_V κ E 8 0 0 (hd_Qf κ E (some (.int y.1)) y.2) S 58 [(0, .ref (hd_ad E 38)), (3, .int x3), (4, .int x4)] [] := by
  unfold hf_M_hedge_58 at h
  refine hv_iinc X (v := 1) [(3, .int (x3 + 1)), (0, .ref (hd_ad E 38)), (4, .int x4)] dX4_hedge_58 1 rfl (by decide) (by decide) rfl ?_
  refine hv_iload X dX4_hedge_61 2 rfl ?_
  refine hv_if_ne X 77 h dX4_hedge_63 (by decide) (fun h => ?_) (fun h => ?_)
  · refine hv_sub [(0, .ref (hd_ad E 38)), (3, .int (x3 + 1)), (4, .int x4)] [1, 0, 2] rfl ?_
    exact hw_M_hedge_77 X hr (x3 + 1) x4 S h
  · refine hv_aload_n X dX4_hedge_66 1 rfl ?_
    refine hg_M_at X q1246 dX4_hedge_67 ?_
    refine hv_aload_n X dX4_hedge_70 1 rfl ?_
    refine hg_M_rowEnd X q1248 dX4_hedge_71 ?_
    refine hv_icmp_lt X 41 h dX4_hedge_74 (by decide) (fun h => ?_) (fun h => ?_)
    · refine hv_sub [(0, .ref (hd_ad E 38)), (3, .int (x3 + 1)), (4, .int x4)] [1, 0, 2] rfl ?_
      exact hK41 (x3 + 1) x4 S h
    · refine hv_sub [(0, .ref (hd_ad E 38)), (3, .int (x3 + 1)), (4, .int x4)] [1, 0, 2] rfl ?_
      exact hw_M_hedge_77 X hr (x3 + 1) x4 S h
def hf_M_hedge_41 : Nat → Int32 → Int32 → hd_St → (Option (Int32 × hd_St))
  | 0, _, _, _ => none
  | n + 1, x3, x4, S =>
    (hf_M_readsStatement S).bind fun p6 =>
    if p6.1 = true then
    (hf_M_hedge_58 (hf_M_hedge_41 n) x3 x4 p6.2)
    else
    (hd_nm ((-1000 : Int32) - (hd_I p6.2 38 5)) fun v21 =>
    hf_M_hedge_58 (hf_M_hedge_41 n) x3 v21 p6.2)
theorem hw_M_hedge_41 {κ : hd_VK} {E : hd_EV} (X : hd_Cx κ E cX4_hedge RX4 8 (hd_Rm 5 0 0)) (hr : (hd_kQ κ).sig.returnType = some .int) {y : (Int32 × hd_St)} : ∀ (n : Nat) (x3 : Int32) (x4 : Int32) (S : hd_St), hf_M_hedge_41 n x3 x4 S = some y → hd_V κ E 8 0 0 (hd_Qf κ E (some (.int y.1)) y.2) S 41 [(0, .ref (hd_ad E 38)), (3, .int x3), (4, .int x4)] [] := by
  intro n
  induction n with
  | zero => intro x3 x4 S h; have h : (none : Option (Int32 × hd_St)) = some y := h; cases h
  | succ n ih =>
    intro x3 x4 S h
    rw [hf_M_hedge_41] at h
    refine hv_aload_n X dX4_hedge_41 0 rfl ?_
    obtain ⟨p6, e7, h⟩ := hd_bind h
    refine hv_cV X pk_M_readsStatement hd_rcM (hw_M_readsStatement _ E S p6 e7) q1322 dX4_hedge_42 (by decide) (by decide) (Nat.zero_le _) (Nat.zero_le _) rfl rfl (Nat.le_of_ble_eq_true rfl) rfl ?_
    refine hv_ifb_ne X 58 h dX4_hedge_45 (by decide) (fun h => ?_) (fun h => ?_)
    · exact hw_M_hedge_58 X hr (hf_M_hedge_41 n) ih x3 x4 p6.2 h
    · refine hv_sipush X (v := (-1000)) dX4_hedge_48 (by decide) ?_
      refine hv_aload_n X dX4_hedge_51 0 rfl ?_
      refine hg_M_at X q1246 dX4_hedge_52 ?_
      refine hv_isub X dX4_hedge_55 ?_
      refine hv_nmI h (fun v21 h => ?_)
      refine hv_istore X [(4, .int v21), (0, .ref (hd_ad E 38)), (3, .int x3)] dX4_hedge_56 (by decide) rfl ?_
      refine hv_sub [(0, .ref (hd_ad E 38)), (3, .int x3), (4, .int v21)] [1, 2, 0] rfl ?_
      exact hw_M_hedge_58 X hr (hf_M_hedge_41 n) ih x3 v21 p6.2 h
def hf_M_hedge (a1 : Int32) (S : hd_St) : (Option (Int32 × hd_St)) :=
  (hf_M_wrongRow a1 0 S).bind fun r1 =>
    if r1 = 0 then
    (hd_nm (hd_sI S 38 6 ((100 : Int32) * a1)) fun S3 =>
    if hd_ck a1 8 = true then
    hd_nm (hd_sI S3 38 7 (hd_I S3 49 a1.toNatClampNeg)) fun S4 =>
    hd_nm (hd_sI S4 38 5 0) fun S5 =>
    hf_M_hedge_41 hd_fuel 0 0 S5
    else none)
    else
    (some (r1, S))
theorem hw_M_hedge (l : Launch) (E : hd_EV) (a1 : Int32) (S : hd_St) (y : (Int32 × hd_St)) (h : hf_M_hedge a1 S = some y) : hd_Mt l E yX4_hedge cX4_hedge 8 (some .int) (hd_Rm 5 0 0) [.ref (hd_ad E 38), .int a1] S (some (.int y.1)) y.2 := by
  refine hd_Mt.start [(0, .ref (hd_ad E 38)), (1, .int a1)] hd_pnX4 rfl (Nat.le_of_ble_eq_true rfl) (fun κ X hl hr hn => ?_)
  have X : hd_Cx κ E cX4_hedge RX4 8 (hd_Rm 5 0 0) := X
  unfold hf_M_hedge at h
  refine hv_aload_n X dX4_hedge_0 0 rfl ?_
  refine hv_iload_n X dX4_hedge_1 1 rfl ?_
  refine hv_iconst X (v := 0) dX4_hedge_2 (by decide) ?_
  obtain ⟨r1, e2, h⟩ := hd_bind h
  refine hv_cV X pk_M_wrongRow hd_rcM (hw_M_wrongRow _ E a1 0 S r1 e2) q1312 dX4_hedge_3 (by decide) (by decide) (Nat.zero_le _) (Nat.zero_le _) rfl rfl (Nat.le_of_ble_eq_true rfl) rfl ?_
  refine hv_istore_n X [(2, .int r1), (0, .ref (hd_ad E 38)), (1, .int a1)] dX4_hedge_6 (by decide) rfl ?_
  refine hv_iload_n X dX4_hedge_7 0 rfl ?_
  refine hv_if_eq X 13 h dX4_hedge_8 (by decide) (fun h => ?_) (fun h => ?_)
  · refine hv_aload_n X dX4_hedge_13 1 rfl ?_
    refine hv_bipush X (v := 100) dX4_hedge_14 (by decide) ?_
    refine hv_iload_n X dX4_hedge_16 2 rfl ?_
    refine hv_imul X dX4_hedge_17 ?_
    refine hp_M_rowAt X q1247 dX4_hedge_18 ?_
    refine hv_nmS h (fun S3 h => ?_)
    refine hv_aload_n X dX4_hedge_21 1 rfl ?_
    refine hv_aload_n X dX4_hedge_22 1 rfl ?_
    refine hg_M_size X q1260 dX4_hedge_23 ?_
    refine hv_iload_n X dX4_hedge_26 2 rfl ?_
    refine hv_iald X h hd_ia49 dX4_hedge_27 (fun h => ?_)
    refine hp_M_rowEnd X q1248 dX4_hedge_28 ?_
    refine hv_nmS h (fun S4 h => ?_)
    refine hv_aload_n X dX4_hedge_31 1 rfl ?_
    refine hv_iconst X (v := 0) dX4_hedge_32 (by decide) ?_
    refine hp_M_at X q1246 dX4_hedge_33 ?_
    refine hv_nmS h (fun S5 h => ?_)
    refine hv_iconst X (v := 0) dX4_hedge_36 (by decide) ?_
    refine hv_istore_n X [(3, .int 0), (2, .int r1), (0, .ref (hd_ad E 38)), (1, .int a1)] dX4_hedge_37 (by decide) rfl ?_
    refine hv_iconst X (v := 0) dX4_hedge_38 (by decide) ?_
    refine hv_istore X [(4, .int 0), (3, .int 0), (2, .int r1), (0, .ref (hd_ad E 38)), (1, .int a1)] dX4_hedge_39 (by decide) rfl ?_
    refine hv_sub [(0, .ref (hd_ad E 38)), (3, .int 0), (4, .int 0)] [3, 1, 0] rfl ?_
    exact hw_M_hedge_41 X hr hd_fuel 0 0 S5 h
  · refine hv_iload_n X dX4_hedge_11 0 rfl ?_
    obtain rfl := Option.some.inj h
    exact hv_iret X hr dX4_hedge_12 (Nat.zero_le _) (Nat.zero_le _)
theorem pk_M_hedge : hd_PkV RX4 yX4_hedge cX4_hedge 8 (some .int) 1 := ⟨q1309, q1310, q73, q1311, rfl, by decide +kernel, by decide +kernel, by decide +kernel⟩
-- span
def hf_M_span (a1 : Int32) (a2 : Int32) (a3 : Int32) (a4 : Int32) (S : hd_St) : (Option Int32) :=
  (hf_M_areAll a1 a2 a3 S).bind fun r1 =>
    if r1 = true then
    (if (hf_M_isIn a4 0 3) = true then
    (if a4 = 0 then
    ((hf_M_low a1 a2 a3 S).bind fun r9 =>
    some r9)
    else
    (if a4 = (1 : Int32) then
    ((hf_M_high a1 a2 a3 S).bind fun r7 =>
    some r7)
    else
    (if a4 = (2 : Int32) then
    ((hf_M_softest a2 a3 S).bind fun r5 =>
    some r5)
    else
    ((hf_M_hardest a2 a3 S).bind fun r3 =>
    some r3))))
    else
    (some (-1)))
    else
    (some (-1))
theorem hw_M_span (l : Launch) (E : hd_EV) (a1 : Int32) (a2 : Int32) (a3 : Int32) (a4 : Int32) (S : hd_St) (y : Int32) (h : hf_M_span a1 a2 a3 a4 S = some y) : hd_Mt l E yX4_span cX4_span 5 (some .int) (hd_Rm 5 0 0) [.ref (hd_ad E 38), .int a1, .int a2, .int a3, .int a4] S (some (.int y)) S := by
  refine hd_Mt.start [(0, .ref (hd_ad E 38)), (1, .int a1), (2, .int a2), (3, .int a3), (4, .int a4)] hd_pnX4 rfl (Nat.le_of_ble_eq_true rfl) (fun κ X hl hr hn => ?_)
  have X : hd_Cx κ E cX4_span RX4 5 (hd_Rm 5 0 0) := X
  unfold hf_M_span at h
  refine hv_aload_n X dX4_span_0 0 rfl ?_
  refine hv_iload_n X dX4_span_1 1 rfl ?_
  refine hv_iload_n X dX4_span_2 2 rfl ?_
  refine hv_iload_n X dX4_span_3 3 rfl ?_
  obtain ⟨r1, e2, h⟩ := hd_bind h
  refine hv_cV X pk_M_areAll hd_rcM (hw_M_areAll _ E a1 a2 a3 S r1 e2) q1365 dX4_span_4 (by decide) (by decide) (Nat.zero_le _) (Nat.zero_le _) rfl rfl (Nat.le_of_ble_eq_true rfl) rfl ?_
  refine hv_ifb_eq X 20 h dX4_span_7 (by decide) (fun h => ?_) (fun h => ?_)
  · refine hv_iconst X (v := (-1)) dX4_span_20 (by decide) ?_
    obtain rfl := Option.some.inj h
    exact hv_iret X hr dX4_span_21 (Nat.zero_le _) (Nat.zero_le _)
  · refine hv_iload X dX4_span_10 4 rfl ?_
    refine hv_iconst X (v := 0) dX4_span_12 (by decide) ?_
    refine hv_iconst X (v := 3) dX4_span_13 (by decide) ?_
    refine hv_cS X pk_M_isIn (hw_M_isIn _ E a4 0 3 S) q1319 dX4_span_14 (by decide) (by decide) (Nat.zero_le _) (Nat.zero_le _) rfl rfl (Nat.le_of_ble_eq_true rfl) rfl ?_
    refine hv_ifb_ne X 22 h dX4_span_17 (by decide) (fun h => ?_) (fun h => ?_)
    · refine hv_iload X dX4_span_22 4 rfl ?_
      refine hv_if_ne X 37 h dX4_span_24 (by decide) (fun h => ?_) (fun h => ?_)
      · refine hv_iload X dX4_span_37 4 rfl ?_
        refine hv_iconst X (v := 1) dX4_span_39 (by decide) ?_
        refine hv_icmp_ne X 53 h dX4_span_40 (by decide) (fun h => ?_) (fun h => ?_)
        · refine hv_iload X dX4_span_53 4 rfl ?_
          refine hv_iconst X (v := 2) dX4_span_55 (by decide) ?_
          refine hv_icmp_ne X 68 h dX4_span_56 (by decide) (fun h => ?_) (fun h => ?_)
          · refine hv_aload_n X dX4_span_68 0 rfl ?_
            refine hv_iload_n X dX4_span_69 2 rfl ?_
            refine hv_iload_n X dX4_span_70 3 rfl ?_
            obtain ⟨r3, e4, h⟩ := hd_bind h
            refine hv_cV X pk_M_hardest hd_rcM (hw_M_hardest _ E a2 a3 S r3 e4) q1463 dX4_span_71 (by decide) (by decide) (Nat.zero_le _) (Nat.zero_le _) rfl rfl (Nat.le_of_ble_eq_true rfl) rfl ?_
            obtain rfl := Option.some.inj h
            exact hv_iret X hr dX4_span_74 (Nat.zero_le _) (Nat.zero_le _)
          · refine hv_aload_n X dX4_span_59 0 rfl ?_
            refine hv_iload_n X dX4_span_60 2 rfl ?_
            refine hv_iload_n X dX4_span_61 3 rfl ?_
            obtain ⟨r5, e6, h⟩ := hd_bind h
            refine hv_cV X pk_M_softest hd_rcM (hw_M_softest _ E a2 a3 S r5 e6) q1459 dX4_span_62 (by decide) (by decide) (Nat.zero_le _) (Nat.zero_le _) rfl rfl (Nat.le_of_ble_eq_true rfl) rfl ?_
            refine hv_goto X 74 dX4_span_65 (by decide) ?_
            obtain rfl := Option.some.inj h
            exact hv_iret X hr dX4_span_74 (Nat.zero_le _) (Nat.zero_le _)
        · refine hv_aload_n X dX4_span_43 0 rfl ?_
          refine hv_iload_n X dX4_span_44 1 rfl ?_
          refine hv_iload_n X dX4_span_45 2 rfl ?_
          refine hv_iload_n X dX4_span_46 3 rfl ?_
          obtain ⟨r7, e8, h⟩ := hd_bind h
          refine hv_cV X pk_M_high hd_rcM (hw_M_high _ E a1 a2 a3 S r7 e8) q1455 dX4_span_47 (by decide) (by decide) (Nat.zero_le _) (Nat.zero_le _) rfl rfl (Nat.le_of_ble_eq_true rfl) rfl ?_
          refine hv_goto X 74 dX4_span_50 (by decide) ?_
          obtain rfl := Option.some.inj h
          exact hv_iret X hr dX4_span_74 (Nat.zero_le _) (Nat.zero_le _)
      · refine hv_aload_n X dX4_span_27 0 rfl ?_
        refine hv_iload_n X dX4_span_28 1 rfl ?_
        refine hv_iload_n X dX4_span_29 2 rfl ?_
        refine hv_iload_n X dX4_span_30 3 rfl ?_
        obtain ⟨r9, e10, h⟩ := hd_bind h
        refine hv_cV X pk_M_low hd_rcM (hw_M_low _ E a1 a2 a3 S r9 e10) q1440 dX4_span_31 (by decide) (by decide) (Nat.zero_le _) (Nat.zero_le _) rfl rfl (Nat.le_of_ble_eq_true rfl) rfl ?_
        refine hv_goto X 74 dX4_span_34 (by decide) ?_
        obtain rfl := Option.some.inj h
        exact hv_iret X hr dX4_span_74 (Nat.zero_le _) (Nat.zero_le _)
    · refine hv_iconst X (v := (-1)) dX4_span_20 (by decide) ?_
      obtain rfl := Option.some.inj h
      exact hv_iret X hr dX4_span_21 (Nat.zero_le _) (Nat.zero_le _)
theorem pk_M_span : hd_PkV RX4 yX4_span cX4_span 5 (some .int) 4 := ⟨q1437, q1438, q73, q1439, rfl, by decide +kernel, by decide +kernel, by decide +kernel⟩
-- isSound
def hf_M_isSound (a1 : Int32) (a2 : Int32) (a3 : Int32) (a4 : Int32) (a5 : Int32) (S : hd_St) : (Option Bool) :=
  (hf_M_isTight a1 a2 a3 a4 S).bind fun r1 =>
    if r1 = true then
    ((hf_M_isHard a2 a3 a5 S).bind fun r3 =>
    if r3 = true then
    (some true)
    else
    (some false))
    else
    (some false)
theorem hw_M_isSound (l : Launch) (E : hd_EV) (a1 : Int32) (a2 : Int32) (a3 : Int32) (a4 : Int32) (a5 : Int32) (S : hd_St) (y : Bool) (h : hf_M_isSound a1 a2 a3 a4 a5 S = some y) : hd_Mt l E yX4_isSound cX4_isSound 6 (some .boolean) (hd_Rm 6 0 0) [.ref (hd_ad E 38), .int a1, .int a2, .int a3, .int a4, .int a5] S (some (.int (hd_bI y))) S := by
  refine hd_Mt.start [(0, .ref (hd_ad E 38)), (1, .int a1), (2, .int a2), (3, .int a3), (4, .int a4), (5, .int a5)] hd_pnX4 rfl (Nat.le_of_ble_eq_true rfl) (fun κ X hl hr hn => ?_)
  have X : hd_Cx κ E cX4_isSound RX4 6 (hd_Rm 6 0 0) := X
  unfold hf_M_isSound at h
  refine hv_aload_n X dX4_isSound_0 0 rfl ?_
  refine hv_iload_n X dX4_isSound_1 1 rfl ?_
  refine hv_iload_n X dX4_isSound_2 2 rfl ?_
  refine hv_iload_n X dX4_isSound_3 3 rfl ?_
  refine hv_iload X dX4_isSound_4 4 rfl ?_
  obtain ⟨r1, e2, h⟩ := hd_bind h
  refine hv_cV X pk_M_isTight hd_rcM (hw_M_isTight _ E a1 a2 a3 a4 S r1 e2) q1479 dX4_isSound_6 (by decide) (by decide) (Nat.zero_le _) (Nat.zero_le _) rfl rfl (Nat.le_of_ble_eq_true rfl) rfl ?_
  refine hv_ifb_eq X 27 h dX4_isSound_9 (by decide) (fun h => ?_) (fun h => ?_)
  · refine hv_iconst X (v := 0) dX4_isSound_27 (by decide) ?_
    obtain rfl := Option.some.inj h
    exact hv_zret X hr rfl dX4_isSound_28 (Nat.zero_le _) (Nat.zero_le _)
  · refine hv_aload_n X dX4_isSound_12 0 rfl ?_
    refine hv_iload_n X dX4_isSound_13 2 rfl ?_
    refine hv_iload_n X dX4_isSound_14 3 rfl ?_
    refine hv_iload X dX4_isSound_15 5 rfl ?_
    obtain ⟨r3, e4, h⟩ := hd_bind h
    refine hv_cV X pk_M_isHard hd_rcM (hw_M_isHard _ E a2 a3 a5 S r3 e4) q1487 dX4_isSound_17 (by decide) (by decide) (Nat.zero_le _) (Nat.zero_le _) rfl rfl (Nat.le_of_ble_eq_true rfl) rfl ?_
    refine hv_ifb_eq X 27 h dX4_isSound_20 (by decide) (fun h => ?_) (fun h => ?_)
    · refine hv_iconst X (v := 0) dX4_isSound_27 (by decide) ?_
      obtain rfl := Option.some.inj h
      exact hv_zret X hr rfl dX4_isSound_28 (Nat.zero_le _) (Nat.zero_le _)
    · refine hv_iconst X (v := 1) dX4_isSound_23 (by decide) ?_
      refine hv_goto X 28 dX4_isSound_24 (by decide) ?_
      obtain rfl := Option.some.inj h
      exact hv_zret X hr rfl dX4_isSound_28 (Nat.zero_le _) (Nat.zero_le _)
theorem pk_M_isSound : hd_PkV RX4 yX4_isSound cX4_isSound 6 (some .boolean) 5 := ⟨q1477, qs53, q73, q1478, rfl, by decide +kernel, by decide +kernel, by decide +kernel⟩
-- tries
def hf_M_tries_66 (x1 : Int32) (t0 : Int32) (S : hd_St) : (Option (Int32 × hd_St)) :=
  (hf_M_isSplit x1 S).bind fun r11 =>
    if r11 = true then
    (some ((t0 + 2), S))
    else
    (some ((t0 + 0), S))
theorem hw_M_tries_66 {κ : hd_VK} {E : hd_EV} (X : hd_Cx κ E cX4_tries RX4 6 (hd_Rm 7 0 0)) (hr : (hd_kQ κ).sig.returnType = some .int) {y : (Int32 × hd_St)} (x1 : Int32) (t0 : Int32) (S : hd_St) (h : hf_M_tries_66 x1 t0 S = some y) : hd_V κ E 6 0 0 (hd_Qf κ E (some (.int y.1)) y.2) S 66 [(0, .ref (hd_ad E 38)), (1, .int x1)] [.int t0] := by
  unfold hf_M_tries_66 at h
  refine hv_aload_n X dX4_tries_66 0 rfl ?_
  refine hv_iload_n X dX4_tries_67 1 rfl ?_
  obtain ⟨r11, e12, h⟩ := hd_bind h
  refine hv_cV X pk_M_isSplit hd_rcM (hw_M_isSplit _ E x1 S r11 e12) q1381 dX4_tries_68 (by decide) (by decide) (Nat.zero_le _) (Nat.zero_le _) rfl rfl (Nat.le_of_ble_eq_true rfl) rfl ?_
  refine hv_ifb_eq X 78 h dX4_tries_71 (by decide) (fun h => ?_) (fun h => ?_)
  · refine hv_iconst X (v := 0) dX4_tries_78 (by decide) ?_
    refine hv_iadd X dX4_tries_79 ?_
    obtain rfl := Option.some.inj h
    exact hv_iret X hr dX4_tries_80 (Nat.zero_le _) (Nat.zero_le _)
  · refine hv_iconst X (v := 2) dX4_tries_74 (by decide) ?_
    refine hv_goto X 79 dX4_tries_75 (by decide) ?_
    refine hv_iadd X dX4_tries_79 ?_
    obtain rfl := Option.some.inj h
    exact hv_iret X hr dX4_tries_80 (Nat.zero_le _) (Nat.zero_le _)
def hf_M_tries (a1 : Int32) (a2 : Int32) (a3 : Int32) (a4 : Int32) (a5 : Int32) (S : hd_St) : (Option (Int32 × hd_St)) :=
  (hf_M_isTold a1 a2 a3 a4 a5 S).bind fun r1 =>
    if r1 = true then
    ((hf_M_isSplit a1 S).bind fun r3 =>
    if r3 = true then
    (some ((-3), S))
    else
    (hd_nm (hf_M_atBlade a1 3) fun v5 =>
    if hd_ck v5 47 = true then
    (hf_M_wears a3 a5 S).bind fun r6 =>
    if hd_ck v5 47 = true then
    hd_nm (hd_sI S 39 v5.toNatClampNeg ((hd_I S 39 v5.toNatClampNeg) + r6)) fun S8 =>
    (hf_M_isSound a1 a2 a3 a4 a5 S8).bind fun r9 =>
    if r9 = true then
    (hf_M_tries_66 a1 1 S8)
    else
    (hf_M_tries_66 a1 0 S8)
    else none
    else none))
    else
    (some ((-1), S))
theorem hw_M_tries (l : Launch) (E : hd_EV) (a1 : Int32) (a2 : Int32) (a3 : Int32) (a4 : Int32) (a5 : Int32) (S : hd_St) (y : (Int32 × hd_St)) (h : hf_M_tries a1 a2 a3 a4 a5 S = some y) : hd_Mt l E yX4_tries cX4_tries 6 (some .int) (hd_Rm 7 0 0) [.ref (hd_ad E 38), .int a1, .int a2, .int a3, .int a4, .int a5] S (some (.int y.1)) y.2 := by
  refine hd_Mt.start [(0, .ref (hd_ad E 38)), (1, .int a1), (2, .int a2), (3, .int a3), (4, .int a4), (5, .int a5)] hd_pnX4 rfl (Nat.le_of_ble_eq_true rfl) (fun κ X hl hr hn => ?_)
  have X : hd_Cx κ E cX4_tries RX4 6 (hd_Rm 7 0 0) := X
  unfold hf_M_tries at h
  refine hv_aload_n X dX4_tries_0 0 rfl ?_
  refine hv_iload_n X dX4_tries_1 1 rfl ?_
  refine hv_iload_n X dX4_tries_2 2 rfl ?_
  refine hv_iload_n X dX4_tries_3 3 rfl ?_
  refine hv_iload X dX4_tries_4 4 rfl ?_
  refine hv_iload X dX4_tries_6 5 rfl ?_
  obtain ⟨r1, e2, h⟩ := hd_bind h
  refine hv_cV X pk_M_isTold hd_rcM (hw_M_isTold _ E a1 a2 a3 a4 a5 S r1 e2) q1471 dX4_tries_8 (by decide) (by decide) (Nat.zero_le _) (Nat.zero_le _) rfl rfl (Nat.le_of_ble_eq_true rfl) rfl ?_
  refine hv_ifb_ne X 16 h dX4_tries_11 (by decide) (fun h => ?_) (fun h => ?_)
  · refine hv_aload_n X dX4_tries_16 0 rfl ?_
    refine hv_iload_n X dX4_tries_17 1 rfl ?_
    obtain ⟨r3, e4, h⟩ := hd_bind h
    refine hv_cV X pk_M_isSplit hd_rcM (hw_M_isSplit _ E a1 S r3 e4) q1381 dX4_tries_18 (by decide) (by decide) (Nat.zero_le _) (Nat.zero_le _) rfl rfl (Nat.le_of_ble_eq_true rfl) rfl ?_
    refine hv_ifb_eq X 27 h dX4_tries_21 (by decide) (fun h => ?_) (fun h => ?_)
    · refine hv_aload_n X dX4_tries_27 0 rfl ?_
      refine hg_M_s X q1241 dX4_tries_28 ?_
      refine hv_iload_n X dX4_tries_31 1 rfl ?_
      refine hv_iconst X (v := 3) dX4_tries_32 (by decide) ?_
      refine hv_cS X pk_M_atBlade (hw_M_atBlade _ E a1 3 S) q1348 dX4_tries_33 (by decide) (by decide) (Nat.zero_le _) (Nat.zero_le _) rfl rfl (Nat.le_of_ble_eq_true rfl) rfl ?_
      refine hv_nmI h (fun v5 h => ?_)
      refine hv_dup2 X dX4_tries_36 rfl rfl ?_
      refine hv_iald X h hd_ia39 dX4_tries_37 (fun h => ?_)
      refine hv_aload_n X dX4_tries_38 0 rfl ?_
      refine hv_iload_n X dX4_tries_39 3 rfl ?_
      refine hv_iload X dX4_tries_40 5 rfl ?_
      obtain ⟨r6, e7, h⟩ := hd_bind h
      refine hv_cV X pk_M_wears hd_rcM (hw_M_wears _ E a3 a5 S r6 e7) q1389 dX4_tries_42 (by decide) (by decide) (Nat.zero_le _) (Nat.zero_le _) rfl rfl (Nat.le_of_ble_eq_true rfl) rfl ?_
      refine hv_iadd X dX4_tries_45 ?_
      refine hv_iast X h hd_ia39 dX4_tries_46 (fun h => ?_)
      refine hv_nmS h (fun S8 h => ?_)
      refine hv_aload_n X dX4_tries_47 0 rfl ?_
      refine hv_iload_n X dX4_tries_48 1 rfl ?_
      refine hv_iload_n X dX4_tries_49 2 rfl ?_
      refine hv_iload_n X dX4_tries_50 3 rfl ?_
      refine hv_iload X dX4_tries_51 4 rfl ?_
      refine hv_iload X dX4_tries_53 5 rfl ?_
      obtain ⟨r9, e10, h⟩ := hd_bind h
      refine hv_cV X pk_M_isSound hd_rcM (hw_M_isSound _ E a1 a2 a3 a4 a5 S8 r9 e10) q1475 dX4_tries_55 (by decide) (by decide) (Nat.zero_le _) (Nat.zero_le _) rfl rfl (Nat.le_of_ble_eq_true rfl) rfl ?_
      refine hv_ifb_eq X 65 h dX4_tries_58 (by decide) (fun h => ?_) (fun h => ?_)
      · refine hv_iconst X (v := 0) dX4_tries_65 (by decide) ?_
        refine hv_sub [(0, .ref (hd_ad E 38)), (1, .int a1)] [0, 1] rfl ?_
        exact hw_M_tries_66 X hr a1 0 S8 h
      · refine hv_iconst X (v := 1) dX4_tries_61 (by decide) ?_
        refine hv_goto X 66 dX4_tries_62 (by decide) ?_
        refine hv_sub [(0, .ref (hd_ad E 38)), (1, .int a1)] [0, 1] rfl ?_
        exact hw_M_tries_66 X hr a1 1 S8 h
    · refine hv_bipush X (v := (-3)) dX4_tries_24 (by decide) ?_
      obtain rfl := Option.some.inj h
      exact hv_iret X hr dX4_tries_26 (Nat.zero_le _) (Nat.zero_le _)
  · refine hv_iconst X (v := (-1)) dX4_tries_14 (by decide) ?_
    obtain rfl := Option.some.inj h
    exact hv_iret X hr dX4_tries_15 (Nat.zero_le _) (Nat.zero_le _)
theorem pk_M_tries : hd_PkV RX4 yX4_tries cX4_tries 6 (some .int) 5 := ⟨q1501, q1502, q73, q1503, rfl, by decide +kernel, by decide +kernel, by decide +kernel⟩
-- where
def hf_M_where (a1 : Int32) (a2 : Int32) (a3 : Int32) (a4 : Int32) (S : hd_St) : (Option (Int32 × hd_St)) :=
  (hf_M_areAll a1 a2 a3 S).bind fun r1 =>
    if r1 = true then
    (if (hf_M_isIn a4 0 2) = true then
    ((hf_M_looks a1 a2 a3 S).bind fun S3 =>
    if a4 = 0 then
    (some ((hd_I S3 38 9), S3))
    else
    (if a4 = (1 : Int32) then
    (some ((hd_I S3 38 10), S3))
    else
    (some ((hd_I S3 38 11), S3))))
    else
    (some ((-1), S)))
    else
    (some ((-1), S))
theorem hw_M_where (l : Launch) (E : hd_EV) (a1 : Int32) (a2 : Int32) (a3 : Int32) (a4 : Int32) (S : hd_St) (y : (Int32 × hd_St)) (h : hf_M_where a1 a2 a3 a4 S = some y) : hd_Mt l E yX4_where cX4_where 5 (some .int) (hd_Rm 7 0 0) [.ref (hd_ad E 38), .int a1, .int a2, .int a3, .int a4] S (some (.int y.1)) y.2 := by
  refine hd_Mt.start [(0, .ref (hd_ad E 38)), (1, .int a1), (2, .int a2), (3, .int a3), (4, .int a4)] hd_pnX4 rfl (Nat.le_of_ble_eq_true rfl) (fun κ X hl hr hn => ?_)
  have X : hd_Cx κ E cX4_where RX4 5 (hd_Rm 7 0 0) := X
  unfold hf_M_where at h
  refine hv_aload_n X dX4_where_0 0 rfl ?_
  refine hv_iload_n X dX4_where_1 1 rfl ?_
  refine hv_iload_n X dX4_where_2 2 rfl ?_
  refine hv_iload_n X dX4_where_3 3 rfl ?_
  obtain ⟨r1, e2, h⟩ := hd_bind h
  refine hv_cV X pk_M_areAll hd_rcM (hw_M_areAll _ E a1 a2 a3 S r1 e2) q1365 dX4_where_4 (by decide) (by decide) (Nat.zero_le _) (Nat.zero_le _) rfl rfl (Nat.le_of_ble_eq_true rfl) rfl ?_
  refine hv_ifb_eq X 20 h dX4_where_7 (by decide) (fun h => ?_) (fun h => ?_)
  · refine hv_iconst X (v := (-1)) dX4_where_20 (by decide) ?_
    obtain rfl := Option.some.inj h
    exact hv_iret X hr dX4_where_21 (Nat.zero_le _) (Nat.zero_le _)
  · refine hv_iload X dX4_where_10 4 rfl ?_
    refine hv_iconst X (v := 0) dX4_where_12 (by decide) ?_
    refine hv_iconst X (v := 2) dX4_where_13 (by decide) ?_
    refine hv_cS X pk_M_isIn (hw_M_isIn _ E a4 0 2 S) q1319 dX4_where_14 (by decide) (by decide) (Nat.zero_le _) (Nat.zero_le _) rfl rfl (Nat.le_of_ble_eq_true rfl) rfl ?_
    refine hv_ifb_ne X 22 h dX4_where_17 (by decide) (fun h => ?_) (fun h => ?_)
    · refine hv_aload_n X dX4_where_22 0 rfl ?_
      refine hv_iload_n X dX4_where_23 1 rfl ?_
      refine hv_iload_n X dX4_where_24 2 rfl ?_
      refine hv_iload_n X dX4_where_25 3 rfl ?_
      obtain ⟨S3, e4, h⟩ := hd_bind h
      refine hv_cV X pk_M_looks hd_rcM (hw_M_looks _ E a1 a2 a3 S S3 e4) q1508 dX4_where_26 (by decide) (by decide) (Nat.zero_le _) (Nat.zero_le _) rfl rfl (Nat.le_of_ble_eq_true rfl) rfl ?_
      refine hv_iload X dX4_where_29 4 rfl ?_
      refine hv_if_ne X 41 h dX4_where_31 (by decide) (fun h => ?_) (fun h => ?_)
      · refine hv_iload X dX4_where_41 4 rfl ?_
        refine hv_iconst X (v := 1) dX4_where_43 (by decide) ?_
        refine hv_icmp_ne X 54 h dX4_where_44 (by decide) (fun h => ?_) (fun h => ?_)
        · refine hv_aload_n X dX4_where_54 0 rfl ?_
          refine hg_M_leastForce X q1252 dX4_where_55 ?_
          obtain rfl := Option.some.inj h
          exact hv_iret X hr dX4_where_58 (Nat.zero_le _) (Nat.zero_le _)
        · refine hv_aload_n X dX4_where_47 0 rfl ?_
          refine hg_M_leastTight X q1251 dX4_where_48 ?_
          refine hv_goto X 58 dX4_where_51 (by decide) ?_
          obtain rfl := Option.some.inj h
          exact hv_iret X hr dX4_where_58 (Nat.zero_le _) (Nat.zero_le _)
      · refine hv_aload_n X dX4_where_34 0 rfl ?_
        refine hg_M_pairsMany X q1250 dX4_where_35 ?_
        refine hv_goto X 58 dX4_where_38 (by decide) ?_
        obtain rfl := Option.some.inj h
        exact hv_iret X hr dX4_where_58 (Nat.zero_le _) (Nat.zero_le _)
    · refine hv_iconst X (v := (-1)) dX4_where_20 (by decide) ?_
      obtain rfl := Option.some.inj h
      exact hv_iret X hr dX4_where_21 (Nat.zero_le _) (Nat.zero_le _)
theorem pk_M_where : hd_PkV RX4 yX4_where cX4_where 5 (some .int) 4 := ⟨q1505, q1506, q73, q1507, rfl, by decide +kernel, by decide +kernel, by decide +kernel⟩
-- whoCan
def hf_M_whoCan_16 (K4 : Int32 → Int32 → hd_St → (Option (Int32 × hd_St))) : Nat → Int32 → Int32 → Int32 → hd_St → (Option (Int32 × hd_St))
  | 0, _, _, _, _ => none
  | n + 1, x1, x2, x3, S =>
    if hd_ck 2 47 = true then
    if (hd_I S 39 (2 : Int32).toNatClampNeg) ≤ x3 then
    (K4 x1 (x2 + 1) S)
    else
    ((hf_M_bestBlade x2 x3 S).bind fun p1 =>
    if p1.1 < 0 then
    (hf_M_whoCan_16 K4 n x1 x2 (x3 + 1) p1.2)
    else
    (hd_nm (x1 ||| ((1 : Int32) <<< (x2 &&& 31))) fun v3 =>
    hf_M_whoCan_16 K4 n v3 x2 (x3 + 1) p1.2))
    else none
theorem hw_M_whoCan_16 {κ : hd_VK} {E : hd_EV} (X : hd_Cx κ E cX4_whoCan RX4 4 (hd_Rm 8 0 0)) (hr : (hd_kQ κ).sig.returnType = some .int) {y : (Int32 × hd_St)} (K4 : Int32 → Int32 → hd_St → (Option (Int32 × hd_St))) (hK4 : ∀ (x1 : Int32) (x2 : Int32) (S : hd_St), K4 x1 x2 S = some y → hd_V κ E 4 0 0 (hd_Qf κ E (some (.int y.1)) y.2) S 4 [(0, .ref (hd_ad E 38)), (1, .int x1), (2, .int x2)] []) : ∀ (n : Nat) (x1 : Int32) (x2 : Int32) (x3 : Int32) (S : hd_St), hf_M_whoCan_16 K4 n x1 x2 x3 S = some y → hd_V κ E 4 0 0 (hd_Qf κ E (some (.int y.1)) y.2) S 16 [(0, .ref (hd_ad E 38)), (1, .int x1), (2, .int x2), (3, .int x3)] [] := by
  intro n
  induction n with
  | zero => intro x1 x2 x3 S h; have h : (none : Option (Int32 × hd_St)) = some y := h; cases h
  | succ n ih =>
    intro x1 x2 x3 S h
    rw [hf_M_whoCan_16] at h
    refine hv_iload_n X dX4_whoCan_16 3 rfl ?_
    refine hv_aload_n X dX4_whoCan_17 0 rfl ?_
    refine hg_M_s X q1241 dX4_whoCan_18 ?_
    refine hv_iconst X (v := 2) dX4_whoCan_21 (by decide) ?_
    refine hv_iald X h hd_ia39 dX4_whoCan_22 (fun h => ?_)
    refine hv_icmp_ge X 47 h dX4_whoCan_23 (by decide) (fun h => ?_) (fun h => ?_)
    · refine hv_iinc X (v := 1) [(2, .int (x2 + 1)), (0, .ref (hd_ad E 38)), (1, .int x1), (3, .int x3)] dX4_whoCan_47 2 rfl (by decide) (by decide) rfl ?_
      refine hv_goto X 4 dX4_whoCan_50 (by decide) ?_
      refine hv_sub [(0, .ref (hd_ad E 38)), (1, .int x1), (2, .int (x2 + 1))] [1, 2, 0] rfl ?_
      exact hK4 x1 (x2 + 1) S h
    · refine hv_aload_n X dX4_whoCan_26 0 rfl ?_
      refine hv_iload_n X dX4_whoCan_27 2 rfl ?_
      refine hv_iload_n X dX4_whoCan_28 3 rfl ?_
      obtain ⟨p1, e2, h⟩ := hd_bind h
      refine hv_cV X pk_M_bestBlade hd_rcM (hw_M_bestBlade _ E x2 x3 S p1 e2) q1516 dX4_whoCan_29 (by decide) (by decide) (Nat.zero_le _) (Nat.zero_le _) rfl rfl (Nat.le_of_ble_eq_true rfl) rfl ?_
      refine hv_if_lt X 41 h dX4_whoCan_32 (by decide) (fun h => ?_) (fun h => ?_)
      · refine hv_iinc X (v := 1) [(3, .int (x3 + 1)), (0, .ref (hd_ad E 38)), (1, .int x1), (2, .int x2)] dX4_whoCan_41 3 rfl (by decide) (by decide) rfl ?_
        refine hv_goto X 16 dX4_whoCan_44 (by decide) ?_
        refine hv_sub [(0, .ref (hd_ad E 38)), (1, .int x1), (2, .int x2), (3, .int (x3 + 1))] [1, 2, 3, 0] rfl ?_
        exact ih x1 x2 (x3 + 1) p1.2 h
      · refine hv_iload_n X dX4_whoCan_35 1 rfl ?_
        refine hv_iconst X (v := 1) dX4_whoCan_36 (by decide) ?_
        refine hv_iload_n X dX4_whoCan_37 2 rfl ?_
        refine hv_ishl X dX4_whoCan_38 ?_
        refine hv_ior X dX4_whoCan_39 ?_
        refine hv_nmI h (fun v3 h => ?_)
        refine hv_istore_n X [(1, .int v3), (0, .ref (hd_ad E 38)), (2, .int x2), (3, .int x3)] dX4_whoCan_40 (by decide) rfl ?_
        refine hv_iinc X (v := 1) [(3, .int (x3 + 1)), (1, .int v3), (0, .ref (hd_ad E 38)), (2, .int x2)] dX4_whoCan_41 3 rfl (by decide) (by decide) rfl ?_
        refine hv_goto X 16 dX4_whoCan_44 (by decide) ?_
        refine hv_sub [(0, .ref (hd_ad E 38)), (1, .int v3), (2, .int x2), (3, .int (x3 + 1))] [2, 1, 3, 0] rfl ?_
        exact ih v3 x2 (x3 + 1) p1.2 h
def hf_M_whoCan_4 : Nat → Int32 → Int32 → hd_St → (Option (Int32 × hd_St))
  | 0, _, _, _ => none
  | n + 1, x1, x2, S =>
    if hd_ck 1 47 = true then
    if (hd_I S 39 (1 : Int32).toNatClampNeg) ≤ x2 then
    (some (x1, S))
    else
    (hf_M_whoCan_16 (hf_M_whoCan_4 n) hd_fuel x1 x2 0 S)
    else none
theorem hw_M_whoCan_4 {κ : hd_VK} {E : hd_EV} (X : hd_Cx κ E cX4_whoCan RX4 4 (hd_Rm 8 0 0)) (hr : (hd_kQ κ).sig.returnType = some .int) {y : (Int32 × hd_St)} : ∀ (n : Nat) (x1 : Int32) (x2 : Int32) (S : hd_St), hf_M_whoCan_4 n x1 x2 S = some y → hd_V κ E 4 0 0 (hd_Qf κ E (some (.int y.1)) y.2) S 4 [(0, .ref (hd_ad E 38)), (1, .int x1), (2, .int x2)] [] := by
  intro n
  induction n with
  | zero => intro x1 x2 S h; have h : (none : Option (Int32 × hd_St)) = some y := h; cases h
  | succ n ih =>
    intro x1 x2 S h
    rw [hf_M_whoCan_4] at h
    refine hv_iload_n X dX4_whoCan_4 2 rfl ?_
    refine hv_aload_n X dX4_whoCan_5 0 rfl ?_
    refine hg_M_s X q1241 dX4_whoCan_6 ?_
    refine hv_iconst X (v := 1) dX4_whoCan_9 (by decide) ?_
    refine hv_iald X h hd_ia39 dX4_whoCan_10 (fun h => ?_)
    refine hv_icmp_ge X 53 h dX4_whoCan_11 (by decide) (fun h => ?_) (fun h => ?_)
    · refine hv_iload_n X dX4_whoCan_53 1 rfl ?_
      obtain rfl := Option.some.inj h
      exact hv_iret X hr dX4_whoCan_54 (Nat.zero_le _) (Nat.zero_le _)
    · refine hv_iconst X (v := 0) dX4_whoCan_14 (by decide) ?_
      refine hv_istore_n X [(3, .int 0), (0, .ref (hd_ad E 38)), (1, .int x1), (2, .int x2)] dX4_whoCan_15 (by decide) rfl ?_
      refine hv_sub [(0, .ref (hd_ad E 38)), (1, .int x1), (2, .int x2), (3, .int 0)] [1, 2, 3, 0] rfl ?_
      exact hw_M_whoCan_16 X hr (hf_M_whoCan_4 n) ih hd_fuel x1 x2 0 S h
def hf_M_whoCan (S : hd_St) : (Option (Int32 × hd_St)) :=
  hf_M_whoCan_4 hd_fuel 0 0 S
theorem hw_M_whoCan (l : Launch) (E : hd_EV) (S : hd_St) (y : (Int32 × hd_St)) (h : hf_M_whoCan S = some y) : hd_Mt l E yX4_whoCan cX4_whoCan 4 (some .int) (hd_Rm 8 0 0) [.ref (hd_ad E 38)] S (some (.int y.1)) y.2 := by
  refine hd_Mt.start [(0, .ref (hd_ad E 38))] hd_pnX4 rfl (Nat.le_of_ble_eq_true rfl) (fun κ X hl hr hn => ?_)
  have X : hd_Cx κ E cX4_whoCan RX4 4 (hd_Rm 8 0 0) := X
  unfold hf_M_whoCan at h
  refine hv_iconst X (v := 0) dX4_whoCan_0 (by decide) ?_
  refine hv_istore_n X [(1, .int 0), (0, .ref (hd_ad E 38))] dX4_whoCan_1 (by decide) rfl ?_
  refine hv_iconst X (v := 0) dX4_whoCan_2 (by decide) ?_
  refine hv_istore_n X [(2, .int 0), (1, .int 0), (0, .ref (hd_ad E 38))] dX4_whoCan_3 (by decide) rfl ?_
  refine hv_sub [(0, .ref (hd_ad E 38)), (1, .int 0), (2, .int 0)] [2, 1, 0] rfl ?_
  exact hw_M_whoCan_4 X hr hd_fuel 0 0 S h
theorem pk_M_whoCan : hd_PkV RX4 yX4_whoCan cX4_whoCan 4 (some .int) 0 := ⟨q1513, q1514, q73, q1515, rfl, by decide +kernel, by decide +kernel, by decide +kernel⟩
-- next
def hf_M_next_68 (S : hd_St) (K58 : Int32 → Int32 → Int32 → Int32 → Int32 → Int32 → Int32 → Int32 → (Option Int32)) : Nat → Int32 → Int32 → Int32 → Int32 → Int32 → Int32 → Int32 → Int32 → Int32 → (Option Int32)
  | 0, _, _, _, _, _, _, _, _, _ => none
  | n + 1, x1, x2, x3, x4, x5, x6, x7, x8, x9 =>
    if (60 : Int32) < x9 then
    (K58 x1 x2 x3 x4 x5 x6 x7 (x8 + 1))
    else
    ((hf_M_isSound x1 x2 x3 x8 x9 S).bind fun r3 =>
    if r3 = true then
    (hd_nm ((hf_M_size (x8 - (x4 / 100))) + (hf_M_size (x9 - (x4 - x4 / 100 * 100)))) fun v5 =>
    if v5 < x7 then
    (hd_nm (((100 : Int32) * x8) + x9) fun v6 =>
    hf_M_next_68 S K58 n x1 x2 x3 x4 x5 v6 v5 x8 (x9 + 1))
    else
    (hf_M_next_68 S K58 n x1 x2 x3 x4 x5 x6 x7 x8 (x9 + 1)))
    else
    (hf_M_next_68 S K58 n x1 x2 x3 x4 x5 x6 x7 x8 (x9 + 1)))
theorem hw_M_next_68 {κ : hd_VK} {E : hd_EV} (X : hd_Cx κ E cX4_next RX4 11 (hd_Rm 7 0 0)) (hr : (hd_kQ κ).sig.returnType = some .int) {S : hd_St} {y : Int32} (K58 : Int32 → Int32 → Int32 → Int32 → Int32 → Int32 → Int32 → Int32 → (Option Int32)) (hK58 : ∀ (x1 : Int32) (x2 : Int32) (x3 : Int32) (x4 : Int32) (x5 : Int32) (x6 : Int32) (x7 : Int32) (x8 : Int32), K58 x1 x2 x3 x4 x5 x6 x7 x8 = some y → hd_V κ E 11 0 0 (hd_Qf κ E (some (.int y)) S) S 58 [(0, .ref (hd_ad E 38)), (1, .int x1), (2, .int x2), (3, .int x3), (4, .int x4), (5, .int x5), (6, .int x6), (7, .int x7), (8, .int x8)] []) : ∀ (n : Nat) (x1 : Int32) (x2 : Int32) (x3 : Int32) (x4 : Int32) (x5 : Int32) (x6 : Int32) (x7 : Int32) (x8 : Int32) (x9 : Int32), hf_M_next_68 S K58 n x1 x2 x3 x4 x5 x6 x7 x8 x9 = some y → hd_V κ E 11 0 0 (hd_Qf κ E (some (.int y)) S) S 68 [(0, .ref (hd_ad E 38)), (1, .int x1), (2, .int x2), (3, .int x3), (4, .int x4), (5, .int x5), (6, .int x6), (7, .int x7), (8, .int x8), (9, .int x9)] [] := by
  intro n
  induction n with
  | zero => intro x1 x2 x3 x4 x5 x6 x7 x8 x9 h; have h : (none : Option Int32) = some y := h; cases h
  | succ n ih =>
    intro x1 x2 x3 x4 x5 x6 x7 x8 x9 h
    rw [hf_M_next_68] at h
    refine hv_iload X dX4_next_68 9 rfl ?_
    refine hv_bipush X (v := 60) dX4_next_70 (by decide) ?_
    refine hv_icmp_gt X 147 h dX4_next_72 (by decide) (fun h => ?_) (fun h => ?_)
    · refine hv_iinc X (v := 1) [(8, .int (x8 + 1)), (0, .ref (hd_ad E 38)), (1, .int x1), (2, .int x2), (3, .int x3), (4, .int x4), (5, .int x5), (6, .int x6), (7, .int x7), (9, .int x9)] dX4_next_147 8 rfl (by decide) (by decide) rfl ?_
      refine hv_goto X 58 dX4_next_150 (by decide) ?_
      refine hv_sub [(0, .ref (hd_ad E 38)), (1, .int x1), (2, .int x2), (3, .int x3), (4, .int x4), (5, .int x5), (6, .int x6), (7, .int x7), (8, .int (x8 + 1))] [1, 2, 3, 4, 5, 6, 7, 8, 0] rfl ?_
      exact hK58 x1 x2 x3 x4 x5 x6 x7 (x8 + 1) h
    · refine hv_aload_n X dX4_next_75 0 rfl ?_
      refine hv_iload_n X dX4_next_76 1 rfl ?_
      refine hv_iload_n X dX4_next_77 2 rfl ?_
      refine hv_iload_n X dX4_next_78 3 rfl ?_
      refine hv_iload X dX4_next_79 8 rfl ?_
      refine hv_iload X dX4_next_81 9 rfl ?_
      obtain ⟨r3, e4, h⟩ := hd_bind h
      refine hv_cV X pk_M_isSound hd_rcM (hw_M_isSound _ E x1 x2 x3 x8 x9 S r3 e4) q1475 dX4_next_83 (by decide) (by decide) (Nat.zero_le _) (Nat.zero_le _) rfl rfl (Nat.le_of_ble_eq_true rfl) rfl ?_
      refine hv_ifb_ne X 92 h dX4_next_86 (by decide) (fun h => ?_) (fun h => ?_)
      · refine hv_iload X dX4_next_92 8 rfl ?_
        refine hv_iload X dX4_next_94 4 rfl ?_
        refine hv_bipush X (v := 100) dX4_next_96 (by decide) ?_
        refine hv_idivc X (by decide) dX4_next_98 ?_
        refine hv_isub X dX4_next_99 ?_
        refine hv_cS X pk_M_size (hw_M_size _ E (x8 - (x4 / 100)) S) q1533 dX4_next_100 (by decide) (by decide) (Nat.zero_le _) (Nat.zero_le _) rfl rfl (Nat.le_of_ble_eq_true rfl) rfl ?_
        refine hv_iload X dX4_next_103 9 rfl ?_
        refine hv_iload X dX4_next_105 4 rfl ?_
        refine hv_bipush X (v := 100) dX4_next_107 (by decide) ?_
        refine hv_iremc X (by decide) dX4_next_109 ?_
        refine hv_isub X dX4_next_110 ?_
        refine hv_cS X pk_M_size (hw_M_size _ E (x9 - (x4 - x4 / 100 * 100)) S) q1533 dX4_next_111 (by decide) (by decide) (Nat.zero_le _) (Nat.zero_le _) rfl rfl (Nat.le_of_ble_eq_true rfl) rfl ?_
        refine hv_iadd X dX4_next_114 ?_
        refine hv_nmI h (fun v5 h => ?_)
        refine hv_istore X [(10, .int v5), (0, .ref (hd_ad E 38)), (1, .int x1), (2, .int x2), (3, .int x3), (4, .int x4), (5, .int x5), (6, .int x6), (7, .int x7), (8, .int x8), (9, .int x9)] dX4_next_115 (by decide) rfl ?_
        refine hv_iload X dX4_next_117 0 rfl ?_
        refine hv_iload X dX4_next_119 8 rfl ?_
        refine hv_icmp_lt X 127 h dX4_next_121 (by decide) (fun h => ?_) (fun h => ?_)
        · refine hv_bipush X (v := 100) dX4_next_127 (by decide) ?_
          refine hv_iload X dX4_next_129 9 rfl ?_
          refine hv_imul X dX4_next_131 ?_
          refine hv_iload X dX4_next_132 10 rfl ?_
          refine hv_iadd X dX4_next_134 ?_
          refine hv_nmI h (fun v6 h => ?_)
          refine hv_istore X [(6, .int v6), (10, .int v5), (0, .ref (hd_ad E 38)), (1, .int x1), (2, .int x2), (3, .int x3), (4, .int x4), (5, .int x5), (7, .int x7), (8, .int x8), (9, .int x9)] dX4_next_135 (by decide) rfl ?_
          refine hv_iload X dX4_next_137 1 rfl ?_
          refine hv_istore X [(7, .int v5), (6, .int v6), (10, .int v5), (0, .ref (hd_ad E 38)), (1, .int x1), (2, .int x2), (3, .int x3), (4, .int x4), (5, .int x5), (8, .int x8), (9, .int x9)] dX4_next_139 (by decide) rfl ?_
          refine hv_iinc X (v := 1) [(9, .int (x9 + 1)), (7, .int v5), (6, .int v6), (10, .int v5), (0, .ref (hd_ad E 38)), (1, .int x1), (2, .int x2), (3, .int x3), (4, .int x4), (5, .int x5), (8, .int x8)] dX4_next_141 10 rfl (by decide) (by decide) rfl ?_
          refine hv_goto X 68 dX4_next_144 (by decide) ?_
          refine hv_sub [(0, .ref (hd_ad E 38)), (1, .int x1), (2, .int x2), (3, .int x3), (4, .int x4), (5, .int x5), (6, .int v6), (7, .int v5), (8, .int x8), (9, .int (x9 + 1))] [4, 5, 6, 7, 8, 9, 2, 1, 10, 0] rfl ?_
          exact ih x1 x2 x3 x4 x5 v6 v5 x8 (x9 + 1) h
        · refine hv_goto X 141 dX4_next_124 (by decide) ?_
          refine hv_iinc X (v := 1) [(9, .int (x9 + 1)), (10, .int v5), (0, .ref (hd_ad E 38)), (1, .int x1), (2, .int x2), (3, .int x3), (4, .int x4), (5, .int x5), (6, .int x6), (7, .int x7), (8, .int x8)] dX4_next_141 10 rfl (by decide) (by decide) rfl ?_
          refine hv_goto X 68 dX4_next_144 (by decide) ?_
          refine hv_sub [(0, .ref (hd_ad E 38)), (1, .int x1), (2, .int x2), (3, .int x3), (4, .int x4), (5, .int x5), (6, .int x6), (7, .int x7), (8, .int x8), (9, .int (x9 + 1))] [2, 3, 4, 5, 6, 7, 8, 9, 10, 0] rfl ?_
          exact ih x1 x2 x3 x4 x5 x6 x7 x8 (x9 + 1) h
      · refine hv_goto X 141 dX4_next_89 (by decide) ?_
        refine hv_iinc X (v := 1) [(9, .int (x9 + 1)), (0, .ref (hd_ad E 38)), (1, .int x1), (2, .int x2), (3, .int x3), (4, .int x4), (5, .int x5), (6, .int x6), (7, .int x7), (8, .int x8)] dX4_next_141 9 rfl (by decide) (by decide) rfl ?_
        refine hv_goto X 68 dX4_next_144 (by decide) ?_
        refine hv_sub [(0, .ref (hd_ad E 38)), (1, .int x1), (2, .int x2), (3, .int x3), (4, .int x4), (5, .int x5), (6, .int x6), (7, .int x7), (8, .int x8), (9, .int (x9 + 1))] [1, 2, 3, 4, 5, 6, 7, 8, 9, 0] rfl ?_
        exact ih x1 x2 x3 x4 x5 x6 x7 x8 (x9 + 1) h
def hf_M_next_58 (S : hd_St) : Nat → Int32 → Int32 → Int32 → Int32 → Int32 → Int32 → Int32 → Int32 → (Option Int32)
  | 0, _, _, _, _, _, _, _, _ => none
  | n + 1, x1, x2, x3, x4, x5, x6, x7, x8 =>
    if (60 : Int32) < x8 then
    (if x6 < 0 then
    (some x6)
    else
    (if x5 = 0 then
    (some x6)
    else
    (some x7)))
    else
    (hf_M_next_68 S (hf_M_next_58 S n) hd_fuel x1 x2 x3 x4 x5 x6 x7 x8 0)
theorem hw_M_next_58 {κ : hd_VK} {E : hd_EV} (X : hd_Cx κ E cX4_next RX4 11 (hd_Rm 7 0 0)) (hr : (hd_kQ κ).sig.returnType = some .int) {S : hd_St} {y : Int32} : ∀ (n : Nat) (x1 : Int32) (x2 : Int32) (x3 : Int32) (x4 : Int32) (x5 : Int32) (x6 : Int32) (x7 : Int32) (x8 : Int32), hf_M_next_58 S n x1 x2 x3 x4 x5 x6 x7 x8 = some y → hd_V κ E 11 0 0 (hd_Qf κ E (some (.int y)) S) S 58 [(0, .ref (hd_ad E 38)), (1, .int x1), (2, .int x2), (3, .int x3), (4, .int x4), (5, .int x5), (6, .int x6), (7, .int x7), (8, .int x8)] [] := by
  intro n
  induction n with
  | zero => intro x1 x2 x3 x4 x5 x6 x7 x8 h; have h : (none : Option Int32) = some y := h; cases h
  | succ n ih =>
    intro x1 x2 x3 x4 x5 x6 x7 x8 h
    rw [hf_M_next_58] at h
    refine hv_iload X dX4_next_58 8 rfl ?_
    refine hv_bipush X (v := 60) dX4_next_60 (by decide) ?_
    refine hv_icmp_gt X 153 h dX4_next_62 (by decide) (fun h => ?_) (fun h => ?_)
    · refine hv_iload X dX4_next_153 6 rfl ?_
      refine hv_if_lt X 163 h dX4_next_155 (by decide) (fun h => ?_) (fun h => ?_)
      · refine hv_iload X dX4_next_163 6 rfl ?_
        refine hv_goto X 170 dX4_next_165 (by decide) ?_
        obtain rfl := Option.some.inj h
        exact hv_iret X hr dX4_next_170 (Nat.zero_le _) (Nat.zero_le _)
      · refine hv_iload X dX4_next_158 5 rfl ?_
        refine hv_if_ne X 168 h dX4_next_160 (by decide) (fun h => ?_) (fun h => ?_)
        · refine hv_iload X dX4_next_168 7 rfl ?_
          obtain rfl := Option.some.inj h
          exact hv_iret X hr dX4_next_170 (Nat.zero_le _) (Nat.zero_le _)
        · refine hv_iload X dX4_next_163 6 rfl ?_
          refine hv_goto X 170 dX4_next_165 (by decide) ?_
          obtain rfl := Option.some.inj h
          exact hv_iret X hr dX4_next_170 (Nat.zero_le _) (Nat.zero_le _)
    · refine hv_iconst X (v := 0) dX4_next_65 (by decide) ?_
      refine hv_istore X [(9, .int 0), (0, .ref (hd_ad E 38)), (1, .int x1), (2, .int x2), (3, .int x3), (4, .int x4), (5, .int x5), (6, .int x6), (7, .int x7), (8, .int x8)] dX4_next_66 (by decide) rfl ?_
      refine hv_sub [(0, .ref (hd_ad E 38)), (1, .int x1), (2, .int x2), (3, .int x3), (4, .int x4), (5, .int x5), (6, .int x6), (7, .int x7), (8, .int x8), (9, .int 0)] [1, 2, 3, 4, 5, 6, 7, 8, 9, 0] rfl ?_
      exact hw_M_next_68 X hr (hf_M_next_58 S n) ih hd_fuel x1 x2 x3 x4 x5 x6 x7 x8 0 h
def hf_M_next (a1 : Int32) (a2 : Int32) (a3 : Int32) (a4 : Int32) (a5 : Int32) (S : hd_St) : (Option Int32) :=
  (hf_M_areAll a1 a2 a3 S).bind fun r1 =>
    if r1 = true then
    (if a4 < 0 then
    (some (-1))
    else
    (if (60 : Int32) < (a4 / 100) then
    (some (-1))
    else
    (if (60 : Int32) < (a4 - a4 / 100 * 100) then
    (some (-1))
    else
    (if (hf_M_isIn a5 0 1) = true then
    (hf_M_next_58 S hd_fuel a1 a2 a3 a4 a5 (-4) 1000000000 0)
    else
    (some (-1))))))
    else
    (some (-1))
theorem hw_M_next (l : Launch) (E : hd_EV) (a1 : Int32) (a2 : Int32) (a3 : Int32) (a4 : Int32) (a5 : Int32) (S : hd_St) (y : Int32) (h : hf_M_next a1 a2 a3 a4 a5 S = some y) : hd_Mt l E yX4_next cX4_next 11 (some .int) (hd_Rm 7 0 0) [.ref (hd_ad E 38), .int a1, .int a2, .int a3, .int a4, .int a5] S (some (.int y)) S := by
  refine hd_Mt.start [(0, .ref (hd_ad E 38)), (1, .int a1), (2, .int a2), (3, .int a3), (4, .int a4), (5, .int a5)] hd_pnX4 rfl (Nat.le_of_ble_eq_true rfl) (fun κ X hl hr hn => ?_)
  have X : hd_Cx κ E cX4_next RX4 11 (hd_Rm 7 0 0) := X
  unfold hf_M_next at h
  refine hv_aload_n X dX4_next_0 0 rfl ?_
  refine hv_iload_n X dX4_next_1 1 rfl ?_
  refine hv_iload_n X dX4_next_2 2 rfl ?_
  refine hv_iload_n X dX4_next_3 3 rfl ?_
  obtain ⟨r1, e2, h⟩ := hd_bind h
  refine hv_cV X pk_M_areAll hd_rcM (hw_M_areAll _ E a1 a2 a3 S r1 e2) q1365 dX4_next_4 (by decide) (by decide) (Nat.zero_le _) (Nat.zero_le _) rfl rfl (Nat.le_of_ble_eq_true rfl) rfl ?_
  refine hv_ifb_eq X 45 h dX4_next_7 (by decide) (fun h => ?_) (fun h => ?_)
  · refine hv_iconst X (v := (-1)) dX4_next_45 (by decide) ?_
    obtain rfl := Option.some.inj h
    exact hv_iret X hr dX4_next_46 (Nat.zero_le _) (Nat.zero_le _)
  · refine hv_iload X dX4_next_10 4 rfl ?_
    refine hv_if_lt X 45 h dX4_next_12 (by decide) (fun h => ?_) (fun h => ?_)
    · refine hv_iconst X (v := (-1)) dX4_next_45 (by decide) ?_
      obtain rfl := Option.some.inj h
      exact hv_iret X hr dX4_next_46 (Nat.zero_le _) (Nat.zero_le _)
    · refine hv_iload X dX4_next_15 4 rfl ?_
      refine hv_bipush X (v := 100) dX4_next_17 (by decide) ?_
      refine hv_idivc X (by decide) dX4_next_19 ?_
      refine hv_bipush X (v := 60) dX4_next_20 (by decide) ?_
      refine hv_icmp_gt X 45 h dX4_next_22 (by decide) (fun h => ?_) (fun h => ?_)
      · refine hv_iconst X (v := (-1)) dX4_next_45 (by decide) ?_
        obtain rfl := Option.some.inj h
        exact hv_iret X hr dX4_next_46 (Nat.zero_le _) (Nat.zero_le _)
      · refine hv_iload X dX4_next_25 4 rfl ?_
        refine hv_bipush X (v := 100) dX4_next_27 (by decide) ?_
        refine hv_iremc X (by decide) dX4_next_29 ?_
        refine hv_bipush X (v := 60) dX4_next_30 (by decide) ?_
        refine hv_icmp_gt X 45 h dX4_next_32 (by decide) (fun h => ?_) (fun h => ?_)
        · refine hv_iconst X (v := (-1)) dX4_next_45 (by decide) ?_
          obtain rfl := Option.some.inj h
          exact hv_iret X hr dX4_next_46 (Nat.zero_le _) (Nat.zero_le _)
        · refine hv_iload X dX4_next_35 5 rfl ?_
          refine hv_iconst X (v := 0) dX4_next_37 (by decide) ?_
          refine hv_iconst X (v := 1) dX4_next_38 (by decide) ?_
          refine hv_cS X pk_M_isIn (hw_M_isIn _ E a5 0 1 S) q1319 dX4_next_39 (by decide) (by decide) (Nat.zero_le _) (Nat.zero_le _) rfl rfl (Nat.le_of_ble_eq_true rfl) rfl ?_
          refine hv_ifb_ne X 47 h dX4_next_42 (by decide) (fun h => ?_) (fun h => ?_)
          · refine hv_bipush X (v := (-4)) dX4_next_47 (by decide) ?_
            refine hv_istore X [(6, .int (-4)), (0, .ref (hd_ad E 38)), (1, .int a1), (2, .int a2), (3, .int a3), (4, .int a4), (5, .int a5)] dX4_next_49 (by decide) rfl ?_
            refine hv_ldc X q1532 dX4_next_51 ?_
            refine hv_istore X [(7, .int 1000000000), (6, .int (-4)), (0, .ref (hd_ad E 38)), (1, .int a1), (2, .int a2), (3, .int a3), (4, .int a4), (5, .int a5)] dX4_next_53 (by decide) rfl ?_
            refine hv_iconst X (v := 0) dX4_next_55 (by decide) ?_
            refine hv_istore X [(8, .int 0), (7, .int 1000000000), (6, .int (-4)), (0, .ref (hd_ad E 38)), (1, .int a1), (2, .int a2), (3, .int a3), (4, .int a4), (5, .int a5)] dX4_next_56 (by decide) rfl ?_
            refine hv_sub [(0, .ref (hd_ad E 38)), (1, .int a1), (2, .int a2), (3, .int a3), (4, .int a4), (5, .int a5), (6, .int (-4)), (7, .int 1000000000), (8, .int 0)] [3, 4, 5, 6, 7, 8, 2, 1, 0] rfl ?_
            exact hw_M_next_58 X hr hd_fuel a1 a2 a3 a4 a5 (-4) 1000000000 0 h
          · refine hv_iconst X (v := (-1)) dX4_next_45 (by decide) ?_
            obtain rfl := Option.some.inj h
            exact hv_iret X hr dX4_next_46 (Nat.zero_le _) (Nat.zero_le _)
theorem pk_M_next : hd_PkV RX4 yX4_next cX4_next 11 (some .int) 5 := ⟨q1529, q1530, q73, q1531, rfl, by decide +kernel, by decide +kernel, by decide +kernel⟩
-- ways
def hf_M_ways_25 (S : hd_St) : Nat → Int32 → Int32 → Int32 → Int32 → (Option Int32)
  | 0, _, _, _, _ => none
  | n + 1, x1, x2, x3, x4 =>
    if hd_ck 0 47 = true then
    if (hd_I S 39 (0 : Int32).toNatClampNeg) ≤ x4 then
    (some x3)
    else
    ((hf_M_waysBy x4 x1 x2 S).bind fun r3 =>
    hd_nm (x3 + r3) fun v5 =>
    hf_M_ways_25 S n x1 x2 v5 (x4 + 1))
    else none
theorem hw_M_ways_25 {κ : hd_VK} {E : hd_EV} (X : hd_Cx κ E cX4_ways RX4 5 (hd_Rm 8 0 0)) (hr : (hd_kQ κ).sig.returnType = some .int) {S : hd_St} {y : Int32} : ∀ (n : Nat) (x1 : Int32) (x2 : Int32) (x3 : Int32) (x4 : Int32), hf_M_ways_25 S n x1 x2 x3 x4 = some y → hd_V κ E 5 0 0 (hd_Qf κ E (some (.int y)) S) S 25 [(0, .ref (hd_ad E 38)), (1, .int x1), (2, .int x2), (3, .int x3), (4, .int x4)] [] := by
  intro n
  induction n with
  | zero => intro x1 x2 x3 x4 h; have h : (none : Option Int32) = some y := h; cases h
  | succ n ih =>
    intro x1 x2 x3 x4 h
    rw [hf_M_ways_25] at h
    refine hv_iload X dX4_ways_25 4 rfl ?_
    refine hv_aload_n X dX4_ways_27 0 rfl ?_
    refine hg_M_s X q1241 dX4_ways_28 ?_
    refine hv_iconst X (v := 0) dX4_ways_31 (by decide) ?_
    refine hv_iald X h hd_ia39 dX4_ways_32 (fun h => ?_)
    refine hv_icmp_ge X 53 h dX4_ways_33 (by decide) (fun h => ?_) (fun h => ?_)
    · refine hv_iload_n X dX4_ways_53 3 rfl ?_
      obtain rfl := Option.some.inj h
      exact hv_iret X hr dX4_ways_54 (Nat.zero_le _) (Nat.zero_le _)
    · refine hv_iload_n X dX4_ways_36 3 rfl ?_
      refine hv_aload_n X dX4_ways_37 0 rfl ?_
      refine hv_iload X dX4_ways_38 4 rfl ?_
      refine hv_iload_n X dX4_ways_40 1 rfl ?_
      refine hv_iload_n X dX4_ways_41 2 rfl ?_
      obtain ⟨r3, e4, h⟩ := hd_bind h
      refine hv_cV X pk_M_waysBy hd_rcM (hw_M_waysBy _ E x4 x1 x2 S r3 e4) q1544 dX4_ways_42 (by decide) (by decide) (Nat.zero_le _) (Nat.zero_le _) rfl rfl (Nat.le_of_ble_eq_true rfl) rfl ?_
      refine hv_iadd X dX4_ways_45 ?_
      refine hv_nmI h (fun v5 h => ?_)
      refine hv_istore_n X [(3, .int v5), (0, .ref (hd_ad E 38)), (1, .int x1), (2, .int x2), (4, .int x4)] dX4_ways_46 (by decide) rfl ?_
      refine hv_iinc X (v := 1) [(4, .int (x4 + 1)), (3, .int v5), (0, .ref (hd_ad E 38)), (1, .int x1), (2, .int x2)] dX4_ways_47 4 rfl (by decide) (by decide) rfl ?_
      refine hv_goto X 25 dX4_ways_50 (by decide) ?_
      refine hv_sub [(0, .ref (hd_ad E 38)), (1, .int x1), (2, .int x2), (3, .int v5), (4, .int (x4 + 1))] [2, 3, 4, 1, 0] rfl ?_
      exact ih x1 x2 v5 (x4 + 1) h
def hf_M_ways (a1 : Int32) (a2 : Int32) (S : hd_St) : (Option Int32) :=
  (hf_M_isThumbs a1 S).bind fun r1 =>
    if r1 = true then
    (if (hf_M_isIn a2 0 99) = true then
    (hf_M_ways_25 S hd_fuel a1 a2 0 0)
    else
    (some (-1)))
    else
    (some (-1))
theorem hw_M_ways (l : Launch) (E : hd_EV) (a1 : Int32) (a2 : Int32) (S : hd_St) (y : Int32) (h : hf_M_ways a1 a2 S = some y) : hd_Mt l E yX4_ways cX4_ways 5 (some .int) (hd_Rm 8 0 0) [.ref (hd_ad E 38), .int a1, .int a2] S (some (.int y)) S := by
  refine hd_Mt.start [(0, .ref (hd_ad E 38)), (1, .int a1), (2, .int a2)] hd_pnX4 rfl (Nat.le_of_ble_eq_true rfl) (fun κ X hl hr hn => ?_)
  have X : hd_Cx κ E cX4_ways RX4 5 (hd_Rm 8 0 0) := X
  unfold hf_M_ways at h
  refine hv_aload_n X dX4_ways_0 0 rfl ?_
  refine hv_iload_n X dX4_ways_1 1 rfl ?_
  obtain ⟨r1, e2, h⟩ := hd_bind h
  refine hv_cV X pk_M_isThumbs hd_rcM (hw_M_isThumbs _ E a1 S r1 e2) q1373 dX4_ways_2 (by decide) (by decide) (Nat.zero_le _) (Nat.zero_le _) rfl rfl (Nat.le_of_ble_eq_true rfl) rfl ?_
  refine hv_ifb_eq X 18 h dX4_ways_5 (by decide) (fun h => ?_) (fun h => ?_)
  · refine hv_iconst X (v := (-1)) dX4_ways_18 (by decide) ?_
    obtain rfl := Option.some.inj h
    exact hv_iret X hr dX4_ways_19 (Nat.zero_le _) (Nat.zero_le _)
  · refine hv_iload_n X dX4_ways_8 2 rfl ?_
    refine hv_iconst X (v := 0) dX4_ways_9 (by decide) ?_
    refine hv_bipush X (v := 99) dX4_ways_10 (by decide) ?_
    refine hv_cS X pk_M_isIn (hw_M_isIn _ E a2 0 99 S) q1319 dX4_ways_12 (by decide) (by decide) (Nat.zero_le _) (Nat.zero_le _) rfl rfl (Nat.le_of_ble_eq_true rfl) rfl ?_
    refine hv_ifb_ne X 20 h dX4_ways_15 (by decide) (fun h => ?_) (fun h => ?_)
    · refine hv_iconst X (v := 0) dX4_ways_20 (by decide) ?_
      refine hv_istore_n X [(3, .int 0), (0, .ref (hd_ad E 38)), (1, .int a1), (2, .int a2)] dX4_ways_21 (by decide) rfl ?_
      refine hv_iconst X (v := 0) dX4_ways_22 (by decide) ?_
      refine hv_istore X [(4, .int 0), (3, .int 0), (0, .ref (hd_ad E 38)), (1, .int a1), (2, .int a2)] dX4_ways_23 (by decide) rfl ?_
      refine hv_sub [(0, .ref (hd_ad E 38)), (1, .int a1), (2, .int a2), (3, .int 0), (4, .int 0)] [2, 3, 4, 1, 0] rfl ?_
      exact hw_M_ways_25 X hr hd_fuel a1 a2 0 0 h
    · refine hv_iconst X (v := (-1)) dX4_ways_18 (by decide) ?_
      obtain rfl := Option.some.inj h
      exact hv_iret X hr dX4_ways_19 (Nat.zero_le _) (Nat.zero_le _)
theorem pk_M_ways : hd_PkV RX4 yX4_ways cX4_ways 5 (some .int) 2 := ⟨q1541, q1542, q73, q1543, rfl, by decide +kernel, by decide +kernel, by decide +kernel⟩
-- tune
def hf_M_tune_117 (S : hd_St) (K107 : Int32 → Int32 → Int32 → Int32 → (Option Int32)) : Nat → Int32 → Int32 → Int32 → Int32 → Int32 → (Option Int32)
  | 0, _, _, _, _, _ => none
  | n + 1, x4, x5, x6, x7, x8 =>
    if (6 : Int32) ≤ x8 then
    (K107 x4 x5 x6 (x7 + 1))
    else
    (hd_nm ((x6 &&& (((1 : Int32) <<< (x7 &&& 31)) ^^^ (-1))) &&& (((1 : Int32) <<< (x8 &&& 31)) ^^^ (-1))) fun v9 =>
    if x7 = x8 then
    (hf_M_tune_117 S K107 n x4 x5 x6 x7 (x8 + 1))
    else
    (if ((x4 >>> (x7 &&& 31)) &&& 1) = (1 : Int32) then
    (if ((x5 >>> (x8 &&& 31)) &&& 1) = (1 : Int32) then
    (if v9 = 0 then
    (hf_M_tune_117 S K107 n x4 x5 x6 x7 (x8 + 1))
    else
    (some 1))
    else
    (hf_M_tune_117 S K107 n x4 x5 x6 x7 (x8 + 1)))
    else
    (hf_M_tune_117 S K107 n x4 x5 x6 x7 (x8 + 1))))
theorem hw_M_tune_117 {κ : hd_VK} {E : hd_EV} (X : hd_Cx κ E cX4_tune RX4 10 (hd_Rm 9 0 0)) (hr : (hd_kQ κ).sig.returnType = some .int) {S : hd_St} {y : Int32} (K107 : Int32 → Int32 → Int32 → Int32 → (Option Int32)) (hK107 : ∀ (x4 : Int32) (x5 : Int32) (x6 : Int32) (x7 : Int32), K107 x4 x5 x6 x7 = some y → hd_V κ E 10 0 0 (hd_Qf κ E (some (.int y)) S) S 107 [(4, .int x4), (5, .int x5), (6, .int x6), (7, .int x7)] []) : ∀ (n : Nat) (x4 : Int32) (x5 : Int32) (x6 : Int32) (x7 : Int32) (x8 : Int32), hf_M_tune_117 S K107 n x4 x5 x6 x7 x8 = some y → hd_V κ E 10 0 0 (hd_Qf κ E (some (.int y)) S) S 117 [(4, .int x4), (5, .int x5), (6, .int x6), (7, .int x7), (8, .int x8)] [] := by
  intro n
  induction n with
  | zero => intro x4 x5 x6 x7 x8 h; have h : (none : Option Int32) = some y := h; cases h
  | succ n ih =>
    intro x4 x5 x6 x7 x8 h
    rw [hf_M_tune_117] at h
    refine hv_iload X dX4_tune_117 4 rfl ?_
    refine hv_bipush X (v := 6) dX4_tune_119 (by decide) ?_
    refine hv_icmp_ge X 184 h dX4_tune_121 (by decide) (fun h => ?_) (fun h => ?_)
    · refine hv_iinc X (v := 1) [(7, .int (x7 + 1)), (4, .int x4), (5, .int x5), (6, .int x6), (8, .int x8)] dX4_tune_184 3 rfl (by decide) (by decide) rfl ?_
      refine hv_goto X 107 dX4_tune_187 (by decide) ?_
      refine hv_sub [(4, .int x4), (5, .int x5), (6, .int x6), (7, .int (x7 + 1))] [1, 2, 3, 0] rfl ?_
      exact hK107 x4 x5 x6 (x7 + 1) h
    · refine hv_iload X dX4_tune_124 2 rfl ?_
      refine hv_iconst X (v := 1) dX4_tune_126 (by decide) ?_
      refine hv_iload X dX4_tune_127 3 rfl ?_
      refine hv_ishl X dX4_tune_129 ?_
      refine hv_iconst X (v := (-1)) dX4_tune_130 (by decide) ?_
      refine hv_ixor X dX4_tune_131 ?_
      refine hv_iand X dX4_tune_132 ?_
      refine hv_iconst X (v := 1) dX4_tune_133 (by decide) ?_
      refine hv_iload X dX4_tune_134 4 rfl ?_
      refine hv_ishl X dX4_tune_136 ?_
      refine hv_iconst X (v := (-1)) dX4_tune_137 (by decide) ?_
      refine hv_ixor X dX4_tune_138 ?_
      refine hv_iand X dX4_tune_139 ?_
      refine hv_nmI h (fun v9 h => ?_)
      refine hv_istore X [(9, .int v9), (4, .int x4), (5, .int x5), (6, .int x6), (7, .int x7), (8, .int x8)] dX4_tune_140 (by decide) rfl ?_
      refine hv_iload X dX4_tune_142 4 rfl ?_
      refine hv_iload X dX4_tune_144 5 rfl ?_
      refine hv_icmp_eq X 178 h dX4_tune_146 (by decide) (fun h => ?_) (fun h => ?_)
      · refine hv_iinc X (v := 1) [(8, .int (x8 + 1)), (9, .int v9), (4, .int x4), (5, .int x5), (6, .int x6), (7, .int x7)] dX4_tune_178 5 rfl (by decide) (by decide) rfl ?_
        refine hv_goto X 117 dX4_tune_181 (by decide) ?_
        refine hv_sub [(4, .int x4), (5, .int x5), (6, .int x6), (7, .int x7), (8, .int (x8 + 1))] [2, 3, 4, 5, 0] rfl ?_
        exact ih x4 x5 x6 x7 (x8 + 1) h
      · refine hv_iload X dX4_tune_149 1 rfl ?_
        refine hv_iload X dX4_tune_151 4 rfl ?_
        refine hv_ishr X dX4_tune_153 ?_
        refine hv_iconst X (v := 1) dX4_tune_154 (by decide) ?_
        refine hv_iand X dX4_tune_155 ?_
        refine hv_iconst X (v := 1) dX4_tune_156 (by decide) ?_
        refine hv_icmp_ne X 178 h dX4_tune_157 (by decide) (fun h => ?_) (fun h => ?_)
        · refine hv_iinc X (v := 1) [(8, .int (x8 + 1)), (9, .int v9), (4, .int x4), (5, .int x5), (6, .int x6), (7, .int x7)] dX4_tune_178 5 rfl (by decide) (by decide) rfl ?_
          refine hv_goto X 117 dX4_tune_181 (by decide) ?_
          refine hv_sub [(4, .int x4), (5, .int x5), (6, .int x6), (7, .int x7), (8, .int (x8 + 1))] [2, 3, 4, 5, 0] rfl ?_
          exact ih x4 x5 x6 x7 (x8 + 1) h
        · refine hv_iload X dX4_tune_160 2 rfl ?_
          refine hv_iload X dX4_tune_162 5 rfl ?_
          refine hv_ishr X dX4_tune_164 ?_
          refine hv_iconst X (v := 1) dX4_tune_165 (by decide) ?_
          refine hv_iand X dX4_tune_166 ?_
          refine hv_iconst X (v := 1) dX4_tune_167 (by decide) ?_
          refine hv_icmp_ne X 178 h dX4_tune_168 (by decide) (fun h => ?_) (fun h => ?_)
          · refine hv_iinc X (v := 1) [(8, .int (x8 + 1)), (9, .int v9), (4, .int x4), (5, .int x5), (6, .int x6), (7, .int x7)] dX4_tune_178 5 rfl (by decide) (by decide) rfl ?_
            refine hv_goto X 117 dX4_tune_181 (by decide) ?_
            refine hv_sub [(4, .int x4), (5, .int x5), (6, .int x6), (7, .int x7), (8, .int (x8 + 1))] [2, 3, 4, 5, 0] rfl ?_
            exact ih x4 x5 x6 x7 (x8 + 1) h
          · refine hv_iload X dX4_tune_171 0 rfl ?_
            refine hv_if_eq X 178 h dX4_tune_173 (by decide) (fun h => ?_) (fun h => ?_)
            · refine hv_iinc X (v := 1) [(8, .int (x8 + 1)), (9, .int v9), (4, .int x4), (5, .int x5), (6, .int x6), (7, .int x7)] dX4_tune_178 5 rfl (by decide) (by decide) rfl ?_
              refine hv_goto X 117 dX4_tune_181 (by decide) ?_
              refine hv_sub [(4, .int x4), (5, .int x5), (6, .int x6), (7, .int x7), (8, .int (x8 + 1))] [2, 3, 4, 5, 0] rfl ?_
              exact ih x4 x5 x6 x7 (x8 + 1) h
            · refine hv_iconst X (v := 1) dX4_tune_176 (by decide) ?_
              obtain rfl := Option.some.inj h
              exact hv_iret X hr dX4_tune_177 (Nat.zero_le _) (Nat.zero_le _)
def hf_M_tune_107 (S : hd_St) : Nat → Int32 → Int32 → Int32 → Int32 → (Option Int32)
  | 0, _, _, _, _ => none
  | n + 1, x4, x5, x6, x7 =>
    if (6 : Int32) ≤ x7 then
    (some 0)
    else
    (hf_M_tune_117 S (hf_M_tune_107 S n) hd_fuel x4 x5 x6 x7 0)
theorem hw_M_tune_107 {κ : hd_VK} {E : hd_EV} (X : hd_Cx κ E cX4_tune RX4 10 (hd_Rm 9 0 0)) (hr : (hd_kQ κ).sig.returnType = some .int) {S : hd_St} {y : Int32} : ∀ (n : Nat) (x4 : Int32) (x5 : Int32) (x6 : Int32) (x7 : Int32), hf_M_tune_107 S n x4 x5 x6 x7 = some y → hd_V κ E 10 0 0 (hd_Qf κ E (some (.int y)) S) S 107 [(4, .int x4), (5, .int x5), (6, .int x6), (7, .int x7)] [] := by
  intro n
  induction n with
  | zero => intro x4 x5 x6 x7 h; have h : (none : Option Int32) = some y := h; cases h
  | succ n ih =>
    intro x4 x5 x6 x7 h
    rw [hf_M_tune_107] at h
    refine hv_iload X dX4_tune_107 3 rfl ?_
    refine hv_bipush X (v := 6) dX4_tune_109 (by decide) ?_
    refine hv_icmp_ge X 190 h dX4_tune_111 (by decide) (fun h => ?_) (fun h => ?_)
    · refine hv_iconst X (v := 0) dX4_tune_190 (by decide) ?_
      obtain rfl := Option.some.inj h
      exact hv_iret X hr dX4_tune_191 (Nat.zero_le _) (Nat.zero_le _)
    · refine hv_iconst X (v := 0) dX4_tune_114 (by decide) ?_
      refine hv_istore X [(8, .int 0), (4, .int x4), (5, .int x5), (6, .int x6), (7, .int x7)] dX4_tune_115 (by decide) rfl ?_
      refine hv_sub [(4, .int x4), (5, .int x5), (6, .int x6), (7, .int x7), (8, .int 0)] [1, 2, 3, 4, 0] rfl ?_
      exact hw_M_tune_117 X hr (hf_M_tune_107 S n) ih hd_fuel x4 x5 x6 x7 0 h
def hf_M_tune_91 (S : hd_St) (x6 : Int32) (t0 : Int32) (t1 : Int32) : (Option Int32) :=
  if x6 ≤ 0 then
    (some ((t1 + t0) + 0))
    else
    (some ((t1 + t0) + 1))
theorem hw_M_tune_91 {κ : hd_VK} {E : hd_EV} (X : hd_Cx κ E cX4_tune RX4 10 (hd_Rm 9 0 0)) (hr : (hd_kQ κ).sig.returnType = some .int) {S : hd_St} {y : Int32} (x6 : Int32) (t0 : Int32) (t1 : Int32) (h : hf_M_tune_91 S x6 t0 t1 = some y) : hd_V κ E 10 0 0 (hd_Qf κ E (some (.int y)) S) S 91 [(6, .int x6)] [.int t0, .int t1] := by
  unfold hf_M_tune_91 at h
  refine hv_iadd X dX4_tune_91 ?_
  refine hv_iload X dX4_tune_92 0 rfl ?_
  refine hv_if_le X 101 h dX4_tune_94 (by decide) (fun h => ?_) (fun h => ?_)
  · refine hv_iconst X (v := 0) dX4_tune_101 (by decide) ?_
    refine hv_iadd X dX4_tune_102 ?_
    obtain rfl := Option.some.inj h
    exact hv_iret X hr dX4_tune_103 (Nat.zero_le _) (Nat.zero_le _)
  · refine hv_iconst X (v := 1) dX4_tune_97 (by decide) ?_
    refine hv_goto X 102 dX4_tune_98 (by decide) ?_
    refine hv_iadd X dX4_tune_102 ?_
    obtain rfl := Option.some.inj h
    exact hv_iret X hr dX4_tune_103 (Nat.zero_le _) (Nat.zero_le _)
def hf_M_tune_81 (S : hd_St) (x5 : Int32) (x6 : Int32) (t0 : Int32) : (Option Int32) :=
  if x5 ≤ 0 then
    (hf_M_tune_91 S x6 0 t0)
    else
    (hf_M_tune_91 S x6 1 t0)
theorem hw_M_tune_81 {κ : hd_VK} {E : hd_EV} (X : hd_Cx κ E cX4_tune RX4 10 (hd_Rm 9 0 0)) (hr : (hd_kQ κ).sig.returnType = some .int) {S : hd_St} {y : Int32} (x5 : Int32) (x6 : Int32) (t0 : Int32) (h : hf_M_tune_81 S x5 x6 t0 = some y) : hd_V κ E 10 0 0 (hd_Qf κ E (some (.int y)) S) S 81 [(5, .int x5), (6, .int x6)] [.int t0] := by
  unfold hf_M_tune_81 at h
  refine hv_iload X dX4_tune_81 0 rfl ?_
  refine hv_if_le X 90 h dX4_tune_83 (by decide) (fun h => ?_) (fun h => ?_)
  · refine hv_iconst X (v := 0) dX4_tune_90 (by decide) ?_
    refine hv_sub [(6, .int x6)] [1] rfl ?_
    exact hw_M_tune_91 X hr x6 0 t0 h
  · refine hv_iconst X (v := 1) dX4_tune_86 (by decide) ?_
    refine hv_goto X 91 dX4_tune_87 (by decide) ?_
    refine hv_sub [(6, .int x6)] [1] rfl ?_
    exact hw_M_tune_91 X hr x6 1 t0 h
def hf_M_tune (a1 : Int32) (a2 : Int32) (a3 : Int32) (S : hd_St) : (Option Int32) :=
  (hf_M_isThumbs a1 S).bind fun r1 =>
    if r1 = true then
    (if (hf_M_isIn a2 0 999999) = true then
    (if (hf_M_isIn a3 0 1) = true then
    ((hf_M_bladesFor a1 (a2 / 10000) S).bind fun r3 =>
    (hf_M_bladesFor a1 ((a2 / 100) - (a2 / 100) / 100 * 100) S).bind fun r5 =>
    (hf_M_bladesFor a1 (a2 - a2 / 100 * 100) S).bind fun r7 =>
    if a3 = (1 : Int32) then
    (if r3 ≤ 0 then
    (hf_M_tune_81 S r5 r7 0)
    else
    (hf_M_tune_81 S r5 r7 1))
    else
    (hf_M_tune_107 S hd_fuel r3 r5 r7 0))
    else
    (some (-1)))
    else
    (some (-1)))
    else
    (some (-1))
theorem hw_M_tune (l : Launch) (E : hd_EV) (a1 : Int32) (a2 : Int32) (a3 : Int32) (S : hd_St) (y : Int32) (h : hf_M_tune a1 a2 a3 S = some y) : hd_Mt l E yX4_tune cX4_tune 10 (some .int) (hd_Rm 9 0 0) [.ref (hd_ad E 38), .int a1, .int a2, .int a3] S (some (.int y)) S := by
  refine hd_Mt.start [(0, .ref (hd_ad E 38)), (1, .int a1), (2, .int a2), (3, .int a3)] hd_pnX4 rfl (Nat.le_of_ble_eq_true rfl) (fun κ X hl hr hn => ?_)
  have X : hd_Cx κ E cX4_tune RX4 10 (hd_Rm 9 0 0) := X
  unfold hf_M_tune at h
  refine hv_aload_n X dX4_tune_0 0 rfl ?_
  refine hv_iload_n X dX4_tune_1 1 rfl ?_
  obtain ⟨r1, e2, h⟩ := hd_bind h
  refine hv_cV X pk_M_isThumbs hd_rcM (hw_M_isThumbs _ E a1 S r1 e2) q1373 dX4_tune_2 (by decide) (by decide) (Nat.zero_le _) (Nat.zero_le _) rfl rfl (Nat.le_of_ble_eq_true rfl) rfl ?_
  refine hv_ifb_eq X 27 h dX4_tune_5 (by decide) (fun h => ?_) (fun h => ?_)
  · refine hv_iconst X (v := (-1)) dX4_tune_27 (by decide) ?_
    obtain rfl := Option.some.inj h
    exact hv_iret X hr dX4_tune_28 (Nat.zero_le _) (Nat.zero_le _)
  · refine hv_iload_n X dX4_tune_8 2 rfl ?_
    refine hv_iconst X (v := 0) dX4_tune_9 (by decide) ?_
    refine hv_ldc X q1556 dX4_tune_10 ?_
    refine hv_cS X pk_M_isIn (hw_M_isIn _ E a2 0 999999 S) q1319 dX4_tune_12 (by decide) (by decide) (Nat.zero_le _) (Nat.zero_le _) rfl rfl (Nat.le_of_ble_eq_true rfl) rfl ?_
    refine hv_ifb_eq X 27 h dX4_tune_15 (by decide) (fun h => ?_) (fun h => ?_)
    · refine hv_iconst X (v := (-1)) dX4_tune_27 (by decide) ?_
      obtain rfl := Option.some.inj h
      exact hv_iret X hr dX4_tune_28 (Nat.zero_le _) (Nat.zero_le _)
    · refine hv_iload_n X dX4_tune_18 3 rfl ?_
      refine hv_iconst X (v := 0) dX4_tune_19 (by decide) ?_
      refine hv_iconst X (v := 1) dX4_tune_20 (by decide) ?_
      refine hv_cS X pk_M_isIn (hw_M_isIn _ E a3 0 1 S) q1319 dX4_tune_21 (by decide) (by decide) (Nat.zero_le _) (Nat.zero_le _) rfl rfl (Nat.le_of_ble_eq_true rfl) rfl ?_
      refine hv_ifb_ne X 29 h dX4_tune_24 (by decide) (fun h => ?_) (fun h => ?_)
      · refine hv_aload_n X dX4_tune_29 0 rfl ?_
        refine hv_iload_n X dX4_tune_30 1 rfl ?_
        refine hv_iload_n X dX4_tune_31 2 rfl ?_
        refine hv_sipush X (v := 10000) dX4_tune_32 (by decide) ?_
        refine hv_idivc X (by decide) dX4_tune_35 ?_
        obtain ⟨r3, e4, h⟩ := hd_bind h
        refine hv_cV X pk_M_bladesFor hd_rcM (hw_M_bladesFor _ E a1 (a2 / 10000) S r3 e4) q1557 dX4_tune_36 (by decide) (by decide) (Nat.zero_le _) (Nat.zero_le _) rfl rfl (Nat.le_of_ble_eq_true rfl) rfl ?_
        refine hv_istore X [(4, .int r3), (0, .ref (hd_ad E 38)), (1, .int a1), (2, .int a2), (3, .int a3)] dX4_tune_39 (by decide) rfl ?_
        refine hv_aload_n X dX4_tune_41 1 rfl ?_
        refine hv_iload_n X dX4_tune_42 2 rfl ?_
        refine hv_iload_n X dX4_tune_43 3 rfl ?_
        refine hv_bipush X (v := 100) dX4_tune_44 (by decide) ?_
        refine hv_idivc X (by decide) dX4_tune_46 ?_
        refine hv_bipush X (v := 100) dX4_tune_47 (by decide) ?_
        refine hv_iremc X (by decide) dX4_tune_49 ?_
        obtain ⟨r5, e6, h⟩ := hd_bind h
        refine hv_cV X pk_M_bladesFor hd_rcM (hw_M_bladesFor _ E a1 ((a2 / 100) - (a2 / 100) / 100 * 100) S r5 e6) q1557 dX4_tune_50 (by decide) (by decide) (Nat.zero_le _) (Nat.zero_le _) rfl rfl (Nat.le_of_ble_eq_true rfl) rfl ?_
        refine hv_istore X [(5, .int r5), (4, .int r3), (0, .ref (hd_ad E 38)), (1, .int a1), (2, .int a2), (3, .int a3)] dX4_tune_53 (by decide) rfl ?_
        refine hv_aload_n X dX4_tune_55 2 rfl ?_
        refine hv_iload_n X dX4_tune_56 3 rfl ?_
        refine hv_iload_n X dX4_tune_57 4 rfl ?_
        refine hv_bipush X (v := 100) dX4_tune_58 (by decide) ?_
        refine hv_iremc X (by decide) dX4_tune_60 ?_
        obtain ⟨r7, e8, h⟩ := hd_bind h
        refine hv_cV X pk_M_bladesFor hd_rcM (hw_M_bladesFor _ E a1 (a2 - a2 / 100 * 100) S r7 e8) q1557 dX4_tune_61 (by decide) (by decide) (Nat.zero_le _) (Nat.zero_le _) rfl rfl (Nat.le_of_ble_eq_true rfl) rfl ?_
        refine hv_istore X [(6, .int r7), (5, .int r5), (4, .int r3), (0, .ref (hd_ad E 38)), (1, .int a1), (2, .int a2), (3, .int a3)] dX4_tune_64 (by decide) rfl ?_
        refine hv_iload_n X dX4_tune_66 6 rfl ?_
        refine hv_iconst X (v := 1) dX4_tune_67 (by decide) ?_
        refine hv_icmp_ne X 104 h dX4_tune_68 (by decide) (fun h => ?_) (fun h => ?_)
        · refine hv_iconst X (v := 0) dX4_tune_104 (by decide) ?_
          refine hv_istore X [(7, .int 0), (6, .int r7), (5, .int r5), (4, .int r3), (0, .ref (hd_ad E 38)), (1, .int a1), (2, .int a2), (3, .int a3)] dX4_tune_105 (by decide) rfl ?_
          refine hv_sub [(4, .int r3), (5, .int r5), (6, .int r7), (7, .int 0)] [3, 2, 1, 0] rfl ?_
          exact hw_M_tune_107 X hr hd_fuel r3 r5 r7 0 h
        · refine hv_iload X dX4_tune_71 2 rfl ?_
          refine hv_if_le X 80 h dX4_tune_73 (by decide) (fun h => ?_) (fun h => ?_)
          · refine hv_iconst X (v := 0) dX4_tune_80 (by decide) ?_
            refine hv_sub [(5, .int r5), (6, .int r7)] [1, 0] rfl ?_
            exact hw_M_tune_81 X hr r5 r7 0 h
          · refine hv_iconst X (v := 1) dX4_tune_76 (by decide) ?_
            refine hv_goto X 81 dX4_tune_77 (by decide) ?_
            refine hv_sub [(5, .int r5), (6, .int r7)] [1, 0] rfl ?_
            exact hw_M_tune_81 X hr r5 r7 1 h
      · refine hv_iconst X (v := (-1)) dX4_tune_27 (by decide) ?_
        obtain rfl := Option.some.inj h
        exact hv_iret X hr dX4_tune_28 (Nat.zero_le _) (Nat.zero_le _)
theorem pk_M_tune : hd_PkV RX4 yX4_tune cX4_tune 10 (some .int) 3 := ⟨q1553, q1554, q73, q1555, rfl, by decide +kernel, by decide +kernel, by decide +kernel⟩
