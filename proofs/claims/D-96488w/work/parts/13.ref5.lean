set_option maxRecDepth 100000
-- telling
def hf_M_telling_48 : Nat → Int32 → Int32 → Int32 → Int32 → Int32 → Int32 → hd_St → (Option (Int32 × hd_St))
  | 0, _, _, _, _, _, _, _ => none
  | n + 1, x1, x2, x3, x5, x6, x7, S =>
    if (3 : Int32) ≤ x7 then
    (some (x5, S))
    else
    ((hf_M_whereBy x1 x2 x3 x7 S).bind fun p3 =>
    if x6 < p3.1 then
    (hd_nm (hd_I p3.2 38 9) fun v5 =>
    hf_M_telling_48 n x1 x2 x3 x7 v5 (x7 + 1) p3.2)
    else
    (hf_M_telling_48 n x1 x2 x3 x5 x6 (x7 + 1) p3.2))
theorem hw_M_telling_48 {κ : hd_VK} {E : hd_EV} (X : hd_Cx κ E cX4_telling RX4 8 (hd_Rm 8 0 0)) (hr : (hd_kQ κ).sig.returnType = some .int) {y : (Int32 × hd_St)} : ∀ (n : Nat) (x1 : Int32) (x2 : Int32) (x3 : Int32) (x5 : Int32) (x6 : Int32) (x7 : Int32) (S : hd_St), hf_M_telling_48 n x1 x2 x3 x5 x6 x7 S = some y → hd_V κ E 8 0 0 (hd_Qf κ E (some (.int y.1)) y.2) S 48 [(0, .ref (hd_ad E 38)), (1, .int x1), (2, .int x2), (3, .int x3), (5, .int x5), (6, .int x6), (7, .int x7)] [] := by
  intro n
  induction n with
  | zero => intro x1 x2 x3 x5 x6 x7 S h; have h : (none : Option (Int32 × hd_St)) = some y := h; cases h
  | succ n ih =>
    intro x1 x2 x3 x5 x6 x7 S h
    rw [hf_M_telling_48] at h
    refine hv_iload X dX4_telling_48 6 rfl ?_
    refine hv_iconst X (v := 3) dX4_telling_50 (by decide) ?_
    refine hv_icmp_ge X 87 h dX4_telling_51 (by decide) (fun h => ?_) (fun h => ?_)
    · refine hv_iload X dX4_telling_87 4 rfl ?_
      obtain rfl := Option.some.inj h
      exact hv_iret X hr dX4_telling_89 (Nat.zero_le _) (Nat.zero_le _)
    · refine hv_aload_n X dX4_telling_54 0 rfl ?_
      refine hv_iload_n X dX4_telling_55 1 rfl ?_
      refine hv_iload_n X dX4_telling_56 2 rfl ?_
      refine hv_iload_n X dX4_telling_57 3 rfl ?_
      refine hv_iload X dX4_telling_58 6 rfl ?_
      obtain ⟨p3, e4, h⟩ := hd_bind h
      refine hv_cV X pk_M_whereBy hd_rcM (hw_M_whereBy _ E x1 x2 x3 x7 S p3 e4) q1618 dX4_telling_60 (by decide) (by decide) (Nat.zero_le _) (Nat.zero_le _) rfl rfl (Nat.le_of_ble_eq_true rfl) rfl ?_
      refine hv_iload X dX4_telling_63 5 rfl ?_
      refine hv_icmp_gt X 71 h dX4_telling_65 (by decide) (fun h => ?_) (fun h => ?_)
      · refine hv_iload X dX4_telling_71 6 rfl ?_
        refine hv_istore X [(5, .int x7), (0, .ref (hd_ad E 38)), (1, .int x1), (2, .int x2), (3, .int x3), (6, .int x6), (7, .int x7)] dX4_telling_73 (by decide) rfl ?_
        refine hv_aload_n X dX4_telling_75 1 rfl ?_
        refine hg_M_pairsMany X q1250 dX4_telling_76 ?_
        refine hv_nmI h (fun v5 h => ?_)
        refine hv_istore X [(6, .int v5), (5, .int x7), (0, .ref (hd_ad E 38)), (1, .int x1), (2, .int x2), (3, .int x3), (7, .int x7)] dX4_telling_79 (by decide) rfl ?_
        refine hv_iinc X (v := 1) [(7, .int (x7 + 1)), (6, .int v5), (5, .int x7), (0, .ref (hd_ad E 38)), (1, .int x1), (2, .int x2), (3, .int x3)] dX4_telling_81 6 rfl (by decide) (by decide) rfl ?_
        refine hv_goto X 48 dX4_telling_84 (by decide) ?_
        refine hv_sub [(0, .ref (hd_ad E 38)), (1, .int x1), (2, .int x2), (3, .int x3), (5, .int x7), (6, .int v5), (7, .int (x7 + 1))] [3, 4, 5, 6, 2, 1, 0] rfl ?_
        exact ih x1 x2 x3 x7 v5 (x7 + 1) p3.2 h
      · refine hv_goto X 81 dX4_telling_68 (by decide) ?_
        refine hv_iinc X (v := 1) [(7, .int (x7 + 1)), (0, .ref (hd_ad E 38)), (1, .int x1), (2, .int x2), (3, .int x3), (5, .int x5), (6, .int x6)] dX4_telling_81 6 rfl (by decide) (by decide) rfl ?_
        refine hv_goto X 48 dX4_telling_84 (by decide) ?_
        refine hv_sub [(0, .ref (hd_ad E 38)), (1, .int x1), (2, .int x2), (3, .int x3), (5, .int x5), (6, .int x6), (7, .int (x7 + 1))] [1, 2, 3, 4, 5, 6, 0] rfl ?_
        exact ih x1 x2 x3 x5 x6 (x7 + 1) p3.2 h
def hf_M_telling (a1 : Int32) (a2 : Int32) (a3 : Int32) (a4 : Int32) (S : hd_St) : (Option (Int32 × hd_St)) :=
  (hf_M_areAll a1 a2 a3 S).bind fun r1 =>
    if r1 = true then
    (if (hf_M_isIn a4 0 3) = true then
    (if (3 : Int32) ≤ a4 then
    (hf_M_telling_48 hd_fuel a1 a2 a3 (-4) 0 0 S)
    else
    ((hf_M_whereBy a1 a2 a3 a4 S).bind fun p6 =>
    some (p6.1, p6.2)))
    else
    (some ((-1), S)))
    else
    (some ((-1), S))
theorem hw_M_telling (l : Launch) (E : hd_EV) (a1 : Int32) (a2 : Int32) (a3 : Int32) (a4 : Int32) (S : hd_St) (y : (Int32 × hd_St)) (h : hf_M_telling a1 a2 a3 a4 S = some y) : hd_Mt l E yX4_telling cX4_telling 8 (some .int) (hd_Rm 8 0 0) [.ref (hd_ad E 38), .int a1, .int a2, .int a3, .int a4] S (some (.int y.1)) y.2 := by
  refine hd_Mt.start [(0, .ref (hd_ad E 38)), (1, .int a1), (2, .int a2), (3, .int a3), (4, .int a4)] hd_pnX4 rfl (Nat.le_of_ble_eq_true rfl) (fun κ X hl hr hn => ?_)
  have X : hd_Cx κ E cX4_telling RX4 8 (hd_Rm 8 0 0) := X
  unfold hf_M_telling at h
  refine hv_aload_n X dX4_telling_0 0 rfl ?_
  refine hv_iload_n X dX4_telling_1 1 rfl ?_
  refine hv_iload_n X dX4_telling_2 2 rfl ?_
  refine hv_iload_n X dX4_telling_3 3 rfl ?_
  obtain ⟨r1, e2, h⟩ := hd_bind h
  refine hv_cV X pk_M_areAll hd_rcM (hw_M_areAll _ E a1 a2 a3 S r1 e2) q1365 dX4_telling_4 (by decide) (by decide) (Nat.zero_le _) (Nat.zero_le _) rfl rfl (Nat.le_of_ble_eq_true rfl) rfl ?_
  refine hv_ifb_eq X 20 h dX4_telling_7 (by decide) (fun h => ?_) (fun h => ?_)
  · refine hv_iconst X (v := (-1)) dX4_telling_20 (by decide) ?_
    obtain rfl := Option.some.inj h
    exact hv_iret X hr dX4_telling_21 (Nat.zero_le _) (Nat.zero_le _)
  · refine hv_iload X dX4_telling_10 4 rfl ?_
    refine hv_iconst X (v := 0) dX4_telling_12 (by decide) ?_
    refine hv_iconst X (v := 3) dX4_telling_13 (by decide) ?_
    refine hv_cS X pk_M_isIn (hw_M_isIn _ E a4 0 3 S) q1319 dX4_telling_14 (by decide) (by decide) (Nat.zero_le _) (Nat.zero_le _) rfl rfl (Nat.le_of_ble_eq_true rfl) rfl ?_
    refine hv_ifb_ne X 22 h dX4_telling_17 (by decide) (fun h => ?_) (fun h => ?_)
    · refine hv_iload X dX4_telling_22 4 rfl ?_
      refine hv_iconst X (v := 3) dX4_telling_24 (by decide) ?_
      refine hv_icmp_ge X 38 h dX4_telling_25 (by decide) (fun h => ?_) (fun h => ?_)
      · refine hv_bipush X (v := (-4)) dX4_telling_38 (by decide) ?_
        refine hv_istore X [(5, .int (-4)), (0, .ref (hd_ad E 38)), (1, .int a1), (2, .int a2), (3, .int a3), (4, .int a4)] dX4_telling_40 (by decide) rfl ?_
        refine hv_iconst X (v := 0) dX4_telling_42 (by decide) ?_
        refine hv_istore X [(6, .int 0), (5, .int (-4)), (0, .ref (hd_ad E 38)), (1, .int a1), (2, .int a2), (3, .int a3), (4, .int a4)] dX4_telling_43 (by decide) rfl ?_
        refine hv_iconst X (v := 0) dX4_telling_45 (by decide) ?_
        refine hv_istore X [(7, .int 0), (6, .int 0), (5, .int (-4)), (0, .ref (hd_ad E 38)), (1, .int a1), (2, .int a2), (3, .int a3), (4, .int a4)] dX4_telling_46 (by decide) rfl ?_
        refine hv_sub [(0, .ref (hd_ad E 38)), (1, .int a1), (2, .int a2), (3, .int a3), (5, .int (-4)), (6, .int 0), (7, .int 0)] [3, 4, 5, 6, 2, 1, 0] rfl ?_
        exact hw_M_telling_48 X hr hd_fuel a1 a2 a3 (-4) 0 0 S h
      · refine hv_aload_n X dX4_telling_28 0 rfl ?_
        refine hv_iload_n X dX4_telling_29 1 rfl ?_
        refine hv_iload_n X dX4_telling_30 2 rfl ?_
        refine hv_iload_n X dX4_telling_31 3 rfl ?_
        refine hv_iload X dX4_telling_32 4 rfl ?_
        obtain ⟨p6, e7, h⟩ := hd_bind h
        refine hv_cV X pk_M_whereBy hd_rcM (hw_M_whereBy _ E a1 a2 a3 a4 S p6 e7) q1618 dX4_telling_34 (by decide) (by decide) (Nat.zero_le _) (Nat.zero_le _) rfl rfl (Nat.le_of_ble_eq_true rfl) rfl ?_
        obtain rfl := Option.some.inj h
        exact hv_iret X hr dX4_telling_37 (Nat.zero_le _) (Nat.zero_le _)
    · refine hv_iconst X (v := (-1)) dX4_telling_20 (by decide) ?_
      obtain rfl := Option.some.inj h
      exact hv_iret X hr dX4_telling_21 (Nat.zero_le _) (Nat.zero_le _)
theorem pk_M_telling : hd_PkV RX4 yX4_telling cX4_telling 8 (some .int) 4 := ⟨q1615, q1616, q73, q1617, rfl, by decide +kernel, by decide +kernel, by decide +kernel⟩
-- judge
def hf_M_judge_321 (S : hd_St) (K163 : Int32 → Int32 → Int32 → Int32 → Int32 → Int32 → Int32 → Int32 → (Option Int32)) (x2 : Int32) (x3 : Int32) (x4 : Int32) (x5 : Int32) (x6 : Int32) (x7 : Int32) (x9 : Int32) (x12 : Int32) (t0 : Int32) (t1 : Int32) : (Option Int32) :=
  hd_nm (t1 + t0) fun v17 =>
    if hd_ck (((100 : Int32) * x3) + x9) 800 = true then
    if hd_ck x3 8 = true then
    if (hd_I S 50 (((100 : Int32) * x3) + x9).toNatClampNeg) = (hf_M_leastOf (hd_I S 48 x3.toNatClampNeg)) then
    (K163 x2 x3 x4 x5 x6 x7 v17 (x9 + 1))
    else
    (if hd_ck (((100 : Int32) * x3) + x9) 800 = true then
    if (hd_I S 50 (((100 : Int32) * x3) + x9).toNatClampNeg) = x12 then
    (K163 x2 x3 x4 x5 x6 x7 v17 (x9 + 1))
    else
    (some x9)
    else none)
    else none
    else none
theorem hw_M_judge_321 {κ : hd_VK} {E : hd_EV} (X : hd_Cx κ E cX4_judge RX4 13 (hd_Rm 7 0 0)) (hr : (hd_kQ κ).sig.returnType = some .int) {S : hd_St} {y : Int32} (K163 : Int32 → Int32 → Int32 → Int32 → Int32 → Int32 → Int32 → Int32 → (Option Int32)) (hK163 : ∀ (x2 : Int32) (x3 : Int32) (x4 : Int32) (x5 : Int32) (x6 : Int32) (x7 : Int32) (x8 : Int32) (x9 : Int32), K163 x2 x3 x4 x5 x6 x7 x8 x9 = some y → hd_V κ E 13 0 0 (hd_Qf κ E (some (.int y)) S) S 163 [(0, .ref (hd_ad E 38)), (2, .int x2), (3, .int x3), (4, .int x4), (5, .int x5), (6, .int x6), (7, .int x7), (8, .int x8), (9, .int x9)] []) (x2 : Int32) (x3 : Int32) (x4 : Int32) (x5 : Int32) (x6 : Int32) (x7 : Int32) (x9 : Int32) (x12 : Int32) (t0 : Int32) (t1 : Int32) (h : hf_M_judge_321 S K163 x2 x3 x4 x5 x6 x7 x9 x12 t0 t1 = some y) : hd_V κ E 13 0 0 (hd_Qf κ E (some (.int y)) S) S 321 [(0, .ref (hd_ad E 38)), (2, .int x2), (3, .int x3), (4, .int x4), (5, .int x5), (6, .int x6), (7, .int x7), (9, .int x9), (12, .int x12)] [.int t0, .int t1] := by
  unfold hf_M_judge_321 at h
  refine hv_iadd X dX4_judge_321 ?_
  refine hv_nmI h (fun v17 h => ?_)
  refine hv_istore X [(8, .int v17), (0, .ref (hd_ad E 38)), (2, .int x2), (3, .int x3), (4, .int x4), (5, .int x5), (6, .int x6), (7, .int x7), (9, .int x9), (12, .int x12)] dX4_judge_322 (by decide) rfl ?_
  refine hv_aload_n X dX4_judge_324 1 rfl ?_
  refine hg_M_element X q1261 dX4_judge_325 ?_
  refine hv_bipush X (v := 100) dX4_judge_328 (by decide) ?_
  refine hv_iload_n X dX4_judge_330 3 rfl ?_
  refine hv_imul X dX4_judge_331 ?_
  refine hv_iload X dX4_judge_332 8 rfl ?_
  refine hv_iadd X dX4_judge_334 ?_
  refine hv_iald X h hd_ia50 dX4_judge_335 (fun h => ?_)
  refine hv_aload_n X dX4_judge_336 1 rfl ?_
  refine hg_M_sort X q1259 dX4_judge_337 ?_
  refine hv_iload_n X dX4_judge_340 3 rfl ?_
  refine hv_iald X h hd_ia48 dX4_judge_341 (fun h => ?_)
  refine hv_cS X pk_M_leastOf (hw_M_leastOf _ E (hd_I S 48 x3.toNatClampNeg) S) q1654 dX4_judge_342 (by decide) (by decide) (Nat.zero_le _) (Nat.zero_le _) rfl rfl (Nat.le_of_ble_eq_true rfl) rfl ?_
  refine hv_icmp_eq X 368 h dX4_judge_345 (by decide) (fun h => ?_) (fun h => ?_)
  · refine hv_iinc X (v := 1) [(9, .int (x9 + 1)), (8, .int v17), (0, .ref (hd_ad E 38)), (2, .int x2), (3, .int x3), (4, .int x4), (5, .int x5), (6, .int x6), (7, .int x7), (12, .int x12)] dX4_judge_368 8 rfl (by decide) (by decide) rfl ?_
    refine hv_goto X 163 dX4_judge_371 (by decide) ?_
    refine hv_sub [(0, .ref (hd_ad E 38)), (2, .int x2), (3, .int x3), (4, .int x4), (5, .int x5), (6, .int x6), (7, .int x7), (8, .int v17), (9, .int (x9 + 1))] [2, 3, 4, 5, 6, 7, 8, 1, 0] rfl ?_
    exact hK163 x2 x3 x4 x5 x6 x7 v17 (x9 + 1) h
  · refine hv_aload_n X dX4_judge_348 1 rfl ?_
    refine hg_M_element X q1261 dX4_judge_349 ?_
    refine hv_bipush X (v := 100) dX4_judge_352 (by decide) ?_
    refine hv_iload_n X dX4_judge_354 3 rfl ?_
    refine hv_imul X dX4_judge_355 ?_
    refine hv_iload X dX4_judge_356 8 rfl ?_
    refine hv_iadd X dX4_judge_358 ?_
    refine hv_iald X h hd_ia50 dX4_judge_359 (fun h => ?_)
    refine hv_iload X dX4_judge_360 9 rfl ?_
    refine hv_icmp_eq X 368 h dX4_judge_362 (by decide) (fun h => ?_) (fun h => ?_)
    · refine hv_iinc X (v := 1) [(9, .int (x9 + 1)), (8, .int v17), (0, .ref (hd_ad E 38)), (2, .int x2), (3, .int x3), (4, .int x4), (5, .int x5), (6, .int x6), (7, .int x7), (12, .int x12)] dX4_judge_368 8 rfl (by decide) (by decide) rfl ?_
      refine hv_goto X 163 dX4_judge_371 (by decide) ?_
      refine hv_sub [(0, .ref (hd_ad E 38)), (2, .int x2), (3, .int x3), (4, .int x4), (5, .int x5), (6, .int x6), (7, .int x7), (8, .int v17), (9, .int (x9 + 1))] [2, 3, 4, 5, 6, 7, 8, 1, 0] rfl ?_
      exact hK163 x2 x3 x4 x5 x6 x7 v17 (x9 + 1) h
    · refine hv_iload X dX4_judge_365 8 rfl ?_
      obtain rfl := Option.some.inj h
      exact hv_iret X hr dX4_judge_367 (Nat.zero_le _) (Nat.zero_le _)
def hf_M_judge_300 (S : hd_St) (K163 : Int32 → Int32 → Int32 → Int32 → Int32 → Int32 → Int32 → Int32 → (Option Int32)) (x2 : Int32) (x3 : Int32) (x4 : Int32) (x5 : Int32) (x6 : Int32) (x7 : Int32) (x8 : Int32) (x9 : Int32) (x10 : Int32) (x11 : Int32) (t0 : Int32) : (Option Int32) :=
  if x11 = 0 then
    ((hf_M_wears x7 x10 S).bind fun r15 =>
    hf_M_judge_321 S K163 x2 x3 x4 x5 x6 x7 x9 t0 r15 x8)
    else
    (hf_M_judge_321 S K163 x2 x3 x4 x5 x6 x7 x9 t0 0 x8)
theorem hw_M_judge_300 {κ : hd_VK} {E : hd_EV} (X : hd_Cx κ E cX4_judge RX4 13 (hd_Rm 7 0 0)) (hr : (hd_kQ κ).sig.returnType = some .int) {S : hd_St} {y : Int32} (K163 : Int32 → Int32 → Int32 → Int32 → Int32 → Int32 → Int32 → Int32 → (Option Int32)) (hK163 : ∀ (x2 : Int32) (x3 : Int32) (x4 : Int32) (x5 : Int32) (x6 : Int32) (x7 : Int32) (x8 : Int32) (x9 : Int32), K163 x2 x3 x4 x5 x6 x7 x8 x9 = some y → hd_V κ E 13 0 0 (hd_Qf κ E (some (.int y)) S) S 163 [(0, .ref (hd_ad E 38)), (2, .int x2), (3, .int x3), (4, .int x4), (5, .int x5), (6, .int x6), (7, .int x7), (8, .int x8), (9, .int x9)] []) (x2 : Int32) (x3 : Int32) (x4 : Int32) (x5 : Int32) (x6 : Int32) (x7 : Int32) (x8 : Int32) (x9 : Int32) (x10 : Int32) (x11 : Int32) (t0 : Int32) (h : hf_M_judge_300 S K163 x2 x3 x4 x5 x6 x7 x8 x9 x10 x11 t0 = some y) : hd_V κ E 13 0 0 (hd_Qf κ E (some (.int y)) S) S 300 [(0, .ref (hd_ad E 38)), (2, .int x2), (3, .int x3), (4, .int x4), (5, .int x5), (6, .int x6), (7, .int x7), (8, .int x8), (9, .int x9), (10, .int x10), (11, .int x11)] [.int t0] := by
  unfold hf_M_judge_300 at h
  refine hv_istore X [(12, .int t0), (0, .ref (hd_ad E 38)), (2, .int x2), (3, .int x3), (4, .int x4), (5, .int x5), (6, .int x6), (7, .int x7), (8, .int x8), (9, .int x9), (10, .int x10), (11, .int x11)] dX4_judge_300 (by decide) rfl ?_
  refine hv_iload X dX4_judge_302 8 rfl ?_
  refine hv_iload X dX4_judge_304 11 rfl ?_
  refine hv_if_eq X 313 h dX4_judge_306 (by decide) (fun h => ?_) (fun h => ?_)
  · refine hv_aload_n X dX4_judge_313 1 rfl ?_
    refine hv_iload X dX4_judge_314 7 rfl ?_
    refine hv_iload X dX4_judge_316 10 rfl ?_
    obtain ⟨r15, e16, h⟩ := hd_bind h
    refine hv_cV X pk_M_wears hd_rcM (hw_M_wears _ E x7 x10 S r15 e16) q1389 dX4_judge_318 (by decide) (by decide) (Nat.zero_le _) (Nat.zero_le _) rfl rfl (Nat.le_of_ble_eq_true rfl) rfl ?_
    refine hv_sub [(0, .ref (hd_ad E 38)), (2, .int x2), (3, .int x3), (4, .int x4), (5, .int x5), (6, .int x6), (7, .int x7), (9, .int x9), (12, .int t0)] [1, 2, 3, 4, 5, 6, 7, 9, 0] rfl ?_
    exact hw_M_judge_321 X hr K163 hK163 x2 x3 x4 x5 x6 x7 x9 t0 r15 x8 h
  · refine hv_iconst X (v := 0) dX4_judge_309 (by decide) ?_
    refine hv_goto X 321 dX4_judge_310 (by decide) ?_
    refine hv_sub [(0, .ref (hd_ad E 38)), (2, .int x2), (3, .int x3), (4, .int x4), (5, .int x5), (6, .int x6), (7, .int x7), (9, .int x9), (12, .int t0)] [1, 2, 3, 4, 5, 6, 7, 9, 0] rfl ?_
    exact hw_M_judge_321 X hr K163 hK163 x2 x3 x4 x5 x6 x7 x9 t0 0 x8 h
def hf_M_judge_268 (S : hd_St) (K163 : Int32 → Int32 → Int32 → Int32 → Int32 → Int32 → Int32 → Int32 → (Option Int32)) (x2 : Int32) (x3 : Int32) (x4 : Int32) (x5 : Int32) (x6 : Int32) (x7 : Int32) (x8 : Int32) (x9 : Int32) (x10 : Int32) (t0 : Int32) : (Option Int32) :=
  if t0 = 0 then
    ((hf_M_isSound x5 x6 x7 x2 x10 S).bind fun r13 =>
    if r13 = true then
    (hf_M_judge_300 S K163 x2 x3 x4 x5 x6 x7 x8 x9 x10 t0 1)
    else
    (hf_M_judge_300 S K163 x2 x3 x4 x5 x6 x7 x8 x9 x10 t0 0))
    else
    (hf_M_judge_300 S K163 x2 x3 x4 x5 x6 x7 x8 x9 x10 t0 2)
theorem hw_M_judge_268 {κ : hd_VK} {E : hd_EV} (X : hd_Cx κ E cX4_judge RX4 13 (hd_Rm 7 0 0)) (hr : (hd_kQ κ).sig.returnType = some .int) {S : hd_St} {y : Int32} (K163 : Int32 → Int32 → Int32 → Int32 → Int32 → Int32 → Int32 → Int32 → (Option Int32)) (hK163 : ∀ (x2 : Int32) (x3 : Int32) (x4 : Int32) (x5 : Int32) (x6 : Int32) (x7 : Int32) (x8 : Int32) (x9 : Int32), K163 x2 x3 x4 x5 x6 x7 x8 x9 = some y → hd_V κ E 13 0 0 (hd_Qf κ E (some (.int y)) S) S 163 [(0, .ref (hd_ad E 38)), (2, .int x2), (3, .int x3), (4, .int x4), (5, .int x5), (6, .int x6), (7, .int x7), (8, .int x8), (9, .int x9)] []) (x2 : Int32) (x3 : Int32) (x4 : Int32) (x5 : Int32) (x6 : Int32) (x7 : Int32) (x8 : Int32) (x9 : Int32) (x10 : Int32) (t0 : Int32) (h : hf_M_judge_268 S K163 x2 x3 x4 x5 x6 x7 x8 x9 x10 t0 = some y) : hd_V κ E 13 0 0 (hd_Qf κ E (some (.int y)) S) S 268 [(0, .ref (hd_ad E 38)), (2, .int x2), (3, .int x3), (4, .int x4), (5, .int x5), (6, .int x6), (7, .int x7), (8, .int x8), (9, .int x9), (10, .int x10)] [.int t0] := by
  unfold hf_M_judge_268 at h
  refine hv_istore X [(11, .int t0), (0, .ref (hd_ad E 38)), (2, .int x2), (3, .int x3), (4, .int x4), (5, .int x5), (6, .int x6), (7, .int x7), (8, .int x8), (9, .int x9), (10, .int x10)] dX4_judge_268 (by decide) rfl ?_
  refine hv_iload X dX4_judge_270 0 rfl ?_
  refine hv_if_eq X 279 h dX4_judge_272 (by decide) (fun h => ?_) (fun h => ?_)
  · refine hv_aload_n X dX4_judge_279 1 rfl ?_
    refine hv_iload X dX4_judge_280 5 rfl ?_
    refine hv_iload X dX4_judge_282 6 rfl ?_
    refine hv_iload X dX4_judge_284 7 rfl ?_
    refine hv_iload_n X dX4_judge_286 2 rfl ?_
    refine hv_iload X dX4_judge_287 10 rfl ?_
    obtain ⟨r13, e14, h⟩ := hd_bind h
    refine hv_cV X pk_M_isSound hd_rcM (hw_M_isSound _ E x5 x6 x7 x2 x10 S r13 e14) q1475 dX4_judge_289 (by decide) (by decide) (Nat.zero_le _) (Nat.zero_le _) rfl rfl (Nat.le_of_ble_eq_true rfl) rfl ?_
    refine hv_ifb_eq X 299 h dX4_judge_292 (by decide) (fun h => ?_) (fun h => ?_)
    · refine hv_iconst X (v := 0) dX4_judge_299 (by decide) ?_
      refine hv_sub [(0, .ref (hd_ad E 38)), (2, .int x2), (3, .int x3), (4, .int x4), (5, .int x5), (6, .int x6), (7, .int x7), (8, .int x8), (9, .int x9), (10, .int x10), (11, .int t0)] [1, 2, 3, 4, 5, 6, 7, 8, 9, 10, 0] rfl ?_
      exact hw_M_judge_300 X hr K163 hK163 x2 x3 x4 x5 x6 x7 x8 x9 x10 t0 0 h
    · refine hv_iconst X (v := 1) dX4_judge_295 (by decide) ?_
      refine hv_goto X 300 dX4_judge_296 (by decide) ?_
      refine hv_sub [(0, .ref (hd_ad E 38)), (2, .int x2), (3, .int x3), (4, .int x4), (5, .int x5), (6, .int x6), (7, .int x7), (8, .int x8), (9, .int x9), (10, .int x10), (11, .int t0)] [1, 2, 3, 4, 5, 6, 7, 8, 9, 10, 0] rfl ?_
      exact hw_M_judge_300 X hr K163 hK163 x2 x3 x4 x5 x6 x7 x8 x9 x10 t0 1 h
  · refine hv_iconst X (v := 2) dX4_judge_275 (by decide) ?_
    refine hv_goto X 300 dX4_judge_276 (by decide) ?_
    refine hv_sub [(0, .ref (hd_ad E 38)), (2, .int x2), (3, .int x3), (4, .int x4), (5, .int x5), (6, .int x6), (7, .int x7), (8, .int x8), (9, .int x9), (10, .int x10), (11, .int t0)] [1, 2, 3, 4, 5, 6, 7, 8, 9, 10, 0] rfl ?_
    exact hw_M_judge_300 X hr K163 hK163 x2 x3 x4 x5 x6 x7 x8 x9 x10 t0 2 h
def hf_M_judge_213 (S : hd_St) (K163 : Int32 → Int32 → Int32 → Int32 → Int32 → Int32 → Int32 → Int32 → (Option Int32)) (x2 : Int32) (x3 : Int32) (x4 : Int32) (x5 : Int32) (x6 : Int32) (x7 : Int32) (x8 : Int32) (x9 : Int32) : (Option Int32) :=
  if hd_ck x4 8 = true then
    if x9 < (hd_I S 49 x4.toNatClampNeg) then
    (if hd_ck (((100 : Int32) * x4) + x9) 800 = true then
    hd_nm (hd_I S 50 (((100 : Int32) * x4) + x9).toNatClampNeg) fun v8 =>
    (hf_M_bladeOf x5 1 S).bind fun r9 =>
    (hf_M_bladeOf x5 2 S).bind fun r11 =>
    if x8 ≤ (r9 + r11) then
    (hf_M_judge_268 S K163 x2 x3 x4 x5 x6 x7 x8 x9 v8 0)
    else
    (hf_M_judge_268 S K163 x2 x3 x4 x5 x6 x7 x8 x9 v8 1)
    else none)
    else
    (some x9)
    else none
theorem hw_M_judge_213 {κ : hd_VK} {E : hd_EV} (X : hd_Cx κ E cX4_judge RX4 13 (hd_Rm 7 0 0)) (hr : (hd_kQ κ).sig.returnType = some .int) {S : hd_St} {y : Int32} (K163 : Int32 → Int32 → Int32 → Int32 → Int32 → Int32 → Int32 → Int32 → (Option Int32)) (hK163 : ∀ (x2 : Int32) (x3 : Int32) (x4 : Int32) (x5 : Int32) (x6 : Int32) (x7 : Int32) (x8 : Int32) (x9 : Int32), K163 x2 x3 x4 x5 x6 x7 x8 x9 = some y → hd_V κ E 13 0 0 (hd_Qf κ E (some (.int y)) S) S 163 [(0, .ref (hd_ad E 38)), (2, .int x2), (3, .int x3), (4, .int x4), (5, .int x5), (6, .int x6), (7, .int x7), (8, .int x8), (9, .int x9)] []) (x2 : Int32) (x3 : Int32) (x4 : Int32) (x5 : Int32) (x6 : Int32) (x7 : Int32) (x8 : Int32) (x9 : Int32) (h : hf_M_judge_213 S K163 x2 x3 x4 x5 x6 x7 x8 x9 = some y) : hd_V κ E 13 0 0 (hd_Qf κ E (some (.int y)) S) S 213 [(0, .ref (hd_ad E 38)), (2, .int x2), (3, .int x3), (4, .int x4), (5, .int x5), (6, .int x6), (7, .int x7), (8, .int x8), (9, .int x9)] [] := by
  unfold hf_M_judge_213 at h
  refine hv_iload X dX4_judge_213 8 rfl ?_
  refine hv_aload_n X dX4_judge_215 0 rfl ?_
  refine hg_M_size X q1260 dX4_judge_216 ?_
  refine hv_iload X dX4_judge_219 3 rfl ?_
  refine hv_iald X h hd_ia49 dX4_judge_221 (fun h => ?_)
  refine hv_icmp_lt X 228 h dX4_judge_222 (by decide) (fun h => ?_) (fun h => ?_)
  · refine hv_aload_n X dX4_judge_228 0 rfl ?_
    refine hg_M_element X q1261 dX4_judge_229 ?_
    refine hv_bipush X (v := 100) dX4_judge_232 (by decide) ?_
    refine hv_iload X dX4_judge_234 3 rfl ?_
    refine hv_imul X dX4_judge_236 ?_
    refine hv_iload X dX4_judge_237 8 rfl ?_
    refine hv_iadd X dX4_judge_239 ?_
    refine hv_iald X h hd_ia50 dX4_judge_240 (fun h => ?_)
    refine hv_nmI h (fun v8 h => ?_)
    refine hv_istore X [(10, .int v8), (0, .ref (hd_ad E 38)), (2, .int x2), (3, .int x3), (4, .int x4), (5, .int x5), (6, .int x6), (7, .int x7), (8, .int x8), (9, .int x9)] dX4_judge_241 (by decide) rfl ?_
    refine hv_iload X dX4_judge_243 8 rfl ?_
    refine hv_aload_n X dX4_judge_245 1 rfl ?_
    refine hv_iload X dX4_judge_246 5 rfl ?_
    refine hv_iconst X (v := 1) dX4_judge_248 (by decide) ?_
    obtain ⟨r9, e10, h⟩ := hd_bind h
    refine hv_cV X pk_M_bladeOf hd_rcM (hw_M_bladeOf _ E x5 1 S r9 e10) q1385 dX4_judge_249 (by decide) (by decide) (Nat.zero_le _) (Nat.zero_le _) rfl rfl (Nat.le_of_ble_eq_true rfl) rfl ?_
    refine hv_aload_n X dX4_judge_252 1 rfl ?_
    refine hv_iload X dX4_judge_253 5 rfl ?_
    refine hv_iconst X (v := 2) dX4_judge_255 (by decide) ?_
    obtain ⟨r11, e12, h⟩ := hd_bind h
    refine hv_cV X pk_M_bladeOf hd_rcM (hw_M_bladeOf _ E x5 2 S r11 e12) q1385 dX4_judge_256 (by decide) (by decide) (Nat.zero_le _) (Nat.zero_le _) rfl rfl (Nat.le_of_ble_eq_true rfl) rfl ?_
    refine hv_iadd X dX4_judge_259 ?_
    refine hv_icmp_le X 267 h dX4_judge_260 (by decide) (fun h => ?_) (fun h => ?_)
    · refine hv_iconst X (v := 0) dX4_judge_267 (by decide) ?_
      refine hv_sub [(0, .ref (hd_ad E 38)), (2, .int x2), (3, .int x3), (4, .int x4), (5, .int x5), (6, .int x6), (7, .int x7), (8, .int x8), (9, .int x9), (10, .int v8)] [1, 2, 3, 4, 5, 6, 7, 8, 9, 0] rfl ?_
      exact hw_M_judge_268 X hr K163 hK163 x2 x3 x4 x5 x6 x7 x8 x9 v8 0 h
    · refine hv_iconst X (v := 1) dX4_judge_263 (by decide) ?_
      refine hv_goto X 268 dX4_judge_264 (by decide) ?_
      refine hv_sub [(0, .ref (hd_ad E 38)), (2, .int x2), (3, .int x3), (4, .int x4), (5, .int x5), (6, .int x6), (7, .int x7), (8, .int x8), (9, .int x9), (10, .int v8)] [1, 2, 3, 4, 5, 6, 7, 8, 9, 0] rfl ?_
      exact hw_M_judge_268 X hr K163 hK163 x2 x3 x4 x5 x6 x7 x8 x9 v8 1 h
  · refine hv_iload X dX4_judge_225 8 rfl ?_
    obtain rfl := Option.some.inj h
    exact hv_iret X hr dX4_judge_227 (Nat.zero_le _) (Nat.zero_le _)
def hf_M_judge_163 (S : hd_St) : Nat → Int32 → Int32 → Int32 → Int32 → Int32 → Int32 → Int32 → Int32 → (Option Int32)
  | 0, _, _, _, _, _, _, _, _ => none
  | n + 1, x2, x3, x4, x5, x6, x7, x8, x9 =>
    if hd_ck x3 8 = true then
    if (hd_I S 49 x3.toNatClampNeg) ≤ x9 then
    (some (-4))
    else
    (if hd_ck x4 8 = true then
    if x9 < (hd_I S 49 x4.toNatClampNeg) then
    (hf_M_judge_213 S (hf_M_judge_163 S n) x2 x3 x4 x5 x6 x7 x8 x9)
    else
    (if hd_ck (((100 : Int32) * x3) + x9) 800 = true then
    if hd_ck x3 8 = true then
    if (hd_I S 50 (((100 : Int32) * x3) + x9).toNatClampNeg) = (hf_M_leastOf (hd_I S 48 x3.toNatClampNeg)) then
    (hf_M_judge_163 S n x2 x3 x4 x5 x6 x7 x8 (x9 + 1))
    else
    (hf_M_judge_213 S (hf_M_judge_163 S n) x2 x3 x4 x5 x6 x7 x8 x9)
    else none
    else none)
    else none)
    else none
theorem hw_M_judge_163 {κ : hd_VK} {E : hd_EV} (X : hd_Cx κ E cX4_judge RX4 13 (hd_Rm 7 0 0)) (hr : (hd_kQ κ).sig.returnType = some .int) {S : hd_St} {y : Int32} : ∀ (n : Nat) (x2 : Int32) (x3 : Int32) (x4 : Int32) (x5 : Int32) (x6 : Int32) (x7 : Int32) (x8 : Int32) (x9 : Int32), hf_M_judge_163 S n x2 x3 x4 x5 x6 x7 x8 x9 = some y → hd_V κ E 13 0 0 (hd_Qf κ E (some (.int y)) S) S 163 [(0, .ref (hd_ad E 38)), (2, .int x2), (3, .int x3), (4, .int x4), (5, .int x5), (6, .int x6), (7, .int x7), (8, .int x8), (9, .int x9)] [] := by
  intro n
  induction n with
  | zero => intro x2 x3 x4 x5 x6 x7 x8 x9 h; have h : (none : Option Int32) = some y := h; cases h
  | succ n ih =>
    intro x2 x3 x4 x5 x6 x7 x8 x9 h
    rw [hf_M_judge_163] at h
    refine hv_iload X dX4_judge_163 8 rfl ?_
    refine hv_aload_n X dX4_judge_165 0 rfl ?_
    refine hg_M_size X q1260 dX4_judge_166 ?_
    refine hv_iload_n X dX4_judge_169 2 rfl ?_
    refine hv_iald X h hd_ia49 dX4_judge_170 (fun h => ?_)
    refine hv_icmp_ge X 374 h dX4_judge_171 (by decide) (fun h => ?_) (fun h => ?_)
    · refine hv_bipush X (v := (-4)) dX4_judge_374 (by decide) ?_
      obtain rfl := Option.some.inj h
      exact hv_iret X hr dX4_judge_376 (Nat.zero_le _) (Nat.zero_le _)
    · refine hv_iload X dX4_judge_174 8 rfl ?_
      refine hv_aload_n X dX4_judge_176 0 rfl ?_
      refine hg_M_size X q1260 dX4_judge_177 ?_
      refine hv_iload X dX4_judge_180 3 rfl ?_
      refine hv_iald X h hd_ia49 dX4_judge_182 (fun h => ?_)
      refine hv_icmp_lt X 213 h dX4_judge_183 (by decide) (fun h => ?_) (fun h => ?_)
      · exact hw_M_judge_213 X hr (hf_M_judge_163 S n) ih x2 x3 x4 x5 x6 x7 x8 x9 h
      · refine hv_aload_n X dX4_judge_186 0 rfl ?_
        refine hg_M_element X q1261 dX4_judge_187 ?_
        refine hv_bipush X (v := 100) dX4_judge_190 (by decide) ?_
        refine hv_iload_n X dX4_judge_192 2 rfl ?_
        refine hv_imul X dX4_judge_193 ?_
        refine hv_iload X dX4_judge_194 8 rfl ?_
        refine hv_iadd X dX4_judge_196 ?_
        refine hv_iald X h hd_ia50 dX4_judge_197 (fun h => ?_)
        refine hv_aload_n X dX4_judge_198 0 rfl ?_
        refine hg_M_sort X q1259 dX4_judge_199 ?_
        refine hv_iload_n X dX4_judge_202 2 rfl ?_
        refine hv_iald X h hd_ia48 dX4_judge_203 (fun h => ?_)
        refine hv_cS X pk_M_leastOf (hw_M_leastOf _ E (hd_I S 48 x3.toNatClampNeg) S) q1654 dX4_judge_204 (by decide) (by decide) (Nat.zero_le _) (Nat.zero_le _) rfl rfl (Nat.le_of_ble_eq_true rfl) rfl ?_
        refine hv_icmp_ne X 213 h dX4_judge_207 (by decide) (fun h => ?_) (fun h => ?_)
        · exact hw_M_judge_213 X hr (hf_M_judge_163 S n) ih x2 x3 x4 x5 x6 x7 x8 x9 h
        · refine hv_goto X 368 dX4_judge_210 (by decide) ?_
          refine hv_iinc X (v := 1) [(9, .int (x9 + 1)), (0, .ref (hd_ad E 38)), (2, .int x2), (3, .int x3), (4, .int x4), (5, .int x5), (6, .int x6), (7, .int x7), (8, .int x8)] dX4_judge_368 8 rfl (by decide) (by decide) rfl ?_
          refine hv_goto X 163 dX4_judge_371 (by decide) ?_
          refine hv_sub [(0, .ref (hd_ad E 38)), (2, .int x2), (3, .int x3), (4, .int x4), (5, .int x5), (6, .int x6), (7, .int x7), (8, .int x8), (9, .int (x9 + 1))] [1, 2, 3, 4, 5, 6, 7, 8, 0] rfl ?_
          exact ih x2 x3 x4 x5 x6 x7 x8 (x9 + 1) h
def hf_M_judge_111 (S : hd_St) : Nat → Int32 → Int32 → Int32 → Int32 → Int32 → Int32 → Int32 → (Option Int32)
  | 0, _, _, _, _, _, _, _ => none
  | n + 1, x2, x3, x4, x5, x6, x7, x8 =>
    if hd_ck x4 8 = true then
    if (hd_I S 49 x4.toNatClampNeg) ≤ x8 then
    ((hf_M_bladeOf x5 3 S).bind fun r6 =>
    hf_M_judge_163 S hd_fuel x2 x3 x4 x5 x6 x7 r6 0)
    else
    (if hd_ck (((100 : Int32) * x4) + x8) 800 = true then
    if (hf_M_isForce (hd_I S 50 (((100 : Int32) * x4) + x8).toNatClampNeg)) = true then
    (hf_M_judge_111 S n x2 x3 x4 x5 x6 x7 (x8 + 1))
    else
    (some (-13))
    else none)
    else none
theorem hw_M_judge_111 {κ : hd_VK} {E : hd_EV} (X : hd_Cx κ E cX4_judge RX4 13 (hd_Rm 7 0 0)) (hr : (hd_kQ κ).sig.returnType = some .int) {S : hd_St} {y : Int32} : ∀ (n : Nat) (x2 : Int32) (x3 : Int32) (x4 : Int32) (x5 : Int32) (x6 : Int32) (x7 : Int32) (x8 : Int32), hf_M_judge_111 S n x2 x3 x4 x5 x6 x7 x8 = some y → hd_V κ E 13 0 0 (hd_Qf κ E (some (.int y)) S) S 111 [(0, .ref (hd_ad E 38)), (2, .int x2), (3, .int x3), (4, .int x4), (5, .int x5), (6, .int x6), (7, .int x7), (8, .int x8)] [] := by
  intro n
  induction n with
  | zero => intro x2 x3 x4 x5 x6 x7 x8 h; have h : (none : Option Int32) = some y := h; cases h
  | succ n ih =>
    intro x2 x3 x4 x5 x6 x7 x8 h
    rw [hf_M_judge_111] at h
    refine hv_iload X dX4_judge_111 7 rfl ?_
    refine hv_aload_n X dX4_judge_113 0 rfl ?_
    refine hg_M_size X q1260 dX4_judge_114 ?_
    refine hv_iload X dX4_judge_117 3 rfl ?_
    refine hv_iald X h hd_ia49 dX4_judge_119 (fun h => ?_)
    refine hv_icmp_ge X 151 h dX4_judge_120 (by decide) (fun h => ?_) (fun h => ?_)
    · refine hv_aload_n X dX4_judge_151 0 rfl ?_
      refine hv_iload X dX4_judge_152 4 rfl ?_
      refine hv_iconst X (v := 3) dX4_judge_154 (by decide) ?_
      obtain ⟨r6, e7, h⟩ := hd_bind h
      refine hv_cV X pk_M_bladeOf hd_rcM (hw_M_bladeOf _ E x5 3 S r6 e7) q1385 dX4_judge_155 (by decide) (by decide) (Nat.zero_le _) (Nat.zero_le _) rfl rfl (Nat.le_of_ble_eq_true rfl) rfl ?_
      refine hv_istore X [(8, .int r6), (0, .ref (hd_ad E 38)), (2, .int x2), (3, .int x3), (4, .int x4), (5, .int x5), (6, .int x6), (7, .int x7)] dX4_judge_158 (by decide) rfl ?_
      refine hv_iconst X (v := 0) dX4_judge_160 (by decide) ?_
      refine hv_istore X [(9, .int 0), (8, .int r6), (0, .ref (hd_ad E 38)), (2, .int x2), (3, .int x3), (4, .int x4), (5, .int x5), (6, .int x6), (7, .int x7)] dX4_judge_161 (by decide) rfl ?_
      refine hv_sub [(0, .ref (hd_ad E 38)), (2, .int x2), (3, .int x3), (4, .int x4), (5, .int x5), (6, .int x6), (7, .int x7), (8, .int r6), (9, .int 0)] [2, 3, 4, 5, 6, 7, 8, 1, 0] rfl ?_
      exact hw_M_judge_163 X hr hd_fuel x2 x3 x4 x5 x6 x7 r6 0 h
    · refine hv_aload_n X dX4_judge_123 0 rfl ?_
      refine hg_M_element X q1261 dX4_judge_124 ?_
      refine hv_bipush X (v := 100) dX4_judge_127 (by decide) ?_
      refine hv_iload X dX4_judge_129 3 rfl ?_
      refine hv_imul X dX4_judge_131 ?_
      refine hv_iload X dX4_judge_132 7 rfl ?_
      refine hv_iadd X dX4_judge_134 ?_
      refine hv_iald X h hd_ia50 dX4_judge_135 (fun h => ?_)
      refine hv_cS X pk_M_isForce (hw_M_isForce _ E (hd_I S 50 (((100 : Int32) * x4) + x8).toNatClampNeg) S) q1429 dX4_judge_136 (by decide) (by decide) (Nat.zero_le _) (Nat.zero_le _) rfl rfl (Nat.le_of_ble_eq_true rfl) rfl ?_
      refine hv_ifb_ne X 145 h dX4_judge_139 (by decide) (fun h => ?_) (fun h => ?_)
      · refine hv_iinc X (v := 1) [(8, .int (x8 + 1)), (0, .ref (hd_ad E 38)), (2, .int x2), (3, .int x3), (4, .int x4), (5, .int x5), (6, .int x6), (7, .int x7)] dX4_judge_145 7 rfl (by decide) (by decide) rfl ?_
        refine hv_goto X 111 dX4_judge_148 (by decide) ?_
        refine hv_sub [(0, .ref (hd_ad E 38)), (2, .int x2), (3, .int x3), (4, .int x4), (5, .int x5), (6, .int x6), (7, .int x7), (8, .int (x8 + 1))] [1, 2, 3, 4, 5, 6, 7, 0] rfl ?_
        exact ih x2 x3 x4 x5 x6 x7 (x8 + 1) h
      · refine hv_bipush X (v := (-13)) dX4_judge_142 (by decide) ?_
        obtain rfl := Option.some.inj h
        exact hv_iret X hr dX4_judge_144 (Nat.zero_le _) (Nat.zero_le _)
def hf_M_judge (a1 : Int32) (a2 : Int32) (a3 : Int32) (a4 : Int32) (S : hd_St) : (Option Int32) :=
  hd_nm (a1 / 100) fun v1 =>
    hd_nm ((a1 / 10) - (a1 / 10) / 10 * 10) fun v2 =>
    hd_nm (a1 - a1 / 10 * 10) fun v3 =>
    if a1 < 0 then
    (some (-1))
    else
    ((hf_M_areAll v1 v2 v3 S).bind fun r4 =>
    if r4 = true then
    (if (hf_M_isForce a2) = true then
    (if (hf_M_isShelf a3) = true then
    (if (hf_M_isShelf a4) = true then
    (if hd_ck a3 8 = true then
    if (hd_I S 45 a3.toNatClampNeg) = 0 then
    (some (-11))
    else
    (if hd_ck a4 8 = true then
    if (hd_I S 45 a4.toNatClampNeg) = 0 then
    (some (-11))
    else
    (if hd_ck a3 8 = true then
    if (hd_I S 45 a3.toNatClampNeg) = (2 : Int32) then
    (if hd_ck a4 8 = true then
    if (hd_I S 45 a4.toNatClampNeg) = (2 : Int32) then
    (hf_M_judge_111 S hd_fuel a2 a3 a4 v1 v2 v3 0)
    else
    (some (-12))
    else none)
    else
    (some (-12))
    else none)
    else none)
    else none)
    else
    (some (-1)))
    else
    (some (-1)))
    else
    (some (-1)))
    else
    (some (-1)))
theorem hw_M_judge (l : Launch) (E : hd_EV) (a1 : Int32) (a2 : Int32) (a3 : Int32) (a4 : Int32) (S : hd_St) (y : Int32) (h : hf_M_judge a1 a2 a3 a4 S = some y) : hd_Mt l E yX4_judge cX4_judge 13 (some .int) (hd_Rm 7 0 0) [.ref (hd_ad E 38), .int a1, .int a2, .int a3, .int a4] S (some (.int y)) S := by
  refine hd_Mt.start [(0, .ref (hd_ad E 38)), (1, .int a1), (2, .int a2), (3, .int a3), (4, .int a4)] hd_pnX4 rfl (Nat.le_of_ble_eq_true rfl) (fun κ X hl hr hn => ?_)
  have X : hd_Cx κ E cX4_judge RX4 13 (hd_Rm 7 0 0) := X
  unfold hf_M_judge at h
  refine hv_iload_n X dX4_judge_0 1 rfl ?_
  refine hv_bipush X (v := 100) dX4_judge_1 (by decide) ?_
  refine hv_idivc X (by decide) dX4_judge_3 ?_
  refine hv_nmI h (fun v1 h => ?_)
  refine hv_istore X [(5, .int v1), (0, .ref (hd_ad E 38)), (1, .int a1), (2, .int a2), (3, .int a3), (4, .int a4)] dX4_judge_4 (by decide) rfl ?_
  refine hv_iload_n X dX4_judge_6 2 rfl ?_
  refine hv_bipush X (v := 10) dX4_judge_7 (by decide) ?_
  refine hv_idivc X (by decide) dX4_judge_9 ?_
  refine hv_bipush X (v := 10) dX4_judge_10 (by decide) ?_
  refine hv_iremc X (by decide) dX4_judge_12 ?_
  refine hv_nmI h (fun v2 h => ?_)
  refine hv_istore X [(6, .int v2), (5, .int v1), (0, .ref (hd_ad E 38)), (1, .int a1), (2, .int a2), (3, .int a3), (4, .int a4)] dX4_judge_13 (by decide) rfl ?_
  refine hv_iload_n X dX4_judge_15 3 rfl ?_
  refine hv_bipush X (v := 10) dX4_judge_16 (by decide) ?_
  refine hv_iremc X (by decide) dX4_judge_18 ?_
  refine hv_nmI h (fun v3 h => ?_)
  refine hv_istore X [(7, .int v3), (6, .int v2), (5, .int v1), (0, .ref (hd_ad E 38)), (1, .int a1), (2, .int a2), (3, .int a3), (4, .int a4)] dX4_judge_19 (by decide) rfl ?_
  refine hv_iload_n X dX4_judge_21 4 rfl ?_
  refine hv_if_lt X 60 h dX4_judge_22 (by decide) (fun h => ?_) (fun h => ?_)
  · refine hv_iconst X (v := (-1)) dX4_judge_60 (by decide) ?_
    obtain rfl := Option.some.inj h
    exact hv_iret X hr dX4_judge_61 (Nat.zero_le _) (Nat.zero_le _)
  · refine hv_aload_n X dX4_judge_25 3 rfl ?_
    refine hv_iload X dX4_judge_26 2 rfl ?_
    refine hv_iload X dX4_judge_28 1 rfl ?_
    refine hv_iload X dX4_judge_30 0 rfl ?_
    obtain ⟨r4, e5, h⟩ := hd_bind h
    refine hv_cV X pk_M_areAll hd_rcM (hw_M_areAll _ E v1 v2 v3 S r4 e5) q1365 dX4_judge_32 (by decide) (by decide) (Nat.zero_le _) (Nat.zero_le _) rfl rfl (Nat.le_of_ble_eq_true rfl) rfl ?_
    refine hv_ifb_eq X 60 h dX4_judge_35 (by decide) (fun h => ?_) (fun h => ?_)
    · refine hv_iconst X (v := (-1)) dX4_judge_60 (by decide) ?_
      obtain rfl := Option.some.inj h
      exact hv_iret X hr dX4_judge_61 (Nat.zero_le _) (Nat.zero_le _)
    · refine hv_iload_n X dX4_judge_38 5 rfl ?_
      refine hv_cS X pk_M_isForce (hw_M_isForce _ E a2 S) q1429 dX4_judge_39 (by decide) (by decide) (Nat.zero_le _) (Nat.zero_le _) rfl rfl (Nat.le_of_ble_eq_true rfl) rfl ?_
      refine hv_ifb_eq X 60 h dX4_judge_42 (by decide) (fun h => ?_) (fun h => ?_)
      · refine hv_iconst X (v := (-1)) dX4_judge_60 (by decide) ?_
        obtain rfl := Option.some.inj h
        exact hv_iret X hr dX4_judge_61 (Nat.zero_le _) (Nat.zero_le _)
      · refine hv_iload_n X dX4_judge_45 6 rfl ?_
        refine hv_cS X pk_M_isShelf (hw_M_isShelf _ E a3 S) q1316 dX4_judge_46 (by decide) (by decide) (Nat.zero_le _) (Nat.zero_le _) rfl rfl (Nat.le_of_ble_eq_true rfl) rfl ?_
        refine hv_ifb_eq X 60 h dX4_judge_49 (by decide) (fun h => ?_) (fun h => ?_)
        · refine hv_iconst X (v := (-1)) dX4_judge_60 (by decide) ?_
          obtain rfl := Option.some.inj h
          exact hv_iret X hr dX4_judge_61 (Nat.zero_le _) (Nat.zero_le _)
        · refine hv_iload X dX4_judge_52 7 rfl ?_
          refine hv_cS X pk_M_isShelf (hw_M_isShelf _ E a4 S) q1316 dX4_judge_54 (by decide) (by decide) (Nat.zero_le _) (Nat.zero_le _) rfl rfl (Nat.le_of_ble_eq_true rfl) rfl ?_
          refine hv_ifb_ne X 62 h dX4_judge_57 (by decide) (fun h => ?_) (fun h => ?_)
          · refine hv_aload_n X dX4_judge_62 3 rfl ?_
            refine hg_M_kept X q1256 dX4_judge_63 ?_
            refine hv_iload_n X dX4_judge_66 6 rfl ?_
            refine hv_iald X h hd_ia45 dX4_judge_67 (fun h => ?_)
            refine hv_if_eq X 81 h dX4_judge_68 (by decide) (fun h => ?_) (fun h => ?_)
            · refine hv_bipush X (v := (-11)) dX4_judge_81 (by decide) ?_
              obtain rfl := Option.some.inj h
              exact hv_iret X hr dX4_judge_83 (Nat.zero_le _) (Nat.zero_le _)
            · refine hv_aload_n X dX4_judge_71 3 rfl ?_
              refine hg_M_kept X q1256 dX4_judge_72 ?_
              refine hv_iload X dX4_judge_75 7 rfl ?_
              refine hv_iald X h hd_ia45 dX4_judge_77 (fun h => ?_)
              refine hv_if_ne X 84 h dX4_judge_78 (by decide) (fun h => ?_) (fun h => ?_)
              · refine hv_aload_n X dX4_judge_84 3 rfl ?_
                refine hg_M_kept X q1256 dX4_judge_85 ?_
                refine hv_iload_n X dX4_judge_88 6 rfl ?_
                refine hv_iald X h hd_ia45 dX4_judge_89 (fun h => ?_)
                refine hv_iconst X (v := 2) dX4_judge_90 (by decide) ?_
                refine hv_icmp_ne X 105 h dX4_judge_91 (by decide) (fun h => ?_) (fun h => ?_)
                · refine hv_bipush X (v := (-12)) dX4_judge_105 (by decide) ?_
                  obtain rfl := Option.some.inj h
                  exact hv_iret X hr dX4_judge_107 (Nat.zero_le _) (Nat.zero_le _)
                · refine hv_aload_n X dX4_judge_94 3 rfl ?_
                  refine hg_M_kept X q1256 dX4_judge_95 ?_
                  refine hv_iload X dX4_judge_98 7 rfl ?_
                  refine hv_iald X h hd_ia45 dX4_judge_100 (fun h => ?_)
                  refine hv_iconst X (v := 2) dX4_judge_101 (by decide) ?_
                  refine hv_icmp_eq X 108 h dX4_judge_102 (by decide) (fun h => ?_) (fun h => ?_)
                  · refine hv_iconst X (v := 0) dX4_judge_108 (by decide) ?_
                    refine hv_istore X [(8, .int 0), (7, .int v3), (6, .int v2), (5, .int v1), (0, .ref (hd_ad E 38)), (1, .int a1), (2, .int a2), (3, .int a3), (4, .int a4)] dX4_judge_109 (by decide) rfl ?_
                    refine hv_sub [(0, .ref (hd_ad E 38)), (2, .int a2), (3, .int a3), (4, .int a4), (5, .int v1), (6, .int v2), (7, .int v3), (8, .int 0)] [4, 6, 7, 8, 3, 2, 1, 0] rfl ?_
                    exact hw_M_judge_111 X hr hd_fuel a2 a3 a4 v1 v2 v3 0 h
                  · refine hv_bipush X (v := (-12)) dX4_judge_105 (by decide) ?_
                    obtain rfl := Option.some.inj h
                    exact hv_iret X hr dX4_judge_107 (Nat.zero_le _) (Nat.zero_le _)
              · refine hv_bipush X (v := (-11)) dX4_judge_81 (by decide) ?_
                obtain rfl := Option.some.inj h
                exact hv_iret X hr dX4_judge_83 (Nat.zero_le _) (Nat.zero_le _)
          · refine hv_iconst X (v := (-1)) dX4_judge_60 (by decide) ?_
            obtain rfl := Option.some.inj h
            exact hv_iret X hr dX4_judge_61 (Nat.zero_le _) (Nat.zero_le _)
theorem pk_M_judge : hd_PkV RX4 yX4_judge cX4_judge 13 (some .int) 4 := ⟨q1651, q1652, q73, q1653, rfl, by decide +kernel, by decide +kernel, by decide +kernel⟩
-- walks
def hf_M_walks_199 (K76 : Int32 → Int32 → Int32 → Int32 → Int32 → hd_St → (Option (Int32 × hd_St))) : Nat → Int32 → Int32 → Int32 → Int32 → Int32 → Int32 → hd_St → (Option (Int32 × hd_St))
  | 0, _, _, _, _, _, _, _ => none
  | n + 1, x1, x3, x4, x5, x6, x7, S =>
    if hd_ck 0 47 = true then
    if (hd_I S 39 (0 : Int32).toNatClampNeg) ≤ x7 then
    (K76 x1 x3 x4 x5 (x6 + 1) S)
    else
    ((hf_M_isSplit x7 S).bind fun r8 =>
    if r8 = true then
    (hd_nm (x5 + 1) fun v11 =>
    hf_M_walks_199 K76 n x1 x3 x4 v11 x6 (x7 + 1) S)
    else
    (hd_nm (x5 + 0) fun v10 =>
    hf_M_walks_199 K76 n x1 x3 x4 v10 x6 (x7 + 1) S))
    else none
theorem hw_M_walks_199 {κ : hd_VK} {E : hd_EV} (X : hd_Cx κ E cX4_walks RX4 13 (hd_Rm 8 0 0)) (hr : (hd_kQ κ).sig.returnType = some .int) {y : (Int32 × hd_St)} (K76 : Int32 → Int32 → Int32 → Int32 → Int32 → hd_St → (Option (Int32 × hd_St))) (hK76 : ∀ (x1 : Int32) (x3 : Int32) (x4 : Int32) (x5 : Int32) (x6 : Int32) (S : hd_St), K76 x1 x3 x4 x5 x6 S = some y → hd_V κ E 13 0 0 (hd_Qf κ E (some (.int y.1)) y.2) S 76 [(0, .ref (hd_ad E 38)), (1, .int x1), (3, .int x3), (4, .int x4), (5, .int x5), (6, .int x6)] []) : ∀ (n : Nat) (x1 : Int32) (x3 : Int32) (x4 : Int32) (x5 : Int32) (x6 : Int32) (x7 : Int32) (S : hd_St), hf_M_walks_199 K76 n x1 x3 x4 x5 x6 x7 S = some y → hd_V κ E 13 0 0 (hd_Qf κ E (some (.int y.1)) y.2) S 199 [(0, .ref (hd_ad E 38)), (1, .int x1), (3, .int x3), (4, .int x4), (5, .int x5), (6, .int x6), (7, .int x7)] [] := by
  intro n
  induction n with
  | zero => intro x1 x3 x4 x5 x6 x7 S h; have h : (none : Option (Int32 × hd_St)) = some y := h; cases h
  | succ n ih =>
    intro x1 x3 x4 x5 x6 x7 S h
    rw [hf_M_walks_199] at h
    refine hv_iload X dX4_walks_199 6 rfl ?_
    refine hv_aload_n X dX4_walks_201 0 rfl ?_
    refine hg_M_s X q1241 dX4_walks_202 ?_
    refine hv_iconst X (v := 0) dX4_walks_205 (by decide) ?_
    refine hv_iald X h hd_ia39 dX4_walks_206 (fun h => ?_)
    refine hv_icmp_ge X 235 h dX4_walks_207 (by decide) (fun h => ?_) (fun h => ?_)
    · refine hv_iinc X (v := 1) [(6, .int (x6 + 1)), (0, .ref (hd_ad E 38)), (1, .int x1), (3, .int x3), (4, .int x4), (5, .int x5), (7, .int x7)] dX4_walks_235 5 rfl (by decide) (by decide) rfl ?_
      refine hv_goto X 76 dX4_walks_238 (by decide) ?_
      refine hv_sub [(0, .ref (hd_ad E 38)), (1, .int x1), (3, .int x3), (4, .int x4), (5, .int x5), (6, .int (x6 + 1))] [1, 2, 3, 4, 5, 0] rfl ?_
      exact hK76 x1 x3 x4 x5 (x6 + 1) S h
    · refine hv_iload X dX4_walks_210 4 rfl ?_
      refine hv_aload_n X dX4_walks_212 0 rfl ?_
      refine hv_iload X dX4_walks_213 6 rfl ?_
      obtain ⟨r8, e9, h⟩ := hd_bind h
      refine hv_cV X pk_M_isSplit hd_rcM (hw_M_isSplit _ E x7 S r8 e9) q1381 dX4_walks_215 (by decide) (by decide) (Nat.zero_le _) (Nat.zero_le _) rfl rfl (Nat.le_of_ble_eq_true rfl) rfl ?_
      refine hv_ifb_eq X 225 h dX4_walks_218 (by decide) (fun h => ?_) (fun h => ?_)
      · refine hv_iconst X (v := 0) dX4_walks_225 (by decide) ?_
        refine hv_iadd X dX4_walks_226 ?_
        refine hv_nmI h (fun v10 h => ?_)
        refine hv_istore X [(5, .int v10), (0, .ref (hd_ad E 38)), (1, .int x1), (3, .int x3), (4, .int x4), (6, .int x6), (7, .int x7)] dX4_walks_227 (by decide) rfl ?_
        refine hv_iinc X (v := 1) [(7, .int (x7 + 1)), (5, .int v10), (0, .ref (hd_ad E 38)), (1, .int x1), (3, .int x3), (4, .int x4), (6, .int x6)] dX4_walks_229 6 rfl (by decide) (by decide) rfl ?_
        refine hv_goto X 199 dX4_walks_232 (by decide) ?_
        refine hv_sub [(0, .ref (hd_ad E 38)), (1, .int x1), (3, .int x3), (4, .int x4), (5, .int v10), (6, .int x6), (7, .int (x7 + 1))] [2, 3, 4, 5, 1, 6, 0] rfl ?_
        exact ih x1 x3 x4 v10 x6 (x7 + 1) S h
      · refine hv_iconst X (v := 1) dX4_walks_221 (by decide) ?_
        refine hv_goto X 226 dX4_walks_222 (by decide) ?_
        refine hv_iadd X dX4_walks_226 ?_
        refine hv_nmI h (fun v11 h => ?_)
        refine hv_istore X [(5, .int v11), (0, .ref (hd_ad E 38)), (1, .int x1), (3, .int x3), (4, .int x4), (6, .int x6), (7, .int x7)] dX4_walks_227 (by decide) rfl ?_
        refine hv_iinc X (v := 1) [(7, .int (x7 + 1)), (5, .int v11), (0, .ref (hd_ad E 38)), (1, .int x1), (3, .int x3), (4, .int x4), (6, .int x6)] dX4_walks_229 6 rfl (by decide) (by decide) rfl ?_
        refine hv_goto X 199 dX4_walks_232 (by decide) ?_
        refine hv_sub [(0, .ref (hd_ad E 38)), (1, .int x1), (3, .int x3), (4, .int x4), (5, .int v11), (6, .int x6), (7, .int (x7 + 1))] [2, 3, 4, 5, 1, 6, 0] rfl ?_
        exact ih x1 x3 x4 v11 x6 (x7 + 1) S h
def hf_M_walks_96 (K76 : Int32 → Int32 → Int32 → Int32 → Int32 → hd_St → (Option (Int32 × hd_St))) : Nat → Int32 → Int32 → Int32 → Int32 → Int32 → Int32 → hd_St → (Option (Int32 × hd_St))
  | 0, _, _, _, _, _, _, _ => none
  | n + 1, x1, x3, x4, x5, x6, x7, S =>
    if (10 : Int32) ≤ x7 then
    (hf_M_walks_199 K76 hd_fuel x1 x3 x4 x5 x6 0 S)
    else
    (if hd_ck 0 47 = true then
    (hf_M_drawn (hd_I S 39 (0 : Int32).toNatClampNeg) S).bind fun p12 =>
    if hd_ck 1 47 = true then
    (hf_M_drawn (hd_I p12.2 39 (1 : Int32).toNatClampNeg) p12.2).bind fun p14 =>
    if hd_ck 2 47 = true then
    (hf_M_drawn (hd_I p14.2 39 (2 : Int32).toNatClampNeg) p14.2).bind fun p16 =>
    (hf_M_drawn 61 p16.2).bind fun p18 =>
    (hf_M_drawn 61 p18.2).bind fun p20 =>
    (hf_M_tries p12.1 p14.1 p16.1 p18.1 p20.1 p20.2).bind fun p22 =>
    if p22.1 ≤ 0 then
    (hd_nm (x4 + 0) fun v24 =>
    hf_M_walks_96 K76 n x1 x3 v24 x5 x6 (x7 + 1) p22.2)
    else
    (if (p22.1 - p22.1 / 2 * 2) = (1 : Int32) then
    (hd_nm (x4 + 1) fun v26 =>
    hf_M_walks_96 K76 n x1 x3 v26 x5 x6 (x7 + 1) p22.2)
    else
    (hd_nm (x4 + 0) fun v25 =>
    hf_M_walks_96 K76 n x1 x3 v25 x5 x6 (x7 + 1) p22.2))
    else none
    else none
    else none)
theorem hw_M_walks_96 {κ : hd_VK} {E : hd_EV} (X : hd_Cx κ E cX4_walks RX4 13 (hd_Rm 8 0 0)) (hr : (hd_kQ κ).sig.returnType = some .int) {y : (Int32 × hd_St)} (K76 : Int32 → Int32 → Int32 → Int32 → Int32 → hd_St → (Option (Int32 × hd_St))) (hK76 : ∀ (x1 : Int32) (x3 : Int32) (x4 : Int32) (x5 : Int32) (x6 : Int32) (S : hd_St), K76 x1 x3 x4 x5 x6 S = some y → hd_V κ E 13 0 0 (hd_Qf κ E (some (.int y.1)) y.2) S 76 [(0, .ref (hd_ad E 38)), (1, .int x1), (3, .int x3), (4, .int x4), (5, .int x5), (6, .int x6)] []) : ∀ (n : Nat) (x1 : Int32) (x3 : Int32) (x4 : Int32) (x5 : Int32) (x6 : Int32) (x7 : Int32) (S : hd_St), hf_M_walks_96 K76 n x1 x3 x4 x5 x6 x7 S = some y → hd_V κ E 13 0 0 (hd_Qf κ E (some (.int y.1)) y.2) S 96 [(0, .ref (hd_ad E 38)), (1, .int x1), (3, .int x3), (4, .int x4), (5, .int x5), (6, .int x6), (7, .int x7)] [] := by
  intro n
  induction n with
  | zero => intro x1 x3 x4 x5 x6 x7 S h; have h : (none : Option (Int32 × hd_St)) = some y := h; cases h
  | succ n ih =>
    intro x1 x3 x4 x5 x6 x7 S h
    rw [hf_M_walks_96] at h
    refine hv_iload X dX4_walks_96 6 rfl ?_
    refine hv_bipush X (v := 10) dX4_walks_98 (by decide) ?_
    refine hv_icmp_ge X 196 h dX4_walks_100 (by decide) (fun h => ?_) (fun h => ?_)
    · refine hv_iconst X (v := 0) dX4_walks_196 (by decide) ?_
      refine hv_istore X [(7, .int 0), (0, .ref (hd_ad E 38)), (1, .int x1), (3, .int x3), (4, .int x4), (5, .int x5), (6, .int x6)] dX4_walks_197 (by decide) rfl ?_
      refine hv_sub [(0, .ref (hd_ad E 38)), (1, .int x1), (3, .int x3), (4, .int x4), (5, .int x5), (6, .int x6), (7, .int 0)] [1, 2, 3, 4, 5, 6, 0] rfl ?_
      exact hw_M_walks_199 X hr K76 hK76 hd_fuel x1 x3 x4 x5 x6 0 S h
    · refine hv_aload_n X dX4_walks_103 0 rfl ?_
      refine hv_aload_n X dX4_walks_104 0 rfl ?_
      refine hg_M_s X q1241 dX4_walks_105 ?_
      refine hv_iconst X (v := 0) dX4_walks_108 (by decide) ?_
      refine hv_iald X h hd_ia39 dX4_walks_109 (fun h => ?_)
      obtain ⟨p12, e13, h⟩ := hd_bind h
      refine hv_cV X pk_M_drawn hd_rcM (hw_M_drawn _ E (hd_I S 39 (0 : Int32).toNatClampNeg) S p12 e13) q1662 dX4_walks_110 (by decide) (by decide) (Nat.zero_le _) (Nat.zero_le _) rfl rfl (Nat.le_of_ble_eq_true rfl) rfl ?_
      refine hv_istore X [(8, .int p12.1), (0, .ref (hd_ad E 38)), (1, .int x1), (3, .int x3), (4, .int x4), (5, .int x5), (6, .int x6), (7, .int x7)] dX4_walks_113 (by decide) rfl ?_
      refine hv_aload_n X dX4_walks_115 1 rfl ?_
      refine hv_aload_n X dX4_walks_116 1 rfl ?_
      refine hg_M_s X q1241 dX4_walks_117 ?_
      refine hv_iconst X (v := 1) dX4_walks_120 (by decide) ?_
      refine hv_iald X h hd_ia39 dX4_walks_121 (fun h => ?_)
      obtain ⟨p14, e15, h⟩ := hd_bind h
      refine hv_cV X pk_M_drawn hd_rcM (hw_M_drawn _ E (hd_I p12.2 39 (1 : Int32).toNatClampNeg) p12.2 p14 e15) q1662 dX4_walks_122 (by decide) (by decide) (Nat.zero_le _) (Nat.zero_le _) rfl rfl (Nat.le_of_ble_eq_true rfl) rfl ?_
      refine hv_istore X [(9, .int p14.1), (8, .int p12.1), (0, .ref (hd_ad E 38)), (1, .int x1), (3, .int x3), (4, .int x4), (5, .int x5), (6, .int x6), (7, .int x7)] dX4_walks_125 (by decide) rfl ?_
      refine hv_aload_n X dX4_walks_127 2 rfl ?_
      refine hv_aload_n X dX4_walks_128 2 rfl ?_
      refine hg_M_s X q1241 dX4_walks_129 ?_
      refine hv_iconst X (v := 2) dX4_walks_132 (by decide) ?_
      refine hv_iald X h hd_ia39 dX4_walks_133 (fun h => ?_)
      obtain ⟨p16, e17, h⟩ := hd_bind h
      refine hv_cV X pk_M_drawn hd_rcM (hw_M_drawn _ E (hd_I p14.2 39 (2 : Int32).toNatClampNeg) p14.2 p16 e17) q1662 dX4_walks_134 (by decide) (by decide) (Nat.zero_le _) (Nat.zero_le _) rfl rfl (Nat.le_of_ble_eq_true rfl) rfl ?_
      refine hv_istore X [(10, .int p16.1), (9, .int p14.1), (8, .int p12.1), (0, .ref (hd_ad E 38)), (1, .int x1), (3, .int x3), (4, .int x4), (5, .int x5), (6, .int x6), (7, .int x7)] dX4_walks_137 (by decide) rfl ?_
      refine hv_aload_n X dX4_walks_139 3 rfl ?_
      refine hv_bipush X (v := 61) dX4_walks_140 (by decide) ?_
      obtain ⟨p18, e19, h⟩ := hd_bind h
      refine hv_cV X pk_M_drawn hd_rcM (hw_M_drawn _ E 61 p16.2 p18 e19) q1662 dX4_walks_142 (by decide) (by decide) (Nat.zero_le _) (Nat.zero_le _) rfl rfl (Nat.le_of_ble_eq_true rfl) rfl ?_
      refine hv_istore X [(11, .int p18.1), (10, .int p16.1), (9, .int p14.1), (8, .int p12.1), (0, .ref (hd_ad E 38)), (1, .int x1), (3, .int x3), (4, .int x4), (5, .int x5), (6, .int x6), (7, .int x7)] dX4_walks_145 (by decide) rfl ?_
      refine hv_aload_n X dX4_walks_147 4 rfl ?_
      refine hv_iload X dX4_walks_148 3 rfl ?_
      refine hv_iload X dX4_walks_150 2 rfl ?_
      refine hv_iload X dX4_walks_152 1 rfl ?_
      refine hv_iload X dX4_walks_154 0 rfl ?_
      refine hv_aload_n X dX4_walks_156 4 rfl ?_
      refine hv_bipush X (v := 61) dX4_walks_157 (by decide) ?_
      obtain ⟨p20, e21, h⟩ := hd_bind h
      refine hv_cV X pk_M_drawn hd_rcM (hw_M_drawn _ E 61 p18.2 p20 e21) q1662 dX4_walks_159 (by decide) (by decide) (Nat.zero_le _) (Nat.zero_le _) rfl rfl (Nat.le_of_ble_eq_true rfl) rfl ?_
      obtain ⟨p22, e23, h⟩ := hd_bind h
      refine hv_cV X pk_M_tries hd_rcM (hw_M_tries _ E p12.1 p14.1 p16.1 p18.1 p20.1 p20.2 p22 e23) q1669 dX4_walks_162 (by decide) (by decide) (Nat.zero_le _) (Nat.zero_le _) rfl rfl (Nat.le_of_ble_eq_true rfl) rfl ?_
      refine hv_istore X [(12, .int p22.1), (11, .int p18.1), (10, .int p16.1), (9, .int p14.1), (8, .int p12.1), (0, .ref (hd_ad E 38)), (1, .int x1), (3, .int x3), (4, .int x4), (5, .int x5), (6, .int x6), (7, .int x7)] dX4_walks_165 (by decide) rfl ?_
      refine hv_iload X dX4_walks_167 8 rfl ?_
      refine hv_iload X dX4_walks_169 0 rfl ?_
      refine hv_if_le X 186 h dX4_walks_171 (by decide) (fun h => ?_) (fun h => ?_)
      · refine hv_iconst X (v := 0) dX4_walks_186 (by decide) ?_
        refine hv_iadd X dX4_walks_187 ?_
        refine hv_nmI h (fun v24 h => ?_)
        refine hv_istore X [(4, .int v24), (12, .int p22.1), (11, .int p18.1), (10, .int p16.1), (9, .int p14.1), (8, .int p12.1), (0, .ref (hd_ad E 38)), (1, .int x1), (3, .int x3), (5, .int x5), (6, .int x6), (7, .int x7)] dX4_walks_188 (by decide) rfl ?_
        refine hv_iinc X (v := 1) [(7, .int (x7 + 1)), (4, .int v24), (12, .int p22.1), (11, .int p18.1), (10, .int p16.1), (9, .int p14.1), (8, .int p12.1), (0, .ref (hd_ad E 38)), (1, .int x1), (3, .int x3), (5, .int x5), (6, .int x6)] dX4_walks_190 11 rfl (by decide) (by decide) rfl ?_
        refine hv_goto X 96 dX4_walks_193 (by decide) ?_
        refine hv_sub [(0, .ref (hd_ad E 38)), (1, .int x1), (3, .int x3), (4, .int v24), (5, .int x5), (6, .int x6), (7, .int (x7 + 1))] [7, 8, 9, 1, 10, 11, 0] rfl ?_
        exact ih x1 x3 v24 x5 x6 (x7 + 1) p22.2 h
      · refine hv_iload X dX4_walks_174 0 rfl ?_
        refine hv_iconst X (v := 2) dX4_walks_176 (by decide) ?_
        refine hv_iremc X (by decide) dX4_walks_177 ?_
        refine hv_iconst X (v := 1) dX4_walks_178 (by decide) ?_
        refine hv_icmp_ne X 186 h dX4_walks_179 (by decide) (fun h => ?_) (fun h => ?_)
        · refine hv_iconst X (v := 0) dX4_walks_186 (by decide) ?_
          refine hv_iadd X dX4_walks_187 ?_
          refine hv_nmI h (fun v25 h => ?_)
          refine hv_istore X [(4, .int v25), (12, .int p22.1), (11, .int p18.1), (10, .int p16.1), (9, .int p14.1), (8, .int p12.1), (0, .ref (hd_ad E 38)), (1, .int x1), (3, .int x3), (5, .int x5), (6, .int x6), (7, .int x7)] dX4_walks_188 (by decide) rfl ?_
          refine hv_iinc X (v := 1) [(7, .int (x7 + 1)), (4, .int v25), (12, .int p22.1), (11, .int p18.1), (10, .int p16.1), (9, .int p14.1), (8, .int p12.1), (0, .ref (hd_ad E 38)), (1, .int x1), (3, .int x3), (5, .int x5), (6, .int x6)] dX4_walks_190 11 rfl (by decide) (by decide) rfl ?_
          refine hv_goto X 96 dX4_walks_193 (by decide) ?_
          refine hv_sub [(0, .ref (hd_ad E 38)), (1, .int x1), (3, .int x3), (4, .int v25), (5, .int x5), (6, .int x6), (7, .int (x7 + 1))] [7, 8, 9, 1, 10, 11, 0] rfl ?_
          exact ih x1 x3 v25 x5 x6 (x7 + 1) p22.2 h
        · refine hv_iconst X (v := 1) dX4_walks_182 (by decide) ?_
          refine hv_goto X 187 dX4_walks_183 (by decide) ?_
          refine hv_iadd X dX4_walks_187 ?_
          refine hv_nmI h (fun v26 h => ?_)
          refine hv_istore X [(4, .int v26), (12, .int p22.1), (11, .int p18.1), (10, .int p16.1), (9, .int p14.1), (8, .int p12.1), (0, .ref (hd_ad E 38)), (1, .int x1), (3, .int x3), (5, .int x5), (6, .int x6), (7, .int x7)] dX4_walks_188 (by decide) rfl ?_
          refine hv_iinc X (v := 1) [(7, .int (x7 + 1)), (4, .int v26), (12, .int p22.1), (11, .int p18.1), (10, .int p16.1), (9, .int p14.1), (8, .int p12.1), (0, .ref (hd_ad E 38)), (1, .int x1), (3, .int x3), (5, .int x5), (6, .int x6)] dX4_walks_190 11 rfl (by decide) (by decide) rfl ?_
          refine hv_goto X 96 dX4_walks_193 (by decide) ?_
          refine hv_sub [(0, .ref (hd_ad E 38)), (1, .int x1), (3, .int x3), (4, .int v26), (5, .int x5), (6, .int x6), (7, .int (x7 + 1))] [7, 8, 9, 1, 10, 11, 0] rfl ?_
          exact ih x1 x3 v26 x5 x6 (x7 + 1) p22.2 h
def hf_M_walks_76 : Nat → Int32 → Int32 → Int32 → Int32 → Int32 → hd_St → (Option (Int32 × hd_St))
  | 0, _, _, _, _, _, _ => none
  | n + 1, x1, x3, x4, x5, x6, S =>
    if x1 ≤ x6 then
    ((hf_M_copies 41 39 S).bind fun S4 =>
    if x3 = 0 then
    (some (x4, S4))
    else
    (some (x5, S4)))
    else
    ((hf_M_copies 41 39 S).bind fun S6 =>
    hf_M_walks_96 (hf_M_walks_76 n) hd_fuel x1 x3 x4 x5 x6 0 S6)
theorem hw_M_walks_76 {κ : hd_VK} {E : hd_EV} (X : hd_Cx κ E cX4_walks RX4 13 (hd_Rm 8 0 0)) (hr : (hd_kQ κ).sig.returnType = some .int) {y : (Int32 × hd_St)} : ∀ (n : Nat) (x1 : Int32) (x3 : Int32) (x4 : Int32) (x5 : Int32) (x6 : Int32) (S : hd_St), hf_M_walks_76 n x1 x3 x4 x5 x6 S = some y → hd_V κ E 13 0 0 (hd_Qf κ E (some (.int y.1)) y.2) S 76 [(0, .ref (hd_ad E 38)), (1, .int x1), (3, .int x3), (4, .int x4), (5, .int x5), (6, .int x6)] [] := by
  intro n
  induction n with
  | zero => intro x1 x3 x4 x5 x6 S h; have h : (none : Option (Int32 × hd_St)) = some y := h; cases h
  | succ n ih =>
    intro x1 x3 x4 x5 x6 S h
    rw [hf_M_walks_76] at h
    refine hv_iload X dX4_walks_76 5 rfl ?_
    refine hv_iload_n X dX4_walks_78 1 rfl ?_
    refine hv_icmp_ge X 241 h dX4_walks_79 (by decide) (fun h => ?_) (fun h => ?_)
    · refine hv_aload_n X dX4_walks_241 0 rfl ?_
      refine hg_M_was X q1243 dX4_walks_242 ?_
      refine hv_aload_n X dX4_walks_245 0 rfl ?_
      refine hg_M_s X q1241 dX4_walks_246 ?_
      obtain ⟨S4, e5, h⟩ := hd_bind h
      refine hv_cS X pk_M_copies (hw_M_copies _ E 41 39 hd_ia41 hd_ia39 S S4 e5) q1334 dX4_walks_249 (by decide) (by decide) (Nat.zero_le _) (Nat.zero_le _) rfl rfl (Nat.le_of_ble_eq_true rfl) rfl ?_
      refine hv_iload_n X dX4_walks_252 2 rfl ?_
      refine hv_if_ne X 261 h dX4_walks_253 (by decide) (fun h => ?_) (fun h => ?_)
      · refine hv_iload X dX4_walks_261 4 rfl ?_
        obtain rfl := Option.some.inj h
        exact hv_iret X hr dX4_walks_263 (Nat.zero_le _) (Nat.zero_le _)
      · refine hv_iload X dX4_walks_256 3 rfl ?_
        refine hv_goto X 263 dX4_walks_258 (by decide) ?_
        obtain rfl := Option.some.inj h
        exact hv_iret X hr dX4_walks_263 (Nat.zero_le _) (Nat.zero_le _)
    · refine hv_aload_n X dX4_walks_82 0 rfl ?_
      refine hg_M_was X q1243 dX4_walks_83 ?_
      refine hv_aload_n X dX4_walks_86 0 rfl ?_
      refine hg_M_s X q1241 dX4_walks_87 ?_
      obtain ⟨S6, e7, h⟩ := hd_bind h
      refine hv_cS X pk_M_copies (hw_M_copies _ E 41 39 hd_ia41 hd_ia39 S S6 e7) q1334 dX4_walks_90 (by decide) (by decide) (Nat.zero_le _) (Nat.zero_le _) rfl rfl (Nat.le_of_ble_eq_true rfl) rfl ?_
      refine hv_iconst X (v := 0) dX4_walks_93 (by decide) ?_
      refine hv_istore X [(7, .int 0), (0, .ref (hd_ad E 38)), (1, .int x1), (3, .int x3), (4, .int x4), (5, .int x5), (6, .int x6)] dX4_walks_94 (by decide) rfl ?_
      refine hv_sub [(0, .ref (hd_ad E 38)), (1, .int x1), (3, .int x3), (4, .int x4), (5, .int x5), (6, .int x6), (7, .int 0)] [1, 2, 3, 4, 5, 6, 0] rfl ?_
      exact hw_M_walks_96 X hr (hf_M_walks_76 n) ih hd_fuel x1 x3 x4 x5 x6 0 S6 h
def hf_M_walks (a1 : Int32) (a2 : Int32) (a3 : Int32) (S : hd_St) : (Option (Int32 × hd_St)) :=
  if (hf_M_isIn a1 1 20) = true then
    (if (hf_M_isIn a3 0 1) = true then
    (if hd_ck 0 47 = true then
    if (hd_I S 39 (0 : Int32).toNatClampNeg) = 0 then
    (some ((-3), S))
    else
    (if hd_ck 1 47 = true then
    if (hd_I S 39 (1 : Int32).toNatClampNeg) = 0 then
    (some ((-3), S))
    else
    (if hd_ck 2 47 = true then
    if (hd_I S 39 (2 : Int32).toNatClampNeg) = 0 then
    (some ((-3), S))
    else
    (hd_nm (hd_sI S 38 14 a2) fun S1 =>
    (hf_M_copies 39 41 S1).bind fun S2 =>
    hf_M_walks_76 hd_fuel a1 a3 0 0 0 S2)
    else none)
    else none)
    else none)
    else
    (some ((-1), S)))
    else
    (some ((-1), S))
theorem hw_M_walks (l : Launch) (E : hd_EV) (a1 : Int32) (a2 : Int32) (a3 : Int32) (S : hd_St) (y : (Int32 × hd_St)) (h : hf_M_walks a1 a2 a3 S = some y) : hd_Mt l E yX4_walks cX4_walks 13 (some .int) (hd_Rm 8 0 0) [.ref (hd_ad E 38), .int a1, .int a2, .int a3] S (some (.int y.1)) y.2 := by
  refine hd_Mt.start [(0, .ref (hd_ad E 38)), (1, .int a1), (2, .int a2), (3, .int a3)] hd_pnX4 rfl (Nat.le_of_ble_eq_true rfl) (fun κ X hl hr hn => ?_)
  have X : hd_Cx κ E cX4_walks RX4 13 (hd_Rm 8 0 0) := X
  unfold hf_M_walks at h
  refine hv_iload_n X dX4_walks_0 1 rfl ?_
  refine hv_iconst X (v := 1) dX4_walks_1 (by decide) ?_
  refine hv_bipush X (v := 20) dX4_walks_2 (by decide) ?_
  refine hv_cS X pk_M_isIn (hw_M_isIn _ E a1 1 20 S) q1319 dX4_walks_4 (by decide) (by decide) (Nat.zero_le _) (Nat.zero_le _) rfl rfl (Nat.le_of_ble_eq_true rfl) rfl ?_
  refine hv_ifb_eq X 19 h dX4_walks_7 (by decide) (fun h => ?_) (fun h => ?_)
  · refine hv_iconst X (v := (-1)) dX4_walks_19 (by decide) ?_
    obtain rfl := Option.some.inj h
    exact hv_iret X hr dX4_walks_20 (Nat.zero_le _) (Nat.zero_le _)
  · refine hv_iload_n X dX4_walks_10 3 rfl ?_
    refine hv_iconst X (v := 0) dX4_walks_11 (by decide) ?_
    refine hv_iconst X (v := 1) dX4_walks_12 (by decide) ?_
    refine hv_cS X pk_M_isIn (hw_M_isIn _ E a3 0 1 S) q1319 dX4_walks_13 (by decide) (by decide) (Nat.zero_le _) (Nat.zero_le _) rfl rfl (Nat.le_of_ble_eq_true rfl) rfl ?_
    refine hv_ifb_ne X 21 h dX4_walks_16 (by decide) (fun h => ?_) (fun h => ?_)
    · refine hv_aload_n X dX4_walks_21 0 rfl ?_
      refine hg_M_s X q1241 dX4_walks_22 ?_
      refine hv_iconst X (v := 0) dX4_walks_25 (by decide) ?_
      refine hv_iald X h hd_ia39 dX4_walks_26 (fun h => ?_)
      refine hv_if_eq X 48 h dX4_walks_27 (by decide) (fun h => ?_) (fun h => ?_)
      · refine hv_bipush X (v := (-3)) dX4_walks_48 (by decide) ?_
        obtain rfl := Option.some.inj h
        exact hv_iret X hr dX4_walks_50 (Nat.zero_le _) (Nat.zero_le _)
      · refine hv_aload_n X dX4_walks_30 0 rfl ?_
        refine hg_M_s X q1241 dX4_walks_31 ?_
        refine hv_iconst X (v := 1) dX4_walks_34 (by decide) ?_
        refine hv_iald X h hd_ia39 dX4_walks_35 (fun h => ?_)
        refine hv_if_eq X 48 h dX4_walks_36 (by decide) (fun h => ?_) (fun h => ?_)
        · refine hv_bipush X (v := (-3)) dX4_walks_48 (by decide) ?_
          obtain rfl := Option.some.inj h
          exact hv_iret X hr dX4_walks_50 (Nat.zero_le _) (Nat.zero_le _)
        · refine hv_aload_n X dX4_walks_39 0 rfl ?_
          refine hg_M_s X q1241 dX4_walks_40 ?_
          refine hv_iconst X (v := 2) dX4_walks_43 (by decide) ?_
          refine hv_iald X h hd_ia39 dX4_walks_44 (fun h => ?_)
          refine hv_if_ne X 51 h dX4_walks_45 (by decide) (fun h => ?_) (fun h => ?_)
          · refine hv_aload_n X dX4_walks_51 0 rfl ?_
            refine hv_iload_n X dX4_walks_52 2 rfl ?_
            refine hp_M_seed X q1255 dX4_walks_53 ?_
            refine hv_nmS h (fun S1 h => ?_)
            refine hv_aload_n X dX4_walks_56 0 rfl ?_
            refine hg_M_s X q1241 dX4_walks_57 ?_
            refine hv_aload_n X dX4_walks_60 0 rfl ?_
            refine hg_M_was X q1243 dX4_walks_61 ?_
            obtain ⟨S2, e3, h⟩ := hd_bind h
            refine hv_cS X pk_M_copies (hw_M_copies _ E 39 41 hd_ia39 hd_ia41 S1 S2 e3) q1334 dX4_walks_64 (by decide) (by decide) (Nat.zero_le _) (Nat.zero_le _) rfl rfl (Nat.le_of_ble_eq_true rfl) rfl ?_
            refine hv_iconst X (v := 0) dX4_walks_67 (by decide) ?_
            refine hv_istore X [(4, .int 0), (0, .ref (hd_ad E 38)), (1, .int a1), (2, .int a2), (3, .int a3)] dX4_walks_68 (by decide) rfl ?_
            refine hv_iconst X (v := 0) dX4_walks_70 (by decide) ?_
            refine hv_istore X [(5, .int 0), (4, .int 0), (0, .ref (hd_ad E 38)), (1, .int a1), (2, .int a2), (3, .int a3)] dX4_walks_71 (by decide) rfl ?_
            refine hv_iconst X (v := 0) dX4_walks_73 (by decide) ?_
            refine hv_istore X [(6, .int 0), (5, .int 0), (4, .int 0), (0, .ref (hd_ad E 38)), (1, .int a1), (2, .int a2), (3, .int a3)] dX4_walks_74 (by decide) rfl ?_
            refine hv_sub [(0, .ref (hd_ad E 38)), (1, .int a1), (3, .int a3), (4, .int 0), (5, .int 0), (6, .int 0)] [3, 4, 6, 2, 1, 0] rfl ?_
            exact hw_M_walks_76 X hr hd_fuel a1 a3 0 0 0 S2 h
          · refine hv_bipush X (v := (-3)) dX4_walks_48 (by decide) ?_
            obtain rfl := Option.some.inj h
            exact hv_iret X hr dX4_walks_50 (Nat.zero_le _) (Nat.zero_le _)
    · refine hv_iconst X (v := (-1)) dX4_walks_19 (by decide) ?_
      obtain rfl := Option.some.inj h
      exact hv_iret X hr dX4_walks_20 (Nat.zero_le _) (Nat.zero_le _)
theorem pk_M_walks : hd_PkV RX4 yX4_walks cX4_walks 13 (some .int) 3 := ⟨q1659, q1660, q73, q1661, rfl, by decide +kernel, by decide +kernel, by decide +kernel⟩
-- sounds
def hf_M_sounds (a1 : Int32) (a2 : Int32) (a3 : Int32) (a4 : Int32) (a5 : Int32) (S : hd_St) : (Option Int32) :=
  (hf_M_isTold a1 a2 a3 a4 a5 S).bind fun r1 =>
    if r1 = true then
    ((hf_M_isSound a1 a2 a3 a4 a5 S).bind fun r3 =>
    if r3 = true then
    (some 1)
    else
    (some 0))
    else
    (some (-1))
theorem hw_M_sounds (l : Launch) (E : hd_EV) (a1 : Int32) (a2 : Int32) (a3 : Int32) (a4 : Int32) (a5 : Int32) (S : hd_St) (y : Int32) (h : hf_M_sounds a1 a2 a3 a4 a5 S = some y) : hd_Mt l E yX4_sounds cX4_sounds 6 (some .int) (hd_Rm 7 0 0) [.ref (hd_ad E 38), .int a1, .int a2, .int a3, .int a4, .int a5] S (some (.int y)) S := by
  refine hd_Mt.start [(0, .ref (hd_ad E 38)), (1, .int a1), (2, .int a2), (3, .int a3), (4, .int a4), (5, .int a5)] hd_pnX4 rfl (Nat.le_of_ble_eq_true rfl) (fun κ X hl hr hn => ?_)
  have X : hd_Cx κ E cX4_sounds RX4 6 (hd_Rm 7 0 0) := X
  unfold hf_M_sounds at h
  refine hv_aload_n X dX4_sounds_0 0 rfl ?_
  refine hv_iload_n X dX4_sounds_1 1 rfl ?_
  refine hv_iload_n X dX4_sounds_2 2 rfl ?_
  refine hv_iload_n X dX4_sounds_3 3 rfl ?_
  refine hv_iload X dX4_sounds_4 4 rfl ?_
  refine hv_iload X dX4_sounds_6 5 rfl ?_
  obtain ⟨r1, e2, h⟩ := hd_bind h
  refine hv_cV X pk_M_isTold hd_rcM (hw_M_isTold _ E a1 a2 a3 a4 a5 S r1 e2) q1471 dX4_sounds_8 (by decide) (by decide) (Nat.zero_le _) (Nat.zero_le _) rfl rfl (Nat.le_of_ble_eq_true rfl) rfl ?_
  refine hv_ifb_ne X 18 h dX4_sounds_11 (by decide) (fun h => ?_) (fun h => ?_)
  · refine hv_aload_n X dX4_sounds_18 0 rfl ?_
    refine hv_iload_n X dX4_sounds_19 1 rfl ?_
    refine hv_iload_n X dX4_sounds_20 2 rfl ?_
    refine hv_iload_n X dX4_sounds_21 3 rfl ?_
    refine hv_iload X dX4_sounds_22 4 rfl ?_
    refine hv_iload X dX4_sounds_24 5 rfl ?_
    obtain ⟨r3, e4, h⟩ := hd_bind h
    refine hv_cV X pk_M_isSound hd_rcM (hw_M_isSound _ E a1 a2 a3 a4 a5 S r3 e4) q1475 dX4_sounds_26 (by decide) (by decide) (Nat.zero_le _) (Nat.zero_le _) rfl rfl (Nat.le_of_ble_eq_true rfl) rfl ?_
    refine hv_ifb_eq X 36 h dX4_sounds_29 (by decide) (fun h => ?_) (fun h => ?_)
    · refine hv_iconst X (v := 0) dX4_sounds_36 (by decide) ?_
      obtain rfl := Option.some.inj h
      exact hv_iret X hr dX4_sounds_37 (Nat.zero_le _) (Nat.zero_le _)
    · refine hv_iconst X (v := 1) dX4_sounds_32 (by decide) ?_
      refine hv_goto X 37 dX4_sounds_33 (by decide) ?_
      obtain rfl := Option.some.inj h
      exact hv_iret X hr dX4_sounds_37 (Nat.zero_le _) (Nat.zero_le _)
  · refine hv_iconst X (v := (-1)) dX4_sounds_14 (by decide) ?_
    refine hv_goto X 37 dX4_sounds_15 (by decide) ?_
    obtain rfl := Option.some.inj h
    exact hv_iret X hr dX4_sounds_37 (Nat.zero_le _) (Nat.zero_le _)
theorem pk_M_sounds : hd_PkV RX4 yX4_sounds cX4_sounds 6 (some .int) 5 := ⟨q1468, q1469, q73, q1470, rfl, by decide +kernel, by decide +kernel, by decide +kernel⟩
