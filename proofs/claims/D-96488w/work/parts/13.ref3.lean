set_option maxRecDepth 100000
-- learns
def hf_M_learns (a1 : Int32) (S : hd_St) : (Option (Int32 × hd_St)) :=
  (hf_M_wrongKept a1 S).bind fun r1 =>
    if r1 = 0 then
    (if hd_ck 2 47 = true then
    if (hd_I S 39 (2 : Int32).toNatClampNeg) = (6 : Int32) then
    (some ((-2), S))
    else
    (if hd_ck a1 8 = true then
    if hd_ck a1 8 = true then
    (hf_M_addsBlow (hd_I S 46 a1.toNatClampNeg) (hd_I S 47 a1.toNatClampNeg) S).bind fun S3 =>
    if hd_ck 2 47 = true then
    some (((hd_I S3 39 (2 : Int32).toNatClampNeg) - 1), S3)
    else none
    else none
    else none)
    else none)
    else
    (some (r1, S))
theorem hw_M_learns (l : Launch) (E : hd_EV) (a1 : Int32) (S : hd_St) (y : (Int32 × hd_St)) (h : hf_M_learns a1 S = some y) : hd_Mt l E yX4_learns cX4_learns 3 (some .int) (hd_Rm 4 0 0) [.ref (hd_ad E 38), .int a1] S (some (.int y.1)) y.2 := by
  refine hd_Mt.start [(0, .ref (hd_ad E 38)), (1, .int a1)] hd_pnX4 rfl (Nat.le_of_ble_eq_true rfl) (fun κ X hl hr hn => ?_)
  have X : hd_Cx κ E cX4_learns RX4 3 (hd_Rm 4 0 0) := X
  unfold hf_M_learns at h
  refine hv_aload_n X dX4_learns_0 0 rfl ?_
  refine hv_iload_n X dX4_learns_1 1 rfl ?_
  obtain ⟨r1, e2, h⟩ := hd_bind h
  refine hv_cV X pk_M_wrongKept hd_rcM (hw_M_wrongKept _ E a1 S r1 e2) q1421 dX4_learns_2 (by decide) (by decide) (Nat.zero_le _) (Nat.zero_le _) rfl rfl (Nat.le_of_ble_eq_true rfl) rfl ?_
  refine hv_istore_n X [(2, .int r1), (0, .ref (hd_ad E 38)), (1, .int a1)] dX4_learns_5 (by decide) rfl ?_
  refine hv_iload_n X dX4_learns_6 0 rfl ?_
  refine hv_if_eq X 12 h dX4_learns_7 (by decide) (fun h => ?_) (fun h => ?_)
  · refine hv_aload_n X dX4_learns_12 1 rfl ?_
    refine hg_M_s X q1241 dX4_learns_13 ?_
    refine hv_iconst X (v := 2) dX4_learns_16 (by decide) ?_
    refine hv_iald X h hd_ia39 dX4_learns_17 (fun h => ?_)
    refine hv_bipush X (v := 6) dX4_learns_18 (by decide) ?_
    refine hv_icmp_ne X 26 h dX4_learns_20 (by decide) (fun h => ?_) (fun h => ?_)
    · refine hv_aload_n X dX4_learns_26 1 rfl ?_
      refine hv_aload_n X dX4_learns_27 1 rfl ?_
      refine hg_M_keptKind X q1257 dX4_learns_28 ?_
      refine hv_iload_n X dX4_learns_31 2 rfl ?_
      refine hv_iald X h hd_ia46 dX4_learns_32 (fun h => ?_)
      refine hv_aload_n X dX4_learns_33 1 rfl ?_
      refine hg_M_keptFigure X q1258 dX4_learns_34 ?_
      refine hv_iload_n X dX4_learns_37 2 rfl ?_
      refine hv_iald X h hd_ia47 dX4_learns_38 (fun h => ?_)
      obtain ⟨S3, e4, h⟩ := hd_bind h
      refine hv_cV X pk_M_addsBlow hd_rcM (hw_M_addsBlow _ E (hd_I S 46 a1.toNatClampNeg) (hd_I S 47 a1.toNatClampNeg) S S3 e4) q1358 dX4_learns_39 (by decide) (by decide) (Nat.zero_le _) (Nat.zero_le _) rfl rfl (Nat.le_of_ble_eq_true rfl) rfl ?_
      refine hv_aload_n X dX4_learns_42 1 rfl ?_
      refine hg_M_s X q1241 dX4_learns_43 ?_
      refine hv_iconst X (v := 2) dX4_learns_46 (by decide) ?_
      refine hv_iald X h hd_ia39 dX4_learns_47 (fun h => ?_)
      refine hv_iconst X (v := 1) dX4_learns_48 (by decide) ?_
      refine hv_isub X dX4_learns_49 ?_
      obtain rfl := Option.some.inj h
      exact hv_iret X hr dX4_learns_50 (Nat.zero_le _) (Nat.zero_le _)
    · refine hv_bipush X (v := (-2)) dX4_learns_23 (by decide) ?_
      obtain rfl := Option.some.inj h
      exact hv_iret X hr dX4_learns_25 (Nat.zero_le _) (Nat.zero_le _)
  · refine hv_iload_n X dX4_learns_10 0 rfl ?_
    obtain rfl := Option.some.inj h
    exact hv_iret X hr dX4_learns_11 (Nat.zero_le _) (Nat.zero_le _)
theorem pk_M_learns : hd_PkV RX4 yX4_learns cX4_learns 3 (some .int) 1 := ⟨q1418, q1419, q73, q1420, rfl, by decide +kernel, by decide +kernel, by decide +kernel⟩
-- low
def hf_M_low (a1 : Int32) (a2 : Int32) (a3 : Int32) (S : hd_St) : (Option Int32) :=
  (hf_M_lowPlain a1 a2 a3 S).bind fun r1 =>
    if (hd_I S 38 4) = 0 then
    (if (2 : Int32) ≤ r1 then
    (some (r1 - 2))
    else
    (some 0))
    else
    (some r1)
theorem hw_M_low (l : Launch) (E : hd_EV) (a1 : Int32) (a2 : Int32) (a3 : Int32) (S : hd_St) (y : Int32) (h : hf_M_low a1 a2 a3 S = some y) : hd_Mt l E yX4_low cX4_low 5 (some .int) (hd_Rm 4 0 0) [.ref (hd_ad E 38), .int a1, .int a2, .int a3] S (some (.int y)) S := by
  refine hd_Mt.start [(0, .ref (hd_ad E 38)), (1, .int a1), (2, .int a2), (3, .int a3)] hd_pnX4 rfl (Nat.le_of_ble_eq_true rfl) (fun κ X hl hr hn => ?_)
  have X : hd_Cx κ E cX4_low RX4 5 (hd_Rm 4 0 0) := X
  unfold hf_M_low at h
  refine hv_aload_n X dX4_low_0 0 rfl ?_
  refine hv_iload_n X dX4_low_1 1 rfl ?_
  refine hv_iload_n X dX4_low_2 2 rfl ?_
  refine hv_iload_n X dX4_low_3 3 rfl ?_
  obtain ⟨r1, e2, h⟩ := hd_bind h
  refine hv_cV X pk_M_lowPlain hd_rcM (hw_M_lowPlain _ E a1 a2 a3 S r1 e2) q1444 dX4_low_4 (by decide) (by decide) (Nat.zero_le _) (Nat.zero_le _) rfl rfl (Nat.le_of_ble_eq_true rfl) rfl ?_
  refine hv_istore X [(4, .int r1), (0, .ref (hd_ad E 38)), (1, .int a1), (2, .int a2), (3, .int a3)] dX4_low_7 (by decide) rfl ?_
  refine hv_aload_n X dX4_low_9 1 rfl ?_
  refine hg_M_help X q1245 dX4_low_10 ?_
  refine hv_if_eq X 21 h dX4_low_13 (by decide) (fun h => ?_) (fun h => ?_)
  · refine hv_iload X dX4_low_21 0 rfl ?_
    refine hv_iconst X (v := 2) dX4_low_23 (by decide) ?_
    refine hv_icmp_ge X 31 h dX4_low_24 (by decide) (fun h => ?_) (fun h => ?_)
    · refine hv_iload X dX4_low_31 0 rfl ?_
      refine hv_iconst X (v := 2) dX4_low_33 (by decide) ?_
      refine hv_isub X dX4_low_34 ?_
      obtain rfl := Option.some.inj h
      exact hv_iret X hr dX4_low_35 (Nat.zero_le _) (Nat.zero_le _)
    · refine hv_iconst X (v := 0) dX4_low_27 (by decide) ?_
      refine hv_goto X 35 dX4_low_28 (by decide) ?_
      obtain rfl := Option.some.inj h
      exact hv_iret X hr dX4_low_35 (Nat.zero_le _) (Nat.zero_le _)
  · refine hv_iload X dX4_low_16 0 rfl ?_
    refine hv_goto X 35 dX4_low_18 (by decide) ?_
    obtain rfl := Option.some.inj h
    exact hv_iret X hr dX4_low_35 (Nat.zero_le _) (Nat.zero_le _)
theorem pk_M_low : hd_PkV RX4 yX4_low cX4_low 5 (some .int) 3 := ⟨q1442, qs46, q73, q1443, rfl, by decide +kernel, by decide +kernel, by decide +kernel⟩
-- isTight
def hf_M_isTight (a1 : Int32) (a2 : Int32) (a3 : Int32) (a4 : Int32) (S : hd_St) : (Option Bool) :=
  (hf_M_low a1 a2 a3 S).bind fun r1 =>
    (hf_M_high a1 a2 a3 S).bind fun r3 =>
    if (hf_M_isIn a4 r1 r3) = true then
    ((hf_M_gripOf a2 S).bind fun r5 =>
    if r5 < a4 then
    (some false)
    else
    (some true))
    else
    (some false)
theorem hw_M_isTight (l : Launch) (E : hd_EV) (a1 : Int32) (a2 : Int32) (a3 : Int32) (a4 : Int32) (S : hd_St) (y : Bool) (h : hf_M_isTight a1 a2 a3 a4 S = some y) : hd_Mt l E yX4_isTight cX4_isTight 5 (some .boolean) (hd_Rm 5 0 0) [.ref (hd_ad E 38), .int a1, .int a2, .int a3, .int a4] S (some (.int (hd_bI y))) S := by
  refine hd_Mt.start [(0, .ref (hd_ad E 38)), (1, .int a1), (2, .int a2), (3, .int a3), (4, .int a4)] hd_pnX4 rfl (Nat.le_of_ble_eq_true rfl) (fun κ X hl hr hn => ?_)
  have X : hd_Cx κ E cX4_isTight RX4 5 (hd_Rm 5 0 0) := X
  unfold hf_M_isTight at h
  refine hv_iload X dX4_isTight_0 4 rfl ?_
  refine hv_aload_n X dX4_isTight_2 0 rfl ?_
  refine hv_iload_n X dX4_isTight_3 1 rfl ?_
  refine hv_iload_n X dX4_isTight_4 2 rfl ?_
  refine hv_iload_n X dX4_isTight_5 3 rfl ?_
  obtain ⟨r1, e2, h⟩ := hd_bind h
  refine hv_cV X pk_M_low hd_rcM (hw_M_low _ E a1 a2 a3 S r1 e2) q1440 dX4_isTight_6 (by decide) (by decide) (Nat.zero_le _) (Nat.zero_le _) rfl rfl (Nat.le_of_ble_eq_true rfl) rfl ?_
  refine hv_aload_n X dX4_isTight_9 0 rfl ?_
  refine hv_iload_n X dX4_isTight_10 1 rfl ?_
  refine hv_iload_n X dX4_isTight_11 2 rfl ?_
  refine hv_iload_n X dX4_isTight_12 3 rfl ?_
  obtain ⟨r3, e4, h⟩ := hd_bind h
  refine hv_cV X pk_M_high hd_rcM (hw_M_high _ E a1 a2 a3 S r3 e4) q1455 dX4_isTight_13 (by decide) (by decide) (Nat.zero_le _) (Nat.zero_le _) rfl rfl (Nat.le_of_ble_eq_true rfl) rfl ?_
  refine hv_cS X pk_M_isIn (hw_M_isIn _ E a4 r1 r3 S) q1319 dX4_isTight_16 (by decide) (by decide) (Nat.zero_le _) (Nat.zero_le _) rfl rfl (Nat.le_of_ble_eq_true rfl) rfl ?_
  refine hv_ifb_eq X 36 h dX4_isTight_19 (by decide) (fun h => ?_) (fun h => ?_)
  · refine hv_iconst X (v := 0) dX4_isTight_36 (by decide) ?_
    obtain rfl := Option.some.inj h
    exact hv_zret X hr rfl dX4_isTight_37 (Nat.zero_le _) (Nat.zero_le _)
  · refine hv_iload X dX4_isTight_22 4 rfl ?_
    refine hv_aload_n X dX4_isTight_24 0 rfl ?_
    refine hv_iload_n X dX4_isTight_25 2 rfl ?_
    obtain ⟨r5, e6, h⟩ := hd_bind h
    refine hv_cV X pk_M_gripOf hd_rcM (hw_M_gripOf _ E a2 S r5 e6) q1483 dX4_isTight_26 (by decide) (by decide) (Nat.zero_le _) (Nat.zero_le _) rfl rfl (Nat.le_of_ble_eq_true rfl) rfl ?_
    refine hv_icmp_gt X 36 h dX4_isTight_29 (by decide) (fun h => ?_) (fun h => ?_)
    · refine hv_iconst X (v := 0) dX4_isTight_36 (by decide) ?_
      obtain rfl := Option.some.inj h
      exact hv_zret X hr rfl dX4_isTight_37 (Nat.zero_le _) (Nat.zero_le _)
    · refine hv_iconst X (v := 1) dX4_isTight_32 (by decide) ?_
      refine hv_goto X 37 dX4_isTight_33 (by decide) ?_
      obtain rfl := Option.some.inj h
      exact hv_zret X hr rfl dX4_isTight_37 (Nat.zero_le _) (Nat.zero_le _)
theorem pk_M_isTight : hd_PkV RX4 yX4_isTight cX4_isTight 5 (some .boolean) 4 := ⟨q1481, qs54, q73, q1482, rfl, by decide +kernel, by decide +kernel, by decide +kernel⟩
-- looks
def hf_M_looks_48 (K22 : Int32 → Int32 → Int32 → Int32 → Int32 → Int32 → hd_St → (Option hd_St)) (x1 : Int32) (x2 : Int32) (x3 : Int32) (x4 : Int32) (x5 : Int32) (x6 : Int32) (S : hd_St) : (Option hd_St) :=
  (hf_M_isHard x2 x3 x6 S).bind fun r8 =>
    if r8 = true then
    (hd_nm (hd_sI S 38 11 x6) fun S10 =>
    K22 x1 x2 x3 x4 (x5 + 1) (x6 + (-1)) S10)
    else
    (K22 x1 x2 x3 x4 x5 (x6 + (-1)) S)
theorem hw_M_looks_48 {κ : hd_VK} {E : hd_EV} (X : hd_Cx κ E cX4_looks RX4 7 (hd_Rm 6 0 0)) (hr : (hd_kQ κ).sig.returnType = none) {y : hd_St} (K22 : Int32 → Int32 → Int32 → Int32 → Int32 → Int32 → hd_St → (Option hd_St)) (hK22 : ∀ (x1 : Int32) (x2 : Int32) (x3 : Int32) (x4 : Int32) (x5 : Int32) (x6 : Int32) (S : hd_St), K22 x1 x2 x3 x4 x5 x6 S = some y → hd_V κ E 7 0 0 (hd_Qf κ E none y) S 22 [(0, .ref (hd_ad E 38)), (1, .int x1), (2, .int x2), (3, .int x3), (4, .int x4), (5, .int x5), (6, .int x6)] []) (x1 : Int32) (x2 : Int32) (x3 : Int32) (x4 : Int32) (x5 : Int32) (x6 : Int32) (S : hd_St) (h : hf_M_looks_48 K22 x1 x2 x3 x4 x5 x6 S = some y) : hd_V κ E 7 0 0 (hd_Qf κ E none y) S 48 [(0, .ref (hd_ad E 38)), (1, .int x1), (2, .int x2), (3, .int x3), (4, .int x4), (5, .int x5), (6, .int x6)] [] := by
  unfold hf_M_looks_48 at h
  refine hv_aload_n X dX4_looks_48 0 rfl ?_
  refine hv_iload_n X dX4_looks_49 2 rfl ?_
  refine hv_iload_n X dX4_looks_50 3 rfl ?_
  refine hv_iload X dX4_looks_51 6 rfl ?_
  obtain ⟨r8, e9, h⟩ := hd_bind h
  refine hv_cV X pk_M_isHard hd_rcM (hw_M_isHard _ E x2 x3 x6 S r8 e9) q1487 dX4_looks_53 (by decide) (by decide) (Nat.zero_le _) (Nat.zero_le _) rfl rfl (Nat.le_of_ble_eq_true rfl) rfl ?_
  refine hv_ifb_eq X 68 h dX4_looks_56 (by decide) (fun h => ?_) (fun h => ?_)
  · refine hv_iinc X (v := (-1)) [(6, .int (x6 + (-1))), (0, .ref (hd_ad E 38)), (1, .int x1), (2, .int x2), (3, .int x3), (4, .int x4), (5, .int x5)] dX4_looks_68 6 rfl (by decide) (by decide) rfl ?_
    refine hv_goto X 22 dX4_looks_71 (by decide) ?_
    refine hv_sub [(0, .ref (hd_ad E 38)), (1, .int x1), (2, .int x2), (3, .int x3), (4, .int x4), (5, .int x5), (6, .int (x6 + (-1)))] [1, 2, 3, 4, 5, 6, 0] rfl ?_
    exact hK22 x1 x2 x3 x4 x5 (x6 + (-1)) S h
  · refine hv_iinc X (v := 1) [(5, .int (x5 + 1)), (0, .ref (hd_ad E 38)), (1, .int x1), (2, .int x2), (3, .int x3), (4, .int x4), (6, .int x6)] dX4_looks_59 5 rfl (by decide) (by decide) rfl ?_
    refine hv_aload_n X dX4_looks_62 1 rfl ?_
    refine hv_iload X dX4_looks_63 6 rfl ?_
    refine hp_M_leastForce X q1252 dX4_looks_65 ?_
    refine hv_nmS h (fun S10 h => ?_)
    refine hv_iinc X (v := (-1)) [(6, .int (x6 + (-1))), (5, .int (x5 + 1)), (0, .ref (hd_ad E 38)), (1, .int x1), (2, .int x2), (3, .int x3), (4, .int x4)] dX4_looks_68 6 rfl (by decide) (by decide) rfl ?_
    refine hv_goto X 22 dX4_looks_71 (by decide) ?_
    refine hv_sub [(0, .ref (hd_ad E 38)), (1, .int x1), (2, .int x2), (3, .int x3), (4, .int x4), (5, .int (x5 + 1)), (6, .int (x6 + (-1)))] [2, 3, 4, 5, 6, 1, 0] rfl ?_
    exact hK22 x1 x2 x3 x4 (x5 + 1) (x6 + (-1)) S10 h
def hf_M_looks_22 : Nat → Int32 → Int32 → Int32 → Int32 → Int32 → Int32 → hd_St → (Option hd_St)
  | 0, _, _, _, _, _, _, _ => none
  | n + 1, x1, x2, x3, x4, x5, x6, S =>
    if x6 < 0 then
    (hd_nm (hd_sI S 38 9 (x4 * x5)) fun S3 =>
    if (hd_I S3 38 9) ≤ 0 then
    (hd_nm (hd_sI S3 38 10 (-4)) fun S4 =>
    hd_nm (hd_sI S4 38 11 (-4)) fun S5 =>
    some S5)
    else
    (some S3))
    else
    ((hf_M_isTight x1 x2 x3 x6 S).bind fun r6 =>
    if r6 = true then
    (hd_nm (hd_sI S 38 10 x6) fun S11 =>
    hf_M_looks_48 (hf_M_looks_22 n) x1 x2 x3 (x4 + 1) x5 x6 S11)
    else
    (hf_M_looks_48 (hf_M_looks_22 n) x1 x2 x3 x4 x5 x6 S))
theorem hw_M_looks_22 {κ : hd_VK} {E : hd_EV} (X : hd_Cx κ E cX4_looks RX4 7 (hd_Rm 6 0 0)) (hr : (hd_kQ κ).sig.returnType = none) {y : hd_St} : ∀ (n : Nat) (x1 : Int32) (x2 : Int32) (x3 : Int32) (x4 : Int32) (x5 : Int32) (x6 : Int32) (S : hd_St), hf_M_looks_22 n x1 x2 x3 x4 x5 x6 S = some y → hd_V κ E 7 0 0 (hd_Qf κ E none y) S 22 [(0, .ref (hd_ad E 38)), (1, .int x1), (2, .int x2), (3, .int x3), (4, .int x4), (5, .int x5), (6, .int x6)] [] := by
  intro n
  induction n with
  | zero => intro x1 x2 x3 x4 x5 x6 S h; have h : (none : Option hd_St) = some y := h; cases h
  | succ n ih =>
    intro x1 x2 x3 x4 x5 x6 S h
    rw [hf_M_looks_22] at h
    refine hv_iload X dX4_looks_22 6 rfl ?_
    refine hv_if_lt X 74 h dX4_looks_24 (by decide) (fun h => ?_) (fun h => ?_)
    · refine hv_aload_n X dX4_looks_74 0 rfl ?_
      refine hv_iload X dX4_looks_75 4 rfl ?_
      refine hv_iload X dX4_looks_77 5 rfl ?_
      refine hv_imul X dX4_looks_79 ?_
      refine hp_M_pairsMany X q1250 dX4_looks_80 ?_
      refine hv_nmS h (fun S3 h => ?_)
      refine hv_aload_n X dX4_looks_83 0 rfl ?_
      refine hg_M_pairsMany X q1250 dX4_looks_84 ?_
      refine hv_if_le X 91 h dX4_looks_87 (by decide) (fun h => ?_) (fun h => ?_)
      · refine hv_aload_n X dX4_looks_91 0 rfl ?_
        refine hv_bipush X (v := (-4)) dX4_looks_92 (by decide) ?_
        refine hp_M_leastTight X q1251 dX4_looks_94 ?_
        refine hv_nmS h (fun S4 h => ?_)
        refine hv_aload_n X dX4_looks_97 0 rfl ?_
        refine hv_bipush X (v := (-4)) dX4_looks_98 (by decide) ?_
        refine hp_M_leastForce X q1252 dX4_looks_100 ?_
        refine hv_nmS h (fun S5 h => ?_)
        obtain rfl := Option.some.inj h
        exact hv_vret X hr dX4_looks_103 (Nat.zero_le _) (Nat.zero_le _)
      · obtain rfl := Option.some.inj h
        exact hv_vret X hr dX4_looks_90 (Nat.zero_le _) (Nat.zero_le _)
    · refine hv_aload_n X dX4_looks_27 0 rfl ?_
      refine hv_iload_n X dX4_looks_28 1 rfl ?_
      refine hv_iload_n X dX4_looks_29 2 rfl ?_
      refine hv_iload_n X dX4_looks_30 3 rfl ?_
      refine hv_iload X dX4_looks_31 6 rfl ?_
      obtain ⟨r6, e7, h⟩ := hd_bind h
      refine hv_cV X pk_M_isTight hd_rcM (hw_M_isTight _ E x1 x2 x3 x6 S r6 e7) q1479 dX4_looks_33 (by decide) (by decide) (Nat.zero_le _) (Nat.zero_le _) rfl rfl (Nat.le_of_ble_eq_true rfl) rfl ?_
      refine hv_ifb_eq X 48 h dX4_looks_36 (by decide) (fun h => ?_) (fun h => ?_)
      · exact hw_M_looks_48 X hr (hf_M_looks_22 n) ih x1 x2 x3 x4 x5 x6 S h
      · refine hv_iinc X (v := 1) [(4, .int (x4 + 1)), (0, .ref (hd_ad E 38)), (1, .int x1), (2, .int x2), (3, .int x3), (5, .int x5), (6, .int x6)] dX4_looks_39 4 rfl (by decide) (by decide) rfl ?_
        refine hv_aload_n X dX4_looks_42 1 rfl ?_
        refine hv_iload X dX4_looks_43 6 rfl ?_
        refine hp_M_leastTight X q1251 dX4_looks_45 ?_
        refine hv_nmS h (fun S11 h => ?_)
        refine hv_sub [(0, .ref (hd_ad E 38)), (1, .int x1), (2, .int x2), (3, .int x3), (4, .int (x4 + 1)), (5, .int x5), (6, .int x6)] [1, 2, 3, 4, 0, 5, 6] rfl ?_
        exact hw_M_looks_48 X hr (hf_M_looks_22 n) ih x1 x2 x3 (x4 + 1) x5 x6 S11 h
def hf_M_looks (a1 : Int32) (a2 : Int32) (a3 : Int32) (S : hd_St) : (Option hd_St) :=
  hd_nm (hd_sI S 38 10 (-4)) fun S1 =>
    hd_nm (hd_sI S1 38 11 (-4)) fun S2 =>
    hf_M_looks_22 hd_fuel a1 a2 a3 0 0 60 S2
theorem hw_M_looks (l : Launch) (E : hd_EV) (a1 : Int32) (a2 : Int32) (a3 : Int32) (S : hd_St) (y : hd_St) (h : hf_M_looks a1 a2 a3 S = some y) : hd_Mt l E yX4_looks cX4_looks 7 (none) (hd_Rm 6 0 0) [.ref (hd_ad E 38), .int a1, .int a2, .int a3] S none y := by
  refine hd_Mt.start [(0, .ref (hd_ad E 38)), (1, .int a1), (2, .int a2), (3, .int a3)] hd_pnX4 rfl (Nat.le_of_ble_eq_true rfl) (fun κ X hl hr hn => ?_)
  have X : hd_Cx κ E cX4_looks RX4 7 (hd_Rm 6 0 0) := X
  unfold hf_M_looks at h
  refine hv_iconst X (v := 0) dX4_looks_0 (by decide) ?_
  refine hv_istore X [(4, .int 0), (0, .ref (hd_ad E 38)), (1, .int a1), (2, .int a2), (3, .int a3)] dX4_looks_1 (by decide) rfl ?_
  refine hv_iconst X (v := 0) dX4_looks_3 (by decide) ?_
  refine hv_istore X [(5, .int 0), (4, .int 0), (0, .ref (hd_ad E 38)), (1, .int a1), (2, .int a2), (3, .int a3)] dX4_looks_4 (by decide) rfl ?_
  refine hv_aload_n X dX4_looks_6 2 rfl ?_
  refine hv_bipush X (v := (-4)) dX4_looks_7 (by decide) ?_
  refine hp_M_leastTight X q1251 dX4_looks_9 ?_
  refine hv_nmS h (fun S1 h => ?_)
  refine hv_aload_n X dX4_looks_12 2 rfl ?_
  refine hv_bipush X (v := (-4)) dX4_looks_13 (by decide) ?_
  refine hp_M_leastForce X q1252 dX4_looks_15 ?_
  refine hv_nmS h (fun S2 h => ?_)
  refine hv_bipush X (v := 60) dX4_looks_18 (by decide) ?_
  refine hv_istore X [(6, .int 60), (5, .int 0), (4, .int 0), (0, .ref (hd_ad E 38)), (1, .int a1), (2, .int a2), (3, .int a3)] dX4_looks_20 (by decide) rfl ?_
  refine hv_sub [(0, .ref (hd_ad E 38)), (1, .int a1), (2, .int a2), (3, .int a3), (4, .int 0), (5, .int 0), (6, .int 60)] [3, 4, 5, 6, 2, 1, 0] rfl ?_
  exact hw_M_looks_22 X hr hd_fuel a1 a2 a3 0 0 60 S2 h
theorem pk_M_looks : hd_PkV RX4 yX4_looks cX4_looks 7 (none) 3 := ⟨q1510, qs58, q73, q1511, rfl, by decide +kernel, by decide +kernel, by decide +kernel⟩
-- bestBlade
def hf_M_bestBlade_9 : Nat → Int32 → Int32 → Int32 → Int32 → Int32 → hd_St → (Option (Int32 × hd_St))
  | 0, _, _, _, _, _, _ => none
  | n + 1, x1, x2, x3, x4, x5, S =>
    if hd_ck 0 47 = true then
    if (hd_I S 39 (0 : Int32).toNatClampNeg) ≤ x5 then
    (some (x3, S))
    else
    ((hf_M_isSplit x5 S).bind fun r1 =>
    if r1 = true then
    (hf_M_bestBlade_9 n x1 x2 x3 x4 (x5 + 1) S)
    else
    ((hf_M_looks x5 x1 x2 S).bind fun S3 =>
    if x4 < (hd_I S3 38 9) then
    (hd_nm (hd_I S3 38 9) fun v5 =>
    hf_M_bestBlade_9 n x1 x2 x5 v5 (x5 + 1) S3)
    else
    (hf_M_bestBlade_9 n x1 x2 x3 x4 (x5 + 1) S3)))
    else none
theorem hw_M_bestBlade_9 {κ : hd_VK} {E : hd_EV} (X : hd_Cx κ E cX4_bestBlade RX4 6 (hd_Rm 7 0 0)) (hr : (hd_kQ κ).sig.returnType = some .int) {y : (Int32 × hd_St)} : ∀ (n : Nat) (x1 : Int32) (x2 : Int32) (x3 : Int32) (x4 : Int32) (x5 : Int32) (S : hd_St), hf_M_bestBlade_9 n x1 x2 x3 x4 x5 S = some y → hd_V κ E 6 0 0 (hd_Qf κ E (some (.int y.1)) y.2) S 9 [(0, .ref (hd_ad E 38)), (1, .int x1), (2, .int x2), (3, .int x3), (4, .int x4), (5, .int x5)] [] := by
  intro n
  induction n with
  | zero => intro x1 x2 x3 x4 x5 S h; have h : (none : Option (Int32 × hd_St)) = some y := h; cases h
  | succ n ih =>
    intro x1 x2 x3 x4 x5 S h
    rw [hf_M_bestBlade_9] at h
    refine hv_iload X dX4_bestBlade_9 5 rfl ?_
    refine hv_aload_n X dX4_bestBlade_11 0 rfl ?_
    refine hg_M_s X q1241 dX4_bestBlade_12 ?_
    refine hv_iconst X (v := 0) dX4_bestBlade_15 (by decide) ?_
    refine hv_iald X h hd_ia39 dX4_bestBlade_16 (fun h => ?_)
    refine hv_icmp_ge X 67 h dX4_bestBlade_17 (by decide) (fun h => ?_) (fun h => ?_)
    · refine hv_iload_n X dX4_bestBlade_67 3 rfl ?_
      obtain rfl := Option.some.inj h
      exact hv_iret X hr dX4_bestBlade_68 (Nat.zero_le _) (Nat.zero_le _)
    · refine hv_aload_n X dX4_bestBlade_20 0 rfl ?_
      refine hv_iload X dX4_bestBlade_21 5 rfl ?_
      obtain ⟨r1, e2, h⟩ := hd_bind h
      refine hv_cV X pk_M_isSplit hd_rcM (hw_M_isSplit _ E x5 S r1 e2) q1381 dX4_bestBlade_23 (by decide) (by decide) (Nat.zero_le _) (Nat.zero_le _) rfl rfl (Nat.le_of_ble_eq_true rfl) rfl ?_
      refine hv_ifb_eq X 32 h dX4_bestBlade_26 (by decide) (fun h => ?_) (fun h => ?_)
      · refine hv_aload_n X dX4_bestBlade_32 0 rfl ?_
        refine hv_iload X dX4_bestBlade_33 5 rfl ?_
        refine hv_iload_n X dX4_bestBlade_35 1 rfl ?_
        refine hv_iload_n X dX4_bestBlade_36 2 rfl ?_
        obtain ⟨S3, e4, h⟩ := hd_bind h
        refine hv_cV X pk_M_looks hd_rcM (hw_M_looks _ E x5 x1 x2 S S3 e4) q1508 dX4_bestBlade_37 (by decide) (by decide) (Nat.zero_le _) (Nat.zero_le _) rfl rfl (Nat.le_of_ble_eq_true rfl) rfl ?_
        refine hv_aload_n X dX4_bestBlade_40 0 rfl ?_
        refine hg_M_pairsMany X q1250 dX4_bestBlade_41 ?_
        refine hv_iload X dX4_bestBlade_44 4 rfl ?_
        refine hv_icmp_gt X 52 h dX4_bestBlade_46 (by decide) (fun h => ?_) (fun h => ?_)
        · refine hv_iload X dX4_bestBlade_52 5 rfl ?_
          refine hv_istore_n X [(3, .int x5), (0, .ref (hd_ad E 38)), (1, .int x1), (2, .int x2), (4, .int x4), (5, .int x5)] dX4_bestBlade_54 (by decide) rfl ?_
          refine hv_aload_n X dX4_bestBlade_55 1 rfl ?_
          refine hg_M_pairsMany X q1250 dX4_bestBlade_56 ?_
          refine hv_nmI h (fun v5 h => ?_)
          refine hv_istore X [(4, .int v5), (3, .int x5), (0, .ref (hd_ad E 38)), (1, .int x1), (2, .int x2), (5, .int x5)] dX4_bestBlade_59 (by decide) rfl ?_
          refine hv_iinc X (v := 1) [(5, .int (x5 + 1)), (4, .int v5), (3, .int x5), (0, .ref (hd_ad E 38)), (1, .int x1), (2, .int x2)] dX4_bestBlade_61 5 rfl (by decide) (by decide) rfl ?_
          refine hv_goto X 9 dX4_bestBlade_64 (by decide) ?_
          refine hv_sub [(0, .ref (hd_ad E 38)), (1, .int x1), (2, .int x2), (3, .int x5), (4, .int v5), (5, .int (x5 + 1))] [3, 4, 5, 2, 1, 0] rfl ?_
          exact ih x1 x2 x5 v5 (x5 + 1) S3 h
        · refine hv_goto X 61 dX4_bestBlade_49 (by decide) ?_
          refine hv_iinc X (v := 1) [(5, .int (x5 + 1)), (0, .ref (hd_ad E 38)), (1, .int x1), (2, .int x2), (3, .int x3), (4, .int x4)] dX4_bestBlade_61 5 rfl (by decide) (by decide) rfl ?_
          refine hv_goto X 9 dX4_bestBlade_64 (by decide) ?_
          refine hv_sub [(0, .ref (hd_ad E 38)), (1, .int x1), (2, .int x2), (3, .int x3), (4, .int x4), (5, .int (x5 + 1))] [1, 2, 3, 4, 5, 0] rfl ?_
          exact ih x1 x2 x3 x4 (x5 + 1) S3 h
      · refine hv_goto X 61 dX4_bestBlade_29 (by decide) ?_
        refine hv_iinc X (v := 1) [(5, .int (x5 + 1)), (0, .ref (hd_ad E 38)), (1, .int x1), (2, .int x2), (3, .int x3), (4, .int x4)] dX4_bestBlade_61 5 rfl (by decide) (by decide) rfl ?_
        refine hv_goto X 9 dX4_bestBlade_64 (by decide) ?_
        refine hv_sub [(0, .ref (hd_ad E 38)), (1, .int x1), (2, .int x2), (3, .int x3), (4, .int x4), (5, .int (x5 + 1))] [1, 2, 3, 4, 5, 0] rfl ?_
        exact ih x1 x2 x3 x4 (x5 + 1) S h
def hf_M_bestBlade (a1 : Int32) (a2 : Int32) (S : hd_St) : (Option (Int32 × hd_St)) :=
  hf_M_bestBlade_9 hd_fuel a1 a2 (-4) 0 0 S
theorem hw_M_bestBlade (l : Launch) (E : hd_EV) (a1 : Int32) (a2 : Int32) (S : hd_St) (y : (Int32 × hd_St)) (h : hf_M_bestBlade a1 a2 S = some y) : hd_Mt l E yX4_bestBlade cX4_bestBlade 6 (some .int) (hd_Rm 7 0 0) [.ref (hd_ad E 38), .int a1, .int a2] S (some (.int y.1)) y.2 := by
  refine hd_Mt.start [(0, .ref (hd_ad E 38)), (1, .int a1), (2, .int a2)] hd_pnX4 rfl (Nat.le_of_ble_eq_true rfl) (fun κ X hl hr hn => ?_)
  have X : hd_Cx κ E cX4_bestBlade RX4 6 (hd_Rm 7 0 0) := X
  unfold hf_M_bestBlade at h
  refine hv_bipush X (v := (-4)) dX4_bestBlade_0 (by decide) ?_
  refine hv_istore_n X [(3, .int (-4)), (0, .ref (hd_ad E 38)), (1, .int a1), (2, .int a2)] dX4_bestBlade_2 (by decide) rfl ?_
  refine hv_iconst X (v := 0) dX4_bestBlade_3 (by decide) ?_
  refine hv_istore X [(4, .int 0), (3, .int (-4)), (0, .ref (hd_ad E 38)), (1, .int a1), (2, .int a2)] dX4_bestBlade_4 (by decide) rfl ?_
  refine hv_iconst X (v := 0) dX4_bestBlade_6 (by decide) ?_
  refine hv_istore X [(5, .int 0), (4, .int 0), (3, .int (-4)), (0, .ref (hd_ad E 38)), (1, .int a1), (2, .int a2)] dX4_bestBlade_7 (by decide) rfl ?_
  refine hv_sub [(0, .ref (hd_ad E 38)), (1, .int a1), (2, .int a2), (3, .int (-4)), (4, .int 0), (5, .int 0)] [3, 4, 5, 2, 1, 0] rfl ?_
  exact hw_M_bestBlade_9 X hr hd_fuel a1 a2 (-4) 0 0 S h
theorem pk_M_bestBlade : hd_PkV RX4 yX4_bestBlade cX4_bestBlade 6 (some .int) 2 := ⟨q1518, qs59, q73, q1519, rfl, by decide +kernel, by decide +kernel, by decide +kernel⟩
-- which
def hf_M_which (a1 : Int32) (a2 : Int32) (S : hd_St) : (Option (Int32 × hd_St)) :=
  (hf_M_isThumbs a1 S).bind fun r1 =>
    if r1 = true then
    ((hf_M_isBlow a2 S).bind fun r3 =>
    if r3 = true then
    ((hf_M_bestBlade a1 a2 S).bind fun p5 =>
    some (p5.1, p5.2))
    else
    (some ((-1), S)))
    else
    (some ((-1), S))
theorem hw_M_which (l : Launch) (E : hd_EV) (a1 : Int32) (a2 : Int32) (S : hd_St) (y : (Int32 × hd_St)) (h : hf_M_which a1 a2 S = some y) : hd_Mt l E yX4_which cX4_which 3 (some .int) (hd_Rm 8 0 0) [.ref (hd_ad E 38), .int a1, .int a2] S (some (.int y.1)) y.2 := by
  refine hd_Mt.start [(0, .ref (hd_ad E 38)), (1, .int a1), (2, .int a2)] hd_pnX4 rfl (Nat.le_of_ble_eq_true rfl) (fun κ X hl hr hn => ?_)
  have X : hd_Cx κ E cX4_which RX4 3 (hd_Rm 8 0 0) := X
  unfold hf_M_which at h
  refine hv_aload_n X dX4_which_0 0 rfl ?_
  refine hv_iload_n X dX4_which_1 1 rfl ?_
  obtain ⟨r1, e2, h⟩ := hd_bind h
  refine hv_cV X pk_M_isThumbs hd_rcM (hw_M_isThumbs _ E a1 S r1 e2) q1373 dX4_which_2 (by decide) (by decide) (Nat.zero_le _) (Nat.zero_le _) rfl rfl (Nat.le_of_ble_eq_true rfl) rfl ?_
  refine hv_ifb_eq X 25 h dX4_which_5 (by decide) (fun h => ?_) (fun h => ?_)
  · refine hv_iconst X (v := (-1)) dX4_which_25 (by decide) ?_
    obtain rfl := Option.some.inj h
    exact hv_iret X hr dX4_which_26 (Nat.zero_le _) (Nat.zero_le _)
  · refine hv_aload_n X dX4_which_8 0 rfl ?_
    refine hv_iload_n X dX4_which_9 2 rfl ?_
    obtain ⟨r3, e4, h⟩ := hd_bind h
    refine hv_cV X pk_M_isBlow hd_rcM (hw_M_isBlow _ E a2 S r3 e4) q1377 dX4_which_10 (by decide) (by decide) (Nat.zero_le _) (Nat.zero_le _) rfl rfl (Nat.le_of_ble_eq_true rfl) rfl ?_
    refine hv_ifb_eq X 25 h dX4_which_13 (by decide) (fun h => ?_) (fun h => ?_)
    · refine hv_iconst X (v := (-1)) dX4_which_25 (by decide) ?_
      obtain rfl := Option.some.inj h
      exact hv_iret X hr dX4_which_26 (Nat.zero_le _) (Nat.zero_le _)
    · refine hv_aload_n X dX4_which_16 0 rfl ?_
      refine hv_iload_n X dX4_which_17 1 rfl ?_
      refine hv_iload_n X dX4_which_18 2 rfl ?_
      obtain ⟨p5, e6, h⟩ := hd_bind h
      refine hv_cV X pk_M_bestBlade hd_rcM (hw_M_bestBlade _ E a1 a2 S p5 e6) q1516 dX4_which_19 (by decide) (by decide) (Nat.zero_le _) (Nat.zero_le _) rfl rfl (Nat.le_of_ble_eq_true rfl) rfl ?_
      refine hv_goto X 26 dX4_which_22 (by decide) ?_
      obtain rfl := Option.some.inj h
      exact hv_iret X hr dX4_which_26 (Nat.zero_le _) (Nat.zero_le _)
theorem pk_M_which : hd_PkV RX4 yX4_which cX4_which 3 (some .int) 2 := ⟨q1521, q1522, q73, q1523, rfl, by decide +kernel, by decide +kernel, by decide +kernel⟩
-- wrong
def hf_M_wrong_96 (S : hd_St) (x2 : Int32) (x3 : Int32) (x5 : Int32) (t0 : Int32) (t1 : Int32) : (Option Int32) :=
  hd_nm (t1 ||| t0) fun v13 =>
    (hf_M_hardest x2 x3 S).bind fun r14 =>
    if x5 ≤ r14 then
    (some (v13 ||| 0))
    else
    (some (v13 ||| 16))
theorem hw_M_wrong_96 {κ : hd_VK} {E : hd_EV} (X : hd_Cx κ E cX4_wrong RX4 7 (hd_Rm 5 0 0)) (hr : (hd_kQ κ).sig.returnType = some .int) {S : hd_St} {y : Int32} (x2 : Int32) (x3 : Int32) (x5 : Int32) (t0 : Int32) (t1 : Int32) (h : hf_M_wrong_96 S x2 x3 x5 t0 t1 = some y) : hd_V κ E 7 0 0 (hd_Qf κ E (some (.int y)) S) S 96 [(0, .ref (hd_ad E 38)), (2, .int x2), (3, .int x3), (5, .int x5)] [.int t0, .int t1] := by
  unfold hf_M_wrong_96 at h
  refine hv_ior X dX4_wrong_96 ?_
  refine hv_nmI h (fun v13 h => ?_)
  refine hv_istore X [(6, .int v13), (0, .ref (hd_ad E 38)), (2, .int x2), (3, .int x3), (5, .int x5)] dX4_wrong_97 (by decide) rfl ?_
  refine hv_iload X dX4_wrong_99 0 rfl ?_
  refine hv_iload X dX4_wrong_101 4 rfl ?_
  refine hv_aload_n X dX4_wrong_103 1 rfl ?_
  refine hv_iload_n X dX4_wrong_104 2 rfl ?_
  refine hv_iload_n X dX4_wrong_105 3 rfl ?_
  obtain ⟨r14, e15, h⟩ := hd_bind h
  refine hv_cV X pk_M_hardest hd_rcM (hw_M_hardest _ E x2 x3 S r14 e15) q1463 dX4_wrong_106 (by decide) (by decide) (Nat.zero_le _) (Nat.zero_le _) rfl rfl (Nat.le_of_ble_eq_true rfl) rfl ?_
  refine hv_icmp_le X 117 h dX4_wrong_109 (by decide) (fun h => ?_) (fun h => ?_)
  · refine hv_iconst X (v := 0) dX4_wrong_117 (by decide) ?_
    refine hv_ior X dX4_wrong_118 ?_
    obtain rfl := Option.some.inj h
    exact hv_iret X hr dX4_wrong_119 (Nat.zero_le _) (Nat.zero_le _)
  · refine hv_bipush X (v := 16) dX4_wrong_112 (by decide) ?_
    refine hv_goto X 118 dX4_wrong_114 (by decide) ?_
    refine hv_ior X dX4_wrong_118 ?_
    obtain rfl := Option.some.inj h
    exact hv_iret X hr dX4_wrong_119 (Nat.zero_le _) (Nat.zero_le _)
def hf_M_wrong_74 (S : hd_St) (x2 : Int32) (x3 : Int32) (x5 : Int32) (t0 : Int32) (t1 : Int32) : (Option Int32) :=
  hd_nm (t1 ||| t0) fun v10 =>
    (hf_M_softest x2 x3 S).bind fun r11 =>
    if r11 ≤ x5 then
    (hf_M_wrong_96 S x2 x3 x5 0 v10)
    else
    (hf_M_wrong_96 S x2 x3 x5 8 v10)
theorem hw_M_wrong_74 {κ : hd_VK} {E : hd_EV} (X : hd_Cx κ E cX4_wrong RX4 7 (hd_Rm 5 0 0)) (hr : (hd_kQ κ).sig.returnType = some .int) {S : hd_St} {y : Int32} (x2 : Int32) (x3 : Int32) (x5 : Int32) (t0 : Int32) (t1 : Int32) (h : hf_M_wrong_74 S x2 x3 x5 t0 t1 = some y) : hd_V κ E 7 0 0 (hd_Qf κ E (some (.int y)) S) S 74 [(0, .ref (hd_ad E 38)), (2, .int x2), (3, .int x3), (5, .int x5)] [.int t0, .int t1] := by
  unfold hf_M_wrong_74 at h
  refine hv_ior X dX4_wrong_74 ?_
  refine hv_nmI h (fun v10 h => ?_)
  refine hv_istore X [(6, .int v10), (0, .ref (hd_ad E 38)), (2, .int x2), (3, .int x3), (5, .int x5)] dX4_wrong_75 (by decide) rfl ?_
  refine hv_iload X dX4_wrong_77 0 rfl ?_
  refine hv_iload X dX4_wrong_79 4 rfl ?_
  refine hv_aload_n X dX4_wrong_81 1 rfl ?_
  refine hv_iload_n X dX4_wrong_82 2 rfl ?_
  refine hv_iload_n X dX4_wrong_83 3 rfl ?_
  obtain ⟨r11, e12, h⟩ := hd_bind h
  refine hv_cV X pk_M_softest hd_rcM (hw_M_softest _ E x2 x3 S r11 e12) q1459 dX4_wrong_84 (by decide) (by decide) (Nat.zero_le _) (Nat.zero_le _) rfl rfl (Nat.le_of_ble_eq_true rfl) rfl ?_
  refine hv_icmp_ge X 95 h dX4_wrong_87 (by decide) (fun h => ?_) (fun h => ?_)
  · refine hv_iconst X (v := 0) dX4_wrong_95 (by decide) ?_
    refine hv_sub [(0, .ref (hd_ad E 38)), (2, .int x2), (3, .int x3), (5, .int x5)] [1, 2, 3, 4] rfl ?_
    exact hw_M_wrong_96 X hr x2 x3 x5 0 v10 h
  · refine hv_bipush X (v := 8) dX4_wrong_90 (by decide) ?_
    refine hv_goto X 96 dX4_wrong_92 (by decide) ?_
    refine hv_sub [(0, .ref (hd_ad E 38)), (2, .int x2), (3, .int x3), (5, .int x5)] [1, 2, 3, 4] rfl ?_
    exact hw_M_wrong_96 X hr x2 x3 x5 8 v10 h
def hf_M_wrong_54 (S : hd_St) (x2 : Int32) (x3 : Int32) (x4 : Int32) (x5 : Int32) (t0 : Int32) (t1 : Int32) : (Option Int32) :=
  hd_nm (t1 ||| t0) fun v7 =>
    (hf_M_gripOf x2 S).bind fun r8 =>
    if x4 ≤ r8 then
    (hf_M_wrong_74 S x2 x3 x5 0 v7)
    else
    (hf_M_wrong_74 S x2 x3 x5 4 v7)
theorem hw_M_wrong_54 {κ : hd_VK} {E : hd_EV} (X : hd_Cx κ E cX4_wrong RX4 7 (hd_Rm 5 0 0)) (hr : (hd_kQ κ).sig.returnType = some .int) {S : hd_St} {y : Int32} (x2 : Int32) (x3 : Int32) (x4 : Int32) (x5 : Int32) (t0 : Int32) (t1 : Int32) (h : hf_M_wrong_54 S x2 x3 x4 x5 t0 t1 = some y) : hd_V κ E 7 0 0 (hd_Qf κ E (some (.int y)) S) S 54 [(0, .ref (hd_ad E 38)), (2, .int x2), (3, .int x3), (4, .int x4), (5, .int x5)] [.int t0, .int t1] := by
  unfold hf_M_wrong_54 at h
  refine hv_ior X dX4_wrong_54 ?_
  refine hv_nmI h (fun v7 h => ?_)
  refine hv_istore X [(6, .int v7), (0, .ref (hd_ad E 38)), (2, .int x2), (3, .int x3), (4, .int x4), (5, .int x5)] dX4_wrong_55 (by decide) rfl ?_
  refine hv_iload X dX4_wrong_57 0 rfl ?_
  refine hv_iload X dX4_wrong_59 4 rfl ?_
  refine hv_aload_n X dX4_wrong_61 1 rfl ?_
  refine hv_iload_n X dX4_wrong_62 2 rfl ?_
  obtain ⟨r8, e9, h⟩ := hd_bind h
  refine hv_cV X pk_M_gripOf hd_rcM (hw_M_gripOf _ E x2 S r8 e9) q1483 dX4_wrong_63 (by decide) (by decide) (Nat.zero_le _) (Nat.zero_le _) rfl rfl (Nat.le_of_ble_eq_true rfl) rfl ?_
  refine hv_icmp_le X 73 h dX4_wrong_66 (by decide) (fun h => ?_) (fun h => ?_)
  · refine hv_iconst X (v := 0) dX4_wrong_73 (by decide) ?_
    refine hv_sub [(0, .ref (hd_ad E 38)), (2, .int x2), (3, .int x3), (5, .int x5)] [1, 2, 3, 5] rfl ?_
    exact hw_M_wrong_74 X hr x2 x3 x5 0 v7 h
  · refine hv_iconst X (v := 4) dX4_wrong_69 (by decide) ?_
    refine hv_goto X 74 dX4_wrong_70 (by decide) ?_
    refine hv_sub [(0, .ref (hd_ad E 38)), (2, .int x2), (3, .int x3), (5, .int x5)] [1, 2, 3, 5] rfl ?_
    exact hw_M_wrong_74 X hr x2 x3 x5 4 v7 h
def hf_M_wrong_33 (S : hd_St) (x1 : Int32) (x2 : Int32) (x3 : Int32) (x4 : Int32) (x5 : Int32) (t0 : Int32) : (Option Int32) :=
  (hf_M_high x1 x2 x3 S).bind fun r5 =>
    if x4 ≤ r5 then
    (hf_M_wrong_54 S x2 x3 x4 x5 0 t0)
    else
    (hf_M_wrong_54 S x2 x3 x4 x5 2 t0)
theorem hw_M_wrong_33 {κ : hd_VK} {E : hd_EV} (X : hd_Cx κ E cX4_wrong RX4 7 (hd_Rm 5 0 0)) (hr : (hd_kQ κ).sig.returnType = some .int) {S : hd_St} {y : Int32} (x1 : Int32) (x2 : Int32) (x3 : Int32) (x4 : Int32) (x5 : Int32) (t0 : Int32) (h : hf_M_wrong_33 S x1 x2 x3 x4 x5 t0 = some y) : hd_V κ E 7 0 0 (hd_Qf κ E (some (.int y)) S) S 33 [(0, .ref (hd_ad E 38)), (1, .int x1), (2, .int x2), (3, .int x3), (4, .int x4), (5, .int x5)] [.int t0] := by
  unfold hf_M_wrong_33 at h
  refine hv_istore X [(6, .int t0), (0, .ref (hd_ad E 38)), (1, .int x1), (2, .int x2), (3, .int x3), (4, .int x4), (5, .int x5)] dX4_wrong_33 (by decide) rfl ?_
  refine hv_iload X dX4_wrong_35 0 rfl ?_
  refine hv_iload X dX4_wrong_37 5 rfl ?_
  refine hv_aload_n X dX4_wrong_39 1 rfl ?_
  refine hv_iload_n X dX4_wrong_40 2 rfl ?_
  refine hv_iload_n X dX4_wrong_41 3 rfl ?_
  refine hv_iload_n X dX4_wrong_42 4 rfl ?_
  obtain ⟨r5, e6, h⟩ := hd_bind h
  refine hv_cV X pk_M_high hd_rcM (hw_M_high _ E x1 x2 x3 S r5 e6) q1455 dX4_wrong_43 (by decide) (by decide) (Nat.zero_le _) (Nat.zero_le _) rfl rfl (Nat.le_of_ble_eq_true rfl) rfl ?_
  refine hv_icmp_le X 53 h dX4_wrong_46 (by decide) (fun h => ?_) (fun h => ?_)
  · refine hv_iconst X (v := 0) dX4_wrong_53 (by decide) ?_
    refine hv_sub [(0, .ref (hd_ad E 38)), (2, .int x2), (3, .int x3), (4, .int x4), (5, .int x5)] [1, 3, 4, 5, 6] rfl ?_
    exact hw_M_wrong_54 X hr x2 x3 x4 x5 0 t0 h
  · refine hv_iconst X (v := 2) dX4_wrong_49 (by decide) ?_
    refine hv_goto X 54 dX4_wrong_50 (by decide) ?_
    refine hv_sub [(0, .ref (hd_ad E 38)), (2, .int x2), (3, .int x3), (4, .int x4), (5, .int x5)] [1, 3, 4, 5, 6] rfl ?_
    exact hw_M_wrong_54 X hr x2 x3 x4 x5 2 t0 h
def hf_M_wrong (a1 : Int32) (a2 : Int32) (a3 : Int32) (a4 : Int32) (a5 : Int32) (S : hd_St) : (Option Int32) :=
  (hf_M_isTold a1 a2 a3 a4 a5 S).bind fun r1 =>
    if r1 = true then
    ((hf_M_low a1 a2 a3 S).bind fun r3 =>
    if r3 ≤ a4 then
    (hf_M_wrong_33 S a1 a2 a3 a4 a5 0)
    else
    (hf_M_wrong_33 S a1 a2 a3 a4 a5 1))
    else
    (some (-1))
theorem hw_M_wrong (l : Launch) (E : hd_EV) (a1 : Int32) (a2 : Int32) (a3 : Int32) (a4 : Int32) (a5 : Int32) (S : hd_St) (y : Int32) (h : hf_M_wrong a1 a2 a3 a4 a5 S = some y) : hd_Mt l E yX4_wrong cX4_wrong 7 (some .int) (hd_Rm 5 0 0) [.ref (hd_ad E 38), .int a1, .int a2, .int a3, .int a4, .int a5] S (some (.int y)) S := by
  refine hd_Mt.start [(0, .ref (hd_ad E 38)), (1, .int a1), (2, .int a2), (3, .int a3), (4, .int a4), (5, .int a5)] hd_pnX4 rfl (Nat.le_of_ble_eq_true rfl) (fun κ X hl hr hn => ?_)
  have X : hd_Cx κ E cX4_wrong RX4 7 (hd_Rm 5 0 0) := X
  unfold hf_M_wrong at h
  refine hv_aload_n X dX4_wrong_0 0 rfl ?_
  refine hv_iload_n X dX4_wrong_1 1 rfl ?_
  refine hv_iload_n X dX4_wrong_2 2 rfl ?_
  refine hv_iload_n X dX4_wrong_3 3 rfl ?_
  refine hv_iload X dX4_wrong_4 4 rfl ?_
  refine hv_iload X dX4_wrong_6 5 rfl ?_
  obtain ⟨r1, e2, h⟩ := hd_bind h
  refine hv_cV X pk_M_isTold hd_rcM (hw_M_isTold _ E a1 a2 a3 a4 a5 S r1 e2) q1471 dX4_wrong_8 (by decide) (by decide) (Nat.zero_le _) (Nat.zero_le _) rfl rfl (Nat.le_of_ble_eq_true rfl) rfl ?_
  refine hv_ifb_ne X 16 h dX4_wrong_11 (by decide) (fun h => ?_) (fun h => ?_)
  · refine hv_iload X dX4_wrong_16 4 rfl ?_
    refine hv_aload_n X dX4_wrong_18 0 rfl ?_
    refine hv_iload_n X dX4_wrong_19 1 rfl ?_
    refine hv_iload_n X dX4_wrong_20 2 rfl ?_
    refine hv_iload_n X dX4_wrong_21 3 rfl ?_
    obtain ⟨r3, e4, h⟩ := hd_bind h
    refine hv_cV X pk_M_low hd_rcM (hw_M_low _ E a1 a2 a3 S r3 e4) q1440 dX4_wrong_22 (by decide) (by decide) (Nat.zero_le _) (Nat.zero_le _) rfl rfl (Nat.le_of_ble_eq_true rfl) rfl ?_
    refine hv_icmp_ge X 32 h dX4_wrong_25 (by decide) (fun h => ?_) (fun h => ?_)
    · refine hv_iconst X (v := 0) dX4_wrong_32 (by decide) ?_
      exact hw_M_wrong_33 X hr a1 a2 a3 a4 a5 0 h
    · refine hv_iconst X (v := 1) dX4_wrong_28 (by decide) ?_
      refine hv_goto X 33 dX4_wrong_29 (by decide) ?_
      exact hw_M_wrong_33 X hr a1 a2 a3 a4 a5 1 h
  · refine hv_iconst X (v := (-1)) dX4_wrong_14 (by decide) ?_
    obtain rfl := Option.some.inj h
    exact hv_iret X hr dX4_wrong_15 (Nat.zero_le _) (Nat.zero_le _)
theorem pk_M_wrong : hd_PkV RX4 yX4_wrong cX4_wrong 7 (some .int) 5 := ⟨q1525, q1526, q73, q1527, rfl, by decide +kernel, by decide +kernel, by decide +kernel⟩
-- halves
def hf_M_halves_22 (S : hd_St) : Nat → Int32 → Int32 → Int32 → Int32 → Int32 → Int32 → (Option Int32)
  | 0, _, _, _, _, _, _ => none
  | n + 1, x1, x2, x3, x4, x5, x6 =>
    if x5 < x4 then
    (some (-4))
    else
    (hd_nm ((x4 + x5) / 2) fun v3 =>
    (hf_M_low x1 x2 x3 S).bind fun r4 =>
    if r4 ≤ v3 then
    ((hf_M_high x1 x2 x3 S).bind fun r6 =>
    if v3 ≤ r6 then
    (some x6)
    else
    (hd_nm (v3 - 1) fun v8 =>
    hf_M_halves_22 S n x1 x2 x3 x4 v8 (x6 + 1)))
    else
    (hd_nm (v3 + 1) fun v9 =>
    hf_M_halves_22 S n x1 x2 x3 v9 x5 (x6 + 1)))
theorem hw_M_halves_22 {κ : hd_VK} {E : hd_EV} (X : hd_Cx κ E cX4_halves RX4 8 (hd_Rm 5 0 0)) (hr : (hd_kQ κ).sig.returnType = some .int) {S : hd_St} {y : Int32} : ∀ (n : Nat) (x1 : Int32) (x2 : Int32) (x3 : Int32) (x4 : Int32) (x5 : Int32) (x6 : Int32), hf_M_halves_22 S n x1 x2 x3 x4 x5 x6 = some y → hd_V κ E 8 0 0 (hd_Qf κ E (some (.int y)) S) S 22 [(0, .ref (hd_ad E 38)), (1, .int x1), (2, .int x2), (3, .int x3), (4, .int x4), (5, .int x5), (6, .int x6)] [] := by
  intro n
  induction n with
  | zero => intro x1 x2 x3 x4 x5 x6 h; have h : (none : Option Int32) = some y := h; cases h
  | succ n ih =>
    intro x1 x2 x3 x4 x5 x6 h
    rw [hf_M_halves_22] at h
    refine hv_iload X dX4_halves_22 4 rfl ?_
    refine hv_iload X dX4_halves_24 5 rfl ?_
    refine hv_icmp_gt X 89 h dX4_halves_26 (by decide) (fun h => ?_) (fun h => ?_)
    · refine hv_bipush X (v := (-4)) dX4_halves_89 (by decide) ?_
      obtain rfl := Option.some.inj h
      exact hv_iret X hr dX4_halves_91 (Nat.zero_le _) (Nat.zero_le _)
    · refine hv_iload X dX4_halves_29 4 rfl ?_
      refine hv_iload X dX4_halves_31 5 rfl ?_
      refine hv_iadd X dX4_halves_33 ?_
      refine hv_iconst X (v := 2) dX4_halves_34 (by decide) ?_
      refine hv_idivc X (by decide) dX4_halves_35 ?_
      refine hv_nmI h (fun v3 h => ?_)
      refine hv_istore X [(7, .int v3), (0, .ref (hd_ad E 38)), (1, .int x1), (2, .int x2), (3, .int x3), (4, .int x4), (5, .int x5), (6, .int x6)] dX4_halves_36 (by decide) rfl ?_
      refine hv_iload X dX4_halves_38 0 rfl ?_
      refine hv_aload_n X dX4_halves_40 1 rfl ?_
      refine hv_iload_n X dX4_halves_41 2 rfl ?_
      refine hv_iload_n X dX4_halves_42 3 rfl ?_
      refine hv_iload_n X dX4_halves_43 4 rfl ?_
      obtain ⟨r4, e5, h⟩ := hd_bind h
      refine hv_cV X pk_M_low hd_rcM (hw_M_low _ E x1 x2 x3 S r4 e5) q1440 dX4_halves_44 (by decide) (by decide) (Nat.zero_le _) (Nat.zero_le _) rfl rfl (Nat.le_of_ble_eq_true rfl) rfl ?_
      refine hv_icmp_ge X 59 h dX4_halves_47 (by decide) (fun h => ?_) (fun h => ?_)
      · refine hv_iload X dX4_halves_59 0 rfl ?_
        refine hv_aload_n X dX4_halves_61 1 rfl ?_
        refine hv_iload_n X dX4_halves_62 2 rfl ?_
        refine hv_iload_n X dX4_halves_63 3 rfl ?_
        refine hv_iload_n X dX4_halves_64 4 rfl ?_
        obtain ⟨r6, e7, h⟩ := hd_bind h
        refine hv_cV X pk_M_high hd_rcM (hw_M_high _ E x1 x2 x3 S r6 e7) q1455 dX4_halves_65 (by decide) (by decide) (Nat.zero_le _) (Nat.zero_le _) rfl rfl (Nat.le_of_ble_eq_true rfl) rfl ?_
        refine hv_icmp_le X 80 h dX4_halves_68 (by decide) (fun h => ?_) (fun h => ?_)
        · refine hv_iload X dX4_halves_80 7 rfl ?_
          obtain rfl := Option.some.inj h
          exact hv_iret X hr dX4_halves_82 (Nat.zero_le _) (Nat.zero_le _)
        · refine hv_iload X dX4_halves_71 0 rfl ?_
          refine hv_iconst X (v := 1) dX4_halves_73 (by decide) ?_
          refine hv_isub X dX4_halves_74 ?_
          refine hv_nmI h (fun v8 h => ?_)
          refine hv_istore X [(5, .int v8), (7, .int v3), (0, .ref (hd_ad E 38)), (1, .int x1), (2, .int x2), (3, .int x3), (4, .int x4), (6, .int x6)] dX4_halves_75 (by decide) rfl ?_
          refine hv_goto X 83 dX4_halves_77 (by decide) ?_
          refine hv_iinc X (v := 1) [(6, .int (x6 + 1)), (5, .int v8), (7, .int v3), (0, .ref (hd_ad E 38)), (1, .int x1), (2, .int x2), (3, .int x3), (4, .int x4)] dX4_halves_83 7 rfl (by decide) (by decide) rfl ?_
          refine hv_goto X 22 dX4_halves_86 (by decide) ?_
          refine hv_sub [(0, .ref (hd_ad E 38)), (1, .int x1), (2, .int x2), (3, .int x3), (4, .int x4), (5, .int v8), (6, .int (x6 + 1))] [3, 4, 5, 6, 7, 1, 0] rfl ?_
          exact ih x1 x2 x3 x4 v8 (x6 + 1) h
      · refine hv_iload X dX4_halves_50 0 rfl ?_
        refine hv_iconst X (v := 1) dX4_halves_52 (by decide) ?_
        refine hv_iadd X dX4_halves_53 ?_
        refine hv_nmI h (fun v9 h => ?_)
        refine hv_istore X [(4, .int v9), (7, .int v3), (0, .ref (hd_ad E 38)), (1, .int x1), (2, .int x2), (3, .int x3), (5, .int x5), (6, .int x6)] dX4_halves_54 (by decide) rfl ?_
        refine hv_goto X 83 dX4_halves_56 (by decide) ?_
        refine hv_iinc X (v := 1) [(6, .int (x6 + 1)), (4, .int v9), (7, .int v3), (0, .ref (hd_ad E 38)), (1, .int x1), (2, .int x2), (3, .int x3), (5, .int x5)] dX4_halves_83 7 rfl (by decide) (by decide) rfl ?_
        refine hv_goto X 22 dX4_halves_86 (by decide) ?_
        refine hv_sub [(0, .ref (hd_ad E 38)), (1, .int x1), (2, .int x2), (3, .int x3), (4, .int v9), (5, .int x5), (6, .int (x6 + 1))] [3, 4, 5, 6, 1, 7, 0] rfl ?_
        exact ih x1 x2 x3 v9 x5 (x6 + 1) h
def hf_M_halves (a1 : Int32) (a2 : Int32) (a3 : Int32) (S : hd_St) : (Option Int32) :=
  (hf_M_areAll a1 a2 a3 S).bind fun r1 =>
    if r1 = true then
    (hf_M_halves_22 S hd_fuel a1 a2 a3 0 60 1)
    else
    (some (-1))
theorem hw_M_halves (l : Launch) (E : hd_EV) (a1 : Int32) (a2 : Int32) (a3 : Int32) (S : hd_St) (y : Int32) (h : hf_M_halves a1 a2 a3 S = some y) : hd_Mt l E yX4_halves cX4_halves 8 (some .int) (hd_Rm 5 0 0) [.ref (hd_ad E 38), .int a1, .int a2, .int a3] S (some (.int y)) S := by
  refine hd_Mt.start [(0, .ref (hd_ad E 38)), (1, .int a1), (2, .int a2), (3, .int a3)] hd_pnX4 rfl (Nat.le_of_ble_eq_true rfl) (fun κ X hl hr hn => ?_)
  have X : hd_Cx κ E cX4_halves RX4 8 (hd_Rm 5 0 0) := X
  unfold hf_M_halves at h
  refine hv_aload_n X dX4_halves_0 0 rfl ?_
  refine hv_iload_n X dX4_halves_1 1 rfl ?_
  refine hv_iload_n X dX4_halves_2 2 rfl ?_
  refine hv_iload_n X dX4_halves_3 3 rfl ?_
  obtain ⟨r1, e2, h⟩ := hd_bind h
  refine hv_cV X pk_M_areAll hd_rcM (hw_M_areAll _ E a1 a2 a3 S r1 e2) q1365 dX4_halves_4 (by decide) (by decide) (Nat.zero_le _) (Nat.zero_le _) rfl rfl (Nat.le_of_ble_eq_true rfl) rfl ?_
  refine hv_ifb_ne X 12 h dX4_halves_7 (by decide) (fun h => ?_) (fun h => ?_)
  · refine hv_iconst X (v := 0) dX4_halves_12 (by decide) ?_
    refine hv_istore X [(4, .int 0), (0, .ref (hd_ad E 38)), (1, .int a1), (2, .int a2), (3, .int a3)] dX4_halves_13 (by decide) rfl ?_
    refine hv_bipush X (v := 60) dX4_halves_15 (by decide) ?_
    refine hv_istore X [(5, .int 60), (4, .int 0), (0, .ref (hd_ad E 38)), (1, .int a1), (2, .int a2), (3, .int a3)] dX4_halves_17 (by decide) rfl ?_
    refine hv_iconst X (v := 1) dX4_halves_19 (by decide) ?_
    refine hv_istore X [(6, .int 1), (5, .int 60), (4, .int 0), (0, .ref (hd_ad E 38)), (1, .int a1), (2, .int a2), (3, .int a3)] dX4_halves_20 (by decide) rfl ?_
    refine hv_sub [(0, .ref (hd_ad E 38)), (1, .int a1), (2, .int a2), (3, .int a3), (4, .int 0), (5, .int 60), (6, .int 1)] [3, 4, 5, 6, 2, 1, 0] rfl ?_
    exact hw_M_halves_22 X hr hd_fuel a1 a2 a3 0 60 1 h
  · refine hv_iconst X (v := (-1)) dX4_halves_10 (by decide) ?_
    obtain rfl := Option.some.inj h
    exact hv_iret X hr dX4_halves_11 (Nat.zero_le _) (Nat.zero_le _)
theorem pk_M_halves : hd_PkV RX4 yX4_halves cX4_halves 8 (some .int) 3 := ⟨q1537, q1538, q73, q1539, rfl, by decide +kernel, by decide +kernel, by decide +kernel⟩
-- waysBy
def hf_M_waysBy_69 (S : hd_St) (K16 : Int32 → Int32 → Int32 → Int32 → Int32 → (Option Int32)) (K43 : Int32 → Int32 → Int32 → Int32 → Int32 → Int32 → (Option Int32)) : Nat → Int32 → Int32 → Int32 → Int32 → Int32 → Int32 → Int32 → (Option Int32)
  | 0, _, _, _, _, _, _, _ => none
  | n + 1, x1, x2, x3, x4, x5, x6, x7 =>
    if (10 : Int32) ≤ x7 then
    (K43 x1 x2 x3 x4 x5 (x6 + 1))
    else
    ((hf_M_pitchOf x1 x5 x6 x7 S).bind fun r7 =>
    if r7 = x3 then
    (hd_nm (x4 + 1) fun v10 =>
    hf_M_waysBy_69 S K16 K43 n x1 x2 x3 v10 x5 x6 (x7 + 1))
    else
    (hd_nm (x4 + 0) fun v9 =>
    hf_M_waysBy_69 S K16 K43 n x1 x2 x3 v9 x5 x6 (x7 + 1)))
theorem hw_M_waysBy_69 {κ : hd_VK} {E : hd_EV} (X : hd_Cx κ E cX4_waysBy RX4 8 (hd_Rm 7 0 0)) (hr : (hd_kQ κ).sig.returnType = some .int) {S : hd_St} {y : Int32} (K16 : Int32 → Int32 → Int32 → Int32 → Int32 → (Option Int32)) (hK16 : ∀ (x1 : Int32) (x2 : Int32) (x3 : Int32) (x4 : Int32) (x5 : Int32), K16 x1 x2 x3 x4 x5 = some y → hd_V κ E 8 0 0 (hd_Qf κ E (some (.int y)) S) S 16 [(0, .ref (hd_ad E 38)), (1, .int x1), (2, .int x2), (3, .int x3), (4, .int x4), (5, .int x5)] []) (K43 : Int32 → Int32 → Int32 → Int32 → Int32 → Int32 → (Option Int32)) (hK43 : ∀ (x1 : Int32) (x2 : Int32) (x3 : Int32) (x4 : Int32) (x5 : Int32) (x6 : Int32), K43 x1 x2 x3 x4 x5 x6 = some y → hd_V κ E 8 0 0 (hd_Qf κ E (some (.int y)) S) S 43 [(0, .ref (hd_ad E 38)), (1, .int x1), (2, .int x2), (3, .int x3), (4, .int x4), (5, .int x5), (6, .int x6)] []) : ∀ (n : Nat) (x1 : Int32) (x2 : Int32) (x3 : Int32) (x4 : Int32) (x5 : Int32) (x6 : Int32) (x7 : Int32), hf_M_waysBy_69 S K16 K43 n x1 x2 x3 x4 x5 x6 x7 = some y → hd_V κ E 8 0 0 (hd_Qf κ E (some (.int y)) S) S 69 [(0, .ref (hd_ad E 38)), (1, .int x1), (2, .int x2), (3, .int x3), (4, .int x4), (5, .int x5), (6, .int x6), (7, .int x7)] [] := by
  intro n
  induction n with
  | zero => intro x1 x2 x3 x4 x5 x6 x7 h; have h : (none : Option Int32) = some y := h; cases h
  | succ n ih =>
    intro x1 x2 x3 x4 x5 x6 x7 h
    rw [hf_M_waysBy_69] at h
    refine hv_iload X dX4_waysBy_69 7 rfl ?_
    refine hv_bipush X (v := 10) dX4_waysBy_71 (by decide) ?_
    refine hv_icmp_ge X 107 h dX4_waysBy_73 (by decide) (fun h => ?_) (fun h => ?_)
    · refine hv_iinc X (v := 1) [(6, .int (x6 + 1)), (0, .ref (hd_ad E 38)), (1, .int x1), (2, .int x2), (3, .int x3), (4, .int x4), (5, .int x5), (7, .int x7)] dX4_waysBy_107 6 rfl (by decide) (by decide) rfl ?_
      refine hv_goto X 43 dX4_waysBy_110 (by decide) ?_
      refine hv_sub [(0, .ref (hd_ad E 38)), (1, .int x1), (2, .int x2), (3, .int x3), (4, .int x4), (5, .int x5), (6, .int (x6 + 1))] [1, 2, 3, 4, 5, 6, 0] rfl ?_
      exact hK43 x1 x2 x3 x4 x5 (x6 + 1) h
    · refine hv_iload X dX4_waysBy_76 4 rfl ?_
      refine hv_aload_n X dX4_waysBy_78 0 rfl ?_
      refine hv_iload_n X dX4_waysBy_79 1 rfl ?_
      refine hv_iload X dX4_waysBy_80 5 rfl ?_
      refine hv_iload X dX4_waysBy_82 6 rfl ?_
      refine hv_iload X dX4_waysBy_84 7 rfl ?_
      obtain ⟨r7, e8, h⟩ := hd_bind h
      refine hv_cV X pk_M_pitchOf hd_rcM (hw_M_pitchOf _ E x1 x5 x6 x7 S r7 e8) q1495 dX4_waysBy_86 (by decide) (by decide) (Nat.zero_le _) (Nat.zero_le _) rfl rfl (Nat.le_of_ble_eq_true rfl) rfl ?_
      refine hv_iload_n X dX4_waysBy_89 3 rfl ?_
      refine hv_icmp_ne X 97 h dX4_waysBy_90 (by decide) (fun h => ?_) (fun h => ?_)
      · refine hv_iconst X (v := 0) dX4_waysBy_97 (by decide) ?_
        refine hv_iadd X dX4_waysBy_98 ?_
        refine hv_nmI h (fun v9 h => ?_)
        refine hv_istore X [(4, .int v9), (0, .ref (hd_ad E 38)), (1, .int x1), (2, .int x2), (3, .int x3), (5, .int x5), (6, .int x6), (7, .int x7)] dX4_waysBy_99 (by decide) rfl ?_
        refine hv_iinc X (v := 1) [(7, .int (x7 + 1)), (4, .int v9), (0, .ref (hd_ad E 38)), (1, .int x1), (2, .int x2), (3, .int x3), (5, .int x5), (6, .int x6)] dX4_waysBy_101 7 rfl (by decide) (by decide) rfl ?_
        refine hv_goto X 69 dX4_waysBy_104 (by decide) ?_
        refine hv_sub [(0, .ref (hd_ad E 38)), (1, .int x1), (2, .int x2), (3, .int x3), (4, .int v9), (5, .int x5), (6, .int x6), (7, .int (x7 + 1))] [2, 3, 4, 5, 1, 6, 7, 0] rfl ?_
        exact ih x1 x2 x3 v9 x5 x6 (x7 + 1) h
      · refine hv_iconst X (v := 1) dX4_waysBy_93 (by decide) ?_
        refine hv_goto X 98 dX4_waysBy_94 (by decide) ?_
        refine hv_iadd X dX4_waysBy_98 ?_
        refine hv_nmI h (fun v10 h => ?_)
        refine hv_istore X [(4, .int v10), (0, .ref (hd_ad E 38)), (1, .int x1), (2, .int x2), (3, .int x3), (5, .int x5), (6, .int x6), (7, .int x7)] dX4_waysBy_99 (by decide) rfl ?_
        refine hv_iinc X (v := 1) [(7, .int (x7 + 1)), (4, .int v10), (0, .ref (hd_ad E 38)), (1, .int x1), (2, .int x2), (3, .int x3), (5, .int x5), (6, .int x6)] dX4_waysBy_101 7 rfl (by decide) (by decide) rfl ?_
        refine hv_goto X 69 dX4_waysBy_104 (by decide) ?_
        refine hv_sub [(0, .ref (hd_ad E 38)), (1, .int x1), (2, .int x2), (3, .int x3), (4, .int v10), (5, .int x5), (6, .int x6), (7, .int (x7 + 1))] [2, 3, 4, 5, 1, 6, 7, 0] rfl ?_
        exact ih x1 x2 x3 v10 x5 x6 (x7 + 1) h
def hf_M_waysBy_43 (S : hd_St) (K16 : Int32 → Int32 → Int32 → Int32 → Int32 → (Option Int32)) : Nat → Int32 → Int32 → Int32 → Int32 → Int32 → Int32 → (Option Int32)
  | 0, _, _, _, _, _, _ => none
  | n + 1, x1, x2, x3, x4, x5, x6 =>
    if (60 : Int32) < x6 then
    (K16 x1 x2 x3 x4 (x5 + 1))
    else
    ((hf_M_isTight x1 x2 x5 x6 S).bind fun r5 =>
    if r5 = true then
    (hf_M_waysBy_69 S K16 (hf_M_waysBy_43 S K16 n) hd_fuel x1 x2 x3 x4 x5 x6 0)
    else
    (hf_M_waysBy_43 S K16 n x1 x2 x3 x4 x5 (x6 + 1)))
theorem hw_M_waysBy_43 {κ : hd_VK} {E : hd_EV} (X : hd_Cx κ E cX4_waysBy RX4 8 (hd_Rm 7 0 0)) (hr : (hd_kQ κ).sig.returnType = some .int) {S : hd_St} {y : Int32} (K16 : Int32 → Int32 → Int32 → Int32 → Int32 → (Option Int32)) (hK16 : ∀ (x1 : Int32) (x2 : Int32) (x3 : Int32) (x4 : Int32) (x5 : Int32), K16 x1 x2 x3 x4 x5 = some y → hd_V κ E 8 0 0 (hd_Qf κ E (some (.int y)) S) S 16 [(0, .ref (hd_ad E 38)), (1, .int x1), (2, .int x2), (3, .int x3), (4, .int x4), (5, .int x5)] []) : ∀ (n : Nat) (x1 : Int32) (x2 : Int32) (x3 : Int32) (x4 : Int32) (x5 : Int32) (x6 : Int32), hf_M_waysBy_43 S K16 n x1 x2 x3 x4 x5 x6 = some y → hd_V κ E 8 0 0 (hd_Qf κ E (some (.int y)) S) S 43 [(0, .ref (hd_ad E 38)), (1, .int x1), (2, .int x2), (3, .int x3), (4, .int x4), (5, .int x5), (6, .int x6)] [] := by
  intro n
  induction n with
  | zero => intro x1 x2 x3 x4 x5 x6 h; have h : (none : Option Int32) = some y := h; cases h
  | succ n ih =>
    intro x1 x2 x3 x4 x5 x6 h
    rw [hf_M_waysBy_43] at h
    refine hv_iload X dX4_waysBy_43 6 rfl ?_
    refine hv_bipush X (v := 60) dX4_waysBy_45 (by decide) ?_
    refine hv_icmp_gt X 113 h dX4_waysBy_47 (by decide) (fun h => ?_) (fun h => ?_)
    · refine hv_iinc X (v := 1) [(5, .int (x5 + 1)), (0, .ref (hd_ad E 38)), (1, .int x1), (2, .int x2), (3, .int x3), (4, .int x4), (6, .int x6)] dX4_waysBy_113 5 rfl (by decide) (by decide) rfl ?_
      refine hv_goto X 16 dX4_waysBy_116 (by decide) ?_
      refine hv_sub [(0, .ref (hd_ad E 38)), (1, .int x1), (2, .int x2), (3, .int x3), (4, .int x4), (5, .int (x5 + 1))] [1, 2, 3, 4, 5, 0] rfl ?_
      exact hK16 x1 x2 x3 x4 (x5 + 1) h
    · refine hv_aload_n X dX4_waysBy_50 0 rfl ?_
      refine hv_iload_n X dX4_waysBy_51 1 rfl ?_
      refine hv_iload_n X dX4_waysBy_52 2 rfl ?_
      refine hv_iload X dX4_waysBy_53 5 rfl ?_
      refine hv_iload X dX4_waysBy_55 6 rfl ?_
      obtain ⟨r5, e6, h⟩ := hd_bind h
      refine hv_cV X pk_M_isTight hd_rcM (hw_M_isTight _ E x1 x2 x5 x6 S r5 e6) q1479 dX4_waysBy_57 (by decide) (by decide) (Nat.zero_le _) (Nat.zero_le _) rfl rfl (Nat.le_of_ble_eq_true rfl) rfl ?_
      refine hv_ifb_ne X 66 h dX4_waysBy_60 (by decide) (fun h => ?_) (fun h => ?_)
      · refine hv_iconst X (v := 0) dX4_waysBy_66 (by decide) ?_
        refine hv_istore X [(7, .int 0), (0, .ref (hd_ad E 38)), (1, .int x1), (2, .int x2), (3, .int x3), (4, .int x4), (5, .int x5), (6, .int x6)] dX4_waysBy_67 (by decide) rfl ?_
        refine hv_sub [(0, .ref (hd_ad E 38)), (1, .int x1), (2, .int x2), (3, .int x3), (4, .int x4), (5, .int x5), (6, .int x6), (7, .int 0)] [1, 2, 3, 4, 5, 6, 7, 0] rfl ?_
        exact hw_M_waysBy_69 X hr K16 hK16 (hf_M_waysBy_43 S K16 n) ih hd_fuel x1 x2 x3 x4 x5 x6 0 h
      · refine hv_goto X 107 dX4_waysBy_63 (by decide) ?_
        refine hv_iinc X (v := 1) [(6, .int (x6 + 1)), (0, .ref (hd_ad E 38)), (1, .int x1), (2, .int x2), (3, .int x3), (4, .int x4), (5, .int x5)] dX4_waysBy_107 6 rfl (by decide) (by decide) rfl ?_
        refine hv_goto X 43 dX4_waysBy_110 (by decide) ?_
        refine hv_sub [(0, .ref (hd_ad E 38)), (1, .int x1), (2, .int x2), (3, .int x3), (4, .int x4), (5, .int x5), (6, .int (x6 + 1))] [1, 2, 3, 4, 5, 6, 0] rfl ?_
        exact ih x1 x2 x3 x4 x5 (x6 + 1) h
def hf_M_waysBy_16 (S : hd_St) : Nat → Int32 → Int32 → Int32 → Int32 → Int32 → (Option Int32)
  | 0, _, _, _, _, _ => none
  | n + 1, x1, x2, x3, x4, x5 =>
    if hd_ck 2 47 = true then
    if (hd_I S 39 (2 : Int32).toNatClampNeg) ≤ x5 then
    (some x4)
    else
    ((hf_M_canAnyForce x2 x5 S).bind fun r3 =>
    if r3 = true then
    (hf_M_waysBy_43 S (hf_M_waysBy_16 S n) hd_fuel x1 x2 x3 x4 x5 0)
    else
    (hf_M_waysBy_16 S n x1 x2 x3 x4 (x5 + 1)))
    else none
theorem hw_M_waysBy_16 {κ : hd_VK} {E : hd_EV} (X : hd_Cx κ E cX4_waysBy RX4 8 (hd_Rm 7 0 0)) (hr : (hd_kQ κ).sig.returnType = some .int) {S : hd_St} {y : Int32} : ∀ (n : Nat) (x1 : Int32) (x2 : Int32) (x3 : Int32) (x4 : Int32) (x5 : Int32), hf_M_waysBy_16 S n x1 x2 x3 x4 x5 = some y → hd_V κ E 8 0 0 (hd_Qf κ E (some (.int y)) S) S 16 [(0, .ref (hd_ad E 38)), (1, .int x1), (2, .int x2), (3, .int x3), (4, .int x4), (5, .int x5)] [] := by
  intro n
  induction n with
  | zero => intro x1 x2 x3 x4 x5 h; have h : (none : Option Int32) = some y := h; cases h
  | succ n ih =>
    intro x1 x2 x3 x4 x5 h
    rw [hf_M_waysBy_16] at h
    refine hv_iload X dX4_waysBy_16 5 rfl ?_
    refine hv_aload_n X dX4_waysBy_18 0 rfl ?_
    refine hg_M_s X q1241 dX4_waysBy_19 ?_
    refine hv_iconst X (v := 2) dX4_waysBy_22 (by decide) ?_
    refine hv_iald X h hd_ia39 dX4_waysBy_23 (fun h => ?_)
    refine hv_icmp_ge X 119 h dX4_waysBy_24 (by decide) (fun h => ?_) (fun h => ?_)
    · refine hv_iload X dX4_waysBy_119 4 rfl ?_
      obtain rfl := Option.some.inj h
      exact hv_iret X hr dX4_waysBy_121 (Nat.zero_le _) (Nat.zero_le _)
    · refine hv_aload_n X dX4_waysBy_27 0 rfl ?_
      refine hv_iload_n X dX4_waysBy_28 2 rfl ?_
      refine hv_iload X dX4_waysBy_29 5 rfl ?_
      obtain ⟨r3, e4, h⟩ := hd_bind h
      refine hv_cV X pk_M_canAnyForce hd_rcM (hw_M_canAnyForce _ E x2 x5 S r3 e4) q1548 dX4_waysBy_31 (by decide) (by decide) (Nat.zero_le _) (Nat.zero_le _) rfl rfl (Nat.le_of_ble_eq_true rfl) rfl ?_
      refine hv_ifb_ne X 40 h dX4_waysBy_34 (by decide) (fun h => ?_) (fun h => ?_)
      · refine hv_iconst X (v := 0) dX4_waysBy_40 (by decide) ?_
        refine hv_istore X [(6, .int 0), (0, .ref (hd_ad E 38)), (1, .int x1), (2, .int x2), (3, .int x3), (4, .int x4), (5, .int x5)] dX4_waysBy_41 (by decide) rfl ?_
        refine hv_sub [(0, .ref (hd_ad E 38)), (1, .int x1), (2, .int x2), (3, .int x3), (4, .int x4), (5, .int x5), (6, .int 0)] [1, 2, 3, 4, 5, 6, 0] rfl ?_
        exact hw_M_waysBy_43 X hr (hf_M_waysBy_16 S n) ih hd_fuel x1 x2 x3 x4 x5 0 h
      · refine hv_goto X 113 dX4_waysBy_37 (by decide) ?_
        refine hv_iinc X (v := 1) [(5, .int (x5 + 1)), (0, .ref (hd_ad E 38)), (1, .int x1), (2, .int x2), (3, .int x3), (4, .int x4)] dX4_waysBy_113 5 rfl (by decide) (by decide) rfl ?_
        refine hv_goto X 16 dX4_waysBy_116 (by decide) ?_
        refine hv_sub [(0, .ref (hd_ad E 38)), (1, .int x1), (2, .int x2), (3, .int x3), (4, .int x4), (5, .int (x5 + 1))] [1, 2, 3, 4, 5, 0] rfl ?_
        exact ih x1 x2 x3 x4 (x5 + 1) h
def hf_M_waysBy (a1 : Int32) (a2 : Int32) (a3 : Int32) (S : hd_St) : (Option Int32) :=
  (hf_M_isSplit a1 S).bind fun r1 =>
    if r1 = true then
    (some 0)
    else
    (hf_M_waysBy_16 S hd_fuel a1 a2 a3 0 0)
theorem hw_M_waysBy (l : Launch) (E : hd_EV) (a1 : Int32) (a2 : Int32) (a3 : Int32) (S : hd_St) (y : Int32) (h : hf_M_waysBy a1 a2 a3 S = some y) : hd_Mt l E yX4_waysBy cX4_waysBy 8 (some .int) (hd_Rm 7 0 0) [.ref (hd_ad E 38), .int a1, .int a2, .int a3] S (some (.int y)) S := by
  refine hd_Mt.start [(0, .ref (hd_ad E 38)), (1, .int a1), (2, .int a2), (3, .int a3)] hd_pnX4 rfl (Nat.le_of_ble_eq_true rfl) (fun κ X hl hr hn => ?_)
  have X : hd_Cx κ E cX4_waysBy RX4 8 (hd_Rm 7 0 0) := X
  unfold hf_M_waysBy at h
  refine hv_aload_n X dX4_waysBy_0 0 rfl ?_
  refine hv_iload_n X dX4_waysBy_1 1 rfl ?_
  obtain ⟨r1, e2, h⟩ := hd_bind h
  refine hv_cV X pk_M_isSplit hd_rcM (hw_M_isSplit _ E a1 S r1 e2) q1381 dX4_waysBy_2 (by decide) (by decide) (Nat.zero_le _) (Nat.zero_le _) rfl rfl (Nat.le_of_ble_eq_true rfl) rfl ?_
  refine hv_ifb_eq X 10 h dX4_waysBy_5 (by decide) (fun h => ?_) (fun h => ?_)
  · refine hv_iconst X (v := 0) dX4_waysBy_10 (by decide) ?_
    refine hv_istore X [(4, .int 0), (0, .ref (hd_ad E 38)), (1, .int a1), (2, .int a2), (3, .int a3)] dX4_waysBy_11 (by decide) rfl ?_
    refine hv_iconst X (v := 0) dX4_waysBy_13 (by decide) ?_
    refine hv_istore X [(5, .int 0), (4, .int 0), (0, .ref (hd_ad E 38)), (1, .int a1), (2, .int a2), (3, .int a3)] dX4_waysBy_14 (by decide) rfl ?_
    refine hv_sub [(0, .ref (hd_ad E 38)), (1, .int a1), (2, .int a2), (3, .int a3), (4, .int 0), (5, .int 0)] [2, 3, 4, 5, 1, 0] rfl ?_
    exact hw_M_waysBy_16 X hr hd_fuel a1 a2 a3 0 0 h
  · refine hv_iconst X (v := 0) dX4_waysBy_8 (by decide) ?_
    obtain rfl := Option.some.inj h
    exact hv_iret X hr dX4_waysBy_9 (Nat.zero_le _) (Nat.zero_le _)
theorem pk_M_waysBy : hd_PkV RX4 yX4_waysBy cX4_waysBy 8 (some .int) 3 := ⟨q1546, qs60, q73, q1547, rfl, by decide +kernel, by decide +kernel, by decide +kernel⟩
-- bladesFor
def hf_M_bladesFor_5 (S : hd_St) : Nat → Int32 → Int32 → Int32 → Int32 → (Option Int32)
  | 0, _, _, _, _ => none
  | n + 1, x1, x2, x3, x4 =>
    if hd_ck 0 47 = true then
    if (hd_I S 39 (0 : Int32).toNatClampNeg) ≤ x4 then
    (some x3)
    else
    ((hf_M_waysBy x4 x1 x2 S).bind fun r1 =>
    if r1 ≤ 0 then
    (hf_M_bladesFor_5 S n x1 x2 x3 (x4 + 1))
    else
    (hd_nm (x3 ||| ((1 : Int32) <<< (x4 &&& 31))) fun v3 =>
    hf_M_bladesFor_5 S n x1 x2 v3 (x4 + 1)))
    else none
theorem hw_M_bladesFor_5 {κ : hd_VK} {E : hd_EV} (X : hd_Cx κ E cX4_bladesFor RX4 5 (hd_Rm 8 0 0)) (hr : (hd_kQ κ).sig.returnType = some .int) {S : hd_St} {y : Int32} : ∀ (n : Nat) (x1 : Int32) (x2 : Int32) (x3 : Int32) (x4 : Int32), hf_M_bladesFor_5 S n x1 x2 x3 x4 = some y → hd_V κ E 5 0 0 (hd_Qf κ E (some (.int y)) S) S 5 [(0, .ref (hd_ad E 38)), (1, .int x1), (2, .int x2), (3, .int x3), (4, .int x4)] [] := by
  intro n
  induction n with
  | zero => intro x1 x2 x3 x4 h; have h : (none : Option Int32) = some y := h; cases h
  | succ n ih =>
    intro x1 x2 x3 x4 h
    rw [hf_M_bladesFor_5] at h
    refine hv_iload X dX4_bladesFor_5 4 rfl ?_
    refine hv_aload_n X dX4_bladesFor_7 0 rfl ?_
    refine hg_M_s X q1241 dX4_bladesFor_8 ?_
    refine hv_iconst X (v := 0) dX4_bladesFor_11 (by decide) ?_
    refine hv_iald X h hd_ia39 dX4_bladesFor_12 (fun h => ?_)
    refine hv_icmp_ge X 40 h dX4_bladesFor_13 (by decide) (fun h => ?_) (fun h => ?_)
    · refine hv_iload_n X dX4_bladesFor_40 3 rfl ?_
      obtain rfl := Option.some.inj h
      exact hv_iret X hr dX4_bladesFor_41 (Nat.zero_le _) (Nat.zero_le _)
    · refine hv_aload_n X dX4_bladesFor_16 0 rfl ?_
      refine hv_iload X dX4_bladesFor_17 4 rfl ?_
      refine hv_iload_n X dX4_bladesFor_19 1 rfl ?_
      refine hv_iload_n X dX4_bladesFor_20 2 rfl ?_
      obtain ⟨r1, e2, h⟩ := hd_bind h
      refine hv_cV X pk_M_waysBy hd_rcM (hw_M_waysBy _ E x4 x1 x2 S r1 e2) q1544 dX4_bladesFor_21 (by decide) (by decide) (Nat.zero_le _) (Nat.zero_le _) rfl rfl (Nat.le_of_ble_eq_true rfl) rfl ?_
      refine hv_if_le X 34 h dX4_bladesFor_24 (by decide) (fun h => ?_) (fun h => ?_)
      · refine hv_iinc X (v := 1) [(4, .int (x4 + 1)), (0, .ref (hd_ad E 38)), (1, .int x1), (2, .int x2), (3, .int x3)] dX4_bladesFor_34 4 rfl (by decide) (by decide) rfl ?_
        refine hv_goto X 5 dX4_bladesFor_37 (by decide) ?_
        refine hv_sub [(0, .ref (hd_ad E 38)), (1, .int x1), (2, .int x2), (3, .int x3), (4, .int (x4 + 1))] [1, 2, 3, 4, 0] rfl ?_
        exact ih x1 x2 x3 (x4 + 1) h
      · refine hv_iload_n X dX4_bladesFor_27 3 rfl ?_
        refine hv_iconst X (v := 1) dX4_bladesFor_28 (by decide) ?_
        refine hv_iload X dX4_bladesFor_29 4 rfl ?_
        refine hv_ishl X dX4_bladesFor_31 ?_
        refine hv_ior X dX4_bladesFor_32 ?_
        refine hv_nmI h (fun v3 h => ?_)
        refine hv_istore_n X [(3, .int v3), (0, .ref (hd_ad E 38)), (1, .int x1), (2, .int x2), (4, .int x4)] dX4_bladesFor_33 (by decide) rfl ?_
        refine hv_iinc X (v := 1) [(4, .int (x4 + 1)), (3, .int v3), (0, .ref (hd_ad E 38)), (1, .int x1), (2, .int x2)] dX4_bladesFor_34 4 rfl (by decide) (by decide) rfl ?_
        refine hv_goto X 5 dX4_bladesFor_37 (by decide) ?_
        refine hv_sub [(0, .ref (hd_ad E 38)), (1, .int x1), (2, .int x2), (3, .int v3), (4, .int (x4 + 1))] [2, 3, 4, 1, 0] rfl ?_
        exact ih x1 x2 v3 (x4 + 1) h
def hf_M_bladesFor (a1 : Int32) (a2 : Int32) (S : hd_St) : (Option Int32) :=
  hf_M_bladesFor_5 S hd_fuel a1 a2 0 0
theorem hw_M_bladesFor (l : Launch) (E : hd_EV) (a1 : Int32) (a2 : Int32) (S : hd_St) (y : Int32) (h : hf_M_bladesFor a1 a2 S = some y) : hd_Mt l E yX4_bladesFor cX4_bladesFor 5 (some .int) (hd_Rm 8 0 0) [.ref (hd_ad E 38), .int a1, .int a2] S (some (.int y)) S := by
  refine hd_Mt.start [(0, .ref (hd_ad E 38)), (1, .int a1), (2, .int a2)] hd_pnX4 rfl (Nat.le_of_ble_eq_true rfl) (fun κ X hl hr hn => ?_)
  have X : hd_Cx κ E cX4_bladesFor RX4 5 (hd_Rm 8 0 0) := X
  unfold hf_M_bladesFor at h
  refine hv_iconst X (v := 0) dX4_bladesFor_0 (by decide) ?_
  refine hv_istore_n X [(3, .int 0), (0, .ref (hd_ad E 38)), (1, .int a1), (2, .int a2)] dX4_bladesFor_1 (by decide) rfl ?_
  refine hv_iconst X (v := 0) dX4_bladesFor_2 (by decide) ?_
  refine hv_istore X [(4, .int 0), (3, .int 0), (0, .ref (hd_ad E 38)), (1, .int a1), (2, .int a2)] dX4_bladesFor_3 (by decide) rfl ?_
  refine hv_sub [(0, .ref (hd_ad E 38)), (1, .int a1), (2, .int a2), (3, .int 0), (4, .int 0)] [2, 3, 4, 1, 0] rfl ?_
  exact hw_M_bladesFor_5 X hr hd_fuel a1 a2 0 0 h
theorem pk_M_bladesFor : hd_PkV RX4 yX4_bladesFor cX4_bladesFor 5 (some .int) 2 := ⟨q1559, qs62, q73, q1560, rfl, by decide +kernel, by decide +kernel, by decide +kernel⟩
-- lasts
def hf_M_lasts (a1 : Int32) (a2 : Int32) (a3 : Int32) (S : hd_St) : (Option Int32) :=
  (hf_M_isBlade a1 S).bind fun r1 =>
    if r1 = true then
    ((hf_M_isBlow a2 S).bind fun r3 =>
    if r3 = true then
    (if (hf_M_isForce a3) = true then
    ((hf_M_isSplit a1 S).bind fun r5 =>
    if r5 = true then
    (some (-3))
    else
    ((hf_M_lastsOf a1 a2 a3 S).bind fun r7 =>
    some r7))
    else
    (some (-1)))
    else
    (some (-1)))
    else
    (some (-1))
theorem hw_M_lasts (l : Launch) (E : hd_EV) (a1 : Int32) (a2 : Int32) (a3 : Int32) (S : hd_St) (y : Int32) (h : hf_M_lasts a1 a2 a3 S = some y) : hd_Mt l E yX4_lasts cX4_lasts 4 (some .int) (hd_Rm 5 0 0) [.ref (hd_ad E 38), .int a1, .int a2, .int a3] S (some (.int y)) S := by
  refine hd_Mt.start [(0, .ref (hd_ad E 38)), (1, .int a1), (2, .int a2), (3, .int a3)] hd_pnX4 rfl (Nat.le_of_ble_eq_true rfl) (fun κ X hl hr hn => ?_)
  have X : hd_Cx κ E cX4_lasts RX4 4 (hd_Rm 5 0 0) := X
  unfold hf_M_lasts at h
  refine hv_aload_n X dX4_lasts_0 0 rfl ?_
  refine hv_iload_n X dX4_lasts_1 1 rfl ?_
  obtain ⟨r1, e2, h⟩ := hd_bind h
  refine hv_cV X pk_M_isBlade hd_rcM (hw_M_isBlade _ E a1 S r1 e2) q1369 dX4_lasts_2 (by decide) (by decide) (Nat.zero_le _) (Nat.zero_le _) rfl rfl (Nat.le_of_ble_eq_true rfl) rfl ?_
  refine hv_ifb_eq X 23 h dX4_lasts_5 (by decide) (fun h => ?_) (fun h => ?_)
  · refine hv_iconst X (v := (-1)) dX4_lasts_23 (by decide) ?_
    obtain rfl := Option.some.inj h
    exact hv_iret X hr dX4_lasts_24 (Nat.zero_le _) (Nat.zero_le _)
  · refine hv_aload_n X dX4_lasts_8 0 rfl ?_
    refine hv_iload_n X dX4_lasts_9 2 rfl ?_
    obtain ⟨r3, e4, h⟩ := hd_bind h
    refine hv_cV X pk_M_isBlow hd_rcM (hw_M_isBlow _ E a2 S r3 e4) q1377 dX4_lasts_10 (by decide) (by decide) (Nat.zero_le _) (Nat.zero_le _) rfl rfl (Nat.le_of_ble_eq_true rfl) rfl ?_
    refine hv_ifb_eq X 23 h dX4_lasts_13 (by decide) (fun h => ?_) (fun h => ?_)
    · refine hv_iconst X (v := (-1)) dX4_lasts_23 (by decide) ?_
      obtain rfl := Option.some.inj h
      exact hv_iret X hr dX4_lasts_24 (Nat.zero_le _) (Nat.zero_le _)
    · refine hv_iload_n X dX4_lasts_16 3 rfl ?_
      refine hv_cS X pk_M_isForce (hw_M_isForce _ E a3 S) q1429 dX4_lasts_17 (by decide) (by decide) (Nat.zero_le _) (Nat.zero_le _) rfl rfl (Nat.le_of_ble_eq_true rfl) rfl ?_
      refine hv_ifb_ne X 25 h dX4_lasts_20 (by decide) (fun h => ?_) (fun h => ?_)
      · refine hv_aload_n X dX4_lasts_25 0 rfl ?_
        refine hv_iload_n X dX4_lasts_26 1 rfl ?_
        obtain ⟨r5, e6, h⟩ := hd_bind h
        refine hv_cV X pk_M_isSplit hd_rcM (hw_M_isSplit _ E a1 S r5 e6) q1381 dX4_lasts_27 (by decide) (by decide) (Nat.zero_le _) (Nat.zero_le _) rfl rfl (Nat.le_of_ble_eq_true rfl) rfl ?_
        refine hv_ifb_eq X 38 h dX4_lasts_30 (by decide) (fun h => ?_) (fun h => ?_)
        · refine hv_aload_n X dX4_lasts_38 0 rfl ?_
          refine hv_iload_n X dX4_lasts_39 1 rfl ?_
          refine hv_iload_n X dX4_lasts_40 2 rfl ?_
          refine hv_iload_n X dX4_lasts_41 3 rfl ?_
          obtain ⟨r7, e8, h⟩ := hd_bind h
          refine hv_cV X pk_M_lastsOf hd_rcM (hw_M_lastsOf _ E a1 a2 a3 S r7 e8) q1565 dX4_lasts_42 (by decide) (by decide) (Nat.zero_le _) (Nat.zero_le _) rfl rfl (Nat.le_of_ble_eq_true rfl) rfl ?_
          obtain rfl := Option.some.inj h
          exact hv_iret X hr dX4_lasts_45 (Nat.zero_le _) (Nat.zero_le _)
        · refine hv_bipush X (v := (-3)) dX4_lasts_33 (by decide) ?_
          refine hv_goto X 45 dX4_lasts_35 (by decide) ?_
          obtain rfl := Option.some.inj h
          exact hv_iret X hr dX4_lasts_45 (Nat.zero_le _) (Nat.zero_le _)
      · refine hv_iconst X (v := (-1)) dX4_lasts_23 (by decide) ?_
        obtain rfl := Option.some.inj h
        exact hv_iret X hr dX4_lasts_24 (Nat.zero_le _) (Nat.zero_le _)
theorem pk_M_lasts : hd_PkV RX4 yX4_lasts cX4_lasts 4 (some .int) 3 := ⟨q1562, q1563, q73, q1564, rfl, by decide +kernel, by decide +kernel, by decide +kernel⟩
-- bestForce
def hf_M_bestForce_37 : Nat → Int32 → Int32 → Int32 → Int32 → Int32 → hd_St → (Option (Int32 × hd_St))
  | 0, _, _, _, _, _, _ => none
  | n + 1, x1, x2, x3, x4, x5, S =>
    if (60 : Int32) < x5 then
    (some (x4, S))
    else
    (if (hd_I S 38 9) ≤ 0 then
    (some (x4, S))
    else
    ((hf_M_isHard x2 x3 x5 S).bind fun r7 =>
    if r7 = true then
    (if x4 < 0 then
    (hf_M_bestForce_37 n x1 x2 x3 x5 (x5 + 1) S)
    else
    ((hf_M_lastsOf x1 x3 x5 S).bind fun r9 =>
    (hf_M_lastsOf x1 x3 x4 S).bind fun r11 =>
    if r9 ≤ r11 then
    (hf_M_bestForce_37 n x1 x2 x3 x4 (x5 + 1) S)
    else
    (hf_M_bestForce_37 n x1 x2 x3 x5 (x5 + 1) S)))
    else
    (hf_M_bestForce_37 n x1 x2 x3 x4 (x5 + 1) S)))
theorem hw_M_bestForce_37 {κ : hd_VK} {E : hd_EV} (X : hd_Cx κ E cX4_bestForce RX4 6 (hd_Rm 7 0 0)) (hr : (hd_kQ κ).sig.returnType = some .int) {y : (Int32 × hd_St)} : ∀ (n : Nat) (x1 : Int32) (x2 : Int32) (x3 : Int32) (x4 : Int32) (x5 : Int32) (S : hd_St), hf_M_bestForce_37 n x1 x2 x3 x4 x5 S = some y → hd_V κ E 6 0 0 (hd_Qf κ E (some (.int y.1)) y.2) S 37 [(0, .ref (hd_ad E 38)), (1, .int x1), (2, .int x2), (3, .int x3), (4, .int x4), (5, .int x5)] [] := by
  intro n
  induction n with
  | zero => intro x1 x2 x3 x4 x5 S h; have h : (none : Option (Int32 × hd_St)) = some y := h; cases h
  | succ n ih =>
    intro x1 x2 x3 x4 x5 S h
    rw [hf_M_bestForce_37] at h
    refine hv_iload X dX4_bestForce_37 5 rfl ?_
    refine hv_bipush X (v := 60) dX4_bestForce_39 (by decide) ?_
    refine hv_icmp_gt X 96 h dX4_bestForce_41 (by decide) (fun h => ?_) (fun h => ?_)
    · refine hv_iload X dX4_bestForce_96 4 rfl ?_
      obtain rfl := Option.some.inj h
      exact hv_iret X hr dX4_bestForce_98 (Nat.zero_le _) (Nat.zero_le _)
    · refine hv_aload_n X dX4_bestForce_44 0 rfl ?_
      refine hg_M_pairsMany X q1250 dX4_bestForce_45 ?_
      refine hv_if_le X 96 h dX4_bestForce_48 (by decide) (fun h => ?_) (fun h => ?_)
      · refine hv_iload X dX4_bestForce_96 4 rfl ?_
        obtain rfl := Option.some.inj h
        exact hv_iret X hr dX4_bestForce_98 (Nat.zero_le _) (Nat.zero_le _)
      · refine hv_aload_n X dX4_bestForce_51 0 rfl ?_
        refine hv_iload_n X dX4_bestForce_52 2 rfl ?_
        refine hv_iload_n X dX4_bestForce_53 3 rfl ?_
        refine hv_iload X dX4_bestForce_54 5 rfl ?_
        obtain ⟨r7, e8, h⟩ := hd_bind h
        refine hv_cV X pk_M_isHard hd_rcM (hw_M_isHard _ E x2 x3 x5 S r7 e8) q1487 dX4_bestForce_56 (by decide) (by decide) (Nat.zero_le _) (Nat.zero_le _) rfl rfl (Nat.le_of_ble_eq_true rfl) rfl ?_
        refine hv_ifb_eq X 90 h dX4_bestForce_59 (by decide) (fun h => ?_) (fun h => ?_)
        · refine hv_iinc X (v := 1) [(5, .int (x5 + 1)), (0, .ref (hd_ad E 38)), (1, .int x1), (2, .int x2), (3, .int x3), (4, .int x4)] dX4_bestForce_90 5 rfl (by decide) (by decide) rfl ?_
          refine hv_goto X 37 dX4_bestForce_93 (by decide) ?_
          refine hv_sub [(0, .ref (hd_ad E 38)), (1, .int x1), (2, .int x2), (3, .int x3), (4, .int x4), (5, .int (x5 + 1))] [1, 2, 3, 4, 5, 0] rfl ?_
          exact ih x1 x2 x3 x4 (x5 + 1) S h
        · refine hv_iload X dX4_bestForce_62 4 rfl ?_
          refine hv_if_lt X 86 h dX4_bestForce_64 (by decide) (fun h => ?_) (fun h => ?_)
          · refine hv_iload X dX4_bestForce_86 5 rfl ?_
            refine hv_istore X [(4, .int x5), (0, .ref (hd_ad E 38)), (1, .int x1), (2, .int x2), (3, .int x3), (5, .int x5)] dX4_bestForce_88 (by decide) rfl ?_
            refine hv_iinc X (v := 1) [(5, .int (x5 + 1)), (4, .int x5), (0, .ref (hd_ad E 38)), (1, .int x1), (2, .int x2), (3, .int x3)] dX4_bestForce_90 5 rfl (by decide) (by decide) rfl ?_
            refine hv_goto X 37 dX4_bestForce_93 (by decide) ?_
            refine hv_sub [(0, .ref (hd_ad E 38)), (1, .int x1), (2, .int x2), (3, .int x3), (4, .int x5), (5, .int (x5 + 1))] [2, 3, 4, 5, 1, 0] rfl ?_
            exact ih x1 x2 x3 x5 (x5 + 1) S h
          · refine hv_aload_n X dX4_bestForce_67 0 rfl ?_
            refine hv_iload_n X dX4_bestForce_68 1 rfl ?_
            refine hv_iload_n X dX4_bestForce_69 3 rfl ?_
            refine hv_iload X dX4_bestForce_70 5 rfl ?_
            obtain ⟨r9, e10, h⟩ := hd_bind h
            refine hv_cV X pk_M_lastsOf hd_rcM (hw_M_lastsOf _ E x1 x3 x5 S r9 e10) q1565 dX4_bestForce_72 (by decide) (by decide) (Nat.zero_le _) (Nat.zero_le _) rfl rfl (Nat.le_of_ble_eq_true rfl) rfl ?_
            refine hv_aload_n X dX4_bestForce_75 0 rfl ?_
            refine hv_iload_n X dX4_bestForce_76 1 rfl ?_
            refine hv_iload_n X dX4_bestForce_77 3 rfl ?_
            refine hv_iload X dX4_bestForce_78 4 rfl ?_
            obtain ⟨r11, e12, h⟩ := hd_bind h
            refine hv_cV X pk_M_lastsOf hd_rcM (hw_M_lastsOf _ E x1 x3 x4 S r11 e12) q1565 dX4_bestForce_80 (by decide) (by decide) (Nat.zero_le _) (Nat.zero_le _) rfl rfl (Nat.le_of_ble_eq_true rfl) rfl ?_
            refine hv_icmp_le X 90 h dX4_bestForce_83 (by decide) (fun h => ?_) (fun h => ?_)
            · refine hv_iinc X (v := 1) [(5, .int (x5 + 1)), (0, .ref (hd_ad E 38)), (1, .int x1), (2, .int x2), (3, .int x3), (4, .int x4)] dX4_bestForce_90 5 rfl (by decide) (by decide) rfl ?_
              refine hv_goto X 37 dX4_bestForce_93 (by decide) ?_
              refine hv_sub [(0, .ref (hd_ad E 38)), (1, .int x1), (2, .int x2), (3, .int x3), (4, .int x4), (5, .int (x5 + 1))] [1, 2, 3, 4, 5, 0] rfl ?_
              exact ih x1 x2 x3 x4 (x5 + 1) S h
            · refine hv_iload X dX4_bestForce_86 5 rfl ?_
              refine hv_istore X [(4, .int x5), (0, .ref (hd_ad E 38)), (1, .int x1), (2, .int x2), (3, .int x3), (5, .int x5)] dX4_bestForce_88 (by decide) rfl ?_
              refine hv_iinc X (v := 1) [(5, .int (x5 + 1)), (4, .int x5), (0, .ref (hd_ad E 38)), (1, .int x1), (2, .int x2), (3, .int x3)] dX4_bestForce_90 5 rfl (by decide) (by decide) rfl ?_
              refine hv_goto X 37 dX4_bestForce_93 (by decide) ?_
              refine hv_sub [(0, .ref (hd_ad E 38)), (1, .int x1), (2, .int x2), (3, .int x3), (4, .int x5), (5, .int (x5 + 1))] [2, 3, 4, 5, 1, 0] rfl ?_
              exact ih x1 x2 x3 x5 (x5 + 1) S h
def hf_M_bestForce (a1 : Int32) (a2 : Int32) (a3 : Int32) (S : hd_St) : (Option (Int32 × hd_St)) :=
  (hf_M_areAll a1 a2 a3 S).bind fun r1 =>
    if r1 = true then
    ((hf_M_isSplit a1 S).bind fun r3 =>
    if r3 = true then
    (some ((-3), S))
    else
    ((hf_M_looks a1 a2 a3 S).bind fun S5 =>
    hf_M_bestForce_37 hd_fuel a1 a2 a3 (-4) 0 S5))
    else
    (some ((-1), S))
theorem hw_M_bestForce (l : Launch) (E : hd_EV) (a1 : Int32) (a2 : Int32) (a3 : Int32) (S : hd_St) (y : (Int32 × hd_St)) (h : hf_M_bestForce a1 a2 a3 S = some y) : hd_Mt l E yX4_bestForce cX4_bestForce 6 (some .int) (hd_Rm 7 0 0) [.ref (hd_ad E 38), .int a1, .int a2, .int a3] S (some (.int y.1)) y.2 := by
  refine hd_Mt.start [(0, .ref (hd_ad E 38)), (1, .int a1), (2, .int a2), (3, .int a3)] hd_pnX4 rfl (Nat.le_of_ble_eq_true rfl) (fun κ X hl hr hn => ?_)
  have X : hd_Cx κ E cX4_bestForce RX4 6 (hd_Rm 7 0 0) := X
  unfold hf_M_bestForce at h
  refine hv_aload_n X dX4_bestForce_0 0 rfl ?_
  refine hv_iload_n X dX4_bestForce_1 1 rfl ?_
  refine hv_iload_n X dX4_bestForce_2 2 rfl ?_
  refine hv_iload_n X dX4_bestForce_3 3 rfl ?_
  obtain ⟨r1, e2, h⟩ := hd_bind h
  refine hv_cV X pk_M_areAll hd_rcM (hw_M_areAll _ E a1 a2 a3 S r1 e2) q1365 dX4_bestForce_4 (by decide) (by decide) (Nat.zero_le _) (Nat.zero_le _) rfl rfl (Nat.le_of_ble_eq_true rfl) rfl ?_
  refine hv_ifb_ne X 12 h dX4_bestForce_7 (by decide) (fun h => ?_) (fun h => ?_)
  · refine hv_aload_n X dX4_bestForce_12 0 rfl ?_
    refine hv_iload_n X dX4_bestForce_13 1 rfl ?_
    obtain ⟨r3, e4, h⟩ := hd_bind h
    refine hv_cV X pk_M_isSplit hd_rcM (hw_M_isSplit _ E a1 S r3 e4) q1381 dX4_bestForce_14 (by decide) (by decide) (Nat.zero_le _) (Nat.zero_le _) rfl rfl (Nat.le_of_ble_eq_true rfl) rfl ?_
    refine hv_ifb_eq X 23 h dX4_bestForce_17 (by decide) (fun h => ?_) (fun h => ?_)
    · refine hv_aload_n X dX4_bestForce_23 0 rfl ?_
      refine hv_iload_n X dX4_bestForce_24 1 rfl ?_
      refine hv_iload_n X dX4_bestForce_25 2 rfl ?_
      refine hv_iload_n X dX4_bestForce_26 3 rfl ?_
      obtain ⟨S5, e6, h⟩ := hd_bind h
      refine hv_cV X pk_M_looks hd_rcM (hw_M_looks _ E a1 a2 a3 S S5 e6) q1508 dX4_bestForce_27 (by decide) (by decide) (Nat.zero_le _) (Nat.zero_le _) rfl rfl (Nat.le_of_ble_eq_true rfl) rfl ?_
      refine hv_bipush X (v := (-4)) dX4_bestForce_30 (by decide) ?_
      refine hv_istore X [(4, .int (-4)), (0, .ref (hd_ad E 38)), (1, .int a1), (2, .int a2), (3, .int a3)] dX4_bestForce_32 (by decide) rfl ?_
      refine hv_iconst X (v := 0) dX4_bestForce_34 (by decide) ?_
      refine hv_istore X [(5, .int 0), (4, .int (-4)), (0, .ref (hd_ad E 38)), (1, .int a1), (2, .int a2), (3, .int a3)] dX4_bestForce_35 (by decide) rfl ?_
      refine hv_sub [(0, .ref (hd_ad E 38)), (1, .int a1), (2, .int a2), (3, .int a3), (4, .int (-4)), (5, .int 0)] [2, 3, 4, 5, 1, 0] rfl ?_
      exact hw_M_bestForce_37 X hr hd_fuel a1 a2 a3 (-4) 0 S5 h
    · refine hv_bipush X (v := (-3)) dX4_bestForce_20 (by decide) ?_
      obtain rfl := Option.some.inj h
      exact hv_iret X hr dX4_bestForce_22 (Nat.zero_le _) (Nat.zero_le _)
  · refine hv_iconst X (v := (-1)) dX4_bestForce_10 (by decide) ?_
    obtain rfl := Option.some.inj h
    exact hv_iret X hr dX4_bestForce_11 (Nat.zero_le _) (Nat.zero_le _)
theorem pk_M_bestForce : hd_PkV RX4 yX4_bestForce cX4_bestForce 6 (some .int) 3 := ⟨q1570, q1571, q73, q1572, rfl, by decide +kernel, by decide +kernel, by decide +kernel⟩
-- nearer
def hf_M_nearer (a1 : Int32) (a2 : Int32) (a3 : Int32) (a4 : Int32) (S : hd_St) : (Option (Int64 × hd_St)) :=
  if (hf_M_areOdds a1 a2) = true then
    (if (hf_M_isIn a3 0 9) = true then
    (if (hf_M_isIn a4 0 1) = true then
    ((hf_M_nearParts a1 a2 a3 S).bind fun p1 =>
    (hf_M_tens a3).bind fun r3 =>
    (hf_M_partOf p1.1 r3 a4).bind fun r5 =>
    some (r5, p1.2))
    else
    (some ((1000000001 : Int64), S)))
    else
    (some ((1000000001 : Int64), S)))
    else
    (some ((1000000001 : Int64), S))
theorem hw_M_nearer (l : Launch) (E : hd_EV) (a1 : Int32) (a2 : Int32) (a3 : Int32) (a4 : Int32) (S : hd_St) (y : (Int64 × hd_St)) (h : hf_M_nearer a1 a2 a3 a4 S = some y) : hd_Mt l E yX4_nearer cX4_nearer 5 (some .long) (hd_Rm 3 0 0) [.ref (hd_ad E 38), .int a1, .int a2, .int a3, .int a4] S (some (.long y.1)) y.2 := by
  refine hd_Mt.start [(0, .ref (hd_ad E 38)), (1, .int a1), (2, .int a2), (3, .int a3), (4, .int a4)] hd_pnX4 rfl (Nat.le_of_ble_eq_true rfl) (fun κ X hl hr hn => ?_)
  have X : hd_Cx κ E cX4_nearer RX4 5 (hd_Rm 3 0 0) := X
  unfold hf_M_nearer at h
  refine hv_iload_n X dX4_nearer_0 1 rfl ?_
  refine hv_iload_n X dX4_nearer_1 2 rfl ?_
  refine hv_cS X pk_M_areOdds (hw_M_areOdds _ E a1 a2 S) q1585 dX4_nearer_2 (by decide) (by decide) (Nat.zero_le _) (Nat.zero_le _) rfl rfl (Nat.le_of_ble_eq_true rfl) rfl ?_
  refine hv_ifb_eq X 28 h dX4_nearer_5 (by decide) (fun h => ?_) (fun h => ?_)
  · refine hv_ldc2 X q1588 dX4_nearer_28 ?_
    obtain rfl := Option.some.inj h
    exact hv_lret X hr dX4_nearer_31 (Nat.zero_le _) (Nat.zero_le _)
  · refine hv_iload_n X dX4_nearer_8 3 rfl ?_
    refine hv_iconst X (v := 0) dX4_nearer_9 (by decide) ?_
    refine hv_bipush X (v := 9) dX4_nearer_10 (by decide) ?_
    refine hv_cS X pk_M_isIn (hw_M_isIn _ E a3 0 9 S) q1319 dX4_nearer_12 (by decide) (by decide) (Nat.zero_le _) (Nat.zero_le _) rfl rfl (Nat.le_of_ble_eq_true rfl) rfl ?_
    refine hv_ifb_eq X 28 h dX4_nearer_15 (by decide) (fun h => ?_) (fun h => ?_)
    · refine hv_ldc2 X q1588 dX4_nearer_28 ?_
      obtain rfl := Option.some.inj h
      exact hv_lret X hr dX4_nearer_31 (Nat.zero_le _) (Nat.zero_le _)
    · refine hv_iload X dX4_nearer_18 4 rfl ?_
      refine hv_iconst X (v := 0) dX4_nearer_20 (by decide) ?_
      refine hv_iconst X (v := 1) dX4_nearer_21 (by decide) ?_
      refine hv_cS X pk_M_isIn (hw_M_isIn _ E a4 0 1 S) q1319 dX4_nearer_22 (by decide) (by decide) (Nat.zero_le _) (Nat.zero_le _) rfl rfl (Nat.le_of_ble_eq_true rfl) rfl ?_
      refine hv_ifb_ne X 32 h dX4_nearer_25 (by decide) (fun h => ?_) (fun h => ?_)
      · refine hv_aload_n X dX4_nearer_32 0 rfl ?_
        refine hv_iload_n X dX4_nearer_33 1 rfl ?_
        refine hv_iload_n X dX4_nearer_34 2 rfl ?_
        refine hv_iload_n X dX4_nearer_35 3 rfl ?_
        obtain ⟨p1, e2, h⟩ := hd_bind h
        refine hv_cV X pk_M_nearParts hd_rcM (hw_M_nearParts _ E a1 a2 a3 S p1 e2) q1589 dX4_nearer_36 (by decide) (by decide) (Nat.zero_le _) (Nat.zero_le _) rfl rfl (Nat.le_of_ble_eq_true rfl) rfl ?_
        refine hv_iload_n X dX4_nearer_39 3 rfl ?_
        obtain ⟨r3, e4, h⟩ := hd_bind h
        refine hv_cS X pk_M_tens (hw_M_tens _ E a3 p1.2 r3 e4) q1594 dX4_nearer_40 (by decide) (by decide) (Nat.zero_le _) (Nat.zero_le _) rfl rfl (Nat.le_of_ble_eq_true rfl) rfl ?_
        refine hv_iload X dX4_nearer_43 4 rfl ?_
        obtain ⟨r5, e6, h⟩ := hd_bind h
        refine hv_cS X pk_M_partOf (hw_M_partOf _ E p1.1 r3 a4 p1.2 r5 e6) q1597 dX4_nearer_45 (by decide) (by decide) (Nat.zero_le _) (Nat.zero_le _) rfl rfl (Nat.le_of_ble_eq_true rfl) rfl ?_
        obtain rfl := Option.some.inj h
        exact hv_lret X hr dX4_nearer_48 (Nat.zero_le _) (Nat.zero_le _)
      · refine hv_ldc2 X q1588 dX4_nearer_28 ?_
        obtain rfl := Option.some.inj h
        exact hv_lret X hr dX4_nearer_31 (Nat.zero_le _) (Nat.zero_le _)
theorem pk_M_nearer : hd_PkV RX4 yX4_nearer cX4_nearer 5 (some .long) 4 := ⟨q1582, q1583, q73, q1584, rfl, by decide +kernel, by decide +kernel, by decide +kernel⟩
-- whereBy
def hf_M_whereBy (a1 : Int32) (a2 : Int32) (a3 : Int32) (a4 : Int32) (S : hd_St) : (Option (Int32 × hd_St)) :=
  hd_nm (hd_sI S 38 4 a4) fun S1 =>
    (hf_M_looks a1 a2 a3 S1).bind fun S2 =>
    hd_nm (hd_sI S2 38 4 3) fun S4 =>
    some ((hd_I S4 38 9), S4)
theorem hw_M_whereBy (l : Launch) (E : hd_EV) (a1 : Int32) (a2 : Int32) (a3 : Int32) (a4 : Int32) (S : hd_St) (y : (Int32 × hd_St)) (h : hf_M_whereBy a1 a2 a3 a4 S = some y) : hd_Mt l E yX4_whereBy cX4_whereBy 5 (some .int) (hd_Rm 7 0 0) [.ref (hd_ad E 38), .int a1, .int a2, .int a3, .int a4] S (some (.int y.1)) y.2 := by
  refine hd_Mt.start [(0, .ref (hd_ad E 38)), (1, .int a1), (2, .int a2), (3, .int a3), (4, .int a4)] hd_pnX4 rfl (Nat.le_of_ble_eq_true rfl) (fun κ X hl hr hn => ?_)
  have X : hd_Cx κ E cX4_whereBy RX4 5 (hd_Rm 7 0 0) := X
  unfold hf_M_whereBy at h
  refine hv_aload_n X dX4_whereBy_0 0 rfl ?_
  refine hv_iload X dX4_whereBy_1 4 rfl ?_
  refine hp_M_help X q1245 dX4_whereBy_3 ?_
  refine hv_nmS h (fun S1 h => ?_)
  refine hv_aload_n X dX4_whereBy_6 0 rfl ?_
  refine hv_iload_n X dX4_whereBy_7 1 rfl ?_
  refine hv_iload_n X dX4_whereBy_8 2 rfl ?_
  refine hv_iload_n X dX4_whereBy_9 3 rfl ?_
  obtain ⟨S2, e3, h⟩ := hd_bind h
  refine hv_cV X pk_M_looks hd_rcM (hw_M_looks _ E a1 a2 a3 S1 S2 e3) q1508 dX4_whereBy_10 (by decide) (by decide) (Nat.zero_le _) (Nat.zero_le _) rfl rfl (Nat.le_of_ble_eq_true rfl) rfl ?_
  refine hv_aload_n X dX4_whereBy_13 0 rfl ?_
  refine hv_iconst X (v := 3) dX4_whereBy_14 (by decide) ?_
  refine hp_M_help X q1245 dX4_whereBy_15 ?_
  refine hv_nmS h (fun S4 h => ?_)
  refine hv_aload_n X dX4_whereBy_18 0 rfl ?_
  refine hg_M_pairsMany X q1250 dX4_whereBy_19 ?_
  obtain rfl := Option.some.inj h
  exact hv_iret X hr dX4_whereBy_22 (Nat.zero_le _) (Nat.zero_le _)
theorem pk_M_whereBy : hd_PkV RX4 yX4_whereBy cX4_whereBy 5 (some .int) 4 := ⟨q1620, qs65, q73, q1621, rfl, by decide +kernel, by decide +kernel, by decide +kernel⟩
-- odds
def hf_M_odds (a1 : Int32) (a2 : Int32) (a3 : Int32) (a4 : Int32) (S : hd_St) : (Option (Int64 × hd_St)) :=
  (hf_M_areAll a1 a2 a3 S).bind fun r1 =>
    if r1 = true then
    (if (hf_M_isIn a4 0 1) = true then
    ((hf_M_looks a1 a2 a3 S).bind fun S3 =>
    (hf_M_allPairs a2 S3).bind fun r5 =>
    (hf_M_partOf ((hd_I S3 38 9).toInt64) r5.toInt64 a4).bind fun r7 =>
    some (r7, S3))
    else
    (some ((1000000001 : Int64), S)))
    else
    (some ((1000000001 : Int64), S))
theorem hw_M_odds (l : Launch) (E : hd_EV) (a1 : Int32) (a2 : Int32) (a3 : Int32) (a4 : Int32) (S : hd_St) (y : (Int64 × hd_St)) (h : hf_M_odds a1 a2 a3 a4 S = some y) : hd_Mt l E yX4_odds cX4_odds 5 (some .long) (hd_Rm 7 0 0) [.ref (hd_ad E 38), .int a1, .int a2, .int a3, .int a4] S (some (.long y.1)) y.2 := by
  refine hd_Mt.start [(0, .ref (hd_ad E 38)), (1, .int a1), (2, .int a2), (3, .int a3), (4, .int a4)] hd_pnX4 rfl (Nat.le_of_ble_eq_true rfl) (fun κ X hl hr hn => ?_)
  have X : hd_Cx κ E cX4_odds RX4 5 (hd_Rm 7 0 0) := X
  unfold hf_M_odds at h
  refine hv_aload_n X dX4_odds_0 0 rfl ?_
  refine hv_iload_n X dX4_odds_1 1 rfl ?_
  refine hv_iload_n X dX4_odds_2 2 rfl ?_
  refine hv_iload_n X dX4_odds_3 3 rfl ?_
  obtain ⟨r1, e2, h⟩ := hd_bind h
  refine hv_cV X pk_M_areAll hd_rcM (hw_M_areAll _ E a1 a2 a3 S r1 e2) q1365 dX4_odds_4 (by decide) (by decide) (Nat.zero_le _) (Nat.zero_le _) rfl rfl (Nat.le_of_ble_eq_true rfl) rfl ?_
  refine hv_ifb_eq X 20 h dX4_odds_7 (by decide) (fun h => ?_) (fun h => ?_)
  · refine hv_ldc2 X q1588 dX4_odds_20 ?_
    obtain rfl := Option.some.inj h
    exact hv_lret X hr dX4_odds_23 (Nat.zero_le _) (Nat.zero_le _)
  · refine hv_iload X dX4_odds_10 4 rfl ?_
    refine hv_iconst X (v := 0) dX4_odds_12 (by decide) ?_
    refine hv_iconst X (v := 1) dX4_odds_13 (by decide) ?_
    refine hv_cS X pk_M_isIn (hw_M_isIn _ E a4 0 1 S) q1319 dX4_odds_14 (by decide) (by decide) (Nat.zero_le _) (Nat.zero_le _) rfl rfl (Nat.le_of_ble_eq_true rfl) rfl ?_
    refine hv_ifb_ne X 24 h dX4_odds_17 (by decide) (fun h => ?_) (fun h => ?_)
    · refine hv_aload_n X dX4_odds_24 0 rfl ?_
      refine hv_iload_n X dX4_odds_25 1 rfl ?_
      refine hv_iload_n X dX4_odds_26 2 rfl ?_
      refine hv_iload_n X dX4_odds_27 3 rfl ?_
      obtain ⟨S3, e4, h⟩ := hd_bind h
      refine hv_cV X pk_M_looks hd_rcM (hw_M_looks _ E a1 a2 a3 S S3 e4) q1508 dX4_odds_28 (by decide) (by decide) (Nat.zero_le _) (Nat.zero_le _) rfl rfl (Nat.le_of_ble_eq_true rfl) rfl ?_
      refine hv_aload_n X dX4_odds_31 0 rfl ?_
      refine hg_M_pairsMany X q1250 dX4_odds_32 ?_
      refine hv_i2l X dX4_odds_35 ?_
      refine hv_aload_n X dX4_odds_36 0 rfl ?_
      refine hv_iload_n X dX4_odds_37 2 rfl ?_
      obtain ⟨r5, e6, h⟩ := hd_bind h
      refine hv_cV X pk_M_allPairs hd_rcM (hw_M_allPairs _ E a2 S3 r5 e6) q1626 dX4_odds_38 (by decide) (by decide) (Nat.zero_le _) (Nat.zero_le _) rfl rfl (Nat.le_of_ble_eq_true rfl) rfl ?_
      refine hv_i2l X dX4_odds_41 ?_
      refine hv_iload X dX4_odds_42 4 rfl ?_
      obtain ⟨r7, e8, h⟩ := hd_bind h
      refine hv_cS X pk_M_partOf (hw_M_partOf _ E ((hd_I S3 38 9).toInt64) r5.toInt64 a4 S3 r7 e8) q1597 dX4_odds_44 (by decide) (by decide) (Nat.zero_le _) (Nat.zero_le _) rfl rfl (Nat.le_of_ble_eq_true rfl) rfl ?_
      obtain rfl := Option.some.inj h
      exact hv_lret X hr dX4_odds_47 (Nat.zero_le _) (Nat.zero_le _)
    · refine hv_ldc2 X q1588 dX4_odds_20 ?_
      obtain rfl := Option.some.inj h
      exact hv_lret X hr dX4_odds_23 (Nat.zero_le _) (Nat.zero_le _)
theorem pk_M_odds : hd_PkV RX4 yX4_odds cX4_odds 5 (some .long) 4 := ⟨q1623, q1624, q73, q1625, rfl, by decide +kernel, by decide +kernel, by decide +kernel⟩
-- enough
def hf_M_enough_22 : Nat → Int32 → Int32 → hd_St → (Option (Int32 × hd_St))
  | 0, _, _, _ => none
  | n + 1, x2, x4, S =>
    if (50 : Int32) < x4 then
    (some ((-4), S))
    else
    ((hf_M_allPairs x2 S).bind fun r5 =>
    if (x4 * (hd_I S 38 9)) < r5 then
    (hf_M_enough_22 n x2 (x4 + 1) S)
    else
    (some (x4, S)))
theorem hw_M_enough_22 {κ : hd_VK} {E : hd_EV} (X : hd_Cx κ E cX4_enough RX4 5 (hd_Rm 7 0 0)) (hr : (hd_kQ κ).sig.returnType = some .int) {y : (Int32 × hd_St)} : ∀ (n : Nat) (x2 : Int32) (x4 : Int32) (S : hd_St), hf_M_enough_22 n x2 x4 S = some y → hd_V κ E 5 0 0 (hd_Qf κ E (some (.int y.1)) y.2) S 22 [(0, .ref (hd_ad E 38)), (2, .int x2), (4, .int x4)] [] := by
  intro n
  induction n with
  | zero => intro x2 x4 S h; have h : (none : Option (Int32 × hd_St)) = some y := h; cases h
  | succ n ih =>
    intro x2 x4 S h
    rw [hf_M_enough_22] at h
    refine hv_iload X dX4_enough_22 2 rfl ?_
    refine hv_bipush X (v := 50) dX4_enough_24 (by decide) ?_
    refine hv_icmp_gt X 53 h dX4_enough_26 (by decide) (fun h => ?_) (fun h => ?_)
    · refine hv_bipush X (v := (-4)) dX4_enough_53 (by decide) ?_
      obtain rfl := Option.some.inj h
      exact hv_iret X hr dX4_enough_55 (Nat.zero_le _) (Nat.zero_le _)
    · refine hv_iload X dX4_enough_29 2 rfl ?_
      refine hv_aload_n X dX4_enough_31 0 rfl ?_
      refine hg_M_pairsMany X q1250 dX4_enough_32 ?_
      refine hv_imul X dX4_enough_35 ?_
      refine hv_aload_n X dX4_enough_36 0 rfl ?_
      refine hv_iload_n X dX4_enough_37 1 rfl ?_
      obtain ⟨r5, e6, h⟩ := hd_bind h
      refine hv_cV X pk_M_allPairs hd_rcM (hw_M_allPairs _ E x2 S r5 e6) q1626 dX4_enough_38 (by decide) (by decide) (Nat.zero_le _) (Nat.zero_le _) rfl rfl (Nat.le_of_ble_eq_true rfl) rfl ?_
      refine hv_icmp_lt X 47 h dX4_enough_41 (by decide) (fun h => ?_) (fun h => ?_)
      · refine hv_iinc X (v := 1) [(4, .int (x4 + 1)), (0, .ref (hd_ad E 38)), (2, .int x2)] dX4_enough_47 2 rfl (by decide) (by decide) rfl ?_
        refine hv_goto X 22 dX4_enough_50 (by decide) ?_
        refine hv_sub [(0, .ref (hd_ad E 38)), (2, .int x2), (4, .int (x4 + 1))] [1, 2, 0] rfl ?_
        exact ih x2 (x4 + 1) S h
      · refine hv_iload X dX4_enough_44 2 rfl ?_
        obtain rfl := Option.some.inj h
        exact hv_iret X hr dX4_enough_46 (Nat.zero_le _) (Nat.zero_le _)
def hf_M_enough (a1 : Int32) (a2 : Int32) (a3 : Int32) (S : hd_St) : (Option (Int32 × hd_St)) :=
  (hf_M_areAll a1 a2 a3 S).bind fun r1 =>
    if r1 = true then
    ((hf_M_looks a1 a2 a3 S).bind fun S3 =>
    hf_M_enough_22 hd_fuel a2 1 S3)
    else
    (some ((-1), S))
theorem hw_M_enough (l : Launch) (E : hd_EV) (a1 : Int32) (a2 : Int32) (a3 : Int32) (S : hd_St) (y : (Int32 × hd_St)) (h : hf_M_enough a1 a2 a3 S = some y) : hd_Mt l E yX4_enough cX4_enough 5 (some .int) (hd_Rm 7 0 0) [.ref (hd_ad E 38), .int a1, .int a2, .int a3] S (some (.int y.1)) y.2 := by
  refine hd_Mt.start [(0, .ref (hd_ad E 38)), (1, .int a1), (2, .int a2), (3, .int a3)] hd_pnX4 rfl (Nat.le_of_ble_eq_true rfl) (fun κ X hl hr hn => ?_)
  have X : hd_Cx κ E cX4_enough RX4 5 (hd_Rm 7 0 0) := X
  unfold hf_M_enough at h
  refine hv_aload_n X dX4_enough_0 0 rfl ?_
  refine hv_iload_n X dX4_enough_1 1 rfl ?_
  refine hv_iload_n X dX4_enough_2 2 rfl ?_
  refine hv_iload_n X dX4_enough_3 3 rfl ?_
  obtain ⟨r1, e2, h⟩ := hd_bind h
  refine hv_cV X pk_M_areAll hd_rcM (hw_M_areAll _ E a1 a2 a3 S r1 e2) q1365 dX4_enough_4 (by decide) (by decide) (Nat.zero_le _) (Nat.zero_le _) rfl rfl (Nat.le_of_ble_eq_true rfl) rfl ?_
  refine hv_ifb_ne X 12 h dX4_enough_7 (by decide) (fun h => ?_) (fun h => ?_)
  · refine hv_aload_n X dX4_enough_12 0 rfl ?_
    refine hv_iload_n X dX4_enough_13 1 rfl ?_
    refine hv_iload_n X dX4_enough_14 2 rfl ?_
    refine hv_iload_n X dX4_enough_15 3 rfl ?_
    obtain ⟨S3, e4, h⟩ := hd_bind h
    refine hv_cV X pk_M_looks hd_rcM (hw_M_looks _ E a1 a2 a3 S S3 e4) q1508 dX4_enough_16 (by decide) (by decide) (Nat.zero_le _) (Nat.zero_le _) rfl rfl (Nat.le_of_ble_eq_true rfl) rfl ?_
    refine hv_iconst X (v := 1) dX4_enough_19 (by decide) ?_
    refine hv_istore X [(4, .int 1), (0, .ref (hd_ad E 38)), (1, .int a1), (2, .int a2), (3, .int a3)] dX4_enough_20 (by decide) rfl ?_
    refine hv_sub [(0, .ref (hd_ad E 38)), (2, .int a2), (4, .int 1)] [1, 3, 0] rfl ?_
    exact hw_M_enough_22 X hr hd_fuel a2 1 S3 h
  · refine hv_iconst X (v := (-1)) dX4_enough_10 (by decide) ?_
    obtain rfl := Option.some.inj h
    exact hv_iret X hr dX4_enough_11 (Nat.zero_le _) (Nat.zero_le _)
theorem pk_M_enough : hd_PkV RX4 yX4_enough cX4_enough 5 (some .int) 3 := ⟨q1631, q1632, q73, q1633, rfl, by decide +kernel, by decide +kernel, by decide +kernel⟩
