set_option maxRecDepth 100000
-- high
def hf_M_high (a1 : Int32) (a2 : Int32) (a3 : Int32) (S : hd_St) : (Option Int32) :=
  (hf_M_bladeOf a1 2 S).bind fun r1 =>
    hd_nm ((8 : Int32) + r1) fun v3 =>
    (hf_M_lowPlain a1 a2 a3 S).bind fun r4 =>
    (hf_M_kind a3 S).bind fun r6 =>
    if r6 = (3 : Int32) then
    (some (r4 + (v3 / 2)))
    else
    (some (r4 + v3))
theorem hw_M_high (l : Launch) (E : hd_EV) (a1 : Int32) (a2 : Int32) (a3 : Int32) (S : hd_St) (y : Int32) (h : hf_M_high a1 a2 a3 S = some y) : hd_Mt l E yX4_high cX4_high 5 (some .int) (hd_Rm 4 0 0) [.ref (hd_ad E 38), .int a1, .int a2, .int a3] S (some (.int y)) S := by
  refine hd_Mt.start [(0, .ref (hd_ad E 38)), (1, .int a1), (2, .int a2), (3, .int a3)] hd_pnX4 rfl (Nat.le_of_ble_eq_true rfl) (fun κ X hl hr hn => ?_)
  have X : hd_Cx κ E cX4_high RX4 5 (hd_Rm 4 0 0) := X
  unfold hf_M_high at h
  refine hv_bipush X (v := 8) dX4_high_0 (by decide) ?_
  refine hv_aload_n X dX4_high_2 0 rfl ?_
  refine hv_iload_n X dX4_high_3 1 rfl ?_
  refine hv_iconst X (v := 2) dX4_high_4 (by decide) ?_
  obtain ⟨r1, e2, h⟩ := hd_bind h
  refine hv_cV X pk_M_bladeOf hd_rcM (hw_M_bladeOf _ E a1 2 S r1 e2) q1385 dX4_high_5 (by decide) (by decide) (Nat.zero_le _) (Nat.zero_le _) rfl rfl (Nat.le_of_ble_eq_true rfl) rfl ?_
  refine hv_iadd X dX4_high_8 ?_
  refine hv_nmI h (fun v3 h => ?_)
  refine hv_istore X [(4, .int v3), (0, .ref (hd_ad E 38)), (1, .int a1), (2, .int a2), (3, .int a3)] dX4_high_9 (by decide) rfl ?_
  refine hv_aload_n X dX4_high_11 1 rfl ?_
  refine hv_iload_n X dX4_high_12 2 rfl ?_
  refine hv_iload_n X dX4_high_13 3 rfl ?_
  refine hv_iload_n X dX4_high_14 4 rfl ?_
  obtain ⟨r4, e5, h⟩ := hd_bind h
  refine hv_cV X pk_M_lowPlain hd_rcM (hw_M_lowPlain _ E a1 a2 a3 S r4 e5) q1444 dX4_high_15 (by decide) (by decide) (Nat.zero_le _) (Nat.zero_le _) rfl rfl (Nat.le_of_ble_eq_true rfl) rfl ?_
  refine hv_aload_n X dX4_high_18 1 rfl ?_
  refine hv_iload_n X dX4_high_19 4 rfl ?_
  obtain ⟨r6, e7, h⟩ := hd_bind h
  refine hv_cV X pk_M_kind hd_rcM (hw_M_kind _ E a3 S r6 e7) q1393 dX4_high_20 (by decide) (by decide) (Nat.zero_le _) (Nat.zero_le _) rfl rfl (Nat.le_of_ble_eq_true rfl) rfl ?_
  refine hv_iconst X (v := 3) dX4_high_23 (by decide) ?_
  refine hv_icmp_ne X 34 h dX4_high_24 (by decide) (fun h => ?_) (fun h => ?_)
  · refine hv_iload X dX4_high_34 0 rfl ?_
    refine hv_iadd X dX4_high_36 ?_
    obtain rfl := Option.some.inj h
    exact hv_iret X hr dX4_high_37 (Nat.zero_le _) (Nat.zero_le _)
  · refine hv_iload X dX4_high_27 0 rfl ?_
    refine hv_iconst X (v := 2) dX4_high_29 (by decide) ?_
    refine hv_idivc X (by decide) dX4_high_30 ?_
    refine hv_goto X 36 dX4_high_31 (by decide) ?_
    refine hv_iadd X dX4_high_36 ?_
    obtain rfl := Option.some.inj h
    exact hv_iret X hr dX4_high_37 (Nat.zero_le _) (Nat.zero_le _)
theorem pk_M_high : hd_PkV RX4 yX4_high cX4_high 5 (some .int) 3 := ⟨q1457, qs49, q73, q1458, rfl, by decide +kernel, by decide +kernel, by decide +kernel⟩
-- isTold
def hf_M_isTold (a1 : Int32) (a2 : Int32) (a3 : Int32) (a4 : Int32) (a5 : Int32) (S : hd_St) : (Option Bool) :=
  (hf_M_areAll a1 a2 a3 S).bind fun r1 =>
    if r1 = true then
    (if (hf_M_isForce a4) = true then
    (if (hf_M_isForce a5) = true then
    (some true)
    else
    (some false))
    else
    (some false))
    else
    (some false)
theorem hw_M_isTold (l : Launch) (E : hd_EV) (a1 : Int32) (a2 : Int32) (a3 : Int32) (a4 : Int32) (a5 : Int32) (S : hd_St) (y : Bool) (h : hf_M_isTold a1 a2 a3 a4 a5 S = some y) : hd_Mt l E yX4_isTold cX4_isTold 6 (some .boolean) (hd_Rm 4 0 0) [.ref (hd_ad E 38), .int a1, .int a2, .int a3, .int a4, .int a5] S (some (.int (hd_bI y))) S := by
  refine hd_Mt.start [(0, .ref (hd_ad E 38)), (1, .int a1), (2, .int a2), (3, .int a3), (4, .int a4), (5, .int a5)] hd_pnX4 rfl (Nat.le_of_ble_eq_true rfl) (fun κ X hl hr hn => ?_)
  have X : hd_Cx κ E cX4_isTold RX4 6 (hd_Rm 4 0 0) := X
  unfold hf_M_isTold at h
  refine hv_aload_n X dX4_isTold_0 0 rfl ?_
  refine hv_iload_n X dX4_isTold_1 1 rfl ?_
  refine hv_iload_n X dX4_isTold_2 2 rfl ?_
  refine hv_iload_n X dX4_isTold_3 3 rfl ?_
  obtain ⟨r1, e2, h⟩ := hd_bind h
  refine hv_cV X pk_M_areAll hd_rcM (hw_M_areAll _ E a1 a2 a3 S r1 e2) q1365 dX4_isTold_4 (by decide) (by decide) (Nat.zero_le _) (Nat.zero_le _) rfl rfl (Nat.le_of_ble_eq_true rfl) rfl ?_
  refine hv_ifb_eq X 30 h dX4_isTold_7 (by decide) (fun h => ?_) (fun h => ?_)
  · refine hv_iconst X (v := 0) dX4_isTold_30 (by decide) ?_
    obtain rfl := Option.some.inj h
    exact hv_zret X hr rfl dX4_isTold_31 (Nat.zero_le _) (Nat.zero_le _)
  · refine hv_iload X dX4_isTold_10 4 rfl ?_
    refine hv_cS X pk_M_isForce (hw_M_isForce _ E a4 S) q1429 dX4_isTold_12 (by decide) (by decide) (Nat.zero_le _) (Nat.zero_le _) rfl rfl (Nat.le_of_ble_eq_true rfl) rfl ?_
    refine hv_ifb_eq X 30 h dX4_isTold_15 (by decide) (fun h => ?_) (fun h => ?_)
    · refine hv_iconst X (v := 0) dX4_isTold_30 (by decide) ?_
      obtain rfl := Option.some.inj h
      exact hv_zret X hr rfl dX4_isTold_31 (Nat.zero_le _) (Nat.zero_le _)
    · refine hv_iload X dX4_isTold_18 5 rfl ?_
      refine hv_cS X pk_M_isForce (hw_M_isForce _ E a5 S) q1429 dX4_isTold_20 (by decide) (by decide) (Nat.zero_le _) (Nat.zero_le _) rfl rfl (Nat.le_of_ble_eq_true rfl) rfl ?_
      refine hv_ifb_eq X 30 h dX4_isTold_23 (by decide) (fun h => ?_) (fun h => ?_)
      · refine hv_iconst X (v := 0) dX4_isTold_30 (by decide) ?_
        obtain rfl := Option.some.inj h
        exact hv_zret X hr rfl dX4_isTold_31 (Nat.zero_le _) (Nat.zero_le _)
      · refine hv_iconst X (v := 1) dX4_isTold_26 (by decide) ?_
        refine hv_goto X 31 dX4_isTold_27 (by decide) ?_
        obtain rfl := Option.some.inj h
        exact hv_zret X hr rfl dX4_isTold_31 (Nat.zero_le _) (Nat.zero_le _)
theorem pk_M_isTold : hd_PkV RX4 yX4_isTold cX4_isTold 6 (some .boolean) 5 := ⟨q1473, qs52, q73, q1474, rfl, by decide +kernel, by decide +kernel, by decide +kernel⟩
-- pitch
def hf_M_pitch (a1 : Int32) (a2 : Int32) (a3 : Int32) (a4 : Int32) (S : hd_St) : (Option Int32) :=
  (hf_M_isBlade a1 S).bind fun r1 =>
    if r1 = true then
    ((hf_M_isBlow a2 S).bind fun r3 =>
    if r3 = true then
    (if (hf_M_isForce a3) = true then
    (if (hf_M_isIn a4 0 9) = true then
    ((hf_M_pitchOf a1 a2 a3 a4 S).bind fun r5 =>
    some r5)
    else
    (some 1000000001))
    else
    (some 1000000001))
    else
    (some 1000000001))
    else
    (some 1000000001)
theorem hw_M_pitch (l : Launch) (E : hd_EV) (a1 : Int32) (a2 : Int32) (a3 : Int32) (a4 : Int32) (S : hd_St) (y : Int32) (h : hf_M_pitch a1 a2 a3 a4 S = some y) : hd_Mt l E yX4_pitch cX4_pitch 5 (some .int) (hd_Rm 4 0 0) [.ref (hd_ad E 38), .int a1, .int a2, .int a3, .int a4] S (some (.int y)) S := by
  refine hd_Mt.start [(0, .ref (hd_ad E 38)), (1, .int a1), (2, .int a2), (3, .int a3), (4, .int a4)] hd_pnX4 rfl (Nat.le_of_ble_eq_true rfl) (fun κ X hl hr hn => ?_)
  have X : hd_Cx κ E cX4_pitch RX4 5 (hd_Rm 4 0 0) := X
  unfold hf_M_pitch at h
  refine hv_aload_n X dX4_pitch_0 0 rfl ?_
  refine hv_iload_n X dX4_pitch_1 1 rfl ?_
  obtain ⟨r1, e2, h⟩ := hd_bind h
  refine hv_cV X pk_M_isBlade hd_rcM (hw_M_isBlade _ E a1 S r1 e2) q1369 dX4_pitch_2 (by decide) (by decide) (Nat.zero_le _) (Nat.zero_le _) rfl rfl (Nat.le_of_ble_eq_true rfl) rfl ?_
  refine hv_ifb_eq X 46 h dX4_pitch_5 (by decide) (fun h => ?_) (fun h => ?_)
  · refine hv_ldc X q1499 dX4_pitch_46 ?_
    obtain rfl := Option.some.inj h
    exact hv_iret X hr dX4_pitch_48 (Nat.zero_le _) (Nat.zero_le _)
  · refine hv_aload_n X dX4_pitch_8 0 rfl ?_
    refine hv_iload_n X dX4_pitch_9 2 rfl ?_
    obtain ⟨r3, e4, h⟩ := hd_bind h
    refine hv_cV X pk_M_isBlow hd_rcM (hw_M_isBlow _ E a2 S r3 e4) q1377 dX4_pitch_10 (by decide) (by decide) (Nat.zero_le _) (Nat.zero_le _) rfl rfl (Nat.le_of_ble_eq_true rfl) rfl ?_
    refine hv_ifb_eq X 46 h dX4_pitch_13 (by decide) (fun h => ?_) (fun h => ?_)
    · refine hv_ldc X q1499 dX4_pitch_46 ?_
      obtain rfl := Option.some.inj h
      exact hv_iret X hr dX4_pitch_48 (Nat.zero_le _) (Nat.zero_le _)
    · refine hv_iload_n X dX4_pitch_16 3 rfl ?_
      refine hv_cS X pk_M_isForce (hw_M_isForce _ E a3 S) q1429 dX4_pitch_17 (by decide) (by decide) (Nat.zero_le _) (Nat.zero_le _) rfl rfl (Nat.le_of_ble_eq_true rfl) rfl ?_
      refine hv_ifb_eq X 46 h dX4_pitch_20 (by decide) (fun h => ?_) (fun h => ?_)
      · refine hv_ldc X q1499 dX4_pitch_46 ?_
        obtain rfl := Option.some.inj h
        exact hv_iret X hr dX4_pitch_48 (Nat.zero_le _) (Nat.zero_le _)
      · refine hv_iload X dX4_pitch_23 4 rfl ?_
        refine hv_iconst X (v := 0) dX4_pitch_25 (by decide) ?_
        refine hv_bipush X (v := 9) dX4_pitch_26 (by decide) ?_
        refine hv_cS X pk_M_isIn (hw_M_isIn _ E a4 0 9 S) q1319 dX4_pitch_28 (by decide) (by decide) (Nat.zero_le _) (Nat.zero_le _) rfl rfl (Nat.le_of_ble_eq_true rfl) rfl ?_
        refine hv_ifb_eq X 46 h dX4_pitch_31 (by decide) (fun h => ?_) (fun h => ?_)
        · refine hv_ldc X q1499 dX4_pitch_46 ?_
          obtain rfl := Option.some.inj h
          exact hv_iret X hr dX4_pitch_48 (Nat.zero_le _) (Nat.zero_le _)
        · refine hv_aload_n X dX4_pitch_34 0 rfl ?_
          refine hv_iload_n X dX4_pitch_35 1 rfl ?_
          refine hv_iload_n X dX4_pitch_36 2 rfl ?_
          refine hv_iload_n X dX4_pitch_37 3 rfl ?_
          refine hv_iload X dX4_pitch_38 4 rfl ?_
          obtain ⟨r5, e6, h⟩ := hd_bind h
          refine hv_cV X pk_M_pitchOf hd_rcM (hw_M_pitchOf _ E a1 a2 a3 a4 S r5 e6) q1495 dX4_pitch_40 (by decide) (by decide) (Nat.zero_le _) (Nat.zero_le _) rfl rfl (Nat.le_of_ble_eq_true rfl) rfl ?_
          refine hv_goto X 48 dX4_pitch_43 (by decide) ?_
          obtain rfl := Option.some.inj h
          exact hv_iret X hr dX4_pitch_48 (Nat.zero_le _) (Nat.zero_le _)
theorem pk_M_pitch : hd_PkV RX4 yX4_pitch cX4_pitch 5 (some .int) 4 := ⟨q1492, q1493, q73, q1494, rfl, by decide +kernel, by decide +kernel, by decide +kernel⟩
-- lastsOf
def hf_M_lastsOf_11 (S : hd_St) : Nat → Int32 → Int32 → Int32 → Int32 → Int32 → (Option Int32)
  | 0, _, _, _, _, _ => none
  | n + 1, x1, x2, x3, x4, x5 =>
    if (99 : Int32) ≤ x5 then
    (some 99)
    else
    ((hf_M_wears x2 x3 S).bind fun r3 =>
    hd_nm (x4 + r3) fun v5 =>
    (hf_M_bladeOf x1 1 S).bind fun r6 =>
    (hf_M_bladeOf x1 2 S).bind fun r8 =>
    if v5 ≤ (r6 + r8) then
    (hf_M_lastsOf_11 S n x1 x2 x3 v5 (x5 + 1))
    else
    (some x5))
theorem hw_M_lastsOf_11 {κ : hd_VK} {E : hd_EV} (X : hd_Cx κ E cX4_lastsOf RX4 6 (hd_Rm 4 0 0)) (hr : (hd_kQ κ).sig.returnType = some .int) {S : hd_St} {y : Int32} : ∀ (n : Nat) (x1 : Int32) (x2 : Int32) (x3 : Int32) (x4 : Int32) (x5 : Int32), hf_M_lastsOf_11 S n x1 x2 x3 x4 x5 = some y → hd_V κ E 6 0 0 (hd_Qf κ E (some (.int y)) S) S 11 [(0, .ref (hd_ad E 38)), (1, .int x1), (2, .int x2), (3, .int x3), (4, .int x4), (5, .int x5)] [] := by
  intro n
  induction n with
  | zero => intro x1 x2 x3 x4 x5 h; have h : (none : Option Int32) = some y := h; cases h
  | succ n ih =>
    intro x1 x2 x3 x4 x5 h
    rw [hf_M_lastsOf_11] at h
    refine hv_iload X dX4_lastsOf_11 5 rfl ?_
    refine hv_bipush X (v := 99) dX4_lastsOf_13 (by decide) ?_
    refine hv_icmp_ge X 56 h dX4_lastsOf_15 (by decide) (fun h => ?_) (fun h => ?_)
    · refine hv_bipush X (v := 99) dX4_lastsOf_56 (by decide) ?_
      obtain rfl := Option.some.inj h
      exact hv_iret X hr dX4_lastsOf_58 (Nat.zero_le _) (Nat.zero_le _)
    · refine hv_iload X dX4_lastsOf_18 4 rfl ?_
      refine hv_aload_n X dX4_lastsOf_20 0 rfl ?_
      refine hv_iload_n X dX4_lastsOf_21 2 rfl ?_
      refine hv_iload_n X dX4_lastsOf_22 3 rfl ?_
      obtain ⟨r3, e4, h⟩ := hd_bind h
      refine hv_cV X pk_M_wears hd_rcM (hw_M_wears _ E x2 x3 S r3 e4) q1389 dX4_lastsOf_23 (by decide) (by decide) (Nat.zero_le _) (Nat.zero_le _) rfl rfl (Nat.le_of_ble_eq_true rfl) rfl ?_
      refine hv_iadd X dX4_lastsOf_26 ?_
      refine hv_nmI h (fun v5 h => ?_)
      refine hv_istore X [(4, .int v5), (0, .ref (hd_ad E 38)), (1, .int x1), (2, .int x2), (3, .int x3), (5, .int x5)] dX4_lastsOf_27 (by decide) rfl ?_
      refine hv_iload X dX4_lastsOf_29 0 rfl ?_
      refine hv_aload_n X dX4_lastsOf_31 1 rfl ?_
      refine hv_iload_n X dX4_lastsOf_32 2 rfl ?_
      refine hv_iconst X (v := 1) dX4_lastsOf_33 (by decide) ?_
      obtain ⟨r6, e7, h⟩ := hd_bind h
      refine hv_cV X pk_M_bladeOf hd_rcM (hw_M_bladeOf _ E x1 1 S r6 e7) q1385 dX4_lastsOf_34 (by decide) (by decide) (Nat.zero_le _) (Nat.zero_le _) rfl rfl (Nat.le_of_ble_eq_true rfl) rfl ?_
      refine hv_aload_n X dX4_lastsOf_37 1 rfl ?_
      refine hv_iload_n X dX4_lastsOf_38 2 rfl ?_
      refine hv_iconst X (v := 2) dX4_lastsOf_39 (by decide) ?_
      obtain ⟨r8, e9, h⟩ := hd_bind h
      refine hv_cV X pk_M_bladeOf hd_rcM (hw_M_bladeOf _ E x1 2 S r8 e9) q1385 dX4_lastsOf_40 (by decide) (by decide) (Nat.zero_le _) (Nat.zero_le _) rfl rfl (Nat.le_of_ble_eq_true rfl) rfl ?_
      refine hv_iadd X dX4_lastsOf_43 ?_
      refine hv_icmp_le X 50 h dX4_lastsOf_44 (by decide) (fun h => ?_) (fun h => ?_)
      · refine hv_iinc X (v := 1) [(5, .int (x5 + 1)), (4, .int v5), (0, .ref (hd_ad E 38)), (1, .int x1), (2, .int x2), (3, .int x3)] dX4_lastsOf_50 5 rfl (by decide) (by decide) rfl ?_
        refine hv_goto X 11 dX4_lastsOf_53 (by decide) ?_
        refine hv_sub [(0, .ref (hd_ad E 38)), (1, .int x1), (2, .int x2), (3, .int x3), (4, .int v5), (5, .int (x5 + 1))] [2, 3, 4, 5, 1, 0] rfl ?_
        exact ih x1 x2 x3 v5 (x5 + 1) h
      · refine hv_iload X dX4_lastsOf_47 5 rfl ?_
        obtain rfl := Option.some.inj h
        exact hv_iret X hr dX4_lastsOf_49 (Nat.zero_le _) (Nat.zero_le _)
def hf_M_lastsOf (a1 : Int32) (a2 : Int32) (a3 : Int32) (S : hd_St) : (Option Int32) :=
  (hf_M_bladeOf a1 3 S).bind fun r1 =>
    hf_M_lastsOf_11 S hd_fuel a1 a2 a3 r1 1
theorem hw_M_lastsOf (l : Launch) (E : hd_EV) (a1 : Int32) (a2 : Int32) (a3 : Int32) (S : hd_St) (y : Int32) (h : hf_M_lastsOf a1 a2 a3 S = some y) : hd_Mt l E yX4_lastsOf cX4_lastsOf 6 (some .int) (hd_Rm 4 0 0) [.ref (hd_ad E 38), .int a1, .int a2, .int a3] S (some (.int y)) S := by
  refine hd_Mt.start [(0, .ref (hd_ad E 38)), (1, .int a1), (2, .int a2), (3, .int a3)] hd_pnX4 rfl (Nat.le_of_ble_eq_true rfl) (fun κ X hl hr hn => ?_)
  have X : hd_Cx κ E cX4_lastsOf RX4 6 (hd_Rm 4 0 0) := X
  unfold hf_M_lastsOf at h
  refine hv_aload_n X dX4_lastsOf_0 0 rfl ?_
  refine hv_iload_n X dX4_lastsOf_1 1 rfl ?_
  refine hv_iconst X (v := 3) dX4_lastsOf_2 (by decide) ?_
  obtain ⟨r1, e2, h⟩ := hd_bind h
  refine hv_cV X pk_M_bladeOf hd_rcM (hw_M_bladeOf _ E a1 3 S r1 e2) q1385 dX4_lastsOf_3 (by decide) (by decide) (Nat.zero_le _) (Nat.zero_le _) rfl rfl (Nat.le_of_ble_eq_true rfl) rfl ?_
  refine hv_istore X [(4, .int r1), (0, .ref (hd_ad E 38)), (1, .int a1), (2, .int a2), (3, .int a3)] dX4_lastsOf_6 (by decide) rfl ?_
  refine hv_iconst X (v := 1) dX4_lastsOf_8 (by decide) ?_
  refine hv_istore X [(5, .int 1), (4, .int r1), (0, .ref (hd_ad E 38)), (1, .int a1), (2, .int a2), (3, .int a3)] dX4_lastsOf_9 (by decide) rfl ?_
  refine hv_sub [(0, .ref (hd_ad E 38)), (1, .int a1), (2, .int a2), (3, .int a3), (4, .int r1), (5, .int 1)] [2, 3, 4, 5, 1, 0] rfl ?_
  exact hw_M_lastsOf_11 X hr hd_fuel a1 a2 a3 r1 1 h
theorem pk_M_lastsOf : hd_PkV RX4 yX4_lastsOf cX4_lastsOf 6 (some .int) 3 := ⟨q1567, qs63, q73, q1568, rfl, by decide +kernel, by decide +kernel, by decide +kernel⟩
-- partOf
def hf_M_partOf (a0 : Int64) (a2 : Int64) (a4 : Int32) : (Option Int64) :=
  if (lg_cmp a0 (0 : Int64)) = 0 then
    (some a4.toInt64)
    else
    (if a4 = 0 then
    ((hf_M_gcd a0 a2).bind fun r3 =>
    if r3 = 0 then none else
    some (a0 / r3))
    else
    ((hf_M_gcd a0 a2).bind fun r1 =>
    if r1 = 0 then none else
    some (a2 / r1)))
theorem hw_M_partOf (l : Launch) (E : hd_EV) (a0 : Int64) (a2 : Int64) (a4 : Int32) (S : hd_St) (y : Int64) (h : hf_M_partOf a0 a2 a4 = some y) : hd_Mt l E yX4_partOf cX4_partOf 5 (some .long) (hd_Rm 2 0 0) [.long a0, .long a2, .int a4] S (some (.long y)) S := by
  refine hd_Mt.start [(0, .long a0), (2, .long a2), (4, .int a4)] hd_pnX4 rfl (Nat.le_of_ble_eq_true rfl) (fun κ X hl hr hn => ?_)
  have X : hd_Cx κ E cX4_partOf RX4 5 (hd_Rm 2 0 0) := X
  unfold hf_M_partOf at h
  refine hv_lload_n X dX4_partOf_0 0 rfl ?_
  refine hv_lconst X (v := 0) dX4_partOf_1 (by decide) ?_
  refine hv_lcmp X dX4_partOf_2 ?_
  refine hv_if_ne X 10 h dX4_partOf_3 (by decide) (fun h => ?_) (fun h => ?_)
  · refine hv_iload X dX4_partOf_10 2 rfl ?_
    refine hv_if_ne X 19 h dX4_partOf_12 (by decide) (fun h => ?_) (fun h => ?_)
    · refine hv_lload_n X dX4_partOf_19 1 rfl ?_
      refine hv_lload_n X dX4_partOf_20 0 rfl ?_
      refine hv_lload_n X dX4_partOf_21 1 rfl ?_
      obtain ⟨r1, e2, h⟩ := hd_bind h
      refine hv_cS X pk_M_gcd (hw_M_gcd _ E a0 a2 S r1 e2) q1600 dX4_partOf_22 (by decide) (by decide) (Nat.zero_le _) (Nat.zero_le _) rfl rfl (Nat.le_of_ble_eq_true rfl) rfl ?_
      refine hv_ldiv X h dX4_partOf_25 (fun h => ?_)
      obtain rfl := Option.some.inj h
      exact hv_lret X hr dX4_partOf_26 (Nat.zero_le _) (Nat.zero_le _)
    · refine hv_lload_n X dX4_partOf_15 0 rfl ?_
      refine hv_goto X 20 dX4_partOf_16 (by decide) ?_
      refine hv_lload_n X dX4_partOf_20 0 rfl ?_
      refine hv_lload_n X dX4_partOf_21 1 rfl ?_
      obtain ⟨r3, e4, h⟩ := hd_bind h
      refine hv_cS X pk_M_gcd (hw_M_gcd _ E a0 a2 S r3 e4) q1600 dX4_partOf_22 (by decide) (by decide) (Nat.zero_le _) (Nat.zero_le _) rfl rfl (Nat.le_of_ble_eq_true rfl) rfl ?_
      refine hv_ldiv X h dX4_partOf_25 (fun h => ?_)
      obtain rfl := Option.some.inj h
      exact hv_lret X hr dX4_partOf_26 (Nat.zero_le _) (Nat.zero_le _)
  · refine hv_iload X dX4_partOf_6 2 rfl ?_
    refine hv_i2l X dX4_partOf_8 ?_
    obtain rfl := Option.some.inj h
    exact hv_lret X hr dX4_partOf_9 (Nat.zero_le _) (Nat.zero_le _)
theorem pk_M_partOf : hd_PkS yX4_partOf cX4_partOf 5 (some .long) 3 := ⟨q1598, q73, q1599, by decide +kernel, by decide +kernel, by decide +kernel⟩
-- answer
def hf_M_answer_73 (x3 : Int32) (x4 : Int64) (t0 : Int64) : (Option Int64) :=
  (hf_M_partOf t0 ((x4 + t0) + (3 : Int64)) x3).bind fun r1 =>
    some r1
theorem hw_M_answer_73 {κ : hd_VK} {E : hd_EV} (X : hd_Cx κ E cX4_answer RX4 8 (hd_Rm 3 0 0)) (hr : (hd_kQ κ).sig.returnType = some .long) {S : hd_St} {y : Int64} (x3 : Int32) (x4 : Int64) (t0 : Int64) (h : hf_M_answer_73 x3 x4 t0 = some y) : hd_V κ E 8 0 0 (hd_Qf κ E (some (.long y)) S) S 73 [(3, .int x3), (4, .long x4)] [.long t0] := by
  unfold hf_M_answer_73 at h
  refine hv_lstore X [(6, .long t0), (3, .int x3), (4, .long x4)] dX4_answer_73 (by decide) rfl ?_
  refine hv_lload X dX4_answer_75 0 rfl ?_
  refine hv_lload X dX4_answer_77 2 rfl ?_
  refine hv_lload X dX4_answer_79 0 rfl ?_
  refine hv_ladd X dX4_answer_81 ?_
  refine hv_ldc2 X q1613 dX4_answer_82 ?_
  refine hv_ladd X dX4_answer_85 ?_
  refine hv_iload_n X dX4_answer_86 1 rfl ?_
  obtain ⟨r1, e2, h⟩ := hd_bind h
  refine hv_cS X pk_M_partOf (hw_M_partOf _ E t0 ((x4 + t0) + (3 : Int64)) x3 S r1 e2) q1597 dX4_answer_87 (by decide) (by decide) (Nat.zero_le _) (Nat.zero_le _) rfl rfl (Nat.le_of_ble_eq_true rfl) rfl ?_
  obtain rfl := Option.some.inj h
  exact hv_lret X hr dX4_answer_90 (Nat.zero_le _) (Nat.zero_le _)
def hf_M_answer_49 (x2 : Int32) (x3 : Int32) (t0 : Int64) : (Option Int64) :=
  if x2 = (1 : Int32) then
    (hf_M_answer_73 x3 t0 (10 : Int64))
    else
    (if x2 = 0 then
    (hf_M_answer_73 x3 t0 (5 : Int64))
    else
    (hf_M_answer_73 x3 t0 (0 : Int64)))
theorem hw_M_answer_49 {κ : hd_VK} {E : hd_EV} (X : hd_Cx κ E cX4_answer RX4 8 (hd_Rm 3 0 0)) (hr : (hd_kQ κ).sig.returnType = some .long) {S : hd_St} {y : Int64} (x2 : Int32) (x3 : Int32) (t0 : Int64) (h : hf_M_answer_49 x2 x3 t0 = some y) : hd_V κ E 8 0 0 (hd_Qf κ E (some (.long y)) S) S 49 [(2, .int x2), (3, .int x3)] [.long t0] := by
  unfold hf_M_answer_49 at h
  refine hv_lstore X [(4, .long t0), (2, .int x2), (3, .int x3)] dX4_answer_49 (by decide) rfl ?_
  refine hv_iload_n X dX4_answer_51 1 rfl ?_
  refine hv_iconst X (v := 1) dX4_answer_52 (by decide) ?_
  refine hv_icmp_ne X 62 h dX4_answer_53 (by decide) (fun h => ?_) (fun h => ?_)
  · refine hv_iload_n X dX4_answer_62 1 rfl ?_
    refine hv_if_ne X 72 h dX4_answer_63 (by decide) (fun h => ?_) (fun h => ?_)
    · refine hv_lconst X (v := 0) dX4_answer_72 (by decide) ?_
      refine hv_sub [(3, .int x3), (4, .long t0)] [2, 0] rfl ?_
      exact hw_M_answer_73 X hr x3 t0 (0 : Int64) h
    · refine hv_ldc2 X q1612 dX4_answer_66 ?_
      refine hv_goto X 73 dX4_answer_69 (by decide) ?_
      refine hv_sub [(3, .int x3), (4, .long t0)] [2, 0] rfl ?_
      exact hw_M_answer_73 X hr x3 t0 (5 : Int64) h
  · refine hv_ldc2 X q1593 dX4_answer_56 ?_
    refine hv_goto X 73 dX4_answer_59 (by decide) ?_
    refine hv_sub [(3, .int x3), (4, .long t0)] [2, 0] rfl ?_
    exact hw_M_answer_73 X hr x3 t0 (10 : Int64) h
def hf_M_answer_48 (x2 : Int32) (x3 : Int32) : (Option Int64) :=
  hf_M_answer_49 x2 x3 (0 : Int64)
theorem hw_M_answer_48 {κ : hd_VK} {E : hd_EV} (X : hd_Cx κ E cX4_answer RX4 8 (hd_Rm 3 0 0)) (hr : (hd_kQ κ).sig.returnType = some .long) {S : hd_St} {y : Int64} (x2 : Int32) (x3 : Int32) (h : hf_M_answer_48 x2 x3 = some y) : hd_V κ E 8 0 0 (hd_Qf κ E (some (.long y)) S) S 48 [(2, .int x2), (3, .int x3)] [] := by
  unfold hf_M_answer_48 at h
  refine hv_lconst X (v := 0) dX4_answer_48 (by decide) ?_
  exact hw_M_answer_49 X hr x2 x3 (0 : Int64) h
def hf_M_answer (a1 : Int32) (a2 : Int32) (a3 : Int32) : (Option Int64) :=
  if (hf_M_isIn a1 0 9) = true then
    (if (hf_M_isIn a2 0 9) = true then
    (if (hf_M_isIn a3 0 1) = true then
    (if a2 = 0 then
    (if a1 = (2 : Int32) then
    (hf_M_answer_49 a2 a3 (10 : Int64))
    else
    (hf_M_answer_48 a2 a3))
    else
    (hf_M_answer_48 a2 a3))
    else
    (some (1000000001 : Int64)))
    else
    (some (1000000001 : Int64)))
    else
    (some (1000000001 : Int64))
theorem hw_M_answer (l : Launch) (E : hd_EV) (a1 : Int32) (a2 : Int32) (a3 : Int32) (S : hd_St) (y : Int64) (h : hf_M_answer a1 a2 a3 = some y) : hd_Mt l E yX4_answer cX4_answer 8 (some .long) (hd_Rm 3 0 0) [.ref (hd_ad E 38), .int a1, .int a2, .int a3] S (some (.long y)) S := by
  refine hd_Mt.start [(0, .ref (hd_ad E 38)), (1, .int a1), (2, .int a2), (3, .int a3)] hd_pnX4 rfl (Nat.le_of_ble_eq_true rfl) (fun κ X hl hr hn => ?_)
  have X : hd_Cx κ E cX4_answer RX4 8 (hd_Rm 3 0 0) := X
  unfold hf_M_answer at h
  refine hv_iload_n X dX4_answer_0 1 rfl ?_
  refine hv_iconst X (v := 0) dX4_answer_1 (by decide) ?_
  refine hv_bipush X (v := 9) dX4_answer_2 (by decide) ?_
  refine hv_cS X pk_M_isIn (hw_M_isIn _ E a1 0 9 S) q1319 dX4_answer_4 (by decide) (by decide) (Nat.zero_le _) (Nat.zero_le _) rfl rfl (Nat.le_of_ble_eq_true rfl) rfl ?_
  refine hv_ifb_eq X 29 h dX4_answer_7 (by decide) (fun h => ?_) (fun h => ?_)
  · refine hv_ldc2 X q1588 dX4_answer_29 ?_
    obtain rfl := Option.some.inj h
    exact hv_lret X hr dX4_answer_32 (Nat.zero_le _) (Nat.zero_le _)
  · refine hv_iload_n X dX4_answer_10 2 rfl ?_
    refine hv_iconst X (v := 0) dX4_answer_11 (by decide) ?_
    refine hv_bipush X (v := 9) dX4_answer_12 (by decide) ?_
    refine hv_cS X pk_M_isIn (hw_M_isIn _ E a2 0 9 S) q1319 dX4_answer_14 (by decide) (by decide) (Nat.zero_le _) (Nat.zero_le _) rfl rfl (Nat.le_of_ble_eq_true rfl) rfl ?_
    refine hv_ifb_eq X 29 h dX4_answer_17 (by decide) (fun h => ?_) (fun h => ?_)
    · refine hv_ldc2 X q1588 dX4_answer_29 ?_
      obtain rfl := Option.some.inj h
      exact hv_lret X hr dX4_answer_32 (Nat.zero_le _) (Nat.zero_le _)
    · refine hv_iload_n X dX4_answer_20 3 rfl ?_
      refine hv_iconst X (v := 0) dX4_answer_21 (by decide) ?_
      refine hv_iconst X (v := 1) dX4_answer_22 (by decide) ?_
      refine hv_cS X pk_M_isIn (hw_M_isIn _ E a3 0 1 S) q1319 dX4_answer_23 (by decide) (by decide) (Nat.zero_le _) (Nat.zero_le _) rfl rfl (Nat.le_of_ble_eq_true rfl) rfl ?_
      refine hv_ifb_ne X 33 h dX4_answer_26 (by decide) (fun h => ?_) (fun h => ?_)
      · refine hv_iload_n X dX4_answer_33 2 rfl ?_
        refine hv_if_ne X 48 h dX4_answer_34 (by decide) (fun h => ?_) (fun h => ?_)
        · refine hv_sub [(2, .int a2), (3, .int a3)] [2, 3] rfl ?_
          exact hw_M_answer_48 X hr a2 a3 h
        · refine hv_iload_n X dX4_answer_37 1 rfl ?_
          refine hv_iconst X (v := 2) dX4_answer_38 (by decide) ?_
          refine hv_icmp_ne X 48 h dX4_answer_39 (by decide) (fun h => ?_) (fun h => ?_)
          · refine hv_sub [(2, .int a2), (3, .int a3)] [2, 3] rfl ?_
            exact hw_M_answer_48 X hr a2 a3 h
          · refine hv_ldc2 X q1593 dX4_answer_42 ?_
            refine hv_goto X 49 dX4_answer_45 (by decide) ?_
            refine hv_sub [(2, .int a2), (3, .int a3)] [2, 3] rfl ?_
            exact hw_M_answer_49 X hr a2 a3 (10 : Int64) h
      · refine hv_ldc2 X q1588 dX4_answer_29 ?_
        obtain rfl := Option.some.inj h
        exact hv_lret X hr dX4_answer_32 (Nat.zero_le _) (Nat.zero_le _)
theorem pk_M_answer : hd_PkV RX4 yX4_answer cX4_answer 8 (some .long) 3 := ⟨q1609, q1610, q73, q1611, rfl, by decide +kernel, by decide +kernel, by decide +kernel⟩
-- forcesFor
def hf_M_forcesFor_12 : Nat → Int32 → Int32 → Int32 → Int32 → hd_St → (Option (Int32 × hd_St))
  | 0, _, _, _, _, _ => none
  | n + 1, x1, x2, x3, x4, S =>
    if x4 < 0 then
    (some (x3, S))
    else
    ((hf_M_wears x1 x4 S).bind fun r2 =>
    if r2 = x2 then
    (hd_nm (hd_sI S 38 11 x4) fun S4 =>
    hf_M_forcesFor_12 n x1 x2 (x3 + 1) (x4 + (-1)) S4)
    else
    (hf_M_forcesFor_12 n x1 x2 x3 (x4 + (-1)) S))
theorem hw_M_forcesFor_12 {κ : hd_VK} {E : hd_EV} (X : hd_Cx κ E cX4_forcesFor RX4 5 (hd_Rm 4 0 0)) (hr : (hd_kQ κ).sig.returnType = some .int) {y : (Int32 × hd_St)} : ∀ (n : Nat) (x1 : Int32) (x2 : Int32) (x3 : Int32) (x4 : Int32) (S : hd_St), hf_M_forcesFor_12 n x1 x2 x3 x4 S = some y → hd_V κ E 5 0 0 (hd_Qf κ E (some (.int y.1)) y.2) S 12 [(0, .ref (hd_ad E 38)), (1, .int x1), (2, .int x2), (3, .int x3), (4, .int x4)] [] := by
  intro n
  induction n with
  | zero => intro x1 x2 x3 x4 S h; have h : (none : Option (Int32 × hd_St)) = some y := h; cases h
  | succ n ih =>
    intro x1 x2 x3 x4 S h
    rw [hf_M_forcesFor_12] at h
    refine hv_iload X dX4_forcesFor_12 4 rfl ?_
    refine hv_if_lt X 46 h dX4_forcesFor_14 (by decide) (fun h => ?_) (fun h => ?_)
    · refine hv_iload_n X dX4_forcesFor_46 3 rfl ?_
      obtain rfl := Option.some.inj h
      exact hv_iret X hr dX4_forcesFor_47 (Nat.zero_le _) (Nat.zero_le _)
    · refine hv_aload_n X dX4_forcesFor_17 0 rfl ?_
      refine hv_iload_n X dX4_forcesFor_18 1 rfl ?_
      refine hv_iload X dX4_forcesFor_19 4 rfl ?_
      obtain ⟨r2, e3, h⟩ := hd_bind h
      refine hv_cV X pk_M_wears hd_rcM (hw_M_wears _ E x1 x4 S r2 e3) q1389 dX4_forcesFor_21 (by decide) (by decide) (Nat.zero_le _) (Nat.zero_le _) rfl rfl (Nat.le_of_ble_eq_true rfl) rfl ?_
      refine hv_iload_n X dX4_forcesFor_24 2 rfl ?_
      refine hv_icmp_eq X 31 h dX4_forcesFor_25 (by decide) (fun h => ?_) (fun h => ?_)
      · refine hv_iinc X (v := 1) [(3, .int (x3 + 1)), (0, .ref (hd_ad E 38)), (1, .int x1), (2, .int x2), (4, .int x4)] dX4_forcesFor_31 3 rfl (by decide) (by decide) rfl ?_
        refine hv_aload_n X dX4_forcesFor_34 1 rfl ?_
        refine hv_iload X dX4_forcesFor_35 4 rfl ?_
        refine hp_M_leastForce X q1252 dX4_forcesFor_37 ?_
        refine hv_nmS h (fun S4 h => ?_)
        refine hv_iinc X (v := (-1)) [(4, .int (x4 + (-1))), (3, .int (x3 + 1)), (0, .ref (hd_ad E 38)), (1, .int x1), (2, .int x2)] dX4_forcesFor_40 4 rfl (by decide) (by decide) rfl ?_
        refine hv_goto X 12 dX4_forcesFor_43 (by decide) ?_
        refine hv_sub [(0, .ref (hd_ad E 38)), (1, .int x1), (2, .int x2), (3, .int (x3 + 1)), (4, .int (x4 + (-1)))] [2, 3, 4, 1, 0] rfl ?_
        exact ih x1 x2 (x3 + 1) (x4 + (-1)) S4 h
      · refine hv_goto X 40 dX4_forcesFor_28 (by decide) ?_
        refine hv_iinc X (v := (-1)) [(4, .int (x4 + (-1))), (0, .ref (hd_ad E 38)), (1, .int x1), (2, .int x2), (3, .int x3)] dX4_forcesFor_40 4 rfl (by decide) (by decide) rfl ?_
        refine hv_goto X 12 dX4_forcesFor_43 (by decide) ?_
        refine hv_sub [(0, .ref (hd_ad E 38)), (1, .int x1), (2, .int x2), (3, .int x3), (4, .int (x4 + (-1)))] [1, 2, 3, 4, 0] rfl ?_
        exact ih x1 x2 x3 (x4 + (-1)) S h
def hf_M_forcesFor (a1 : Int32) (a2 : Int32) (S : hd_St) : (Option (Int32 × hd_St)) :=
  hd_nm (hd_sI S 38 11 (-4)) fun S1 =>
    hf_M_forcesFor_12 hd_fuel a1 a2 0 60 S1
theorem hw_M_forcesFor (l : Launch) (E : hd_EV) (a1 : Int32) (a2 : Int32) (S : hd_St) (y : (Int32 × hd_St)) (h : hf_M_forcesFor a1 a2 S = some y) : hd_Mt l E yX4_forcesFor cX4_forcesFor 5 (some .int) (hd_Rm 4 0 0) [.ref (hd_ad E 38), .int a1, .int a2] S (some (.int y.1)) y.2 := by
  refine hd_Mt.start [(0, .ref (hd_ad E 38)), (1, .int a1), (2, .int a2)] hd_pnX4 rfl (Nat.le_of_ble_eq_true rfl) (fun κ X hl hr hn => ?_)
  have X : hd_Cx κ E cX4_forcesFor RX4 5 (hd_Rm 4 0 0) := X
  unfold hf_M_forcesFor at h
  refine hv_iconst X (v := 0) dX4_forcesFor_0 (by decide) ?_
  refine hv_istore_n X [(3, .int 0), (0, .ref (hd_ad E 38)), (1, .int a1), (2, .int a2)] dX4_forcesFor_1 (by decide) rfl ?_
  refine hv_aload_n X dX4_forcesFor_2 1 rfl ?_
  refine hv_bipush X (v := (-4)) dX4_forcesFor_3 (by decide) ?_
  refine hp_M_leastForce X q1252 dX4_forcesFor_5 ?_
  refine hv_nmS h (fun S1 h => ?_)
  refine hv_bipush X (v := 60) dX4_forcesFor_8 (by decide) ?_
  refine hv_istore X [(4, .int 60), (3, .int 0), (0, .ref (hd_ad E 38)), (1, .int a1), (2, .int a2)] dX4_forcesFor_10 (by decide) rfl ?_
  refine hv_sub [(0, .ref (hd_ad E 38)), (1, .int a1), (2, .int a2), (3, .int 0), (4, .int 60)] [2, 3, 4, 1, 0] rfl ?_
  exact hw_M_forcesFor_12 X hr hd_fuel a1 a2 0 60 S1 h
theorem pk_M_forcesFor : hd_PkV RX4 yX4_forcesFor cX4_forcesFor 5 (some .int) 2 := ⟨q1640, qs67, q73, q1641, rfl, by decide +kernel, by decide +kernel, by decide +kernel⟩
-- count
def hf_M_count_46 (S : hd_St) : Nat → Int32 → Int32 → (Option Int32)
  | 0, _, _ => none
  | n + 1, x2, x3 =>
    if hd_ck 0 47 = true then
    if (hd_I S 39 (0 : Int32).toNatClampNeg) ≤ x3 then
    (some x2)
    else
    ((hf_M_isSplit x3 S).bind fun r1 =>
    if r1 = true then
    (hd_nm (x2 ||| ((1 : Int32) <<< (x3 &&& 31))) fun v4 =>
    hf_M_count_46 S n v4 (x3 + 1))
    else
    (hd_nm (x2 ||| 0) fun v3 =>
    hf_M_count_46 S n v3 (x3 + 1)))
    else none
theorem hw_M_count_46 {κ : hd_VK} {E : hd_EV} (X : hd_Cx κ E cX4_count RX4 4 (hd_Rm 4 0 0)) (hr : (hd_kQ κ).sig.returnType = some .int) {S : hd_St} {y : Int32} : ∀ (n : Nat) (x2 : Int32) (x3 : Int32), hf_M_count_46 S n x2 x3 = some y → hd_V κ E 4 0 0 (hd_Qf κ E (some (.int y)) S) S 46 [(0, .ref (hd_ad E 38)), (2, .int x2), (3, .int x3)] [] := by
  intro n
  induction n with
  | zero => intro x2 x3 h; have h : (none : Option Int32) = some y := h; cases h
  | succ n ih =>
    intro x2 x3 h
    rw [hf_M_count_46] at h
    refine hv_iload_n X dX4_count_46 2 rfl ?_
    refine hv_aload_n X dX4_count_47 0 rfl ?_
    refine hg_M_s X q1241 dX4_count_48 ?_
    refine hv_iconst X (v := 0) dX4_count_51 (by decide) ?_
    refine hv_iald X h hd_ia39 dX4_count_52 (fun h => ?_)
    refine hv_icmp_ge X 80 h dX4_count_53 (by decide) (fun h => ?_) (fun h => ?_)
    · refine hv_iload_n X dX4_count_80 1 rfl ?_
      obtain rfl := Option.some.inj h
      exact hv_iret X hr dX4_count_81 (Nat.zero_le _) (Nat.zero_le _)
    · refine hv_iload_n X dX4_count_56 1 rfl ?_
      refine hv_aload_n X dX4_count_57 0 rfl ?_
      refine hv_iload_n X dX4_count_58 2 rfl ?_
      obtain ⟨r1, e2, h⟩ := hd_bind h
      refine hv_cV X pk_M_isSplit hd_rcM (hw_M_isSplit _ E x3 S r1 e2) q1381 dX4_count_59 (by decide) (by decide) (Nat.zero_le _) (Nat.zero_le _) rfl rfl (Nat.le_of_ble_eq_true rfl) rfl ?_
      refine hv_ifb_eq X 71 h dX4_count_62 (by decide) (fun h => ?_) (fun h => ?_)
      · refine hv_iconst X (v := 0) dX4_count_71 (by decide) ?_
        refine hv_ior X dX4_count_72 ?_
        refine hv_nmI h (fun v3 h => ?_)
        refine hv_istore_n X [(2, .int v3), (0, .ref (hd_ad E 38)), (3, .int x3)] dX4_count_73 (by decide) rfl ?_
        refine hv_iinc X (v := 1) [(3, .int (x3 + 1)), (2, .int v3), (0, .ref (hd_ad E 38))] dX4_count_74 2 rfl (by decide) (by decide) rfl ?_
        refine hv_goto X 46 dX4_count_77 (by decide) ?_
        refine hv_sub [(0, .ref (hd_ad E 38)), (2, .int v3), (3, .int (x3 + 1))] [2, 1, 0] rfl ?_
        exact ih v3 (x3 + 1) h
      · refine hv_iconst X (v := 1) dX4_count_65 (by decide) ?_
        refine hv_iload_n X dX4_count_66 2 rfl ?_
        refine hv_ishl X dX4_count_67 ?_
        refine hv_goto X 72 dX4_count_68 (by decide) ?_
        refine hv_ior X dX4_count_72 ?_
        refine hv_nmI h (fun v4 h => ?_)
        refine hv_istore_n X [(2, .int v4), (0, .ref (hd_ad E 38)), (3, .int x3)] dX4_count_73 (by decide) rfl ?_
        refine hv_iinc X (v := 1) [(3, .int (x3 + 1)), (2, .int v4), (0, .ref (hd_ad E 38))] dX4_count_74 2 rfl (by decide) (by decide) rfl ?_
        refine hv_goto X 46 dX4_count_77 (by decide) ?_
        refine hv_sub [(0, .ref (hd_ad E 38)), (2, .int v4), (3, .int (x3 + 1))] [2, 1, 0] rfl ?_
        exact ih v4 (x3 + 1) h
def hf_M_count_84 (S : hd_St) : Nat → Int32 → Int32 → (Option Int32)
  | 0, _, _ => none
  | n + 1, x2, x3 =>
    if hd_ck 0 47 = true then
    if (hd_I S 39 (0 : Int32).toNatClampNeg) ≤ x3 then
    (some x2)
    else
    ((hf_M_bladeOf x3 3 S).bind fun r5 =>
    hd_nm (x2 + r5) fun v7 =>
    hf_M_count_84 S n v7 (x3 + 1))
    else none
theorem hw_M_count_84 {κ : hd_VK} {E : hd_EV} (X : hd_Cx κ E cX4_count RX4 4 (hd_Rm 4 0 0)) (hr : (hd_kQ κ).sig.returnType = some .int) {S : hd_St} {y : Int32} : ∀ (n : Nat) (x2 : Int32) (x3 : Int32), hf_M_count_84 S n x2 x3 = some y → hd_V κ E 4 0 0 (hd_Qf κ E (some (.int y)) S) S 84 [(0, .ref (hd_ad E 38)), (2, .int x2), (3, .int x3)] [] := by
  intro n
  induction n with
  | zero => intro x2 x3 h; have h : (none : Option Int32) = some y := h; cases h
  | succ n ih =>
    intro x2 x3 h
    rw [hf_M_count_84] at h
    refine hv_iload_n X dX4_count_84 2 rfl ?_
    refine hv_aload_n X dX4_count_85 0 rfl ?_
    refine hg_M_s X q1241 dX4_count_86 ?_
    refine hv_iconst X (v := 0) dX4_count_89 (by decide) ?_
    refine hv_iald X h hd_ia39 dX4_count_90 (fun h => ?_)
    refine hv_icmp_ge X 109 h dX4_count_91 (by decide) (fun h => ?_) (fun h => ?_)
    · refine hv_iload_n X dX4_count_109 1 rfl ?_
      obtain rfl := Option.some.inj h
      exact hv_iret X hr dX4_count_110 (Nat.zero_le _) (Nat.zero_le _)
    · refine hv_iload_n X dX4_count_94 1 rfl ?_
      refine hv_aload_n X dX4_count_95 0 rfl ?_
      refine hv_iload_n X dX4_count_96 2 rfl ?_
      refine hv_iconst X (v := 3) dX4_count_97 (by decide) ?_
      obtain ⟨r5, e6, h⟩ := hd_bind h
      refine hv_cV X pk_M_bladeOf hd_rcM (hw_M_bladeOf _ E x3 3 S r5 e6) q1385 dX4_count_98 (by decide) (by decide) (Nat.zero_le _) (Nat.zero_le _) rfl rfl (Nat.le_of_ble_eq_true rfl) rfl ?_
      refine hv_iadd X dX4_count_101 ?_
      refine hv_nmI h (fun v7 h => ?_)
      refine hv_istore_n X [(2, .int v7), (0, .ref (hd_ad E 38)), (3, .int x3)] dX4_count_102 (by decide) rfl ?_
      refine hv_iinc X (v := 1) [(3, .int (x3 + 1)), (2, .int v7), (0, .ref (hd_ad E 38))] dX4_count_103 2 rfl (by decide) (by decide) rfl ?_
      refine hv_goto X 84 dX4_count_106 (by decide) ?_
      refine hv_sub [(0, .ref (hd_ad E 38)), (2, .int v7), (3, .int (x3 + 1))] [2, 1, 0] rfl ?_
      exact ih v7 (x3 + 1) h
def hf_M_count_113 (S : hd_St) : Nat → Int32 → Int32 → (Option Int32)
  | 0, _, _ => none
  | n + 1, x2, x3 =>
    if hd_ck 1 47 = true then
    if (hd_I S 39 (1 : Int32).toNatClampNeg) ≤ x3 then
    (some x2)
    else
    (if hd_ck (hf_M_atThumbs x3 1) 47 = true then
    hd_nm (x2 + (hd_I S 39 (hf_M_atThumbs x3 1).toNatClampNeg)) fun v8 =>
    hf_M_count_113 S n v8 (x3 + 1)
    else none)
    else none
theorem hw_M_count_113 {κ : hd_VK} {E : hd_EV} (X : hd_Cx κ E cX4_count RX4 4 (hd_Rm 4 0 0)) (hr : (hd_kQ κ).sig.returnType = some .int) {S : hd_St} {y : Int32} : ∀ (n : Nat) (x2 : Int32) (x3 : Int32), hf_M_count_113 S n x2 x3 = some y → hd_V κ E 4 0 0 (hd_Qf κ E (some (.int y)) S) S 113 [(0, .ref (hd_ad E 38)), (2, .int x2), (3, .int x3)] [] := by
  intro n
  induction n with
  | zero => intro x2 x3 h; have h : (none : Option Int32) = some y := h; cases h
  | succ n ih =>
    intro x2 x3 h
    rw [hf_M_count_113] at h
    refine hv_iload_n X dX4_count_113 2 rfl ?_
    refine hv_aload_n X dX4_count_114 0 rfl ?_
    refine hg_M_s X q1241 dX4_count_115 ?_
    refine hv_iconst X (v := 1) dX4_count_118 (by decide) ?_
    refine hv_iald X h hd_ia39 dX4_count_119 (fun h => ?_)
    refine hv_icmp_ge X 142 h dX4_count_120 (by decide) (fun h => ?_) (fun h => ?_)
    · refine hv_iload_n X dX4_count_142 1 rfl ?_
      obtain rfl := Option.some.inj h
      exact hv_iret X hr dX4_count_143 (Nat.zero_le _) (Nat.zero_le _)
    · refine hv_iload_n X dX4_count_123 1 rfl ?_
      refine hv_aload_n X dX4_count_124 0 rfl ?_
      refine hg_M_s X q1241 dX4_count_125 ?_
      refine hv_iload_n X dX4_count_128 2 rfl ?_
      refine hv_iconst X (v := 1) dX4_count_129 (by decide) ?_
      refine hv_cS X pk_M_atThumbs (hw_M_atThumbs _ E x3 1 S) q1355 dX4_count_130 (by decide) (by decide) (Nat.zero_le _) (Nat.zero_le _) rfl rfl (Nat.le_of_ble_eq_true rfl) rfl ?_
      refine hv_iald X h hd_ia39 dX4_count_133 (fun h => ?_)
      refine hv_iadd X dX4_count_134 ?_
      refine hv_nmI h (fun v8 h => ?_)
      refine hv_istore_n X [(2, .int v8), (0, .ref (hd_ad E 38)), (3, .int x3)] dX4_count_135 (by decide) rfl ?_
      refine hv_iinc X (v := 1) [(3, .int (x3 + 1)), (2, .int v8), (0, .ref (hd_ad E 38))] dX4_count_136 2 rfl (by decide) (by decide) rfl ?_
      refine hv_goto X 113 dX4_count_139 (by decide) ?_
      refine hv_sub [(0, .ref (hd_ad E 38)), (2, .int v8), (3, .int (x3 + 1))] [2, 1, 0] rfl ?_
      exact ih v8 (x3 + 1) h
def hf_M_count (a1 : Int32) (S : hd_St) : (Option Int32) :=
  if (hf_M_isIn a1 0 2) = true then
    (if hd_ck a1 47 = true then
    some (hd_I S 39 a1.toNatClampNeg)
    else none)
    else
    (if a1 = 3 then
    (hf_M_count_46 S hd_fuel 0 0)
    else
    (if a1 = 4 then
    (hf_M_count_84 S hd_fuel 0 0)
    else
    (if a1 = 5 then
    (hf_M_count_113 S hd_fuel 0 0)
    else
    (some (-1)))))
theorem hw_M_count (l : Launch) (E : hd_EV) (a1 : Int32) (S : hd_St) (y : Int32) (h : hf_M_count a1 S = some y) : hd_Mt l E yX4_count cX4_count 4 (some .int) (hd_Rm 4 0 0) [.ref (hd_ad E 38), .int a1] S (some (.int y)) S := by
  refine hd_Mt.start [(0, .ref (hd_ad E 38)), (1, .int a1)] hd_pnX4 rfl (Nat.le_of_ble_eq_true rfl) (fun κ X hl hr hn => ?_)
  have X : hd_Cx κ E cX4_count RX4 4 (hd_Rm 4 0 0) := X
  unfold hf_M_count at h
  refine hv_iload_n X dX4_count_0 1 rfl ?_
  refine hv_iconst X (v := 0) dX4_count_1 (by decide) ?_
  refine hv_iconst X (v := 2) dX4_count_2 (by decide) ?_
  refine hv_cS X pk_M_isIn (hw_M_isIn _ E a1 0 2 S) q1319 dX4_count_3 (by decide) (by decide) (Nat.zero_le _) (Nat.zero_le _) rfl rfl (Nat.le_of_ble_eq_true rfl) rfl ?_
  refine hv_ifb_eq X 16 h dX4_count_6 (by decide) (fun h => ?_) (fun h => ?_)
  · refine hv_iconst X (v := 0) dX4_count_16 (by decide) ?_
    refine hv_istore_n X [(2, .int 0), (0, .ref (hd_ad E 38)), (1, .int a1)] dX4_count_17 (by decide) rfl ?_
    refine hv_iload_n X dX4_count_18 2 rfl ?_
    refine hv_case h (fun c0 h => ?_) (fun c0 h => ?_)
    · refine hv_tswIn X 44 c0 dX4_count_19 (by decide) (by decide) (off := 25) (by decide) (by decide) ?_
      refine hv_iconst X (v := 0) dX4_count_44 (by decide) ?_
      refine hv_istore_n X [(3, .int 0), (2, .int 0), (0, .ref (hd_ad E 38)), (1, .int a1)] dX4_count_45 (by decide) rfl ?_
      refine hv_sub [(0, .ref (hd_ad E 38)), (2, .int 0), (3, .int 0)] [2, 1, 0] rfl ?_
      exact hw_M_count_46 X hr hd_fuel 0 0 h
    · refine hv_case h (fun c1 h => ?_) (fun c1 h => ?_)
      · refine hv_tswIn X 82 c1 dX4_count_19 (by decide) (by decide) (off := 63) (by decide) (by decide) ?_
        refine hv_iconst X (v := 0) dX4_count_82 (by decide) ?_
        refine hv_istore_n X [(3, .int 0), (2, .int 0), (0, .ref (hd_ad E 38)), (1, .int a1)] dX4_count_83 (by decide) rfl ?_
        refine hv_sub [(0, .ref (hd_ad E 38)), (2, .int 0), (3, .int 0)] [2, 1, 0] rfl ?_
        exact hw_M_count_84 X hr hd_fuel 0 0 h
      · refine hv_case h (fun c2 h => ?_) (fun c2 h => ?_)
        · refine hv_tswIn X 111 c2 dX4_count_19 (by decide) (by decide) (off := 92) (by decide) (by decide) ?_
          refine hv_iconst X (v := 0) dX4_count_111 (by decide) ?_
          refine hv_istore_n X [(3, .int 0), (2, .int 0), (0, .ref (hd_ad E 38)), (1, .int a1)] dX4_count_112 (by decide) rfl ?_
          refine hv_sub [(0, .ref (hd_ad E 38)), (2, .int 0), (3, .int 0)] [2, 1, 0] rfl ?_
          exact hw_M_count_113 X hr hd_fuel 0 0 h
        · refine hv_tswOut X 144 dX4_count_19 (by have b0 := hd_ni c0 (a := 3) (by decide); have b1 := hd_ni c1 (a := 4) (by decide); have b2 := hd_ni c2 (a := 5) (by decide); omega) (by decide) ?_
          refine hv_iconst X (v := (-1)) dX4_count_144 (by decide) ?_
          obtain rfl := Option.some.inj h
          exact hv_iret X hr dX4_count_145 (Nat.zero_le _) (Nat.zero_le _)
  · refine hv_aload_n X dX4_count_9 0 rfl ?_
    refine hg_M_s X q1241 dX4_count_10 ?_
    refine hv_iload_n X dX4_count_13 1 rfl ?_
    refine hv_iald X h hd_ia39 dX4_count_14 (fun h => ?_)
    obtain rfl := Option.some.inj h
    exact hv_iret X hr dX4_count_15 (Nat.zero_le _) (Nat.zero_le _)
theorem pk_M_count : hd_PkV RX4 yX4_count cX4_count 4 (some .int) 1 := ⟨q1679, q1680, q73, q1681, rfl, by decide +kernel, by decide +kernel, by decide +kernel⟩
-- keep
def hf_M_keep_44 (x1 : Int32) (x2 : Int32) (x3 : Int32) (x4 : Int32) (S : hd_St) : (Option (Int32 × hd_St)) :=
  if hd_ck x1 8 = true then
    hd_nm (hd_sI S 45 x1.toNatClampNeg x2) fun S1 =>
    if hd_ck x1 8 = true then
    hd_nm (hd_sI S1 46 x1.toNatClampNeg x3) fun S2 =>
    if hd_ck x1 8 = true then
    hd_nm (hd_sI S2 47 x1.toNatClampNeg x4) fun S3 =>
    some (0, S3)
    else none
    else none
    else none
theorem hw_M_keep_44 {κ : hd_VK} {E : hd_EV} (X : hd_Cx κ E cX4_keep RX4 5 (hd_Rm 3 0 0)) (hr : (hd_kQ κ).sig.returnType = some .int) {y : (Int32 × hd_St)} (x1 : Int32) (x2 : Int32) (x3 : Int32) (x4 : Int32) (S : hd_St) (h : hf_M_keep_44 x1 x2 x3 x4 S = some y) : hd_V κ E 5 0 0 (hd_Qf κ E (some (.int y.1)) y.2) S 44 [(0, .ref (hd_ad E 38)), (1, .int x1), (2, .int x2), (3, .int x3), (4, .int x4)] [] := by
  unfold hf_M_keep_44 at h
  refine hv_aload_n X dX4_keep_44 0 rfl ?_
  refine hg_M_kept X q1256 dX4_keep_45 ?_
  refine hv_iload_n X dX4_keep_48 1 rfl ?_
  refine hv_iload_n X dX4_keep_49 2 rfl ?_
  refine hv_iast X h hd_ia45 dX4_keep_50 (fun h => ?_)
  refine hv_nmS h (fun S1 h => ?_)
  refine hv_aload_n X dX4_keep_51 0 rfl ?_
  refine hg_M_keptKind X q1257 dX4_keep_52 ?_
  refine hv_iload_n X dX4_keep_55 1 rfl ?_
  refine hv_iload_n X dX4_keep_56 3 rfl ?_
  refine hv_iast X h hd_ia46 dX4_keep_57 (fun h => ?_)
  refine hv_nmS h (fun S2 h => ?_)
  refine hv_aload_n X dX4_keep_58 0 rfl ?_
  refine hg_M_keptFigure X q1258 dX4_keep_59 ?_
  refine hv_iload_n X dX4_keep_62 1 rfl ?_
  refine hv_iload X dX4_keep_63 4 rfl ?_
  refine hv_iast X h hd_ia47 dX4_keep_65 (fun h => ?_)
  refine hv_nmS h (fun S3 h => ?_)
  refine hv_iconst X (v := 0) dX4_keep_66 (by decide) ?_
  obtain rfl := Option.some.inj h
  exact hv_iret X hr dX4_keep_67 (Nat.zero_le _) (Nat.zero_le _)
def hf_M_keep (a1 : Int32) (a2 : Int32) (a3 : Int32) (a4 : Int32) (S : hd_St) : (Option (Int32 × hd_St)) :=
  if (hf_M_isShelf a1) = true then
    (if (hf_M_isIn a2 0 1) = true then
    (if a2 = (1 : Int32) then
    (if (hf_M_isIn a3 0 7) = true then
    (if (hf_M_isIn a4 0 9) = true then
    (hf_M_keep_44 a1 a2 a3 a4 S)
    else
    (some ((-1), S)))
    else
    (some ((-1), S)))
    else
    (hf_M_keep_44 a1 a2 a3 a4 S))
    else
    (some ((-1), S)))
    else
    (some ((-1), S))
theorem hw_M_keep (l : Launch) (E : hd_EV) (a1 : Int32) (a2 : Int32) (a3 : Int32) (a4 : Int32) (S : hd_St) (y : (Int32 × hd_St)) (h : hf_M_keep a1 a2 a3 a4 S = some y) : hd_Mt l E yX4_keep cX4_keep 5 (some .int) (hd_Rm 3 0 0) [.ref (hd_ad E 38), .int a1, .int a2, .int a3, .int a4] S (some (.int y.1)) y.2 := by
  refine hd_Mt.start [(0, .ref (hd_ad E 38)), (1, .int a1), (2, .int a2), (3, .int a3), (4, .int a4)] hd_pnX4 rfl (Nat.le_of_ble_eq_true rfl) (fun κ X hl hr hn => ?_)
  have X : hd_Cx κ E cX4_keep RX4 5 (hd_Rm 3 0 0) := X
  unfold hf_M_keep at h
  refine hv_iload_n X dX4_keep_0 1 rfl ?_
  refine hv_cS X pk_M_isShelf (hw_M_isShelf _ E a1 S) q1316 dX4_keep_1 (by decide) (by decide) (Nat.zero_le _) (Nat.zero_le _) rfl rfl (Nat.le_of_ble_eq_true rfl) rfl ?_
  refine hv_ifb_eq X 42 h dX4_keep_4 (by decide) (fun h => ?_) (fun h => ?_)
  · refine hv_iconst X (v := (-1)) dX4_keep_42 (by decide) ?_
    obtain rfl := Option.some.inj h
    exact hv_iret X hr dX4_keep_43 (Nat.zero_le _) (Nat.zero_le _)
  · refine hv_iload_n X dX4_keep_7 2 rfl ?_
    refine hv_iconst X (v := 0) dX4_keep_8 (by decide) ?_
    refine hv_iconst X (v := 1) dX4_keep_9 (by decide) ?_
    refine hv_cS X pk_M_isIn (hw_M_isIn _ E a2 0 1 S) q1319 dX4_keep_10 (by decide) (by decide) (Nat.zero_le _) (Nat.zero_le _) rfl rfl (Nat.le_of_ble_eq_true rfl) rfl ?_
    refine hv_ifb_eq X 42 h dX4_keep_13 (by decide) (fun h => ?_) (fun h => ?_)
    · refine hv_iconst X (v := (-1)) dX4_keep_42 (by decide) ?_
      obtain rfl := Option.some.inj h
      exact hv_iret X hr dX4_keep_43 (Nat.zero_le _) (Nat.zero_le _)
    · refine hv_iload_n X dX4_keep_16 2 rfl ?_
      refine hv_iconst X (v := 1) dX4_keep_17 (by decide) ?_
      refine hv_icmp_ne X 44 h dX4_keep_18 (by decide) (fun h => ?_) (fun h => ?_)
      · exact hw_M_keep_44 X hr a1 a2 a3 a4 S h
      · refine hv_iload_n X dX4_keep_21 3 rfl ?_
        refine hv_iconst X (v := 0) dX4_keep_22 (by decide) ?_
        refine hv_bipush X (v := 7) dX4_keep_23 (by decide) ?_
        refine hv_cS X pk_M_isIn (hw_M_isIn _ E a3 0 7 S) q1319 dX4_keep_25 (by decide) (by decide) (Nat.zero_le _) (Nat.zero_le _) rfl rfl (Nat.le_of_ble_eq_true rfl) rfl ?_
        refine hv_ifb_eq X 42 h dX4_keep_28 (by decide) (fun h => ?_) (fun h => ?_)
        · refine hv_iconst X (v := (-1)) dX4_keep_42 (by decide) ?_
          obtain rfl := Option.some.inj h
          exact hv_iret X hr dX4_keep_43 (Nat.zero_le _) (Nat.zero_le _)
        · refine hv_iload X dX4_keep_31 4 rfl ?_
          refine hv_iconst X (v := 0) dX4_keep_33 (by decide) ?_
          refine hv_bipush X (v := 9) dX4_keep_34 (by decide) ?_
          refine hv_cS X pk_M_isIn (hw_M_isIn _ E a4 0 9 S) q1319 dX4_keep_36 (by decide) (by decide) (Nat.zero_le _) (Nat.zero_le _) rfl rfl (Nat.le_of_ble_eq_true rfl) rfl ?_
          refine hv_ifb_ne X 44 h dX4_keep_39 (by decide) (fun h => ?_) (fun h => ?_)
          · exact hw_M_keep_44 X hr a1 a2 a3 a4 S h
          · refine hv_iconst X (v := (-1)) dX4_keep_42 (by decide) ?_
            obtain rfl := Option.some.inj h
            exact hv_iret X hr dX4_keep_43 (Nat.zero_le _) (Nat.zero_le _)
theorem pk_M_keep : hd_PkV RX4 yX4_keep cX4_keep 5 (some .int) 4 := ⟨q1687, q1688, q73, q1689, rfl, by decide +kernel, by decide +kernel, by decide +kernel⟩
-- row
def hf_M_row_55 : Nat → Int32 → Int32 → hd_St → (Option (Int32 × hd_St))
  | 0, _, _, _ => none
  | n + 1, x1, x4, S =>
    if (100 : Int32) ≤ x4 then
    (some (0, S))
    else
    (if hd_ck (((100 : Int32) * x1) + x4) 800 = true then
    hd_nm (hd_sI S 50 (((100 : Int32) * x1) + x4).toNatClampNeg 0) fun S4 =>
    hf_M_row_55 n x1 (x4 + 1) S4
    else none)
theorem hw_M_row_55 {κ : hd_VK} {E : hd_EV} (X : hd_Cx κ E cX4_row RX4 5 (hd_Rm 3 0 0)) (hr : (hd_kQ κ).sig.returnType = some .int) {y : (Int32 × hd_St)} : ∀ (n : Nat) (x1 : Int32) (x4 : Int32) (S : hd_St), hf_M_row_55 n x1 x4 S = some y → hd_V κ E 5 0 0 (hd_Qf κ E (some (.int y.1)) y.2) S 55 [(0, .ref (hd_ad E 38)), (1, .int x1), (4, .int x4)] [] := by
  intro n
  induction n with
  | zero => intro x1 x4 S h; have h : (none : Option (Int32 × hd_St)) = some y := h; cases h
  | succ n ih =>
    intro x1 x4 S h
    rw [hf_M_row_55] at h
    refine hv_iload X dX4_row_55 2 rfl ?_
    refine hv_bipush X (v := 100) dX4_row_57 (by decide) ?_
    refine hv_icmp_ge X 81 h dX4_row_59 (by decide) (fun h => ?_) (fun h => ?_)
    · refine hv_iconst X (v := 0) dX4_row_81 (by decide) ?_
      obtain rfl := Option.some.inj h
      exact hv_iret X hr dX4_row_82 (Nat.zero_le _) (Nat.zero_le _)
    · refine hv_aload_n X dX4_row_62 0 rfl ?_
      refine hg_M_element X q1261 dX4_row_63 ?_
      refine hv_bipush X (v := 100) dX4_row_66 (by decide) ?_
      refine hv_iload_n X dX4_row_68 1 rfl ?_
      refine hv_imul X dX4_row_69 ?_
      refine hv_iload X dX4_row_70 2 rfl ?_
      refine hv_iadd X dX4_row_72 ?_
      refine hv_iconst X (v := 0) dX4_row_73 (by decide) ?_
      refine hv_iast X h hd_ia50 dX4_row_74 (fun h => ?_)
      refine hv_nmS h (fun S4 h => ?_)
      refine hv_iinc X (v := 1) [(4, .int (x4 + 1)), (0, .ref (hd_ad E 38)), (1, .int x1)] dX4_row_75 2 rfl (by decide) (by decide) rfl ?_
      refine hv_goto X 55 dX4_row_78 (by decide) ?_
      refine hv_sub [(0, .ref (hd_ad E 38)), (1, .int x1), (4, .int (x4 + 1))] [1, 2, 0] rfl ?_
      exact ih x1 (x4 + 1) S4 h
def hf_M_row (a1 : Int32) (a2 : Int32) (a3 : Int32) (S : hd_St) : (Option (Int32 × hd_St)) :=
  if (hf_M_isShelf a1) = true then
    (if (hf_M_isIn a2 0 2) = true then
    (if a3 ≤ (100 : Int32) then
    (if 0 ≤ a3 then
    (if hd_ck a1 8 = true then
    hd_nm (hd_sI S 45 a1.toNatClampNeg 2) fun S1 =>
    if hd_ck a1 8 = true then
    hd_nm (hd_sI S1 48 a1.toNatClampNeg a2) fun S2 =>
    if hd_ck a1 8 = true then
    hd_nm (hd_sI S2 49 a1.toNatClampNeg a3) fun S3 =>
    hf_M_row_55 hd_fuel a1 0 S3
    else none
    else none
    else none)
    else
    (some ((-14), S)))
    else
    (some ((-1), S)))
    else
    (some ((-1), S)))
    else
    (some ((-1), S))
theorem hw_M_row (l : Launch) (E : hd_EV) (a1 : Int32) (a2 : Int32) (a3 : Int32) (S : hd_St) (y : (Int32 × hd_St)) (h : hf_M_row a1 a2 a3 S = some y) : hd_Mt l E yX4_row cX4_row 5 (some .int) (hd_Rm 3 0 0) [.ref (hd_ad E 38), .int a1, .int a2, .int a3] S (some (.int y.1)) y.2 := by
  refine hd_Mt.start [(0, .ref (hd_ad E 38)), (1, .int a1), (2, .int a2), (3, .int a3)] hd_pnX4 rfl (Nat.le_of_ble_eq_true rfl) (fun κ X hl hr hn => ?_)
  have X : hd_Cx κ E cX4_row RX4 5 (hd_Rm 3 0 0) := X
  unfold hf_M_row at h
  refine hv_iload_n X dX4_row_0 1 rfl ?_
  refine hv_cS X pk_M_isShelf (hw_M_isShelf _ E a1 S) q1316 dX4_row_1 (by decide) (by decide) (Nat.zero_le _) (Nat.zero_le _) rfl rfl (Nat.le_of_ble_eq_true rfl) rfl ?_
  refine hv_ifb_eq X 22 h dX4_row_4 (by decide) (fun h => ?_) (fun h => ?_)
  · refine hv_iconst X (v := (-1)) dX4_row_22 (by decide) ?_
    obtain rfl := Option.some.inj h
    exact hv_iret X hr dX4_row_23 (Nat.zero_le _) (Nat.zero_le _)
  · refine hv_iload_n X dX4_row_7 2 rfl ?_
    refine hv_iconst X (v := 0) dX4_row_8 (by decide) ?_
    refine hv_iconst X (v := 2) dX4_row_9 (by decide) ?_
    refine hv_cS X pk_M_isIn (hw_M_isIn _ E a2 0 2 S) q1319 dX4_row_10 (by decide) (by decide) (Nat.zero_le _) (Nat.zero_le _) rfl rfl (Nat.le_of_ble_eq_true rfl) rfl ?_
    refine hv_ifb_eq X 22 h dX4_row_13 (by decide) (fun h => ?_) (fun h => ?_)
    · refine hv_iconst X (v := (-1)) dX4_row_22 (by decide) ?_
      obtain rfl := Option.some.inj h
      exact hv_iret X hr dX4_row_23 (Nat.zero_le _) (Nat.zero_le _)
    · refine hv_iload_n X dX4_row_16 3 rfl ?_
      refine hv_bipush X (v := 100) dX4_row_17 (by decide) ?_
      refine hv_icmp_le X 24 h dX4_row_19 (by decide) (fun h => ?_) (fun h => ?_)
      · refine hv_iload_n X dX4_row_24 3 rfl ?_
        refine hv_if_ge X 31 h dX4_row_25 (by decide) (fun h => ?_) (fun h => ?_)
        · refine hv_aload_n X dX4_row_31 0 rfl ?_
          refine hg_M_kept X q1256 dX4_row_32 ?_
          refine hv_iload_n X dX4_row_35 1 rfl ?_
          refine hv_iconst X (v := 2) dX4_row_36 (by decide) ?_
          refine hv_iast X h hd_ia45 dX4_row_37 (fun h => ?_)
          refine hv_nmS h (fun S1 h => ?_)
          refine hv_aload_n X dX4_row_38 0 rfl ?_
          refine hg_M_sort X q1259 dX4_row_39 ?_
          refine hv_iload_n X dX4_row_42 1 rfl ?_
          refine hv_iload_n X dX4_row_43 2 rfl ?_
          refine hv_iast X h hd_ia48 dX4_row_44 (fun h => ?_)
          refine hv_nmS h (fun S2 h => ?_)
          refine hv_aload_n X dX4_row_45 0 rfl ?_
          refine hg_M_size X q1260 dX4_row_46 ?_
          refine hv_iload_n X dX4_row_49 1 rfl ?_
          refine hv_iload_n X dX4_row_50 3 rfl ?_
          refine hv_iast X h hd_ia49 dX4_row_51 (fun h => ?_)
          refine hv_nmS h (fun S3 h => ?_)
          refine hv_iconst X (v := 0) dX4_row_52 (by decide) ?_
          refine hv_istore X [(4, .int 0), (0, .ref (hd_ad E 38)), (1, .int a1), (2, .int a2), (3, .int a3)] dX4_row_53 (by decide) rfl ?_
          refine hv_sub [(0, .ref (hd_ad E 38)), (1, .int a1), (4, .int 0)] [1, 2, 0] rfl ?_
          exact hw_M_row_55 X hr hd_fuel a1 0 S3 h
        · refine hv_bipush X (v := (-14)) dX4_row_28 (by decide) ?_
          obtain rfl := Option.some.inj h
          exact hv_iret X hr dX4_row_30 (Nat.zero_le _) (Nat.zero_le _)
      · refine hv_iconst X (v := (-1)) dX4_row_22 (by decide) ?_
        obtain rfl := Option.some.inj h
        exact hv_iret X hr dX4_row_23 (Nat.zero_le _) (Nat.zero_le _)
theorem pk_M_row : hd_PkV RX4 yX4_row cX4_row 5 (some .int) 3 := ⟨q1691, q1692, q73, q1693, rfl, by decide +kernel, by decide +kernel, by decide +kernel⟩
-- element
def hf_M_element_43 (x1 : Int32) (x2 : Int32) (t0 : Int32) (S : hd_St) : (Option (Int64 × hd_St)) :=
  hd_nm (hd_sI S 38 21 t0) fun S1 =>
    if (hd_I S1 38 21) = 0 then
    (if hd_ck (((100 : Int32) * x1) + x2) 800 = true then
    some ((hd_I S1 50 (((100 : Int32) * x1) + x2).toNatClampNeg).toInt64, S1)
    else none)
    else
    (some ((0 : Int64), S1))
theorem hw_M_element_43 {κ : hd_VK} {E : hd_EV} (X : hd_Cx κ E cX4_element RX4 3 (hd_Rm 3 0 0)) (hr : (hd_kQ κ).sig.returnType = some .long) {y : (Int64 × hd_St)} (x1 : Int32) (x2 : Int32) (t0 : Int32) (S : hd_St) (h : hf_M_element_43 x1 x2 t0 S = some y) : hd_V κ E 3 0 0 (hd_Qf κ E (some (.long y.1)) y.2) S 43 [(0, .ref (hd_ad E 38)), (1, .int x1), (2, .int x2)] [.int t0, .ref (hd_ad E 38)] := by
  unfold hf_M_element_43 at h
  refine hp_M_thrown X q1262 dX4_element_43 ?_
  refine hv_nmS h (fun S1 h => ?_)
  refine hv_aload_n X dX4_element_46 0 rfl ?_
  refine hg_M_thrown X q1262 dX4_element_47 ?_
  refine hv_if_ne X 68 h dX4_element_50 (by decide) (fun h => ?_) (fun h => ?_)
  · refine hv_lconst X (v := 0) dX4_element_68 (by decide) ?_
    obtain rfl := Option.some.inj h
    exact hv_lret X hr dX4_element_69 (Nat.zero_le _) (Nat.zero_le _)
  · refine hv_aload_n X dX4_element_53 0 rfl ?_
    refine hg_M_element X q1261 dX4_element_54 ?_
    refine hv_bipush X (v := 100) dX4_element_57 (by decide) ?_
    refine hv_iload_n X dX4_element_59 1 rfl ?_
    refine hv_imul X dX4_element_60 ?_
    refine hv_iload_n X dX4_element_61 2 rfl ?_
    refine hv_iadd X dX4_element_62 ?_
    refine hv_iald X h hd_ia50 dX4_element_63 (fun h => ?_)
    refine hv_i2l X dX4_element_64 ?_
    refine hv_goto X 69 dX4_element_65 (by decide) ?_
    obtain rfl := Option.some.inj h
    exact hv_lret X hr dX4_element_69 (Nat.zero_le _) (Nat.zero_le _)
def hf_M_element_38 (x1 : Int32) (x2 : Int32) (S : hd_St) : (Option (Int64 × hd_St)) :=
  hf_M_element_43 x1 x2 2 S
theorem hw_M_element_38 {κ : hd_VK} {E : hd_EV} (X : hd_Cx κ E cX4_element RX4 3 (hd_Rm 3 0 0)) (hr : (hd_kQ κ).sig.returnType = some .long) {y : (Int64 × hd_St)} (x1 : Int32) (x2 : Int32) (S : hd_St) (h : hf_M_element_38 x1 x2 S = some y) : hd_V κ E 3 0 0 (hd_Qf κ E (some (.long y.1)) y.2) S 38 [(0, .ref (hd_ad E 38)), (1, .int x1), (2, .int x2)] [.ref (hd_ad E 38)] := by
  unfold hf_M_element_38 at h
  refine hv_iconst X (v := 2) dX4_element_38 (by decide) ?_
  refine hv_goto X 43 dX4_element_39 (by decide) ?_
  exact hw_M_element_43 X hr x1 x2 2 S h
def hf_M_element (a1 : Int32) (a2 : Int32) (S : hd_St) : (Option (Int64 × hd_St)) :=
  if (hf_M_isShelf a1) = true then
    (if hd_ck a1 8 = true then
    if (hd_I S 45 a1.toNatClampNeg) = (2 : Int32) then
    (if hd_ck a1 8 = true then
    if (hf_M_isIn a2 0 ((hd_I S 49 a1.toNatClampNeg) - 1)) = true then
    (hf_M_element_43 a1 a2 0 S)
    else
    (hf_M_element_38 a1 a2 S)
    else none)
    else
    (hf_M_element_38 a1 a2 S)
    else none)
    else
    (hf_M_element_43 a1 a2 1 S)
theorem hw_M_element (l : Launch) (E : hd_EV) (a1 : Int32) (a2 : Int32) (S : hd_St) (y : (Int64 × hd_St)) (h : hf_M_element a1 a2 S = some y) : hd_Mt l E yX4_element cX4_element 3 (some .long) (hd_Rm 3 0 0) [.ref (hd_ad E 38), .int a1, .int a2] S (some (.long y.1)) y.2 := by
  refine hd_Mt.start [(0, .ref (hd_ad E 38)), (1, .int a1), (2, .int a2)] hd_pnX4 rfl (Nat.le_of_ble_eq_true rfl) (fun κ X hl hr hn => ?_)
  have X : hd_Cx κ E cX4_element RX4 3 (hd_Rm 3 0 0) := X
  unfold hf_M_element at h
  refine hv_aload_n X dX4_element_0 0 rfl ?_
  refine hv_iload_n X dX4_element_1 1 rfl ?_
  refine hv_cS X pk_M_isShelf (hw_M_isShelf _ E a1 S) q1316 dX4_element_2 (by decide) (by decide) (Nat.zero_le _) (Nat.zero_le _) rfl rfl (Nat.le_of_ble_eq_true rfl) rfl ?_
  refine hv_ifb_ne X 12 h dX4_element_5 (by decide) (fun h => ?_) (fun h => ?_)
  · refine hv_aload_n X dX4_element_12 0 rfl ?_
    refine hg_M_kept X q1256 dX4_element_13 ?_
    refine hv_iload_n X dX4_element_16 1 rfl ?_
    refine hv_iald X h hd_ia45 dX4_element_17 (fun h => ?_)
    refine hv_iconst X (v := 2) dX4_element_18 (by decide) ?_
    refine hv_icmp_ne X 38 h dX4_element_19 (by decide) (fun h => ?_) (fun h => ?_)
    · exact hw_M_element_38 X hr a1 a2 S h
    · refine hv_iload_n X dX4_element_22 2 rfl ?_
      refine hv_iconst X (v := 0) dX4_element_23 (by decide) ?_
      refine hv_aload_n X dX4_element_24 0 rfl ?_
      refine hg_M_size X q1260 dX4_element_25 ?_
      refine hv_iload_n X dX4_element_28 1 rfl ?_
      refine hv_iald X h hd_ia49 dX4_element_29 (fun h => ?_)
      refine hv_iconst X (v := 1) dX4_element_30 (by decide) ?_
      refine hv_isub X dX4_element_31 ?_
      refine hv_cS X pk_M_isIn (hw_M_isIn _ E a2 0 ((hd_I S 49 a1.toNatClampNeg) - 1) S) q1319 dX4_element_32 (by decide) (by decide) (Nat.zero_le _) (Nat.zero_le _) rfl rfl (Nat.le_of_ble_eq_true rfl) rfl ?_
      refine hv_ifb_ne X 42 h dX4_element_35 (by decide) (fun h => ?_) (fun h => ?_)
      · refine hv_iconst X (v := 0) dX4_element_42 (by decide) ?_
        exact hw_M_element_43 X hr a1 a2 0 S h
      · exact hw_M_element_38 X hr a1 a2 S h
  · refine hv_iconst X (v := 1) dX4_element_8 (by decide) ?_
    refine hv_goto X 43 dX4_element_9 (by decide) ?_
    exact hw_M_element_43 X hr a1 a2 1 S h
theorem pk_M_element : hd_PkV RX4 yX4_element cX4_element 3 (some .long) 2 := ⟨q1699, q1700, q73, q1701, rfl, by decide +kernel, by decide +kernel, by decide +kernel⟩
-- copy
def hf_M_copy_147 (K122 : Int32 → Int32 → Int32 → Int32 → Int32 → Int32 → hd_St → (Option (Int32 × hd_St))) (x1 : Int32) (x2 : Int32) (x3 : Int32) (x4 : Int32) (x5 : Int32) (x6 : Int32) (t0 : Int32) (S : hd_St) : (Option (Int32 × hd_St)) :=
  if hd_ck ((((100 : Int32) * x1) + x2) + t0) 800 = true then
    if hd_ck ((((100 : Int32) * x3) + x4) + t0) 800 = true then
    hd_nm (hd_sI S 50 ((((100 : Int32) * x3) + x4) + t0).toNatClampNeg (hd_I S 50 ((((100 : Int32) * x1) + x2) + t0).toNatClampNeg)) fun S1 =>
    K122 x1 x2 x3 x4 x5 (x6 + 1) S1
    else none
    else none
theorem hw_M_copy_147 {κ : hd_VK} {E : hd_EV} (X : hd_Cx κ E cX4_copy RX4 8 (hd_Rm 3 0 0)) (hr : (hd_kQ κ).sig.returnType = some .int) {y : (Int32 × hd_St)} (K122 : Int32 → Int32 → Int32 → Int32 → Int32 → Int32 → hd_St → (Option (Int32 × hd_St))) (hK122 : ∀ (x1 : Int32) (x2 : Int32) (x3 : Int32) (x4 : Int32) (x5 : Int32) (x6 : Int32) (S : hd_St), K122 x1 x2 x3 x4 x5 x6 S = some y → hd_V κ E 8 0 0 (hd_Qf κ E (some (.int y.1)) y.2) S 122 [(0, .ref (hd_ad E 38)), (1, .int x1), (2, .int x2), (3, .int x3), (4, .int x4), (5, .int x5), (6, .int x6)] []) (x1 : Int32) (x2 : Int32) (x3 : Int32) (x4 : Int32) (x5 : Int32) (x6 : Int32) (t0 : Int32) (S : hd_St) (h : hf_M_copy_147 K122 x1 x2 x3 x4 x5 x6 t0 S = some y) : hd_V κ E 8 0 0 (hd_Qf κ E (some (.int y.1)) y.2) S 147 [(0, .ref (hd_ad E 38)), (1, .int x1), (2, .int x2), (3, .int x3), (4, .int x4), (5, .int x5), (6, .int x6)] [.int t0] := by
  unfold hf_M_copy_147 at h
  refine hv_istore X [(7, .int t0), (0, .ref (hd_ad E 38)), (1, .int x1), (2, .int x2), (3, .int x3), (4, .int x4), (5, .int x5), (6, .int x6)] dX4_copy_147 (by decide) rfl ?_
  refine hv_aload_n X dX4_copy_149 1 rfl ?_
  refine hg_M_element X q1261 dX4_copy_150 ?_
  refine hv_bipush X (v := 100) dX4_copy_153 (by decide) ?_
  refine hv_iload_n X dX4_copy_155 4 rfl ?_
  refine hv_imul X dX4_copy_156 ?_
  refine hv_iload X dX4_copy_157 5 rfl ?_
  refine hv_iadd X dX4_copy_159 ?_
  refine hv_iload X dX4_copy_160 0 rfl ?_
  refine hv_iadd X dX4_copy_162 ?_
  refine hv_aload_n X dX4_copy_163 1 rfl ?_
  refine hg_M_element X q1261 dX4_copy_164 ?_
  refine hv_bipush X (v := 100) dX4_copy_167 (by decide) ?_
  refine hv_iload_n X dX4_copy_169 2 rfl ?_
  refine hv_imul X dX4_copy_170 ?_
  refine hv_iload_n X dX4_copy_171 3 rfl ?_
  refine hv_iadd X dX4_copy_172 ?_
  refine hv_iload X dX4_copy_173 0 rfl ?_
  refine hv_iadd X dX4_copy_175 ?_
  refine hv_iald X h hd_ia50 dX4_copy_176 (fun h => ?_)
  refine hv_iast X h hd_ia50 dX4_copy_177 (fun h => ?_)
  refine hv_nmS h (fun S1 h => ?_)
  refine hv_iinc X (v := 1) [(6, .int (x6 + 1)), (7, .int t0), (0, .ref (hd_ad E 38)), (1, .int x1), (2, .int x2), (3, .int x3), (4, .int x4), (5, .int x5)] dX4_copy_178 7 rfl (by decide) (by decide) rfl ?_
  refine hv_goto X 122 dX4_copy_181 (by decide) ?_
  refine hv_sub [(0, .ref (hd_ad E 38)), (1, .int x1), (2, .int x2), (3, .int x3), (4, .int x4), (5, .int x5), (6, .int (x6 + 1))] [2, 3, 4, 5, 6, 7, 0] rfl ?_
  exact hK122 x1 x2 x3 x4 x5 (x6 + 1) S1 h
def hf_M_copy_122 : Nat → Int32 → Int32 → Int32 → Int32 → Int32 → Int32 → hd_St → (Option (Int32 × hd_St))
  | 0, _, _, _, _, _, _, _ => none
  | n + 1, x1, x2, x3, x4, x5, x6, S =>
    if x5 ≤ x6 then
    (some (x5, S))
    else
    (if x2 ≤ x4 then
    (hf_M_copy_147 (hf_M_copy_122 n) x1 x2 x3 x4 x5 x6 ((x5 - 1) - x6) S)
    else
    (hf_M_copy_147 (hf_M_copy_122 n) x1 x2 x3 x4 x5 x6 x6 S))
theorem hw_M_copy_122 {κ : hd_VK} {E : hd_EV} (X : hd_Cx κ E cX4_copy RX4 8 (hd_Rm 3 0 0)) (hr : (hd_kQ κ).sig.returnType = some .int) {y : (Int32 × hd_St)} : ∀ (n : Nat) (x1 : Int32) (x2 : Int32) (x3 : Int32) (x4 : Int32) (x5 : Int32) (x6 : Int32) (S : hd_St), hf_M_copy_122 n x1 x2 x3 x4 x5 x6 S = some y → hd_V κ E 8 0 0 (hd_Qf κ E (some (.int y.1)) y.2) S 122 [(0, .ref (hd_ad E 38)), (1, .int x1), (2, .int x2), (3, .int x3), (4, .int x4), (5, .int x5), (6, .int x6)] [] := by
  intro n
  induction n with
  | zero => intro x1 x2 x3 x4 x5 x6 S h; have h : (none : Option (Int32 × hd_St)) = some y := h; cases h
  | succ n ih =>
    intro x1 x2 x3 x4 x5 x6 S h
    rw [hf_M_copy_122] at h
    refine hv_iload X dX4_copy_122 6 rfl ?_
    refine hv_iload X dX4_copy_124 5 rfl ?_
    refine hv_icmp_ge X 184 h dX4_copy_126 (by decide) (fun h => ?_) (fun h => ?_)
    · refine hv_iload X dX4_copy_184 5 rfl ?_
      obtain rfl := Option.some.inj h
      exact hv_iret X hr dX4_copy_186 (Nat.zero_le _) (Nat.zero_le _)
    · refine hv_iload_n X dX4_copy_129 2 rfl ?_
      refine hv_iload X dX4_copy_130 4 rfl ?_
      refine hv_icmp_le X 140 h dX4_copy_132 (by decide) (fun h => ?_) (fun h => ?_)
      · refine hv_iload X dX4_copy_140 5 rfl ?_
        refine hv_iconst X (v := 1) dX4_copy_142 (by decide) ?_
        refine hv_isub X dX4_copy_143 ?_
        refine hv_iload X dX4_copy_144 6 rfl ?_
        refine hv_isub X dX4_copy_146 ?_
        exact hw_M_copy_147 X hr (hf_M_copy_122 n) ih x1 x2 x3 x4 x5 x6 ((x5 - 1) - x6) S h
      · refine hv_iload X dX4_copy_135 6 rfl ?_
        refine hv_goto X 147 dX4_copy_137 (by decide) ?_
        exact hw_M_copy_147 X hr (hf_M_copy_122 n) ih x1 x2 x3 x4 x5 x6 x6 S h
def hf_M_copy (a1 : Int32) (a2 : Int32) (a3 : Int32) (a4 : Int32) (a5 : Int32) (S : hd_St) : (Option (Int32 × hd_St)) :=
  if (hf_M_isShelf a1) = true then
    (if (hf_M_isShelf a3) = true then
    (if hd_ck a1 8 = true then
    if (hd_I S 45 a1.toNatClampNeg) = 0 then
    (some ((-11), S))
    else
    (if hd_ck a3 8 = true then
    if (hd_I S 45 a3.toNatClampNeg) = 0 then
    (some ((-11), S))
    else
    (if hd_ck a1 8 = true then
    if (hd_I S 45 a1.toNatClampNeg) = (2 : Int32) then
    (if hd_ck a3 8 = true then
    if (hd_I S 45 a3.toNatClampNeg) = (2 : Int32) then
    (if hd_ck a1 8 = true then
    if hd_ck a3 8 = true then
    if (hd_I S 48 a1.toNatClampNeg) = (hd_I S 48 a3.toNatClampNeg) then
    (if a5 < 0 then
    (some ((-13), S))
    else
    (if a2 < 0 then
    (some ((-13), S))
    else
    (if a4 < 0 then
    (some ((-13), S))
    else
    (if hd_ck a1 8 = true then
    if ((hd_I S 49 a1.toNatClampNeg) - a2) < a5 then
    (some ((-13), S))
    else
    (if hd_ck a3 8 = true then
    if a5 ≤ ((hd_I S 49 a3.toNatClampNeg) - a4) then
    (hf_M_copy_122 hd_fuel a1 a2 a3 a4 a5 0 S)
    else
    (some ((-13), S))
    else none)
    else none))))
    else
    (some ((-12), S))
    else none
    else none)
    else
    (some ((-12), S))
    else none)
    else
    (some ((-12), S))
    else none)
    else none)
    else none)
    else
    (some ((-1), S)))
    else
    (some ((-1), S))
theorem hw_M_copy (l : Launch) (E : hd_EV) (a1 : Int32) (a2 : Int32) (a3 : Int32) (a4 : Int32) (a5 : Int32) (S : hd_St) (y : (Int32 × hd_St)) (h : hf_M_copy a1 a2 a3 a4 a5 S = some y) : hd_Mt l E yX4_copy cX4_copy 8 (some .int) (hd_Rm 3 0 0) [.ref (hd_ad E 38), .int a1, .int a2, .int a3, .int a4, .int a5] S (some (.int y.1)) y.2 := by
  refine hd_Mt.start [(0, .ref (hd_ad E 38)), (1, .int a1), (2, .int a2), (3, .int a3), (4, .int a4), (5, .int a5)] hd_pnX4 rfl (Nat.le_of_ble_eq_true rfl) (fun κ X hl hr hn => ?_)
  have X : hd_Cx κ E cX4_copy RX4 8 (hd_Rm 3 0 0) := X
  unfold hf_M_copy at h
  refine hv_iload_n X dX4_copy_0 1 rfl ?_
  refine hv_cS X pk_M_isShelf (hw_M_isShelf _ E a1 S) q1316 dX4_copy_1 (by decide) (by decide) (Nat.zero_le _) (Nat.zero_le _) rfl rfl (Nat.le_of_ble_eq_true rfl) rfl ?_
  refine hv_ifb_eq X 14 h dX4_copy_4 (by decide) (fun h => ?_) (fun h => ?_)
  · refine hv_iconst X (v := (-1)) dX4_copy_14 (by decide) ?_
    obtain rfl := Option.some.inj h
    exact hv_iret X hr dX4_copy_15 (Nat.zero_le _) (Nat.zero_le _)
  · refine hv_iload_n X dX4_copy_7 3 rfl ?_
    refine hv_cS X pk_M_isShelf (hw_M_isShelf _ E a3 S) q1316 dX4_copy_8 (by decide) (by decide) (Nat.zero_le _) (Nat.zero_le _) rfl rfl (Nat.le_of_ble_eq_true rfl) rfl ?_
    refine hv_ifb_ne X 16 h dX4_copy_11 (by decide) (fun h => ?_) (fun h => ?_)
    · refine hv_aload_n X dX4_copy_16 0 rfl ?_
      refine hg_M_kept X q1256 dX4_copy_17 ?_
      refine hv_iload_n X dX4_copy_20 1 rfl ?_
      refine hv_iald X h hd_ia45 dX4_copy_21 (fun h => ?_)
      refine hv_if_eq X 34 h dX4_copy_22 (by decide) (fun h => ?_) (fun h => ?_)
      · refine hv_bipush X (v := (-11)) dX4_copy_34 (by decide) ?_
        obtain rfl := Option.some.inj h
        exact hv_iret X hr dX4_copy_36 (Nat.zero_le _) (Nat.zero_le _)
      · refine hv_aload_n X dX4_copy_25 0 rfl ?_
        refine hg_M_kept X q1256 dX4_copy_26 ?_
        refine hv_iload_n X dX4_copy_29 3 rfl ?_
        refine hv_iald X h hd_ia45 dX4_copy_30 (fun h => ?_)
        refine hv_if_ne X 37 h dX4_copy_31 (by decide) (fun h => ?_) (fun h => ?_)
        · refine hv_aload_n X dX4_copy_37 0 rfl ?_
          refine hg_M_kept X q1256 dX4_copy_38 ?_
          refine hv_iload_n X dX4_copy_41 1 rfl ?_
          refine hv_iald X h hd_ia45 dX4_copy_42 (fun h => ?_)
          refine hv_iconst X (v := 2) dX4_copy_43 (by decide) ?_
          refine hv_icmp_ne X 72 h dX4_copy_44 (by decide) (fun h => ?_) (fun h => ?_)
          · refine hv_bipush X (v := (-12)) dX4_copy_72 (by decide) ?_
            obtain rfl := Option.some.inj h
            exact hv_iret X hr dX4_copy_74 (Nat.zero_le _) (Nat.zero_le _)
          · refine hv_aload_n X dX4_copy_47 0 rfl ?_
            refine hg_M_kept X q1256 dX4_copy_48 ?_
            refine hv_iload_n X dX4_copy_51 3 rfl ?_
            refine hv_iald X h hd_ia45 dX4_copy_52 (fun h => ?_)
            refine hv_iconst X (v := 2) dX4_copy_53 (by decide) ?_
            refine hv_icmp_ne X 72 h dX4_copy_54 (by decide) (fun h => ?_) (fun h => ?_)
            · refine hv_bipush X (v := (-12)) dX4_copy_72 (by decide) ?_
              obtain rfl := Option.some.inj h
              exact hv_iret X hr dX4_copy_74 (Nat.zero_le _) (Nat.zero_le _)
            · refine hv_aload_n X dX4_copy_57 0 rfl ?_
              refine hg_M_sort X q1259 dX4_copy_58 ?_
              refine hv_iload_n X dX4_copy_61 1 rfl ?_
              refine hv_iald X h hd_ia48 dX4_copy_62 (fun h => ?_)
              refine hv_aload_n X dX4_copy_63 0 rfl ?_
              refine hg_M_sort X q1259 dX4_copy_64 ?_
              refine hv_iload_n X dX4_copy_67 3 rfl ?_
              refine hv_iald X h hd_ia48 dX4_copy_68 (fun h => ?_)
              refine hv_icmp_eq X 75 h dX4_copy_69 (by decide) (fun h => ?_) (fun h => ?_)
              · refine hv_iload X dX4_copy_75 5 rfl ?_
                refine hv_if_lt X 116 h dX4_copy_77 (by decide) (fun h => ?_) (fun h => ?_)
                · refine hv_bipush X (v := (-13)) dX4_copy_116 (by decide) ?_
                  obtain rfl := Option.some.inj h
                  exact hv_iret X hr dX4_copy_118 (Nat.zero_le _) (Nat.zero_le _)
                · refine hv_iload_n X dX4_copy_80 2 rfl ?_
                  refine hv_if_lt X 116 h dX4_copy_81 (by decide) (fun h => ?_) (fun h => ?_)
                  · refine hv_bipush X (v := (-13)) dX4_copy_116 (by decide) ?_
                    obtain rfl := Option.some.inj h
                    exact hv_iret X hr dX4_copy_118 (Nat.zero_le _) (Nat.zero_le _)
                  · refine hv_iload X dX4_copy_84 4 rfl ?_
                    refine hv_if_lt X 116 h dX4_copy_86 (by decide) (fun h => ?_) (fun h => ?_)
                    · refine hv_bipush X (v := (-13)) dX4_copy_116 (by decide) ?_
                      obtain rfl := Option.some.inj h
                      exact hv_iret X hr dX4_copy_118 (Nat.zero_le _) (Nat.zero_le _)
                    · refine hv_iload X dX4_copy_89 5 rfl ?_
                      refine hv_aload_n X dX4_copy_91 0 rfl ?_
                      refine hg_M_size X q1260 dX4_copy_92 ?_
                      refine hv_iload_n X dX4_copy_95 1 rfl ?_
                      refine hv_iald X h hd_ia49 dX4_copy_96 (fun h => ?_)
                      refine hv_iload_n X dX4_copy_97 2 rfl ?_
                      refine hv_isub X dX4_copy_98 ?_
                      refine hv_icmp_gt X 116 h dX4_copy_99 (by decide) (fun h => ?_) (fun h => ?_)
                      · refine hv_bipush X (v := (-13)) dX4_copy_116 (by decide) ?_
                        obtain rfl := Option.some.inj h
                        exact hv_iret X hr dX4_copy_118 (Nat.zero_le _) (Nat.zero_le _)
                      · refine hv_iload X dX4_copy_102 5 rfl ?_
                        refine hv_aload_n X dX4_copy_104 0 rfl ?_
                        refine hg_M_size X q1260 dX4_copy_105 ?_
                        refine hv_iload_n X dX4_copy_108 3 rfl ?_
                        refine hv_iald X h hd_ia49 dX4_copy_109 (fun h => ?_)
                        refine hv_iload X dX4_copy_110 4 rfl ?_
                        refine hv_isub X dX4_copy_112 ?_
                        refine hv_icmp_le X 119 h dX4_copy_113 (by decide) (fun h => ?_) (fun h => ?_)
                        · refine hv_iconst X (v := 0) dX4_copy_119 (by decide) ?_
                          refine hv_istore X [(6, .int 0), (0, .ref (hd_ad E 38)), (1, .int a1), (2, .int a2), (3, .int a3), (4, .int a4), (5, .int a5)] dX4_copy_120 (by decide) rfl ?_
                          refine hv_sub [(0, .ref (hd_ad E 38)), (1, .int a1), (2, .int a2), (3, .int a3), (4, .int a4), (5, .int a5), (6, .int 0)] [1, 2, 3, 4, 5, 6, 0] rfl ?_
                          exact hw_M_copy_122 X hr hd_fuel a1 a2 a3 a4 a5 0 S h
                        · refine hv_bipush X (v := (-13)) dX4_copy_116 (by decide) ?_
                          obtain rfl := Option.some.inj h
                          exact hv_iret X hr dX4_copy_118 (Nat.zero_le _) (Nat.zero_le _)
              · refine hv_bipush X (v := (-12)) dX4_copy_72 (by decide) ?_
                obtain rfl := Option.some.inj h
                exact hv_iret X hr dX4_copy_74 (Nat.zero_le _) (Nat.zero_le _)
        · refine hv_bipush X (v := (-11)) dX4_copy_34 (by decide) ?_
          obtain rfl := Option.some.inj h
          exact hv_iret X hr dX4_copy_36 (Nat.zero_le _) (Nat.zero_le _)
    · refine hv_iconst X (v := (-1)) dX4_copy_14 (by decide) ?_
      obtain rfl := Option.some.inj h
      exact hv_iret X hr dX4_copy_15 (Nat.zero_le _) (Nat.zero_le _)
theorem pk_M_copy : hd_PkV RX4 yX4_copy cX4_copy 8 (some .int) 5 := ⟨q1703, q1704, q73, q1705, rfl, by decide +kernel, by decide +kernel, by decide +kernel⟩
-- cost
def hf_M_cost (a1 : Int32) (S : hd_St) : (Option Int32) :=
  (hf_M_wrongKept a1 S).bind fun r1 =>
    if r1 = 0 then
    (if hd_ck a1 8 = true then
    if hd_ck a1 8 = true then
    some (hf_M_costBy (hd_I S 46 a1.toNatClampNeg) (hd_I S 47 a1.toNatClampNeg))
    else none
    else none)
    else
    (some r1)
theorem hw_M_cost (l : Launch) (E : hd_EV) (a1 : Int32) (S : hd_St) (y : Int32) (h : hf_M_cost a1 S = some y) : hd_Mt l E yX4_cost cX4_cost 3 (some .int) (hd_Rm 4 0 0) [.ref (hd_ad E 38), .int a1] S (some (.int y)) S := by
  refine hd_Mt.start [(0, .ref (hd_ad E 38)), (1, .int a1)] hd_pnX4 rfl (Nat.le_of_ble_eq_true rfl) (fun κ X hl hr hn => ?_)
  have X : hd_Cx κ E cX4_cost RX4 3 (hd_Rm 4 0 0) := X
  unfold hf_M_cost at h
  refine hv_aload_n X dX4_cost_0 0 rfl ?_
  refine hv_iload_n X dX4_cost_1 1 rfl ?_
  obtain ⟨r1, e2, h⟩ := hd_bind h
  refine hv_cV X pk_M_wrongKept hd_rcM (hw_M_wrongKept _ E a1 S r1 e2) q1421 dX4_cost_2 (by decide) (by decide) (Nat.zero_le _) (Nat.zero_le _) rfl rfl (Nat.le_of_ble_eq_true rfl) rfl ?_
  refine hv_istore_n X [(2, .int r1), (0, .ref (hd_ad E 38)), (1, .int a1)] dX4_cost_5 (by decide) rfl ?_
  refine hv_iload_n X dX4_cost_6 0 rfl ?_
  refine hv_if_eq X 14 h dX4_cost_7 (by decide) (fun h => ?_) (fun h => ?_)
  · refine hv_aload_n X dX4_cost_14 1 rfl ?_
    refine hg_M_keptKind X q1257 dX4_cost_15 ?_
    refine hv_iload_n X dX4_cost_18 2 rfl ?_
    refine hv_iald X h hd_ia46 dX4_cost_19 (fun h => ?_)
    refine hv_aload_n X dX4_cost_20 1 rfl ?_
    refine hg_M_keptFigure X q1258 dX4_cost_21 ?_
    refine hv_iload_n X dX4_cost_24 2 rfl ?_
    refine hv_iald X h hd_ia47 dX4_cost_25 (fun h => ?_)
    refine hv_cS X pk_M_costBy (hw_M_costBy _ E (hd_I S 46 a1.toNatClampNeg) (hd_I S 47 a1.toNatClampNeg) S) q1710 dX4_cost_26 (by decide) (by decide) (Nat.zero_le _) (Nat.zero_le _) rfl rfl (Nat.le_of_ble_eq_true rfl) rfl ?_
    obtain rfl := Option.some.inj h
    exact hv_iret X hr dX4_cost_29 (Nat.zero_le _) (Nat.zero_le _)
  · refine hv_iload_n X dX4_cost_10 0 rfl ?_
    refine hv_goto X 29 dX4_cost_11 (by decide) ?_
    obtain rfl := Option.some.inj h
    exact hv_iret X hr dX4_cost_29 (Nat.zero_le _) (Nat.zero_le _)
theorem pk_M_cost : hd_PkV RX4 yX4_cost cX4_cost 3 (some .int) 1 := ⟨q1707, q1708, q73, q1709, rfl, by decide +kernel, by decide +kernel, by decide +kernel⟩
-- toss
def hf_M_toss (a1 : Int32) (S : hd_St) : (Option Int32) :=
  (hf_M_wrongKept a1 S).bind fun r1 =>
    if r1 = 0 then
    (if hd_ck a1 8 = true then
    hd_nm (hd_I S 46 a1.toNatClampNeg) fun v3 =>
    if hd_ck a1 8 = true then
    hd_nm (hd_I S 47 a1.toNatClampNeg) fun v4 =>
    if v3 = (1 : Int32) then
    (some (-15))
    else
    (if v3 = (7 : Int32) then
    (some (-15))
    else
    (if v4 = 0 then
    (some (-15))
    else
    (if v3 = (3 : Int32) then
    (some ((200 : Int32) + (hf_M_costBy v3 v4)))
    else
    (if (hf_M_isSounding v3) = true then
    (some ((100 : Int32) + v4))
    else
    (some v4)))))
    else none
    else none)
    else
    (some r1)
theorem hw_M_toss (l : Launch) (E : hd_EV) (a1 : Int32) (S : hd_St) (y : Int32) (h : hf_M_toss a1 S = some y) : hd_Mt l E yX4_toss cX4_toss 5 (some .int) (hd_Rm 4 0 0) [.ref (hd_ad E 38), .int a1] S (some (.int y)) S := by
  refine hd_Mt.start [(0, .ref (hd_ad E 38)), (1, .int a1)] hd_pnX4 rfl (Nat.le_of_ble_eq_true rfl) (fun κ X hl hr hn => ?_)
  have X : hd_Cx κ E cX4_toss RX4 5 (hd_Rm 4 0 0) := X
  unfold hf_M_toss at h
  refine hv_aload_n X dX4_toss_0 0 rfl ?_
  refine hv_iload_n X dX4_toss_1 1 rfl ?_
  obtain ⟨r1, e2, h⟩ := hd_bind h
  refine hv_cV X pk_M_wrongKept hd_rcM (hw_M_wrongKept _ E a1 S r1 e2) q1421 dX4_toss_2 (by decide) (by decide) (Nat.zero_le _) (Nat.zero_le _) rfl rfl (Nat.le_of_ble_eq_true rfl) rfl ?_
  refine hv_istore_n X [(2, .int r1), (0, .ref (hd_ad E 38)), (1, .int a1)] dX4_toss_5 (by decide) rfl ?_
  refine hv_iload_n X dX4_toss_6 0 rfl ?_
  refine hv_if_eq X 12 h dX4_toss_7 (by decide) (fun h => ?_) (fun h => ?_)
  · refine hv_aload_n X dX4_toss_12 1 rfl ?_
    refine hg_M_keptKind X q1257 dX4_toss_13 ?_
    refine hv_iload_n X dX4_toss_16 2 rfl ?_
    refine hv_iald X h hd_ia46 dX4_toss_17 (fun h => ?_)
    refine hv_nmI h (fun v3 h => ?_)
    refine hv_istore_n X [(3, .int v3), (2, .int r1), (0, .ref (hd_ad E 38)), (1, .int a1)] dX4_toss_18 (by decide) rfl ?_
    refine hv_aload_n X dX4_toss_19 2 rfl ?_
    refine hg_M_keptFigure X q1258 dX4_toss_20 ?_
    refine hv_iload_n X dX4_toss_23 3 rfl ?_
    refine hv_iald X h hd_ia47 dX4_toss_24 (fun h => ?_)
    refine hv_nmI h (fun v4 h => ?_)
    refine hv_istore X [(4, .int v4), (3, .int v3), (2, .int r1), (0, .ref (hd_ad E 38)), (1, .int a1)] dX4_toss_25 (by decide) rfl ?_
    refine hv_iload_n X dX4_toss_27 1 rfl ?_
    refine hv_iconst X (v := 1) dX4_toss_28 (by decide) ?_
    refine hv_icmp_eq X 43 h dX4_toss_29 (by decide) (fun h => ?_) (fun h => ?_)
    · refine hv_bipush X (v := (-15)) dX4_toss_43 (by decide) ?_
      obtain rfl := Option.some.inj h
      exact hv_iret X hr dX4_toss_45 (Nat.zero_le _) (Nat.zero_le _)
    · refine hv_iload_n X dX4_toss_32 1 rfl ?_
      refine hv_bipush X (v := 7) dX4_toss_33 (by decide) ?_
      refine hv_icmp_eq X 43 h dX4_toss_35 (by decide) (fun h => ?_) (fun h => ?_)
      · refine hv_bipush X (v := (-15)) dX4_toss_43 (by decide) ?_
        obtain rfl := Option.some.inj h
        exact hv_iret X hr dX4_toss_45 (Nat.zero_le _) (Nat.zero_le _)
      · refine hv_iload X dX4_toss_38 0 rfl ?_
        refine hv_if_ne X 46 h dX4_toss_40 (by decide) (fun h => ?_) (fun h => ?_)
        · refine hv_iload_n X dX4_toss_46 1 rfl ?_
          refine hv_iconst X (v := 3) dX4_toss_47 (by decide) ?_
          refine hv_icmp_ne X 64 h dX4_toss_48 (by decide) (fun h => ?_) (fun h => ?_)
          · refine hv_iload_n X dX4_toss_64 1 rfl ?_
            refine hv_cS X pk_M_isSounding (hw_M_isSounding _ E v3 S) q1452 dX4_toss_65 (by decide) (by decide) (Nat.zero_le _) (Nat.zero_le _) rfl rfl (Nat.le_of_ble_eq_true rfl) rfl ?_
            refine hv_ifb_eq X 79 h dX4_toss_68 (by decide) (fun h => ?_) (fun h => ?_)
            · refine hv_iload X dX4_toss_79 0 rfl ?_
              obtain rfl := Option.some.inj h
              exact hv_iret X hr dX4_toss_81 (Nat.zero_le _) (Nat.zero_le _)
            · refine hv_bipush X (v := 100) dX4_toss_71 (by decide) ?_
              refine hv_iload X dX4_toss_73 0 rfl ?_
              refine hv_iadd X dX4_toss_75 ?_
              refine hv_goto X 81 dX4_toss_76 (by decide) ?_
              obtain rfl := Option.some.inj h
              exact hv_iret X hr dX4_toss_81 (Nat.zero_le _) (Nat.zero_le _)
          · refine hv_sipush X (v := 200) dX4_toss_51 (by decide) ?_
            refine hv_iload_n X dX4_toss_54 1 rfl ?_
            refine hv_iload X dX4_toss_55 0 rfl ?_
            refine hv_cS X pk_M_costBy (hw_M_costBy _ E v3 v4 S) q1710 dX4_toss_57 (by decide) (by decide) (Nat.zero_le _) (Nat.zero_le _) rfl rfl (Nat.le_of_ble_eq_true rfl) rfl ?_
            refine hv_iadd X dX4_toss_60 ?_
            refine hv_goto X 81 dX4_toss_61 (by decide) ?_
            obtain rfl := Option.some.inj h
            exact hv_iret X hr dX4_toss_81 (Nat.zero_le _) (Nat.zero_le _)
        · refine hv_bipush X (v := (-15)) dX4_toss_43 (by decide) ?_
          obtain rfl := Option.some.inj h
          exact hv_iret X hr dX4_toss_45 (Nat.zero_le _) (Nat.zero_le _)
  · refine hv_iload_n X dX4_toss_10 0 rfl ?_
    obtain rfl := Option.some.inj h
    exact hv_iret X hr dX4_toss_11 (Nat.zero_le _) (Nat.zero_le _)
theorem pk_M_toss : hd_PkV RX4 yX4_toss cX4_toss 5 (some .int) 1 := ⟨q1714, q1715, q73, q1716, rfl, by decide +kernel, by decide +kernel, by decide +kernel⟩
-- wrongRow
def hf_M_wrongRow (a1 : Int32) (a2 : Int32) (S : hd_St) : (Option Int32) :=
  if (hf_M_isShelf a1) = true then
    (if hd_ck a1 8 = true then
    if (hd_I S 45 a1.toNatClampNeg) = 0 then
    (some (-11))
    else
    (if hd_ck a1 8 = true then
    if (hd_I S 45 a1.toNatClampNeg) = (2 : Int32) then
    (if a2 < 0 then
    (some 0)
    else
    (if hd_ck a1 8 = true then
    if (hd_I S 48 a1.toNatClampNeg) = a2 then
    (some 0)
    else
    (some (-12))
    else none))
    else
    (some (-12))
    else none)
    else none)
    else
    (some (-1))
theorem hw_M_wrongRow (l : Launch) (E : hd_EV) (a1 : Int32) (a2 : Int32) (S : hd_St) (y : Int32) (h : hf_M_wrongRow a1 a2 S = some y) : hd_Mt l E yX4_wrongRow cX4_wrongRow 3 (some .int) (hd_Rm 3 0 0) [.ref (hd_ad E 38), .int a1, .int a2] S (some (.int y)) S := by
  refine hd_Mt.start [(0, .ref (hd_ad E 38)), (1, .int a1), (2, .int a2)] hd_pnX4 rfl (Nat.le_of_ble_eq_true rfl) (fun κ X hl hr hn => ?_)
  have X : hd_Cx κ E cX4_wrongRow RX4 3 (hd_Rm 3 0 0) := X
  unfold hf_M_wrongRow at h
  refine hv_iload_n X dX4_wrongRow_0 1 rfl ?_
  refine hv_cS X pk_M_isShelf (hw_M_isShelf _ E a1 S) q1316 dX4_wrongRow_1 (by decide) (by decide) (Nat.zero_le _) (Nat.zero_le _) rfl rfl (Nat.le_of_ble_eq_true rfl) rfl ?_
  refine hv_ifb_ne X 11 h dX4_wrongRow_4 (by decide) (fun h => ?_) (fun h => ?_)
  · refine hv_aload_n X dX4_wrongRow_11 0 rfl ?_
    refine hg_M_kept X q1256 dX4_wrongRow_12 ?_
    refine hv_iload_n X dX4_wrongRow_15 1 rfl ?_
    refine hv_iald X h hd_ia45 dX4_wrongRow_16 (fun h => ?_)
    refine hv_if_ne X 25 h dX4_wrongRow_17 (by decide) (fun h => ?_) (fun h => ?_)
    · refine hv_aload_n X dX4_wrongRow_25 0 rfl ?_
      refine hg_M_kept X q1256 dX4_wrongRow_26 ?_
      refine hv_iload_n X dX4_wrongRow_29 1 rfl ?_
      refine hv_iald X h hd_ia45 dX4_wrongRow_30 (fun h => ?_)
      refine hv_iconst X (v := 2) dX4_wrongRow_31 (by decide) ?_
      refine hv_icmp_ne X 49 h dX4_wrongRow_32 (by decide) (fun h => ?_) (fun h => ?_)
      · refine hv_bipush X (v := (-12)) dX4_wrongRow_49 (by decide) ?_
        refine hv_goto X 55 dX4_wrongRow_51 (by decide) ?_
        obtain rfl := Option.some.inj h
        exact hv_iret X hr dX4_wrongRow_55 (Nat.zero_le _) (Nat.zero_le _)
      · refine hv_iload_n X dX4_wrongRow_35 2 rfl ?_
        refine hv_if_lt X 54 h dX4_wrongRow_36 (by decide) (fun h => ?_) (fun h => ?_)
        · refine hv_iconst X (v := 0) dX4_wrongRow_54 (by decide) ?_
          obtain rfl := Option.some.inj h
          exact hv_iret X hr dX4_wrongRow_55 (Nat.zero_le _) (Nat.zero_le _)
        · refine hv_aload_n X dX4_wrongRow_39 0 rfl ?_
          refine hg_M_sort X q1259 dX4_wrongRow_40 ?_
          refine hv_iload_n X dX4_wrongRow_43 1 rfl ?_
          refine hv_iald X h hd_ia48 dX4_wrongRow_44 (fun h => ?_)
          refine hv_iload_n X dX4_wrongRow_45 2 rfl ?_
          refine hv_icmp_eq X 54 h dX4_wrongRow_46 (by decide) (fun h => ?_) (fun h => ?_)
          · refine hv_iconst X (v := 0) dX4_wrongRow_54 (by decide) ?_
            obtain rfl := Option.some.inj h
            exact hv_iret X hr dX4_wrongRow_55 (Nat.zero_le _) (Nat.zero_le _)
          · refine hv_bipush X (v := (-12)) dX4_wrongRow_49 (by decide) ?_
            refine hv_goto X 55 dX4_wrongRow_51 (by decide) ?_
            obtain rfl := Option.some.inj h
            exact hv_iret X hr dX4_wrongRow_55 (Nat.zero_le _) (Nat.zero_le _)
    · refine hv_bipush X (v := (-11)) dX4_wrongRow_20 (by decide) ?_
      refine hv_goto X 55 dX4_wrongRow_22 (by decide) ?_
      obtain rfl := Option.some.inj h
      exact hv_iret X hr dX4_wrongRow_55 (Nat.zero_le _) (Nat.zero_le _)
  · refine hv_iconst X (v := (-1)) dX4_wrongRow_7 (by decide) ?_
    refine hv_goto X 55 dX4_wrongRow_8 (by decide) ?_
    obtain rfl := Option.some.inj h
    exact hv_iret X hr dX4_wrongRow_55 (Nat.zero_le _) (Nat.zero_le _)
theorem pk_M_wrongRow : hd_PkV RX4 yX4_wrongRow cX4_wrongRow 3 (some .int) 2 := ⟨q1314, qs28, q73, q1315, rfl, by decide +kernel, by decide +kernel, by decide +kernel⟩
-- isDone
def hf_M_isDone (a1 : Int32) (S : hd_St) : (Option (Bool × hd_St)) :=
  if hd_ck 0 5 = true then
    hd_nm (hd_I S 42 (0 : Int32).toNatClampNeg) fun v1 =>
    if hd_ck 1 5 = true then
    hd_nm (hd_I S 42 (1 : Int32).toNatClampNeg) fun v2 =>
    if a1 = 98 then
    (if hd_ck 2 5 = true then
    if (hf_M_isBladeLike v1 v2 (hd_I S 42 (2 : Int32).toNatClampNeg)) = true then
    (if hd_ck 0 47 = true then
    if (hd_I S 39 (0 : Int32).toNatClampNeg) = (6 : Int32) then
    (some (false, S))
    else
    (if hd_ck 2 5 = true then
    (hf_M_addsBlade v1 v2 (hd_I S 42 (2 : Int32).toNatClampNeg) S).bind fun S3 =>
    some (true, S3)
    else none)
    else none)
    else
    (some (false, S))
    else none)
    else
    (if a1 = 107 then
    (if (8 : Int32) ≤ v1 then
    (some (false, S))
    else
    (if hd_ck 2 47 = true then
    if (hd_I S 39 (2 : Int32).toNatClampNeg) = (6 : Int32) then
    (some (false, S))
    else
    ((hf_M_addsBlow v1 v2 S).bind fun S5 =>
    some (true, S5))
    else none))
    else
    (if a1 = 116 then
    (if (60 : Int32) < v2 then
    (some (false, S))
    else
    (if hd_ck 1 47 = true then
    if (hd_I S 39 (1 : Int32).toNatClampNeg) = (4 : Int32) then
    (some (false, S))
    else
    ((hf_M_addsThumbs v1 v2 S).bind fun S7 =>
    some (true, S7))
    else none))
    else
    (if hd_ck 2 5 = true then
    (hf_M_areAll v1 v2 (hd_I S 42 (2 : Int32).toNatClampNeg) S).bind fun r9 =>
    if r9 = true then
    (if hd_ck 3 5 = true then
    if (60 : Int32) < (hd_I S 42 (3 : Int32).toNatClampNeg) then
    (some (false, S))
    else
    (if hd_ck 4 5 = true then
    if (60 : Int32) < (hd_I S 42 (4 : Int32).toNatClampNeg) then
    (some (false, S))
    else
    ((hf_M_isSplit v1 S).bind fun r11 =>
    if r11 = true then
    (some (false, S))
    else
    (hd_nm (hf_M_atBlade v1 3) fun v13 =>
    if hd_ck v13 47 = true then
    if hd_ck 2 5 = true then
    if hd_ck 4 5 = true then
    (hf_M_wears (hd_I S 42 (2 : Int32).toNatClampNeg) (hd_I S 42 (4 : Int32).toNatClampNeg) S).bind fun r14 =>
    if hd_ck v13 47 = true then
    hd_nm (hd_sI S 39 v13.toNatClampNeg ((hd_I S 39 v13.toNatClampNeg) + r14)) fun S16 =>
    some (true, S16)
    else none
    else none
    else none
    else none))
    else none)
    else none)
    else
    (some (false, S))
    else none)))
    else none
    else none
theorem hw_M_isDone (l : Launch) (E : hd_EV) (a1 : Int32) (S : hd_St) (y : (Bool × hd_St)) (h : hf_M_isDone a1 S = some y) : hd_Mt l E yX4_isDone cX4_isDone 4 (some .boolean) (hd_Rm 4 0 0) [.ref (hd_ad E 38), .int a1] S (some (.int (hd_bI y.1))) y.2 := by
  refine hd_Mt.start [(0, .ref (hd_ad E 38)), (1, .int a1)] hd_pnX4 rfl (Nat.le_of_ble_eq_true rfl) (fun κ X hl hr hn => ?_)
  have X : hd_Cx κ E cX4_isDone RX4 4 (hd_Rm 4 0 0) := X
  unfold hf_M_isDone at h
  refine hv_aload_n X dX4_isDone_0 0 rfl ?_
  refine hg_M_numbers X q1249 dX4_isDone_1 ?_
  refine hv_iconst X (v := 0) dX4_isDone_4 (by decide) ?_
  refine hv_iald X h hd_ia42 dX4_isDone_5 (fun h => ?_)
  refine hv_nmI h (fun v1 h => ?_)
  refine hv_istore_n X [(2, .int v1), (0, .ref (hd_ad E 38)), (1, .int a1)] dX4_isDone_6 (by decide) rfl ?_
  refine hv_aload_n X dX4_isDone_7 1 rfl ?_
  refine hg_M_numbers X q1249 dX4_isDone_8 ?_
  refine hv_iconst X (v := 1) dX4_isDone_11 (by decide) ?_
  refine hv_iald X h hd_ia42 dX4_isDone_12 (fun h => ?_)
  refine hv_nmI h (fun v2 h => ?_)
  refine hv_istore_n X [(3, .int v2), (2, .int v1), (0, .ref (hd_ad E 38)), (1, .int a1)] dX4_isDone_13 (by decide) rfl ?_
  refine hv_iload_n X dX4_isDone_14 3 rfl ?_
  refine hv_case h (fun c0 h => ?_) (fun c0 h => ?_)
  · refine hv_lsw X 48 dX4_isDone_15 (by decide) (off := 33) (by rw [c0]; decide) (by decide) ?_
    refine hv_iload_n X dX4_isDone_48 1 rfl ?_
    refine hv_iload_n X dX4_isDone_49 0 rfl ?_
    refine hv_aload_n X dX4_isDone_50 2 rfl ?_
    refine hg_M_numbers X q1249 dX4_isDone_51 ?_
    refine hv_iconst X (v := 2) dX4_isDone_54 (by decide) ?_
    refine hv_iald X h hd_ia42 dX4_isDone_55 (fun h => ?_)
    refine hv_cS X pk_M_isBladeLike (hw_M_isBladeLike _ E v1 v2 (hd_I S 42 (2 : Int32).toNatClampNeg) S) q1341 dX4_isDone_56 (by decide) (by decide) (Nat.zero_le _) (Nat.zero_le _) rfl rfl (Nat.le_of_ble_eq_true rfl) rfl ?_
    refine hv_ifb_eq X 73 h dX4_isDone_59 (by decide) (fun h => ?_) (fun h => ?_)
    · refine hv_iconst X (v := 0) dX4_isDone_73 (by decide) ?_
      obtain rfl := Option.some.inj h
      exact hv_zret X hr rfl dX4_isDone_74 (Nat.zero_le _) (Nat.zero_le _)
    · refine hv_aload_n X dX4_isDone_62 2 rfl ?_
      refine hg_M_s X q1241 dX4_isDone_63 ?_
      refine hv_iconst X (v := 0) dX4_isDone_66 (by decide) ?_
      refine hv_iald X h hd_ia39 dX4_isDone_67 (fun h => ?_)
      refine hv_bipush X (v := 6) dX4_isDone_68 (by decide) ?_
      refine hv_icmp_ne X 75 h dX4_isDone_70 (by decide) (fun h => ?_) (fun h => ?_)
      · refine hv_aload_n X dX4_isDone_75 2 rfl ?_
        refine hv_iload_n X dX4_isDone_76 1 rfl ?_
        refine hv_iload_n X dX4_isDone_77 0 rfl ?_
        refine hv_aload_n X dX4_isDone_78 2 rfl ?_
        refine hg_M_numbers X q1249 dX4_isDone_79 ?_
        refine hv_iconst X (v := 2) dX4_isDone_82 (by decide) ?_
        refine hv_iald X h hd_ia42 dX4_isDone_83 (fun h => ?_)
        obtain ⟨S3, e4, h⟩ := hd_bind h
        refine hv_cV X pk_M_addsBlade hd_rcM (hw_M_addsBlade _ E v1 v2 (hd_I S 42 (2 : Int32).toNatClampNeg) S S3 e4) q1344 dX4_isDone_84 (by decide) (by decide) (Nat.zero_le _) (Nat.zero_le _) rfl rfl (Nat.le_of_ble_eq_true rfl) rfl ?_
        refine hv_iconst X (v := 1) dX4_isDone_87 (by decide) ?_
        obtain rfl := Option.some.inj h
        exact hv_zret X hr rfl dX4_isDone_88 (Nat.zero_le _) (Nat.zero_le _)
      · refine hv_iconst X (v := 0) dX4_isDone_73 (by decide) ?_
        obtain rfl := Option.some.inj h
        exact hv_zret X hr rfl dX4_isDone_74 (Nat.zero_le _) (Nat.zero_le _)
  · refine hv_case h (fun c1 h => ?_) (fun c1 h => ?_)
    · refine hv_lsw X 115 dX4_isDone_15 (by decide) (off := 100) (by rw [c1]; decide) (by decide) ?_
      refine hv_iload_n X dX4_isDone_115 1 rfl ?_
      refine hv_bipush X (v := 8) dX4_isDone_116 (by decide) ?_
      refine hv_icmp_ge X 132 h dX4_isDone_118 (by decide) (fun h => ?_) (fun h => ?_)
      · refine hv_iconst X (v := 0) dX4_isDone_132 (by decide) ?_
        obtain rfl := Option.some.inj h
        exact hv_zret X hr rfl dX4_isDone_133 (Nat.zero_le _) (Nat.zero_le _)
      · refine hv_aload_n X dX4_isDone_121 2 rfl ?_
        refine hg_M_s X q1241 dX4_isDone_122 ?_
        refine hv_iconst X (v := 2) dX4_isDone_125 (by decide) ?_
        refine hv_iald X h hd_ia39 dX4_isDone_126 (fun h => ?_)
        refine hv_bipush X (v := 6) dX4_isDone_127 (by decide) ?_
        refine hv_icmp_ne X 134 h dX4_isDone_129 (by decide) (fun h => ?_) (fun h => ?_)
        · refine hv_aload_n X dX4_isDone_134 2 rfl ?_
          refine hv_iload_n X dX4_isDone_135 1 rfl ?_
          refine hv_iload_n X dX4_isDone_136 0 rfl ?_
          obtain ⟨S5, e6, h⟩ := hd_bind h
          refine hv_cV X pk_M_addsBlow hd_rcM (hw_M_addsBlow _ E v1 v2 S S5 e6) q1358 dX4_isDone_137 (by decide) (by decide) (Nat.zero_le _) (Nat.zero_le _) rfl rfl (Nat.le_of_ble_eq_true rfl) rfl ?_
          refine hv_iconst X (v := 1) dX4_isDone_140 (by decide) ?_
          obtain rfl := Option.some.inj h
          exact hv_zret X hr rfl dX4_isDone_141 (Nat.zero_le _) (Nat.zero_le _)
        · refine hv_iconst X (v := 0) dX4_isDone_132 (by decide) ?_
          obtain rfl := Option.some.inj h
          exact hv_zret X hr rfl dX4_isDone_133 (Nat.zero_le _) (Nat.zero_le _)
    · refine hv_case h (fun c2 h => ?_) (fun c2 h => ?_)
      · refine hv_lsw X 89 dX4_isDone_15 (by decide) (off := 74) (by rw [c2]; decide) (by decide) ?_
        refine hv_iload_n X dX4_isDone_89 0 rfl ?_
        refine hv_bipush X (v := 60) dX4_isDone_90 (by decide) ?_
        refine hv_icmp_gt X 105 h dX4_isDone_92 (by decide) (fun h => ?_) (fun h => ?_)
        · refine hv_iconst X (v := 0) dX4_isDone_105 (by decide) ?_
          obtain rfl := Option.some.inj h
          exact hv_zret X hr rfl dX4_isDone_106 (Nat.zero_le _) (Nat.zero_le _)
        · refine hv_aload_n X dX4_isDone_95 2 rfl ?_
          refine hg_M_s X q1241 dX4_isDone_96 ?_
          refine hv_iconst X (v := 1) dX4_isDone_99 (by decide) ?_
          refine hv_iald X h hd_ia39 dX4_isDone_100 (fun h => ?_)
          refine hv_iconst X (v := 4) dX4_isDone_101 (by decide) ?_
          refine hv_icmp_ne X 107 h dX4_isDone_102 (by decide) (fun h => ?_) (fun h => ?_)
          · refine hv_aload_n X dX4_isDone_107 2 rfl ?_
            refine hv_iload_n X dX4_isDone_108 1 rfl ?_
            refine hv_iload_n X dX4_isDone_109 0 rfl ?_
            obtain ⟨S7, e8, h⟩ := hd_bind h
            refine hv_cV X pk_M_addsThumbs hd_rcM (hw_M_addsThumbs _ E v1 v2 S S7 e8) q1351 dX4_isDone_110 (by decide) (by decide) (Nat.zero_le _) (Nat.zero_le _) rfl rfl (Nat.le_of_ble_eq_true rfl) rfl ?_
            refine hv_iconst X (v := 1) dX4_isDone_113 (by decide) ?_
            obtain rfl := Option.some.inj h
            exact hv_zret X hr rfl dX4_isDone_114 (Nat.zero_le _) (Nat.zero_le _)
          · refine hv_iconst X (v := 0) dX4_isDone_105 (by decide) ?_
            obtain rfl := Option.some.inj h
            exact hv_zret X hr rfl dX4_isDone_106 (Nat.zero_le _) (Nat.zero_le _)
      · refine hv_lsw X 142 dX4_isDone_15 (by decide) (off := 127) ((lv_osw c0 (by decide)).trans ((lv_osw c1 (by decide)).trans ((lv_osw c2 (by decide)).trans rfl))) (by decide) ?_
        refine hv_aload_n X dX4_isDone_142 2 rfl ?_
        refine hv_iload_n X dX4_isDone_143 1 rfl ?_
        refine hv_iload_n X dX4_isDone_144 0 rfl ?_
        refine hv_aload_n X dX4_isDone_145 2 rfl ?_
        refine hg_M_numbers X q1249 dX4_isDone_146 ?_
        refine hv_iconst X (v := 2) dX4_isDone_149 (by decide) ?_
        refine hv_iald X h hd_ia42 dX4_isDone_150 (fun h => ?_)
        obtain ⟨r9, e10, h⟩ := hd_bind h
        refine hv_cV X pk_M_areAll hd_rcM (hw_M_areAll _ E v1 v2 (hd_I S 42 (2 : Int32).toNatClampNeg) S r9 e10) q1365 dX4_isDone_151 (by decide) (by decide) (Nat.zero_le _) (Nat.zero_le _) rfl rfl (Nat.le_of_ble_eq_true rfl) rfl ?_
        refine hv_ifb_eq X 187 h dX4_isDone_154 (by decide) (fun h => ?_) (fun h => ?_)
        · refine hv_iconst X (v := 0) dX4_isDone_187 (by decide) ?_
          obtain rfl := Option.some.inj h
          exact hv_zret X hr rfl dX4_isDone_188 (Nat.zero_le _) (Nat.zero_le _)
        · refine hv_aload_n X dX4_isDone_157 2 rfl ?_
          refine hg_M_numbers X q1249 dX4_isDone_158 ?_
          refine hv_iconst X (v := 3) dX4_isDone_161 (by decide) ?_
          refine hv_iald X h hd_ia42 dX4_isDone_162 (fun h => ?_)
          refine hv_bipush X (v := 60) dX4_isDone_163 (by decide) ?_
          refine hv_icmp_gt X 187 h dX4_isDone_165 (by decide) (fun h => ?_) (fun h => ?_)
          · refine hv_iconst X (v := 0) dX4_isDone_187 (by decide) ?_
            obtain rfl := Option.some.inj h
            exact hv_zret X hr rfl dX4_isDone_188 (Nat.zero_le _) (Nat.zero_le _)
          · refine hv_aload_n X dX4_isDone_168 2 rfl ?_
            refine hg_M_numbers X q1249 dX4_isDone_169 ?_
            refine hv_iconst X (v := 4) dX4_isDone_172 (by decide) ?_
            refine hv_iald X h hd_ia42 dX4_isDone_173 (fun h => ?_)
            refine hv_bipush X (v := 60) dX4_isDone_174 (by decide) ?_
            refine hv_icmp_gt X 187 h dX4_isDone_176 (by decide) (fun h => ?_) (fun h => ?_)
            · refine hv_iconst X (v := 0) dX4_isDone_187 (by decide) ?_
              obtain rfl := Option.some.inj h
              exact hv_zret X hr rfl dX4_isDone_188 (Nat.zero_le _) (Nat.zero_le _)
            · refine hv_aload_n X dX4_isDone_179 2 rfl ?_
              refine hv_iload_n X dX4_isDone_180 1 rfl ?_
              obtain ⟨r11, e12, h⟩ := hd_bind h
              refine hv_cV X pk_M_isSplit hd_rcM (hw_M_isSplit _ E v1 S r11 e12) q1381 dX4_isDone_181 (by decide) (by decide) (Nat.zero_le _) (Nat.zero_le _) rfl rfl (Nat.le_of_ble_eq_true rfl) rfl ?_
              refine hv_ifb_eq X 189 h dX4_isDone_184 (by decide) (fun h => ?_) (fun h => ?_)
              · refine hv_aload_n X dX4_isDone_189 2 rfl ?_
                refine hg_M_s X q1241 dX4_isDone_190 ?_
                refine hv_iload_n X dX4_isDone_193 1 rfl ?_
                refine hv_iconst X (v := 3) dX4_isDone_194 (by decide) ?_
                refine hv_cS X pk_M_atBlade (hw_M_atBlade _ E v1 3 S) q1348 dX4_isDone_195 (by decide) (by decide) (Nat.zero_le _) (Nat.zero_le _) rfl rfl (Nat.le_of_ble_eq_true rfl) rfl ?_
                refine hv_nmI h (fun v13 h => ?_)
                refine hv_dup2 X dX4_isDone_198 rfl rfl ?_
                refine hv_iald X h hd_ia39 dX4_isDone_199 (fun h => ?_)
                refine hv_aload_n X dX4_isDone_200 2 rfl ?_
                refine hv_aload_n X dX4_isDone_201 2 rfl ?_
                refine hg_M_numbers X q1249 dX4_isDone_202 ?_
                refine hv_iconst X (v := 2) dX4_isDone_205 (by decide) ?_
                refine hv_iald X h hd_ia42 dX4_isDone_206 (fun h => ?_)
                refine hv_aload_n X dX4_isDone_207 2 rfl ?_
                refine hg_M_numbers X q1249 dX4_isDone_208 ?_
                refine hv_iconst X (v := 4) dX4_isDone_211 (by decide) ?_
                refine hv_iald X h hd_ia42 dX4_isDone_212 (fun h => ?_)
                obtain ⟨r14, e15, h⟩ := hd_bind h
                refine hv_cV X pk_M_wears hd_rcM (hw_M_wears _ E (hd_I S 42 (2 : Int32).toNatClampNeg) (hd_I S 42 (4 : Int32).toNatClampNeg) S r14 e15) q1389 dX4_isDone_213 (by decide) (by decide) (Nat.zero_le _) (Nat.zero_le _) rfl rfl (Nat.le_of_ble_eq_true rfl) rfl ?_
                refine hv_iadd X dX4_isDone_216 ?_
                refine hv_iast X h hd_ia39 dX4_isDone_217 (fun h => ?_)
                refine hv_nmS h (fun S16 h => ?_)
                refine hv_iconst X (v := 1) dX4_isDone_218 (by decide) ?_
                obtain rfl := Option.some.inj h
                exact hv_zret X hr rfl dX4_isDone_219 (Nat.zero_le _) (Nat.zero_le _)
              · refine hv_iconst X (v := 0) dX4_isDone_187 (by decide) ?_
                obtain rfl := Option.some.inj h
                exact hv_zret X hr rfl dX4_isDone_188 (Nat.zero_le _) (Nat.zero_le _)
theorem pk_M_isDone : hd_PkV RX4 yX4_isDone cX4_isDone 4 (some .boolean) 1 := ⟨q1339, qs32, q73, q1340, rfl, by decide +kernel, by decide +kernel, by decide +kernel⟩
