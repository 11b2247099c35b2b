set_option maxRecDepth 100000
-- tens
def hf_M_tens_4 : Nat → Int32 → Int64 → Int32 → (Option Int64)
  | 0, _, _, _ => none
  | n + 1, x0, x1, x3 =>
    if x0 ≤ x3 then
    (some x1)
    else
    (hd_nm (x1 * (10 : Int64)) fun v1 =>
    hf_M_tens_4 n x0 v1 (x3 + 1))
theorem hw_M_tens_4 {κ : hd_VK} {E : hd_EV} (X : hd_Cx κ E cX4_tens RX4 4 (hd_Rm 1 0 0)) (hr : (hd_kQ κ).sig.returnType = some .long) {S : hd_St} {y : Int64} : ∀ (n : Nat) (x0 : Int32) (x1 : Int64) (x3 : Int32), hf_M_tens_4 n x0 x1 x3 = some y → hd_V κ E 4 0 0 (hd_Qf κ E (some (.long y)) S) S 4 [(0, .int x0), (1, .long x1), (3, .int x3)] [] := by
  intro n
  induction n with
  | zero => intro x0 x1 x3 h; have h : (none : Option Int64) = some y := h; cases h
  | succ n ih =>
    intro x0 x1 x3 h
    rw [hf_M_tens_4] at h
    refine hv_iload_n X dX4_tens_4 2 rfl ?_
    refine hv_iload_n X dX4_tens_5 0 rfl ?_
    refine hv_icmp_ge X 21 h dX4_tens_6 (by decide) (fun h => ?_) (fun h => ?_)
    · refine hv_lload_n X dX4_tens_21 1 rfl ?_
      obtain rfl := Option.some.inj h
      exact hv_lret X hr dX4_tens_22 (Nat.zero_le _) (Nat.zero_le _)
    · refine hv_lload_n X dX4_tens_9 1 rfl ?_
      refine hv_ldc2 X q1593 dX4_tens_10 ?_
      refine hv_lmul X dX4_tens_13 ?_
      refine hv_nmL h (fun v1 h => ?_)
      refine hv_lstore_n X [(1, .long v1), (0, .int x0), (3, .int x3)] dX4_tens_14 (by decide) rfl ?_
      refine hv_iinc X (v := 1) [(3, .int (x3 + 1)), (1, .long v1), (0, .int x0)] dX4_tens_15 2 rfl (by decide) (by decide) rfl ?_
      refine hv_goto X 4 dX4_tens_18 (by decide) ?_
      refine hv_sub [(0, .int x0), (1, .long v1), (3, .int (x3 + 1))] [2, 1, 0] rfl ?_
      exact ih x0 v1 (x3 + 1) h
def hf_M_tens (a0 : Int32) : (Option Int64) :=
  hf_M_tens_4 hd_fuel a0 (1 : Int64) 0
theorem hw_M_tens (l : Launch) (E : hd_EV) (a0 : Int32) (S : hd_St) (y : Int64) (h : hf_M_tens a0 = some y) : hd_Mt l E yX4_tens cX4_tens 4 (some .long) (hd_Rm 1 0 0) [.int a0] S (some (.long y)) S := by
  refine hd_Mt.start [(0, .int a0)] hd_pnX4 rfl (Nat.le_of_ble_eq_true rfl) (fun κ X hl hr hn => ?_)
  have X : hd_Cx κ E cX4_tens RX4 4 (hd_Rm 1 0 0) := X
  unfold hf_M_tens at h
  refine hv_lconst X (v := 1) dX4_tens_0 (by decide) ?_
  refine hv_lstore_n X [(1, .long (1 : Int64)), (0, .int a0)] dX4_tens_1 (by decide) rfl ?_
  refine hv_iconst X (v := 0) dX4_tens_2 (by decide) ?_
  refine hv_istore_n X [(3, .int 0), (1, .long (1 : Int64)), (0, .int a0)] dX4_tens_3 (by decide) rfl ?_
  refine hv_sub [(0, .int a0), (1, .long (1 : Int64)), (3, .int 0)] [2, 1, 0] rfl ?_
  exact hw_M_tens_4 X hr hd_fuel a0 (1 : Int64) 0 h
theorem pk_M_tens : hd_PkS yX4_tens cX4_tens 4 (some .long) 1 := ⟨q1595, q73, q1596, by decide +kernel, by decide +kernel, by decide +kernel⟩
-- gcd
def hf_M_gcd_6 : Nat → Int64 → Int64 → (Option Int64)
  | 0, _, _ => none
  | n + 1, x4, x6 =>
    if (lg_cmp x6 (0 : Int64)) = 0 then
    (some x4)
    else
    (if x6 = 0 then none else
    hd_nm (x4 - x4 / x6 * x6) fun v1 =>
    hf_M_gcd_6 n x6 v1)
theorem hw_M_gcd_6 {κ : hd_VK} {E : hd_EV} (X : hd_Cx κ E cX4_gcd RX4 10 (hd_Rm 1 0 0)) (hr : (hd_kQ κ).sig.returnType = some .long) {S : hd_St} {y : Int64} : ∀ (n : Nat) (x4 : Int64) (x6 : Int64), hf_M_gcd_6 n x4 x6 = some y → hd_V κ E 10 0 0 (hd_Qf κ E (some (.long y)) S) S 6 [(4, .long x4), (6, .long x6)] [] := by
  intro n
  induction n with
  | zero => intro x4 x6 h; have h : (none : Option Int64) = some y := h; cases h
  | succ n ih =>
    intro x4 x6 h
    rw [hf_M_gcd_6] at h
    refine hv_lload X dX4_gcd_6 1 rfl ?_
    refine hv_lconst X (v := 0) dX4_gcd_8 (by decide) ?_
    refine hv_lcmp X dX4_gcd_9 ?_
    refine hv_if_eq X 31 h dX4_gcd_10 (by decide) (fun h => ?_) (fun h => ?_)
    · refine hv_lload X dX4_gcd_31 0 rfl ?_
      obtain rfl := Option.some.inj h
      exact hv_lret X hr dX4_gcd_33 (Nat.zero_le _) (Nat.zero_le _)
    · refine hv_lload X dX4_gcd_13 0 rfl ?_
      refine hv_lload X dX4_gcd_15 1 rfl ?_
      refine hv_lrem X h dX4_gcd_17 (fun h => ?_)
      refine hv_nmL h (fun v1 h => ?_)
      refine hv_lstore X [(8, .long v1), (4, .long x4), (6, .long x6)] dX4_gcd_18 (by decide) rfl ?_
      refine hv_lload X dX4_gcd_20 2 rfl ?_
      refine hv_lstore X [(4, .long x6), (8, .long v1), (6, .long x6)] dX4_gcd_22 (by decide) rfl ?_
      refine hv_lload X dX4_gcd_24 1 rfl ?_
      refine hv_lstore X [(6, .long v1), (4, .long x6), (8, .long v1)] dX4_gcd_26 (by decide) rfl ?_
      refine hv_goto X 6 dX4_gcd_28 (by decide) ?_
      refine hv_sub [(4, .long x6), (6, .long v1)] [1, 0] rfl ?_
      exact ih x6 v1 h
def hf_M_gcd (a0 : Int64) (a2 : Int64) : (Option Int64) :=
  hf_M_gcd_6 hd_fuel a0 a2
theorem hw_M_gcd (l : Launch) (E : hd_EV) (a0 : Int64) (a2 : Int64) (S : hd_St) (y : Int64) (h : hf_M_gcd a0 a2 = some y) : hd_Mt l E yX4_gcd cX4_gcd 10 (some .long) (hd_Rm 1 0 0) [.long a0, .long a2] S (some (.long y)) S := by
  refine hd_Mt.start [(0, .long a0), (2, .long a2)] hd_pnX4 rfl (Nat.le_of_ble_eq_true rfl) (fun κ X hl hr hn => ?_)
  have X : hd_Cx κ E cX4_gcd RX4 10 (hd_Rm 1 0 0) := X
  unfold hf_M_gcd at h
  refine hv_lload_n X dX4_gcd_0 0 rfl ?_
  refine hv_lstore X [(4, .long a0), (0, .long a0), (2, .long a2)] dX4_gcd_1 (by decide) rfl ?_
  refine hv_lload_n X dX4_gcd_3 2 rfl ?_
  refine hv_lstore X [(6, .long a2), (4, .long a0), (0, .long a0), (2, .long a2)] dX4_gcd_4 (by decide) rfl ?_
  refine hv_sub [(4, .long a0), (6, .long a2)] [1, 0] rfl ?_
  exact hw_M_gcd_6 X hr hd_fuel a0 a2 h
theorem pk_M_gcd : hd_PkS yX4_gcd cX4_gcd 10 (some .long) 2 := ⟨q1601, q73, q1602, by decide +kernel, by decide +kernel, by decide +kernel⟩
-- often
def hf_M_often_12 : Nat → Int32 → Int32 → Int32 → hd_St → (Option (Int32 × hd_St))
  | 0, _, _, _, _ => none
  | n + 1, x1, x2, x3, S =>
    if (10 : Int32) ≤ x3 then
    (some ((-4), S))
    else
    ((hf_M_nearParts x1 x2 x3 S).bind fun p1 =>
    (hf_M_tens x3).bind fun r3 =>
    if (lg_cmp ((2 : Int64) * p1.1) r3) < 0 then
    (hf_M_often_12 n x1 x2 (x3 + 1) p1.2)
    else
    (some (x3, p1.2)))
theorem hw_M_often_12 {κ : hd_VK} {E : hd_EV} (X : hd_Cx κ E cX4_often RX4 4 (hd_Rm 3 0 0)) (hr : (hd_kQ κ).sig.returnType = some .int) {y : (Int32 × hd_St)} : ∀ (n : Nat) (x1 : Int32) (x2 : Int32) (x3 : Int32) (S : hd_St), hf_M_often_12 n x1 x2 x3 S = some y → hd_V κ E 4 0 0 (hd_Qf κ E (some (.int y.1)) y.2) S 12 [(0, .ref (hd_ad E 38)), (1, .int x1), (2, .int x2), (3, .int x3)] [] := by
  intro n
  induction n with
  | zero => intro x1 x2 x3 S h; have h : (none : Option (Int32 × hd_St)) = some y := h; cases h
  | succ n ih =>
    intro x1 x2 x3 S h
    rw [hf_M_often_12] at h
    refine hv_iload_n X dX4_often_12 3 rfl ?_
    refine hv_bipush X (v := 10) dX4_often_13 (by decide) ?_
    refine hv_icmp_ge X 45 h dX4_often_15 (by decide) (fun h => ?_) (fun h => ?_)
    · refine hv_bipush X (v := (-4)) dX4_often_45 (by decide) ?_
      obtain rfl := Option.some.inj h
      exact hv_iret X hr dX4_often_47 (Nat.zero_le _) (Nat.zero_le _)
    · refine hv_ldc2 X q1607 dX4_often_18 ?_
      refine hv_aload_n X dX4_often_21 0 rfl ?_
      refine hv_iload_n X dX4_often_22 1 rfl ?_
      refine hv_iload_n X dX4_often_23 2 rfl ?_
      refine hv_iload_n X dX4_often_24 3 rfl ?_
      obtain ⟨p1, e2, h⟩ := hd_bind h
      refine hv_cV X pk_M_nearParts hd_rcM (hw_M_nearParts _ E x1 x2 x3 S p1 e2) q1589 dX4_often_25 (by decide) (by decide) (Nat.zero_le _) (Nat.zero_le _) rfl rfl (Nat.le_of_ble_eq_true rfl) rfl ?_
      refine hv_lmul X dX4_often_28 ?_
      refine hv_iload_n X dX4_often_29 3 rfl ?_
      obtain ⟨r3, e4, h⟩ := hd_bind h
      refine hv_cS X pk_M_tens (hw_M_tens _ E x3 p1.2 r3 e4) q1594 dX4_often_30 (by decide) (by decide) (Nat.zero_le _) (Nat.zero_le _) rfl rfl (Nat.le_of_ble_eq_true rfl) rfl ?_
      refine hv_lcmp X dX4_often_33 ?_
      refine hv_if_lt X 39 h dX4_often_34 (by decide) (fun h => ?_) (fun h => ?_)
      · refine hv_iinc X (v := 1) [(3, .int (x3 + 1)), (0, .ref (hd_ad E 38)), (1, .int x1), (2, .int x2)] dX4_often_39 3 rfl (by decide) (by decide) rfl ?_
        refine hv_goto X 12 dX4_often_42 (by decide) ?_
        refine hv_sub [(0, .ref (hd_ad E 38)), (1, .int x1), (2, .int x2), (3, .int (x3 + 1))] [1, 2, 3, 0] rfl ?_
        exact ih x1 x2 (x3 + 1) p1.2 h
      · refine hv_iload_n X dX4_often_37 3 rfl ?_
        obtain rfl := Option.some.inj h
        exact hv_iret X hr dX4_often_38 (Nat.zero_le _) (Nat.zero_le _)
def hf_M_often (a1 : Int32) (a2 : Int32) (S : hd_St) : (Option (Int32 × hd_St)) :=
  if (hf_M_areOdds a1 a2) = true then
    (hf_M_often_12 hd_fuel a1 a2 0 S)
    else
    (some ((-1), S))
theorem hw_M_often (l : Launch) (E : hd_EV) (a1 : Int32) (a2 : Int32) (S : hd_St) (y : (Int32 × hd_St)) (h : hf_M_often a1 a2 S = some y) : hd_Mt l E yX4_often cX4_often 4 (some .int) (hd_Rm 3 0 0) [.ref (hd_ad E 38), .int a1, .int a2] S (some (.int y.1)) y.2 := by
  refine hd_Mt.start [(0, .ref (hd_ad E 38)), (1, .int a1), (2, .int a2)] hd_pnX4 rfl (Nat.le_of_ble_eq_true rfl) (fun κ X hl hr hn => ?_)
  have X : hd_Cx κ E cX4_often RX4 4 (hd_Rm 3 0 0) := X
  unfold hf_M_often at h
  refine hv_iload_n X dX4_often_0 1 rfl ?_
  refine hv_iload_n X dX4_often_1 2 rfl ?_
  refine hv_cS X pk_M_areOdds (hw_M_areOdds _ E a1 a2 S) q1585 dX4_often_2 (by decide) (by decide) (Nat.zero_le _) (Nat.zero_le _) rfl rfl (Nat.le_of_ble_eq_true rfl) rfl ?_
  refine hv_ifb_ne X 10 h dX4_often_5 (by decide) (fun h => ?_) (fun h => ?_)
  · refine hv_iconst X (v := 0) dX4_often_10 (by decide) ?_
    refine hv_istore_n X [(3, .int 0), (0, .ref (hd_ad E 38)), (1, .int a1), (2, .int a2)] dX4_often_11 (by decide) rfl ?_
    refine hv_sub [(0, .ref (hd_ad E 38)), (1, .int a1), (2, .int a2), (3, .int 0)] [1, 2, 3, 0] rfl ?_
    exact hw_M_often_12 X hr hd_fuel a1 a2 0 S h
  · refine hv_iconst X (v := (-1)) dX4_often_8 (by decide) ?_
    obtain rfl := Option.some.inj h
    exact hv_iret X hr dX4_often_9 (Nat.zero_le _) (Nat.zero_le _)
theorem pk_M_often : hd_PkV RX4 yX4_often cX4_often 4 (some .int) 2 := ⟨q1604, q1605, q73, q1606, rfl, by decide +kernel, by decide +kernel, by decide +kernel⟩
-- allPairs
def hf_M_allPairs (a1 : Int32) (S : hd_St) : (Option Int32) :=
  (hf_M_gripOf a1 S).bind fun r1 =>
    some ((r1 + 1) * 61)
theorem hw_M_allPairs (l : Launch) (E : hd_EV) (a1 : Int32) (S : hd_St) (y : Int32) (h : hf_M_allPairs a1 S = some y) : hd_Mt l E yX4_allPairs cX4_allPairs 2 (some .int) (hd_Rm 3 0 0) [.ref (hd_ad E 38), .int a1] S (some (.int y)) S := by
  refine hd_Mt.start [(0, .ref (hd_ad E 38)), (1, .int a1)] hd_pnX4 rfl (Nat.le_of_ble_eq_true rfl) (fun κ X hl hr hn => ?_)
  have X : hd_Cx κ E cX4_allPairs RX4 2 (hd_Rm 3 0 0) := X
  unfold hf_M_allPairs at h
  refine hv_aload_n X dX4_allPairs_0 0 rfl ?_
  refine hv_iload_n X dX4_allPairs_1 1 rfl ?_
  obtain ⟨r1, e2, h⟩ := hd_bind h
  refine hv_cV X pk_M_gripOf hd_rcM (hw_M_gripOf _ E a1 S r1 e2) q1483 dX4_allPairs_2 (by decide) (by decide) (Nat.zero_le _) (Nat.zero_le _) rfl rfl (Nat.le_of_ble_eq_true rfl) rfl ?_
  refine hv_iconst X (v := 1) dX4_allPairs_5 (by decide) ?_
  refine hv_iadd X dX4_allPairs_6 ?_
  refine hv_bipush X (v := 61) dX4_allPairs_7 (by decide) ?_
  refine hv_imul X dX4_allPairs_9 ?_
  obtain rfl := Option.some.inj h
  exact hv_iret X hr dX4_allPairs_10 (Nat.zero_le _) (Nat.zero_le _)
theorem pk_M_allPairs : hd_PkV RX4 yX4_allPairs cX4_allPairs 2 (some .int) 1 := ⟨q1628, qs66, q73, q1629, rfl, by decide +kernel, by decide +kernel, by decide +kernel⟩
-- leastOf
def hf_M_leastOf (a0 : Int32) : Int32 :=
  if a0 = 0 then
    ((-128))
    else
    (if a0 = (1 : Int32) then
    ((-32768))
    else
    ((-2147483648)))
theorem hw_M_leastOf (l : Launch) (E : hd_EV) (a0 : Int32) (S : hd_St) : hd_Mt l E yX4_leastOf cX4_leastOf 1 (some .int) (hd_Rm 1 0 0) [.int a0] S (some (.int (hf_M_leastOf a0))) S := by
  obtain ⟨y, h⟩ : ∃ y, hf_M_leastOf a0 = y := ⟨_, rfl⟩
  rw [h]
  refine hd_Mt.start [(0, .int a0)] hd_pnX4 rfl (Nat.le_of_ble_eq_true rfl) (fun κ X hl hr hn => ?_)
  have X : hd_Cx κ E cX4_leastOf RX4 1 (hd_Rm 1 0 0) := X
  unfold hf_M_leastOf at h
  refine hv_iload_n X dX4_leastOf_0 0 rfl ?_
  refine hv_if_ne X 9 h dX4_leastOf_1 (by decide) (fun h => ?_) (fun h => ?_)
  · refine hv_iload_n X dX4_leastOf_9 0 rfl ?_
    refine hv_iconst X (v := 1) dX4_leastOf_10 (by decide) ?_
    refine hv_icmp_ne X 20 h dX4_leastOf_11 (by decide) (fun h => ?_) (fun h => ?_)
    · refine hv_ldcw X q1657 dX4_leastOf_20 ?_
      subst h
      exact hv_iret X hr dX4_leastOf_23 (Nat.zero_le _) (Nat.zero_le _)
    · refine hv_sipush X (v := (-32768)) dX4_leastOf_14 (by decide) ?_
      refine hv_goto X 23 dX4_leastOf_17 (by decide) ?_
      subst h
      exact hv_iret X hr dX4_leastOf_23 (Nat.zero_le _) (Nat.zero_le _)
  · refine hv_bipush X (v := (-128)) dX4_leastOf_4 (by decide) ?_
    refine hv_goto X 23 dX4_leastOf_6 (by decide) ?_
    subst h
    exact hv_iret X hr dX4_leastOf_23 (Nat.zero_le _) (Nat.zero_le _)
theorem pk_M_leastOf : hd_PkS yX4_leastOf cX4_leastOf 1 (some .int) 1 := ⟨q1655, q73, q1656, by decide +kernel, by decide +kernel, by decide +kernel⟩
-- drawn
def hf_M_drawn (a1 : Int32) (S : hd_St) : (Option (Int32 × hd_St)) :=
  hd_nm (hd_sI S 38 14 (((hd_I S 38 14) * 1103515245) + 12345)) fun S1 =>
    if a1 = 0 then none else
    some (((((hd_I S1 38 14) &&& 2147483647) / 65536) - (((hd_I S1 38 14) &&& 2147483647) / 65536) / a1 * a1), S1)
theorem hw_M_drawn (l : Launch) (E : hd_EV) (a1 : Int32) (S : hd_St) (y : (Int32 × hd_St)) (h : hf_M_drawn a1 S = some y) : hd_Mt l E yX4_drawn cX4_drawn 2 (some .int) (hd_Rm 1 0 0) [.ref (hd_ad E 38), .int a1] S (some (.int y.1)) y.2 := by
  refine hd_Mt.start [(0, .ref (hd_ad E 38)), (1, .int a1)] hd_pnX4 rfl (Nat.le_of_ble_eq_true rfl) (fun κ X hl hr hn => ?_)
  have X : hd_Cx κ E cX4_drawn RX4 2 (hd_Rm 1 0 0) := X
  unfold hf_M_drawn at h
  refine hv_aload_n X dX4_drawn_0 0 rfl ?_
  refine hv_aload_n X dX4_drawn_1 0 rfl ?_
  refine hg_M_seed X q1255 dX4_drawn_2 ?_
  refine hv_ldcw X q1666 dX4_drawn_5 ?_
  refine hv_imul X dX4_drawn_8 ?_
  refine hv_sipush X (v := 12345) dX4_drawn_9 (by decide) ?_
  refine hv_iadd X dX4_drawn_12 ?_
  refine hp_M_seed X q1255 dX4_drawn_13 ?_
  refine hv_nmS h (fun S1 h => ?_)
  refine hv_aload_n X dX4_drawn_16 0 rfl ?_
  refine hg_M_seed X q1255 dX4_drawn_17 ?_
  refine hv_ldcw X q1667 dX4_drawn_20 ?_
  refine hv_iand X dX4_drawn_23 ?_
  refine hv_ldcw X q1668 dX4_drawn_24 ?_
  refine hv_idivc X (by decide) dX4_drawn_27 ?_
  refine hv_iload_n X dX4_drawn_28 1 rfl ?_
  refine hv_irem X h dX4_drawn_29 (fun h => ?_)
  obtain rfl := Option.some.inj h
  exact hv_iret X hr dX4_drawn_30 (Nat.zero_le _) (Nat.zero_le _)
theorem pk_M_drawn : hd_PkV RX4 yX4_drawn cX4_drawn 2 (some .int) 1 := ⟨q1664, qs68, q73, q1665, rfl, by decide +kernel, by decide +kernel, by decide +kernel⟩
-- image
def hf_M_image (S : hd_St) : (Option (Int32 × hd_St)) :=
  (hf_M_copies 39 40 S).bind fun S1 =>
    hd_nm (hd_sI S1 38 3 1) fun S3 =>
    if hd_ck 0 47 = true then
    some ((hd_I S3 39 (0 : Int32).toNatClampNeg), S3)
    else none
theorem hw_M_image (l : Launch) (E : hd_EV) (S : hd_St) (y : (Int32 × hd_St)) (h : hf_M_image S = some y) : hd_Mt l E yX4_image cX4_image 1 (some .int) (hd_Rm 2 0 0) [.ref (hd_ad E 38)] S (some (.int y.1)) y.2 := by
  refine hd_Mt.start [(0, .ref (hd_ad E 38))] hd_pnX4 rfl (Nat.le_of_ble_eq_true rfl) (fun κ X hl hr hn => ?_)
  have X : hd_Cx κ E cX4_image RX4 1 (hd_Rm 2 0 0) := X
  unfold hf_M_image at h
  refine hv_aload_n X dX4_image_0 0 rfl ?_
  refine hg_M_s X q1241 dX4_image_1 ?_
  refine hv_aload_n X dX4_image_4 0 rfl ?_
  refine hg_M_image X q1242 dX4_image_5 ?_
  obtain ⟨S1, e2, h⟩ := hd_bind h
  refine hv_cS X pk_M_copies (hw_M_copies _ E 39 40 hd_ia39 hd_ia40 S S1 e2) q1334 dX4_image_8 (by decide) (by decide) (Nat.zero_le _) (Nat.zero_le _) rfl rfl (Nat.le_of_ble_eq_true rfl) rfl ?_
  refine hv_aload_n X dX4_image_11 0 rfl ?_
  refine hv_iconst X (v := 1) dX4_image_12 (by decide) ?_
  refine hp_M_hasImage X (by decide) q1244 dX4_image_13 ?_
  refine hv_nmS h (fun S3 h => ?_)
  refine hv_aload_n X dX4_image_16 0 rfl ?_
  refine hg_M_s X q1241 dX4_image_17 ?_
  refine hv_iconst X (v := 0) dX4_image_20 (by decide) ?_
  refine hv_iald X h hd_ia39 dX4_image_21 (fun h => ?_)
  obtain rfl := Option.some.inj h
  exact hv_iret X hr dX4_image_22 (Nat.zero_le _) (Nat.zero_le _)
theorem pk_M_image : hd_PkV RX4 yX4_image cX4_image 1 (some .int) 0 := ⟨q1671, q1672, q73, q1673, rfl, by decide +kernel, by decide +kernel, by decide +kernel⟩
-- restore
def hf_M_restore (S : hd_St) : (Option (Int32 × hd_St)) :=
  if (hd_I S 38 3) = 0 then
    (some ((-3), S))
    else
    ((hf_M_copies 40 39 S).bind fun S1 =>
    if hd_ck 0 47 = true then
    some ((hd_I S1 39 (0 : Int32).toNatClampNeg), S1)
    else none)
theorem hw_M_restore (l : Launch) (E : hd_EV) (S : hd_St) (y : (Int32 × hd_St)) (h : hf_M_restore S = some y) : hd_Mt l E yX4_restore cX4_restore 1 (some .int) (hd_Rm 2 0 0) [.ref (hd_ad E 38)] S (some (.int y.1)) y.2 := by
  refine hd_Mt.start [(0, .ref (hd_ad E 38))] hd_pnX4 rfl (Nat.le_of_ble_eq_true rfl) (fun κ X hl hr hn => ?_)
  have X : hd_Cx κ E cX4_restore RX4 1 (hd_Rm 2 0 0) := X
  unfold hf_M_restore at h
  refine hv_aload_n X dX4_restore_0 0 rfl ?_
  refine hg_M_hasImage X q1244 dX4_restore_1 ?_
  refine hv_if_ne X 10 h dX4_restore_4 (by decide) (fun h => ?_) (fun h => ?_)
  · refine hv_aload_n X dX4_restore_10 0 rfl ?_
    refine hg_M_image X q1242 dX4_restore_11 ?_
    refine hv_aload_n X dX4_restore_14 0 rfl ?_
    refine hg_M_s X q1241 dX4_restore_15 ?_
    obtain ⟨S1, e2, h⟩ := hd_bind h
    refine hv_cS X pk_M_copies (hw_M_copies _ E 40 39 hd_ia40 hd_ia39 S S1 e2) q1334 dX4_restore_18 (by decide) (by decide) (Nat.zero_le _) (Nat.zero_le _) rfl rfl (Nat.le_of_ble_eq_true rfl) rfl ?_
    refine hv_aload_n X dX4_restore_21 0 rfl ?_
    refine hg_M_s X q1241 dX4_restore_22 ?_
    refine hv_iconst X (v := 0) dX4_restore_25 (by decide) ?_
    refine hv_iald X h hd_ia39 dX4_restore_26 (fun h => ?_)
    obtain rfl := Option.some.inj h
    exact hv_iret X hr dX4_restore_27 (Nat.zero_le _) (Nat.zero_le _)
  · refine hv_bipush X (v := (-3)) dX4_restore_7 (by decide) ?_
    obtain rfl := Option.some.inj h
    exact hv_iret X hr dX4_restore_9 (Nat.zero_le _) (Nat.zero_le _)
theorem pk_M_restore : hd_PkV RX4 yX4_restore cX4_restore 1 (some .int) 0 := ⟨q1675, q1676, q73, q1677, rfl, by decide +kernel, by decide +kernel, by decide +kernel⟩
-- thrown
def hf_M_thrown (S : hd_St) : Int32 :=
  (hd_I S 38 21)
theorem hw_M_thrown (l : Launch) (E : hd_EV) (S : hd_St) : hd_Mt l E yX4_thrown cX4_thrown 1 (some .int) (hd_Rm 1 0 0) [.ref (hd_ad E 38)] S (some (.int (hf_M_thrown S))) S := by
  obtain ⟨y, h⟩ : ∃ y, hf_M_thrown S = y := ⟨_, rfl⟩
  rw [h]
  refine hd_Mt.start [(0, .ref (hd_ad E 38))] hd_pnX4 rfl (Nat.le_of_ble_eq_true rfl) (fun κ X hl hr hn => ?_)
  have X : hd_Cx κ E cX4_thrown RX4 1 (hd_Rm 1 0 0) := X
  unfold hf_M_thrown at h
  refine hv_aload_n X dX4_thrown_0 0 rfl ?_
  refine hg_M_thrown X q1262 dX4_thrown_1 ?_
  subst h
  exact hv_iret X hr dX4_thrown_4 (Nat.zero_le _) (Nat.zero_le _)
theorem pk_M_thrown : hd_PkV RX4 yX4_thrown cX4_thrown 1 (some .int) 0 := ⟨q1683, q1684, q73, q1685, rfl, by decide +kernel, by decide +kernel, by decide +kernel⟩
-- costBy
def hf_M_costBy (a0 : Int32) (a1 : Int32) : Int32 :=
  if a0 = 1 then
    (2)
    else
    (if a0 = 2 then
    (((3 : Int32) + a1))
    else
    (if a0 = 3 then
    (((2 : Int32) * ((3 : Int32) + a1)))
    else
    (if a0 = 4 then
    (7)
    else
    (if a0 = 5 then
    (((5 : Int32) + a1))
    else
    (if a0 = 6 then
    ((((5 : Int32) + a1) / 2))
    else
    (if a0 = 7 then
    (((2 : Int32) + a1))
    else
    (3)))))))
theorem hw_M_costBy (l : Launch) (E : hd_EV) (a0 : Int32) (a1 : Int32) (S : hd_St) : hd_Mt l E yX4_costBy cX4_costBy 2 (some .int) (hd_Rm 1 0 0) [.int a0, .int a1] S (some (.int (hf_M_costBy a0 a1))) S := by
  obtain ⟨y, h⟩ : ∃ y, hf_M_costBy a0 a1 = y := ⟨_, rfl⟩
  rw [h]
  refine hd_Mt.start [(0, .int a0), (1, .int a1)] hd_pnX4 rfl (Nat.le_of_ble_eq_true rfl) (fun κ X hl hr hn => ?_)
  have X : hd_Cx κ E cX4_costBy RX4 2 (hd_Rm 1 0 0) := X
  unfold hf_M_costBy at h
  refine hv_iload_n X dX4_costBy_0 0 rfl ?_
  refine hv_case h (fun c0 h => ?_) (fun c0 h => ?_)
  · refine hv_tswIn X 44 c0 dX4_costBy_1 (by decide) (by decide) (off := 43) (by decide) (by decide) ?_
    refine hv_iconst X (v := 2) dX4_costBy_44 (by decide) ?_
    subst h
    exact hv_iret X hr dX4_costBy_45 (Nat.zero_le _) (Nat.zero_le _)
  · refine hv_case h (fun c1 h => ?_) (fun c1 h => ?_)
    · refine hv_tswIn X 46 c1 dX4_costBy_1 (by decide) (by decide) (off := 45) (by decide) (by decide) ?_
      refine hv_iconst X (v := 3) dX4_costBy_46 (by decide) ?_
      refine hv_iload_n X dX4_costBy_47 1 rfl ?_
      refine hv_iadd X dX4_costBy_48 ?_
      subst h
      exact hv_iret X hr dX4_costBy_49 (Nat.zero_le _) (Nat.zero_le _)
    · refine hv_case h (fun c2 h => ?_) (fun c2 h => ?_)
      · refine hv_tswIn X 50 c2 dX4_costBy_1 (by decide) (by decide) (off := 49) (by decide) (by decide) ?_
        refine hv_iconst X (v := 2) dX4_costBy_50 (by decide) ?_
        refine hv_iconst X (v := 3) dX4_costBy_51 (by decide) ?_
        refine hv_iload_n X dX4_costBy_52 1 rfl ?_
        refine hv_iadd X dX4_costBy_53 ?_
        refine hv_imul X dX4_costBy_54 ?_
        subst h
        exact hv_iret X hr dX4_costBy_55 (Nat.zero_le _) (Nat.zero_le _)
      · refine hv_case h (fun c3 h => ?_) (fun c3 h => ?_)
        · refine hv_tswIn X 56 c3 dX4_costBy_1 (by decide) (by decide) (off := 55) (by decide) (by decide) ?_
          refine hv_bipush X (v := 7) dX4_costBy_56 (by decide) ?_
          subst h
          exact hv_iret X hr dX4_costBy_58 (Nat.zero_le _) (Nat.zero_le _)
        · refine hv_case h (fun c4 h => ?_) (fun c4 h => ?_)
          · refine hv_tswIn X 59 c4 dX4_costBy_1 (by decide) (by decide) (off := 58) (by decide) (by decide) ?_
            refine hv_iconst X (v := 5) dX4_costBy_59 (by decide) ?_
            refine hv_iload_n X dX4_costBy_60 1 rfl ?_
            refine hv_iadd X dX4_costBy_61 ?_
            subst h
            exact hv_iret X hr dX4_costBy_62 (Nat.zero_le _) (Nat.zero_le _)
          · refine hv_case h (fun c5 h => ?_) (fun c5 h => ?_)
            · refine hv_tswIn X 63 c5 dX4_costBy_1 (by decide) (by decide) (off := 62) (by decide) (by decide) ?_
              refine hv_iconst X (v := 5) dX4_costBy_63 (by decide) ?_
              refine hv_iload_n X dX4_costBy_64 1 rfl ?_
              refine hv_iadd X dX4_costBy_65 ?_
              refine hv_iconst X (v := 2) dX4_costBy_66 (by decide) ?_
              refine hv_idivc X (by decide) dX4_costBy_67 ?_
              subst h
              exact hv_iret X hr dX4_costBy_68 (Nat.zero_le _) (Nat.zero_le _)
            · refine hv_case h (fun c6 h => ?_) (fun c6 h => ?_)
              · refine hv_tswIn X 69 c6 dX4_costBy_1 (by decide) (by decide) (off := 68) (by decide) (by decide) ?_
                refine hv_iconst X (v := 2) dX4_costBy_69 (by decide) ?_
                refine hv_iload_n X dX4_costBy_70 1 rfl ?_
                refine hv_iadd X dX4_costBy_71 ?_
                subst h
                exact hv_iret X hr dX4_costBy_72 (Nat.zero_le _) (Nat.zero_le _)
              · refine hv_tswOut X 73 dX4_costBy_1 (by have b0 := hd_ni c0 (a := 1) (by decide); have b1 := hd_ni c1 (a := 2) (by decide); have b2 := hd_ni c2 (a := 3) (by decide); have b3 := hd_ni c3 (a := 4) (by decide); have b4 := hd_ni c4 (a := 5) (by decide); have b5 := hd_ni c5 (a := 6) (by decide); have b6 := hd_ni c6 (a := 7) (by decide); omega) (by decide) ?_
                refine hv_iconst X (v := 3) dX4_costBy_73 (by decide) ?_
                subst h
                exact hv_iret X hr dX4_costBy_74 (Nat.zero_le _) (Nat.zero_le _)
theorem pk_M_costBy : hd_PkS yX4_costBy cX4_costBy 2 (some .int) 2 := ⟨q1711, q73, q1712, by decide +kernel, by decide +kernel, by decide +kernel⟩
-- isShelf
def hf_M_isShelf (a0 : Int32) : Bool :=
  (hf_M_isIn a0 0 7)
theorem hw_M_isShelf (l : Launch) (E : hd_EV) (a0 : Int32) (S : hd_St) : hd_Mt l E yX4_isShelf cX4_isShelf 1 (some .boolean) (hd_Rm 2 0 0) [.int a0] S (some (.int (hd_bI (hf_M_isShelf a0)))) S := by
  obtain ⟨y, h⟩ : ∃ y, hf_M_isShelf a0 = y := ⟨_, rfl⟩
  rw [h]
  refine hd_Mt.start [(0, .int a0)] hd_pnX4 rfl (Nat.le_of_ble_eq_true rfl) (fun κ X hl hr hn => ?_)
  have X : hd_Cx κ E cX4_isShelf RX4 1 (hd_Rm 2 0 0) := X
  unfold hf_M_isShelf at h
  refine hv_iload_n X dX4_isShelf_0 0 rfl ?_
  refine hv_iconst X (v := 0) dX4_isShelf_1 (by decide) ?_
  refine hv_bipush X (v := 7) dX4_isShelf_2 (by decide) ?_
  refine hv_cS X pk_M_isIn (hw_M_isIn _ E a0 0 7 S) q1319 dX4_isShelf_4 (by decide) (by decide) (Nat.zero_le _) (Nat.zero_le _) rfl rfl (Nat.le_of_ble_eq_true rfl) rfl ?_
  subst h
  exact hv_zret X hr rfl dX4_isShelf_7 (Nat.zero_le _) (Nat.zero_le _)
theorem pk_M_isShelf : hd_PkS yX4_isShelf cX4_isShelf 1 (some .boolean) 1 := ⟨q1317, q73, q1318, by decide +kernel, by decide +kernel, by decide +kernel⟩
-- readsStatement
def hf_M_readsStatement_216 (x2 : Int32) (S : hd_St) : (Option (Bool × hd_St)) :=
  if x2 = 0 then
    (some (false, S))
    else
    ((hf_M_here S).bind fun r6 =>
    if r6 = (59 : Int32) then
    (hd_nm (hd_sI S 38 5 ((hd_I S 38 5) + 1)) fun S8 =>
    some (true, S8))
    else
    (some (false, S)))
theorem hw_M_readsStatement_216 {κ : hd_VK} {E : hd_EV} (X : hd_Cx κ E cX4_readsStatement RX4 3 (hd_Rm 3 0 0)) (hr : (hd_kQ κ).sig.returnType = some .boolean) {y : (Bool × hd_St)} (x2 : Int32) (S : hd_St) (h : hf_M_readsStatement_216 x2 S = some y) : hd_V κ E 3 0 0 (hd_Qf κ E (some (.int (hd_bI y.1))) y.2) S 216 [(0, .ref (hd_ad E 38)), (2, .int x2)] [] := by
  unfold hf_M_readsStatement_216 at h
  refine hv_iload_n X dX4_readsStatement_216 1 rfl ?_
  refine hv_if_eq X 229 h dX4_readsStatement_217 (by decide) (fun h => ?_) (fun h => ?_)
  · refine hv_iconst X (v := 0) dX4_readsStatement_229 (by decide) ?_
    obtain rfl := Option.some.inj h
    exact hv_zret X hr rfl dX4_readsStatement_230 (Nat.zero_le _) (Nat.zero_le _)
  · refine hv_aload_n X dX4_readsStatement_220 0 rfl ?_
    obtain ⟨r6, e7, h⟩ := hd_bind h
    refine hv_cV X pk_M_here hd_rcM (hw_M_here _ E S r6 e7) q1326 dX4_readsStatement_221 (by decide) (by decide) (Nat.zero_le _) (Nat.zero_le _) rfl rfl (Nat.le_of_ble_eq_true rfl) rfl ?_
    refine hv_bipush X (v := 59) dX4_readsStatement_224 (by decide) ?_
    refine hv_icmp_eq X 231 h dX4_readsStatement_226 (by decide) (fun h => ?_) (fun h => ?_)
    · refine hv_aload_n X dX4_readsStatement_231 0 rfl ?_
      refine hv_dup X dX4_readsStatement_232 rfl ?_
      refine hg_M_at X q1246 dX4_readsStatement_233 ?_
      refine hv_iconst X (v := 1) dX4_readsStatement_236 (by decide) ?_
      refine hv_iadd X dX4_readsStatement_237 ?_
      refine hp_M_at X q1246 dX4_readsStatement_238 ?_
      refine hv_nmS h (fun S8 h => ?_)
      refine hv_iconst X (v := 1) dX4_readsStatement_241 (by decide) ?_
      obtain rfl := Option.some.inj h
      exact hv_zret X hr rfl dX4_readsStatement_242 (Nat.zero_le _) (Nat.zero_le _)
    · refine hv_iconst X (v := 0) dX4_readsStatement_229 (by decide) ?_
      obtain rfl := Option.some.inj h
      exact hv_zret X hr rfl dX4_readsStatement_230 (Nat.zero_le _) (Nat.zero_le _)
def hf_M_readsStatement_92 (t0 : Int32) (S : hd_St) : (Option (Bool × hd_St)) :=
  hf_M_readsStatement_216 t0 S
theorem hw_M_readsStatement_92 {κ : hd_VK} {E : hd_EV} (X : hd_Cx κ E cX4_readsStatement RX4 3 (hd_Rm 3 0 0)) (hr : (hd_kQ κ).sig.returnType = some .boolean) {y : (Bool × hd_St)} (t0 : Int32) (S : hd_St) (h : hf_M_readsStatement_92 t0 S = some y) : hd_V κ E 3 0 0 (hd_Qf κ E (some (.int (hd_bI y.1))) y.2) S 92 [(0, .ref (hd_ad E 38))] [.int t0] := by
  unfold hf_M_readsStatement_92 at h
  refine hv_istore_n X [(2, .int t0), (0, .ref (hd_ad E 38))] dX4_readsStatement_92 (by decide) rfl ?_
  refine hv_goto X 216 dX4_readsStatement_93 (by decide) ?_
  refine hv_sub [(0, .ref (hd_ad E 38)), (2, .int t0)] [1, 0] rfl ?_
  exact hw_M_readsStatement_216 X hr t0 S h
def hf_M_readsStatement_91 (S : hd_St) : (Option (Bool × hd_St)) :=
  hf_M_readsStatement_92 0 S
theorem hw_M_readsStatement_91 {κ : hd_VK} {E : hd_EV} (X : hd_Cx κ E cX4_readsStatement RX4 3 (hd_Rm 3 0 0)) (hr : (hd_kQ κ).sig.returnType = some .boolean) {y : (Bool × hd_St)} (S : hd_St) (h : hf_M_readsStatement_91 S = some y) : hd_V κ E 3 0 0 (hd_Qf κ E (some (.int (hd_bI y.1))) y.2) S 91 [(0, .ref (hd_ad E 38))] [] := by
  unfold hf_M_readsStatement_91 at h
  refine hv_iconst X (v := 0) dX4_readsStatement_91 (by decide) ?_
  exact hw_M_readsStatement_92 X hr 0 S h
def hf_M_readsStatement_146 (t0 : Int32) (S : hd_St) : (Option (Bool × hd_St)) :=
  hf_M_readsStatement_216 t0 S
theorem hw_M_readsStatement_146 {κ : hd_VK} {E : hd_EV} (X : hd_Cx κ E cX4_readsStatement RX4 3 (hd_Rm 3 0 0)) (hr : (hd_kQ κ).sig.returnType = some .boolean) {y : (Bool × hd_St)} (t0 : Int32) (S : hd_St) (h : hf_M_readsStatement_146 t0 S = some y) : hd_V κ E 3 0 0 (hd_Qf κ E (some (.int (hd_bI y.1))) y.2) S 146 [(0, .ref (hd_ad E 38))] [.int t0] := by
  unfold hf_M_readsStatement_146 at h
  refine hv_istore_n X [(2, .int t0), (0, .ref (hd_ad E 38))] dX4_readsStatement_146 (by decide) rfl ?_
  refine hv_goto X 216 dX4_readsStatement_147 (by decide) ?_
  refine hv_sub [(0, .ref (hd_ad E 38)), (2, .int t0)] [1, 0] rfl ?_
  exact hw_M_readsStatement_216 X hr t0 S h
def hf_M_readsStatement_145 (S : hd_St) : (Option (Bool × hd_St)) :=
  hf_M_readsStatement_146 0 S
theorem hw_M_readsStatement_145 {κ : hd_VK} {E : hd_EV} (X : hd_Cx κ E cX4_readsStatement RX4 3 (hd_Rm 3 0 0)) (hr : (hd_kQ κ).sig.returnType = some .boolean) {y : (Bool × hd_St)} (S : hd_St) (h : hf_M_readsStatement_145 S = some y) : hd_V κ E 3 0 0 (hd_Qf κ E (some (.int (hd_bI y.1))) y.2) S 145 [(0, .ref (hd_ad E 38))] [] := by
  unfold hf_M_readsStatement_145 at h
  refine hv_iconst X (v := 0) dX4_readsStatement_145 (by decide) ?_
  exact hw_M_readsStatement_146 X hr 0 S h
def hf_M_readsStatement_119 (t0 : Int32) (S : hd_St) : (Option (Bool × hd_St)) :=
  hf_M_readsStatement_216 t0 S
theorem hw_M_readsStatement_119 {κ : hd_VK} {E : hd_EV} (X : hd_Cx κ E cX4_readsStatement RX4 3 (hd_Rm 3 0 0)) (hr : (hd_kQ κ).sig.returnType = some .boolean) {y : (Bool × hd_St)} (t0 : Int32) (S : hd_St) (h : hf_M_readsStatement_119 t0 S = some y) : hd_V κ E 3 0 0 (hd_Qf κ E (some (.int (hd_bI y.1))) y.2) S 119 [(0, .ref (hd_ad E 38))] [.int t0] := by
  unfold hf_M_readsStatement_119 at h
  refine hv_istore_n X [(2, .int t0), (0, .ref (hd_ad E 38))] dX4_readsStatement_119 (by decide) rfl ?_
  refine hv_goto X 216 dX4_readsStatement_120 (by decide) ?_
  refine hv_sub [(0, .ref (hd_ad E 38)), (2, .int t0)] [1, 0] rfl ?_
  exact hw_M_readsStatement_216 X hr t0 S h
def hf_M_readsStatement_118 (S : hd_St) : (Option (Bool × hd_St)) :=
  hf_M_readsStatement_119 0 S
theorem hw_M_readsStatement_118 {κ : hd_VK} {E : hd_EV} (X : hd_Cx κ E cX4_readsStatement RX4 3 (hd_Rm 3 0 0)) (hr : (hd_kQ κ).sig.returnType = some .boolean) {y : (Bool × hd_St)} (S : hd_St) (h : hf_M_readsStatement_118 S = some y) : hd_V κ E 3 0 0 (hd_Qf κ E (some (.int (hd_bI y.1))) y.2) S 118 [(0, .ref (hd_ad E 38))] [] := by
  unfold hf_M_readsStatement_118 at h
  refine hv_iconst X (v := 0) dX4_readsStatement_118 (by decide) ?_
  exact hw_M_readsStatement_119 X hr 0 S h
def hf_M_readsStatement_200 (t0 : Int32) (S : hd_St) : (Option (Bool × hd_St)) :=
  hf_M_readsStatement_216 t0 S
theorem hw_M_readsStatement_200 {κ : hd_VK} {E : hd_EV} (X : hd_Cx κ E cX4_readsStatement RX4 3 (hd_Rm 3 0 0)) (hr : (hd_kQ κ).sig.returnType = some .boolean) {y : (Bool × hd_St)} (t0 : Int32) (S : hd_St) (h : hf_M_readsStatement_200 t0 S = some y) : hd_V κ E 3 0 0 (hd_Qf κ E (some (.int (hd_bI y.1))) y.2) S 200 [(0, .ref (hd_ad E 38))] [.int t0] := by
  unfold hf_M_readsStatement_200 at h
  refine hv_istore_n X [(2, .int t0), (0, .ref (hd_ad E 38))] dX4_readsStatement_200 (by decide) rfl ?_
  refine hv_goto X 216 dX4_readsStatement_201 (by decide) ?_
  refine hv_sub [(0, .ref (hd_ad E 38)), (2, .int t0)] [1, 0] rfl ?_
  exact hw_M_readsStatement_216 X hr t0 S h
def hf_M_readsStatement_199 (S : hd_St) : (Option (Bool × hd_St)) :=
  hf_M_readsStatement_200 0 S
theorem hw_M_readsStatement_199 {κ : hd_VK} {E : hd_EV} (X : hd_Cx κ E cX4_readsStatement RX4 3 (hd_Rm 3 0 0)) (hr : (hd_kQ κ).sig.returnType = some .boolean) {y : (Bool × hd_St)} (S : hd_St) (h : hf_M_readsStatement_199 S = some y) : hd_V κ E 3 0 0 (hd_Qf κ E (some (.int (hd_bI y.1))) y.2) S 199 [(0, .ref (hd_ad E 38))] [] := by
  unfold hf_M_readsStatement_199 at h
  refine hv_iconst X (v := 0) dX4_readsStatement_199 (by decide) ?_
  exact hw_M_readsStatement_200 X hr 0 S h
def hf_M_readsStatement (S : hd_St) : (Option (Bool × hd_St)) :=
  (hf_M_here S).bind fun r1 =>
    hd_nm (hd_sI S 38 5 ((hd_I S 38 5) + 1)) fun S3 =>
    if r1 = 98 then
    ((hf_M_readsNumber 0 2 S3).bind fun p4 =>
    if p4.1 = true then
    ((hf_M_readsNumber 1 2 p4.2).bind fun p9 =>
    if p9.1 = true then
    ((hf_M_readsNumber 2 1 p9.2).bind fun p11 =>
    if p11.1 = true then
    (hf_M_readsStatement_92 1 p11.2)
    else
    (hf_M_readsStatement_91 p11.2))
    else
    (hf_M_readsStatement_91 p9.2))
    else
    (hf_M_readsStatement_91 p4.2))
    else
    (if r1 = 107 then
    ((hf_M_readsNumber 0 1 S3).bind fun p13 =>
    if p13.1 = true then
    ((hf_M_readsNumber 1 1 p13.2).bind fun p15 =>
    if p15.1 = true then
    (hf_M_readsStatement_146 1 p15.2)
    else
    (hf_M_readsStatement_145 p15.2))
    else
    (hf_M_readsStatement_145 p13.2))
    else
    (if r1 = 116 then
    ((hf_M_readsNumber 0 1 S3).bind fun p17 =>
    if p17.1 = true then
    ((hf_M_readsNumber 1 2 p17.2).bind fun p19 =>
    if p19.1 = true then
    (hf_M_readsStatement_119 1 p19.2)
    else
    (hf_M_readsStatement_118 p19.2))
    else
    (hf_M_readsStatement_118 p17.2))
    else
    (if r1 = 121 then
    ((hf_M_readsNumber 0 1 S3).bind fun p21 =>
    if p21.1 = true then
    ((hf_M_readsNumber 1 1 p21.2).bind fun p23 =>
    if p23.1 = true then
    ((hf_M_readsNumber 2 1 p23.2).bind fun p25 =>
    if p25.1 = true then
    ((hf_M_readsNumber 3 2 p25.2).bind fun p27 =>
    if p27.1 = true then
    ((hf_M_readsNumber 4 2 p27.2).bind fun p29 =>
    if p29.1 = true then
    (hf_M_readsStatement_200 1 p29.2)
    else
    (hf_M_readsStatement_199 p29.2))
    else
    (hf_M_readsStatement_199 p27.2))
    else
    (hf_M_readsStatement_199 p25.2))
    else
    (hf_M_readsStatement_199 p23.2))
    else
    (hf_M_readsStatement_199 p21.2))
    else
    (hd_nm (hd_sI S3 38 5 ((hd_I S3 38 5) - 1)) fun S31 =>
    some (false, S31)))))
theorem hw_M_readsStatement (l : Launch) (E : hd_EV) (S : hd_St) (y : (Bool × hd_St)) (h : hf_M_readsStatement S = some y) : hd_Mt l E yX4_readsStatement cX4_readsStatement 3 (some .boolean) (hd_Rm 3 0 0) [.ref (hd_ad E 38)] S (some (.int (hd_bI y.1))) y.2 := by
  refine hd_Mt.start [(0, .ref (hd_ad E 38))] hd_pnX4 rfl (Nat.le_of_ble_eq_true rfl) (fun κ X hl hr hn => ?_)
  have X : hd_Cx κ E cX4_readsStatement RX4 3 (hd_Rm 3 0 0) := X
  unfold hf_M_readsStatement at h
  refine hv_aload_n X dX4_readsStatement_0 0 rfl ?_
  obtain ⟨r1, e2, h⟩ := hd_bind h
  refine hv_cV X pk_M_here hd_rcM (hw_M_here _ E S r1 e2) q1326 dX4_readsStatement_1 (by decide) (by decide) (Nat.zero_le _) (Nat.zero_le _) rfl rfl (Nat.le_of_ble_eq_true rfl) rfl ?_
  refine hv_istore_n X [(1, .int r1), (0, .ref (hd_ad E 38))] dX4_readsStatement_4 (by decide) rfl ?_
  refine hv_aload_n X dX4_readsStatement_5 1 rfl ?_
  refine hv_dup X dX4_readsStatement_6 rfl ?_
  refine hg_M_at X q1246 dX4_readsStatement_7 ?_
  refine hv_iconst X (v := 1) dX4_readsStatement_10 (by decide) ?_
  refine hv_iadd X dX4_readsStatement_11 ?_
  refine hp_M_at X q1246 dX4_readsStatement_12 ?_
  refine hv_nmS h (fun S3 h => ?_)
  refine hv_iload_n X dX4_readsStatement_15 0 rfl ?_
  refine hv_case h (fun c0 h => ?_) (fun c0 h => ?_)
  · refine hv_lsw X 60 dX4_readsStatement_16 (by decide) (off := 44) (by rw [c0]; decide) (by decide) ?_
    refine hv_aload_n X dX4_readsStatement_60 1 rfl ?_
    refine hv_iconst X (v := 0) dX4_readsStatement_61 (by decide) ?_
    refine hv_iconst X (v := 2) dX4_readsStatement_62 (by decide) ?_
    obtain ⟨p4, e5, h⟩ := hd_bind h
    refine hv_cV X pk_M_readsNumber hd_rcM (hw_M_readsNumber _ E 0 2 S3 p4 e5) q1330 dX4_readsStatement_63 (by decide) (by decide) (Nat.zero_le _) (Nat.zero_le _) rfl rfl (Nat.le_of_ble_eq_true rfl) rfl ?_
    refine hv_ifb_eq X 91 h dX4_readsStatement_66 (by decide) (fun h => ?_) (fun h => ?_)
    · refine hv_sub [(0, .ref (hd_ad E 38))] [1] rfl ?_
      exact hw_M_readsStatement_91 X hr p4.2 h
    · refine hv_aload_n X dX4_readsStatement_69 1 rfl ?_
      refine hv_iconst X (v := 1) dX4_readsStatement_70 (by decide) ?_
      refine hv_iconst X (v := 2) dX4_readsStatement_71 (by decide) ?_
      obtain ⟨p9, e10, h⟩ := hd_bind h
      refine hv_cV X pk_M_readsNumber hd_rcM (hw_M_readsNumber _ E 1 2 p4.2 p9 e10) q1330 dX4_readsStatement_72 (by decide) (by decide) (Nat.zero_le _) (Nat.zero_le _) rfl rfl (Nat.le_of_ble_eq_true rfl) rfl ?_
      refine hv_ifb_eq X 91 h dX4_readsStatement_75 (by decide) (fun h => ?_) (fun h => ?_)
      · refine hv_sub [(0, .ref (hd_ad E 38))] [1] rfl ?_
        exact hw_M_readsStatement_91 X hr p9.2 h
      · refine hv_aload_n X dX4_readsStatement_78 1 rfl ?_
        refine hv_iconst X (v := 2) dX4_readsStatement_79 (by decide) ?_
        refine hv_iconst X (v := 1) dX4_readsStatement_80 (by decide) ?_
        obtain ⟨p11, e12, h⟩ := hd_bind h
        refine hv_cV X pk_M_readsNumber hd_rcM (hw_M_readsNumber _ E 2 1 p9.2 p11 e12) q1330 dX4_readsStatement_81 (by decide) (by decide) (Nat.zero_le _) (Nat.zero_le _) rfl rfl (Nat.le_of_ble_eq_true rfl) rfl ?_
        refine hv_ifb_eq X 91 h dX4_readsStatement_84 (by decide) (fun h => ?_) (fun h => ?_)
        · refine hv_sub [(0, .ref (hd_ad E 38))] [1] rfl ?_
          exact hw_M_readsStatement_91 X hr p11.2 h
        · refine hv_iconst X (v := 1) dX4_readsStatement_87 (by decide) ?_
          refine hv_goto X 92 dX4_readsStatement_88 (by decide) ?_
          refine hv_sub [(0, .ref (hd_ad E 38))] [1] rfl ?_
          exact hw_M_readsStatement_92 X hr 1 p11.2 h
  · refine hv_case h (fun c1 h => ?_) (fun c1 h => ?_)
    · refine hv_lsw X 123 dX4_readsStatement_16 (by decide) (off := 107) (by rw [c1]; decide) (by decide) ?_
      refine hv_aload_n X dX4_readsStatement_123 1 rfl ?_
      refine hv_iconst X (v := 0) dX4_readsStatement_124 (by decide) ?_
      refine hv_iconst X (v := 1) dX4_readsStatement_125 (by decide) ?_
      obtain ⟨p13, e14, h⟩ := hd_bind h
      refine hv_cV X pk_M_readsNumber hd_rcM (hw_M_readsNumber _ E 0 1 S3 p13 e14) q1330 dX4_readsStatement_126 (by decide) (by decide) (Nat.zero_le _) (Nat.zero_le _) rfl rfl (Nat.le_of_ble_eq_true rfl) rfl ?_
      refine hv_ifb_eq X 145 h dX4_readsStatement_129 (by decide) (fun h => ?_) (fun h => ?_)
      · refine hv_sub [(0, .ref (hd_ad E 38))] [1] rfl ?_
        exact hw_M_readsStatement_145 X hr p13.2 h
      · refine hv_aload_n X dX4_readsStatement_132 1 rfl ?_
        refine hv_iconst X (v := 1) dX4_readsStatement_133 (by decide) ?_
        refine hv_iconst X (v := 1) dX4_readsStatement_134 (by decide) ?_
        obtain ⟨p15, e16, h⟩ := hd_bind h
        refine hv_cV X pk_M_readsNumber hd_rcM (hw_M_readsNumber _ E 1 1 p13.2 p15 e16) q1330 dX4_readsStatement_135 (by decide) (by decide) (Nat.zero_le _) (Nat.zero_le _) rfl rfl (Nat.le_of_ble_eq_true rfl) rfl ?_
        refine hv_ifb_eq X 145 h dX4_readsStatement_138 (by decide) (fun h => ?_) (fun h => ?_)
        · refine hv_sub [(0, .ref (hd_ad E 38))] [1] rfl ?_
          exact hw_M_readsStatement_145 X hr p15.2 h
        · refine hv_iconst X (v := 1) dX4_readsStatement_141 (by decide) ?_
          refine hv_goto X 146 dX4_readsStatement_142 (by decide) ?_
          refine hv_sub [(0, .ref (hd_ad E 38))] [1] rfl ?_
          exact hw_M_readsStatement_146 X hr 1 p15.2 h
    · refine hv_case h (fun c2 h => ?_) (fun c2 h => ?_)
      · refine hv_lsw X 96 dX4_readsStatement_16 (by decide) (off := 80) (by rw [c2]; decide) (by decide) ?_
        refine hv_aload_n X dX4_readsStatement_96 1 rfl ?_
        refine hv_iconst X (v := 0) dX4_readsStatement_97 (by decide) ?_
        refine hv_iconst X (v := 1) dX4_readsStatement_98 (by decide) ?_
        obtain ⟨p17, e18, h⟩ := hd_bind h
        refine hv_cV X pk_M_readsNumber hd_rcM (hw_M_readsNumber _ E 0 1 S3 p17 e18) q1330 dX4_readsStatement_99 (by decide) (by decide) (Nat.zero_le _) (Nat.zero_le _) rfl rfl (Nat.le_of_ble_eq_true rfl) rfl ?_
        refine hv_ifb_eq X 118 h dX4_readsStatement_102 (by decide) (fun h => ?_) (fun h => ?_)
        · refine hv_sub [(0, .ref (hd_ad E 38))] [1] rfl ?_
          exact hw_M_readsStatement_118 X hr p17.2 h
        · refine hv_aload_n X dX4_readsStatement_105 1 rfl ?_
          refine hv_iconst X (v := 1) dX4_readsStatement_106 (by decide) ?_
          refine hv_iconst X (v := 2) dX4_readsStatement_107 (by decide) ?_
          obtain ⟨p19, e20, h⟩ := hd_bind h
          refine hv_cV X pk_M_readsNumber hd_rcM (hw_M_readsNumber _ E 1 2 p17.2 p19 e20) q1330 dX4_readsStatement_108 (by decide) (by decide) (Nat.zero_le _) (Nat.zero_le _) rfl rfl (Nat.le_of_ble_eq_true rfl) rfl ?_
          refine hv_ifb_eq X 118 h dX4_readsStatement_111 (by decide) (fun h => ?_) (fun h => ?_)
          · refine hv_sub [(0, .ref (hd_ad E 38))] [1] rfl ?_
            exact hw_M_readsStatement_118 X hr p19.2 h
          · refine hv_iconst X (v := 1) dX4_readsStatement_114 (by decide) ?_
            refine hv_goto X 119 dX4_readsStatement_115 (by decide) ?_
            refine hv_sub [(0, .ref (hd_ad E 38))] [1] rfl ?_
            exact hw_M_readsStatement_119 X hr 1 p19.2 h
      · refine hv_case h (fun c3 h => ?_) (fun c3 h => ?_)
        · refine hv_lsw X 150 dX4_readsStatement_16 (by decide) (off := 134) (by rw [c3]; decide) (by decide) ?_
          refine hv_aload_n X dX4_readsStatement_150 1 rfl ?_
          refine hv_iconst X (v := 0) dX4_readsStatement_151 (by decide) ?_
          refine hv_iconst X (v := 1) dX4_readsStatement_152 (by decide) ?_
          obtain ⟨p21, e22, h⟩ := hd_bind h
          refine hv_cV X pk_M_readsNumber hd_rcM (hw_M_readsNumber _ E 0 1 S3 p21 e22) q1330 dX4_readsStatement_153 (by decide) (by decide) (Nat.zero_le _) (Nat.zero_le _) rfl rfl (Nat.le_of_ble_eq_true rfl) rfl ?_
          refine hv_ifb_eq X 199 h dX4_readsStatement_156 (by decide) (fun h => ?_) (fun h => ?_)
          · refine hv_sub [(0, .ref (hd_ad E 38))] [1] rfl ?_
            exact hw_M_readsStatement_199 X hr p21.2 h
          · refine hv_aload_n X dX4_readsStatement_159 1 rfl ?_
            refine hv_iconst X (v := 1) dX4_readsStatement_160 (by decide) ?_
            refine hv_iconst X (v := 1) dX4_readsStatement_161 (by decide) ?_
            obtain ⟨p23, e24, h⟩ := hd_bind h
            refine hv_cV X pk_M_readsNumber hd_rcM (hw_M_readsNumber _ E 1 1 p21.2 p23 e24) q1330 dX4_readsStatement_162 (by decide) (by decide) (Nat.zero_le _) (Nat.zero_le _) rfl rfl (Nat.le_of_ble_eq_true rfl) rfl ?_
            refine hv_ifb_eq X 199 h dX4_readsStatement_165 (by decide) (fun h => ?_) (fun h => ?_)
            · refine hv_sub [(0, .ref (hd_ad E 38))] [1] rfl ?_
              exact hw_M_readsStatement_199 X hr p23.2 h
            · refine hv_aload_n X dX4_readsStatement_168 1 rfl ?_
              refine hv_iconst X (v := 2) dX4_readsStatement_169 (by decide) ?_
              refine hv_iconst X (v := 1) dX4_readsStatement_170 (by decide) ?_
              obtain ⟨p25, e26, h⟩ := hd_bind h
              refine hv_cV X pk_M_readsNumber hd_rcM (hw_M_readsNumber _ E 2 1 p23.2 p25 e26) q1330 dX4_readsStatement_171 (by decide) (by decide) (Nat.zero_le _) (Nat.zero_le _) rfl rfl (Nat.le_of_ble_eq_true rfl) rfl ?_
              refine hv_ifb_eq X 199 h dX4_readsStatement_174 (by decide) (fun h => ?_) (fun h => ?_)
              · refine hv_sub [(0, .ref (hd_ad E 38))] [1] rfl ?_
                exact hw_M_readsStatement_199 X hr p25.2 h
              · refine hv_aload_n X dX4_readsStatement_177 1 rfl ?_
                refine hv_iconst X (v := 3) dX4_readsStatement_178 (by decide) ?_
                refine hv_iconst X (v := 2) dX4_readsStatement_179 (by decide) ?_
                obtain ⟨p27, e28, h⟩ := hd_bind h
                refine hv_cV X pk_M_readsNumber hd_rcM (hw_M_readsNumber _ E 3 2 p25.2 p27 e28) q1330 dX4_readsStatement_180 (by decide) (by decide) (Nat.zero_le _) (Nat.zero_le _) rfl rfl (Nat.le_of_ble_eq_true rfl) rfl ?_
                refine hv_ifb_eq X 199 h dX4_readsStatement_183 (by decide) (fun h => ?_) (fun h => ?_)
                · refine hv_sub [(0, .ref (hd_ad E 38))] [1] rfl ?_
                  exact hw_M_readsStatement_199 X hr p27.2 h
                · refine hv_aload_n X dX4_readsStatement_186 1 rfl ?_
                  refine hv_iconst X (v := 4) dX4_readsStatement_187 (by decide) ?_
                  refine hv_iconst X (v := 2) dX4_readsStatement_188 (by decide) ?_
                  obtain ⟨p29, e30, h⟩ := hd_bind h
                  refine hv_cV X pk_M_readsNumber hd_rcM (hw_M_readsNumber _ E 4 2 p27.2 p29 e30) q1330 dX4_readsStatement_189 (by decide) (by decide) (Nat.zero_le _) (Nat.zero_le _) rfl rfl (Nat.le_of_ble_eq_true rfl) rfl ?_
                  refine hv_ifb_eq X 199 h dX4_readsStatement_192 (by decide) (fun h => ?_) (fun h => ?_)
                  · refine hv_sub [(0, .ref (hd_ad E 38))] [1] rfl ?_
                    exact hw_M_readsStatement_199 X hr p29.2 h
                  · refine hv_iconst X (v := 1) dX4_readsStatement_195 (by decide) ?_
                    refine hv_goto X 200 dX4_readsStatement_196 (by decide) ?_
                    refine hv_sub [(0, .ref (hd_ad E 38))] [1] rfl ?_
                    exact hw_M_readsStatement_200 X hr 1 p29.2 h
        · refine hv_lsw X 204 dX4_readsStatement_16 (by decide) (off := 188) ((lv_osw c0 (by decide)).trans ((lv_osw c1 (by decide)).trans ((lv_osw c2 (by decide)).trans ((lv_osw c3 (by decide)).trans rfl)))) (by decide) ?_
          refine hv_aload_n X dX4_readsStatement_204 1 rfl ?_
          refine hv_dup X dX4_readsStatement_205 rfl ?_
          refine hg_M_at X q1246 dX4_readsStatement_206 ?_
          refine hv_iconst X (v := 1) dX4_readsStatement_209 (by decide) ?_
          refine hv_isub X dX4_readsStatement_210 ?_
          refine hp_M_at X q1246 dX4_readsStatement_211 ?_
          refine hv_nmS h (fun S31 h => ?_)
          refine hv_iconst X (v := 0) dX4_readsStatement_214 (by decide) ?_
          obtain rfl := Option.some.inj h
          exact hv_zret X hr rfl dX4_readsStatement_215 (Nat.zero_le _) (Nat.zero_le _)
theorem pk_M_readsStatement : hd_PkV RX4 yX4_readsStatement cX4_readsStatement 3 (some .boolean) 0 := ⟨q1324, qs29, q73, q1325, rfl, by decide +kernel, by decide +kernel, by decide +kernel⟩
-- addsBlade
def hf_M_addsBlade (a1 : Int32) (a2 : Int32) (a3 : Int32) (S : hd_St) : (Option hd_St) :=
  if hd_ck 0 47 = true then
    if hd_ck (hf_M_atBlade (hd_I S 39 (0 : Int32).toNatClampNeg) 0) 47 = true then
    hd_nm (hd_sI S 39 (hf_M_atBlade (hd_I S 39 (0 : Int32).toNatClampNeg) 0).toNatClampNeg a1) fun S1 =>
    if hd_ck 0 47 = true then
    if hd_ck (hf_M_atBlade (hd_I S1 39 (0 : Int32).toNatClampNeg) 1) 47 = true then
    hd_nm (hd_sI S1 39 (hf_M_atBlade (hd_I S1 39 (0 : Int32).toNatClampNeg) 1).toNatClampNeg a2) fun S2 =>
    if hd_ck 0 47 = true then
    if hd_ck (hf_M_atBlade (hd_I S2 39 (0 : Int32).toNatClampNeg) 2) 47 = true then
    hd_nm (hd_sI S2 39 (hf_M_atBlade (hd_I S2 39 (0 : Int32).toNatClampNeg) 2).toNatClampNeg a3) fun S3 =>
    if hd_ck 0 47 = true then
    if hd_ck (hf_M_atBlade (hd_I S3 39 (0 : Int32).toNatClampNeg) 3) 47 = true then
    hd_nm (hd_sI S3 39 (hf_M_atBlade (hd_I S3 39 (0 : Int32).toNatClampNeg) 3).toNatClampNeg 0) fun S4 =>
    if hd_ck 0 47 = true then
    if hd_ck 0 47 = true then
    hd_nm (hd_sI S4 39 (0 : Int32).toNatClampNeg ((hd_I S4 39 (0 : Int32).toNatClampNeg) + 1)) fun S5 =>
    some S5
    else none
    else none
    else none
    else none
    else none
    else none
    else none
    else none
    else none
    else none
theorem hw_M_addsBlade (l : Launch) (E : hd_EV) (a1 : Int32) (a2 : Int32) (a3 : Int32) (S : hd_St) (y : hd_St) (h : hf_M_addsBlade a1 a2 a3 S = some y) : hd_Mt l E yX4_addsBlade cX4_addsBlade 4 (none) (hd_Rm 2 0 0) [.ref (hd_ad E 38), .int a1, .int a2, .int a3] S none y := by
  refine hd_Mt.start [(0, .ref (hd_ad E 38)), (1, .int a1), (2, .int a2), (3, .int a3)] hd_pnX4 rfl (Nat.le_of_ble_eq_true rfl) (fun κ X hl hr hn => ?_)
  have X : hd_Cx κ E cX4_addsBlade RX4 4 (hd_Rm 2 0 0) := X
  unfold hf_M_addsBlade at h
  refine hv_aload_n X dX4_addsBlade_0 0 rfl ?_
  refine hg_M_s X q1241 dX4_addsBlade_1 ?_
  refine hv_aload_n X dX4_addsBlade_4 0 rfl ?_
  refine hg_M_s X q1241 dX4_addsBlade_5 ?_
  refine hv_iconst X (v := 0) dX4_addsBlade_8 (by decide) ?_
  refine hv_iald X h hd_ia39 dX4_addsBlade_9 (fun h => ?_)
  refine hv_iconst X (v := 0) dX4_addsBlade_10 (by decide) ?_
  refine hv_cS X pk_M_atBlade (hw_M_atBlade _ E (hd_I S 39 (0 : Int32).toNatClampNeg) 0 S) q1348 dX4_addsBlade_11 (by decide) (by decide) (Nat.zero_le _) (Nat.zero_le _) rfl rfl (Nat.le_of_ble_eq_true rfl) rfl ?_
  refine hv_iload_n X dX4_addsBlade_14 1 rfl ?_
  refine hv_iast X h hd_ia39 dX4_addsBlade_15 (fun h => ?_)
  refine hv_nmS h (fun S1 h => ?_)
  refine hv_aload_n X dX4_addsBlade_16 0 rfl ?_
  refine hg_M_s X q1241 dX4_addsBlade_17 ?_
  refine hv_aload_n X dX4_addsBlade_20 0 rfl ?_
  refine hg_M_s X q1241 dX4_addsBlade_21 ?_
  refine hv_iconst X (v := 0) dX4_addsBlade_24 (by decide) ?_
  refine hv_iald X h hd_ia39 dX4_addsBlade_25 (fun h => ?_)
  refine hv_iconst X (v := 1) dX4_addsBlade_26 (by decide) ?_
  refine hv_cS X pk_M_atBlade (hw_M_atBlade _ E (hd_I S1 39 (0 : Int32).toNatClampNeg) 1 S1) q1348 dX4_addsBlade_27 (by decide) (by decide) (Nat.zero_le _) (Nat.zero_le _) rfl rfl (Nat.le_of_ble_eq_true rfl) rfl ?_
  refine hv_iload_n X dX4_addsBlade_30 2 rfl ?_
  refine hv_iast X h hd_ia39 dX4_addsBlade_31 (fun h => ?_)
  refine hv_nmS h (fun S2 h => ?_)
  refine hv_aload_n X dX4_addsBlade_32 0 rfl ?_
  refine hg_M_s X q1241 dX4_addsBlade_33 ?_
  refine hv_aload_n X dX4_addsBlade_36 0 rfl ?_
  refine hg_M_s X q1241 dX4_addsBlade_37 ?_
  refine hv_iconst X (v := 0) dX4_addsBlade_40 (by decide) ?_
  refine hv_iald X h hd_ia39 dX4_addsBlade_41 (fun h => ?_)
  refine hv_iconst X (v := 2) dX4_addsBlade_42 (by decide) ?_
  refine hv_cS X pk_M_atBlade (hw_M_atBlade _ E (hd_I S2 39 (0 : Int32).toNatClampNeg) 2 S2) q1348 dX4_addsBlade_43 (by decide) (by decide) (Nat.zero_le _) (Nat.zero_le _) rfl rfl (Nat.le_of_ble_eq_true rfl) rfl ?_
  refine hv_iload_n X dX4_addsBlade_46 3 rfl ?_
  refine hv_iast X h hd_ia39 dX4_addsBlade_47 (fun h => ?_)
  refine hv_nmS h (fun S3 h => ?_)
  refine hv_aload_n X dX4_addsBlade_48 0 rfl ?_
  refine hg_M_s X q1241 dX4_addsBlade_49 ?_
  refine hv_aload_n X dX4_addsBlade_52 0 rfl ?_
  refine hg_M_s X q1241 dX4_addsBlade_53 ?_
  refine hv_iconst X (v := 0) dX4_addsBlade_56 (by decide) ?_
  refine hv_iald X h hd_ia39 dX4_addsBlade_57 (fun h => ?_)
  refine hv_iconst X (v := 3) dX4_addsBlade_58 (by decide) ?_
  refine hv_cS X pk_M_atBlade (hw_M_atBlade _ E (hd_I S3 39 (0 : Int32).toNatClampNeg) 3 S3) q1348 dX4_addsBlade_59 (by decide) (by decide) (Nat.zero_le _) (Nat.zero_le _) rfl rfl (Nat.le_of_ble_eq_true rfl) rfl ?_
  refine hv_iconst X (v := 0) dX4_addsBlade_62 (by decide) ?_
  refine hv_iast X h hd_ia39 dX4_addsBlade_63 (fun h => ?_)
  refine hv_nmS h (fun S4 h => ?_)
  refine hv_aload_n X dX4_addsBlade_64 0 rfl ?_
  refine hg_M_s X q1241 dX4_addsBlade_65 ?_
  refine hv_iconst X (v := 0) dX4_addsBlade_68 (by decide) ?_
  refine hv_dup2 X dX4_addsBlade_69 rfl rfl ?_
  refine hv_iald X h hd_ia39 dX4_addsBlade_70 (fun h => ?_)
  refine hv_iconst X (v := 1) dX4_addsBlade_71 (by decide) ?_
  refine hv_iadd X dX4_addsBlade_72 ?_
  refine hv_iast X h hd_ia39 dX4_addsBlade_73 (fun h => ?_)
  refine hv_nmS h (fun S5 h => ?_)
  obtain rfl := Option.some.inj h
  exact hv_vret X hr dX4_addsBlade_74 (Nat.zero_le _) (Nat.zero_le _)
theorem pk_M_addsBlade : hd_PkV RX4 yX4_addsBlade cX4_addsBlade 4 (none) 3 := ⟨q1346, qs33, q73, q1347, rfl, by decide +kernel, by decide +kernel, by decide +kernel⟩
-- addsThumbs
def hf_M_addsThumbs (a1 : Int32) (a2 : Int32) (S : hd_St) : (Option hd_St) :=
  if hd_ck 1 47 = true then
    if hd_ck (hf_M_atThumbs (hd_I S 39 (1 : Int32).toNatClampNeg) 0) 47 = true then
    hd_nm (hd_sI S 39 (hf_M_atThumbs (hd_I S 39 (1 : Int32).toNatClampNeg) 0).toNatClampNeg a1) fun S1 =>
    if hd_ck 1 47 = true then
    if hd_ck (hf_M_atThumbs (hd_I S1 39 (1 : Int32).toNatClampNeg) 1) 47 = true then
    hd_nm (hd_sI S1 39 (hf_M_atThumbs (hd_I S1 39 (1 : Int32).toNatClampNeg) 1).toNatClampNeg a2) fun S2 =>
    if hd_ck 1 47 = true then
    if hd_ck 1 47 = true then
    hd_nm (hd_sI S2 39 (1 : Int32).toNatClampNeg ((hd_I S2 39 (1 : Int32).toNatClampNeg) + 1)) fun S3 =>
    some S3
    else none
    else none
    else none
    else none
    else none
    else none
theorem hw_M_addsThumbs (l : Launch) (E : hd_EV) (a1 : Int32) (a2 : Int32) (S : hd_St) (y : hd_St) (h : hf_M_addsThumbs a1 a2 S = some y) : hd_Mt l E yX4_addsThumbs cX4_addsThumbs 3 (none) (hd_Rm 2 0 0) [.ref (hd_ad E 38), .int a1, .int a2] S none y := by
  refine hd_Mt.start [(0, .ref (hd_ad E 38)), (1, .int a1), (2, .int a2)] hd_pnX4 rfl (Nat.le_of_ble_eq_true rfl) (fun κ X hl hr hn => ?_)
  have X : hd_Cx κ E cX4_addsThumbs RX4 3 (hd_Rm 2 0 0) := X
  unfold hf_M_addsThumbs at h
  refine hv_aload_n X dX4_addsThumbs_0 0 rfl ?_
  refine hg_M_s X q1241 dX4_addsThumbs_1 ?_
  refine hv_aload_n X dX4_addsThumbs_4 0 rfl ?_
  refine hg_M_s X q1241 dX4_addsThumbs_5 ?_
  refine hv_iconst X (v := 1) dX4_addsThumbs_8 (by decide) ?_
  refine hv_iald X h hd_ia39 dX4_addsThumbs_9 (fun h => ?_)
  refine hv_iconst X (v := 0) dX4_addsThumbs_10 (by decide) ?_
  refine hv_cS X pk_M_atThumbs (hw_M_atThumbs _ E (hd_I S 39 (1 : Int32).toNatClampNeg) 0 S) q1355 dX4_addsThumbs_11 (by decide) (by decide) (Nat.zero_le _) (Nat.zero_le _) rfl rfl (Nat.le_of_ble_eq_true rfl) rfl ?_
  refine hv_iload_n X dX4_addsThumbs_14 1 rfl ?_
  refine hv_iast X h hd_ia39 dX4_addsThumbs_15 (fun h => ?_)
  refine hv_nmS h (fun S1 h => ?_)
  refine hv_aload_n X dX4_addsThumbs_16 0 rfl ?_
  refine hg_M_s X q1241 dX4_addsThumbs_17 ?_
  refine hv_aload_n X dX4_addsThumbs_20 0 rfl ?_
  refine hg_M_s X q1241 dX4_addsThumbs_21 ?_
  refine hv_iconst X (v := 1) dX4_addsThumbs_24 (by decide) ?_
  refine hv_iald X h hd_ia39 dX4_addsThumbs_25 (fun h => ?_)
  refine hv_iconst X (v := 1) dX4_addsThumbs_26 (by decide) ?_
  refine hv_cS X pk_M_atThumbs (hw_M_atThumbs _ E (hd_I S1 39 (1 : Int32).toNatClampNeg) 1 S1) q1355 dX4_addsThumbs_27 (by decide) (by decide) (Nat.zero_le _) (Nat.zero_le _) rfl rfl (Nat.le_of_ble_eq_true rfl) rfl ?_
  refine hv_iload_n X dX4_addsThumbs_30 2 rfl ?_
  refine hv_iast X h hd_ia39 dX4_addsThumbs_31 (fun h => ?_)
  refine hv_nmS h (fun S2 h => ?_)
  refine hv_aload_n X dX4_addsThumbs_32 0 rfl ?_
  refine hg_M_s X q1241 dX4_addsThumbs_33 ?_
  refine hv_iconst X (v := 1) dX4_addsThumbs_36 (by decide) ?_
  refine hv_dup2 X dX4_addsThumbs_37 rfl rfl ?_
  refine hv_iald X h hd_ia39 dX4_addsThumbs_38 (fun h => ?_)
  refine hv_iconst X (v := 1) dX4_addsThumbs_39 (by decide) ?_
  refine hv_iadd X dX4_addsThumbs_40 ?_
  refine hv_iast X h hd_ia39 dX4_addsThumbs_41 (fun h => ?_)
  refine hv_nmS h (fun S3 h => ?_)
  obtain rfl := Option.some.inj h
  exact hv_vret X hr dX4_addsThumbs_42 (Nat.zero_le _) (Nat.zero_le _)
theorem pk_M_addsThumbs : hd_PkV RX4 yX4_addsThumbs cX4_addsThumbs 3 (none) 2 := ⟨q1353, qs34, q73, q1354, rfl, by decide +kernel, by decide +kernel, by decide +kernel⟩
-- addsBlow
def hf_M_addsBlow (a1 : Int32) (a2 : Int32) (S : hd_St) : (Option hd_St) :=
  if hd_ck 2 47 = true then
    if hd_ck (hf_M_atBlow (hd_I S 39 (2 : Int32).toNatClampNeg) 0) 47 = true then
    hd_nm (hd_sI S 39 (hf_M_atBlow (hd_I S 39 (2 : Int32).toNatClampNeg) 0).toNatClampNeg a1) fun S1 =>
    if hd_ck 2 47 = true then
    if hd_ck (hf_M_atBlow (hd_I S1 39 (2 : Int32).toNatClampNeg) 1) 47 = true then
    hd_nm (hd_sI S1 39 (hf_M_atBlow (hd_I S1 39 (2 : Int32).toNatClampNeg) 1).toNatClampNeg a2) fun S2 =>
    if hd_ck 2 47 = true then
    if hd_ck 2 47 = true then
    hd_nm (hd_sI S2 39 (2 : Int32).toNatClampNeg ((hd_I S2 39 (2 : Int32).toNatClampNeg) + 1)) fun S3 =>
    some S3
    else none
    else none
    else none
    else none
    else none
    else none
theorem hw_M_addsBlow (l : Launch) (E : hd_EV) (a1 : Int32) (a2 : Int32) (S : hd_St) (y : hd_St) (h : hf_M_addsBlow a1 a2 S = some y) : hd_Mt l E yX4_addsBlow cX4_addsBlow 3 (none) (hd_Rm 2 0 0) [.ref (hd_ad E 38), .int a1, .int a2] S none y := by
  refine hd_Mt.start [(0, .ref (hd_ad E 38)), (1, .int a1), (2, .int a2)] hd_pnX4 rfl (Nat.le_of_ble_eq_true rfl) (fun κ X hl hr hn => ?_)
  have X : hd_Cx κ E cX4_addsBlow RX4 3 (hd_Rm 2 0 0) := X
  unfold hf_M_addsBlow at h
  refine hv_aload_n X dX4_addsBlow_0 0 rfl ?_
  refine hg_M_s X q1241 dX4_addsBlow_1 ?_
  refine hv_aload_n X dX4_addsBlow_4 0 rfl ?_
  refine hg_M_s X q1241 dX4_addsBlow_5 ?_
  refine hv_iconst X (v := 2) dX4_addsBlow_8 (by decide) ?_
  refine hv_iald X h hd_ia39 dX4_addsBlow_9 (fun h => ?_)
  refine hv_iconst X (v := 0) dX4_addsBlow_10 (by decide) ?_
  refine hv_cS X pk_M_atBlow (hw_M_atBlow _ E (hd_I S 39 (2 : Int32).toNatClampNeg) 0 S) q1362 dX4_addsBlow_11 (by decide) (by decide) (Nat.zero_le _) (Nat.zero_le _) rfl rfl (Nat.le_of_ble_eq_true rfl) rfl ?_
  refine hv_iload_n X dX4_addsBlow_14 1 rfl ?_
  refine hv_iast X h hd_ia39 dX4_addsBlow_15 (fun h => ?_)
  refine hv_nmS h (fun S1 h => ?_)
  refine hv_aload_n X dX4_addsBlow_16 0 rfl ?_
  refine hg_M_s X q1241 dX4_addsBlow_17 ?_
  refine hv_aload_n X dX4_addsBlow_20 0 rfl ?_
  refine hg_M_s X q1241 dX4_addsBlow_21 ?_
  refine hv_iconst X (v := 2) dX4_addsBlow_24 (by decide) ?_
  refine hv_iald X h hd_ia39 dX4_addsBlow_25 (fun h => ?_)
  refine hv_iconst X (v := 1) dX4_addsBlow_26 (by decide) ?_
  refine hv_cS X pk_M_atBlow (hw_M_atBlow _ E (hd_I S1 39 (2 : Int32).toNatClampNeg) 1 S1) q1362 dX4_addsBlow_27 (by decide) (by decide) (Nat.zero_le _) (Nat.zero_le _) rfl rfl (Nat.le_of_ble_eq_true rfl) rfl ?_
  refine hv_iload_n X dX4_addsBlow_30 2 rfl ?_
  refine hv_iast X h hd_ia39 dX4_addsBlow_31 (fun h => ?_)
  refine hv_nmS h (fun S2 h => ?_)
  refine hv_aload_n X dX4_addsBlow_32 0 rfl ?_
  refine hg_M_s X q1241 dX4_addsBlow_33 ?_
  refine hv_iconst X (v := 2) dX4_addsBlow_36 (by decide) ?_
  refine hv_dup2 X dX4_addsBlow_37 rfl rfl ?_
  refine hv_iald X h hd_ia39 dX4_addsBlow_38 (fun h => ?_)
  refine hv_iconst X (v := 1) dX4_addsBlow_39 (by decide) ?_
  refine hv_iadd X dX4_addsBlow_40 ?_
  refine hv_iast X h hd_ia39 dX4_addsBlow_41 (fun h => ?_)
  refine hv_nmS h (fun S3 h => ?_)
  obtain rfl := Option.some.inj h
  exact hv_vret X hr dX4_addsBlow_42 (Nat.zero_le _) (Nat.zero_le _)
theorem pk_M_addsBlow : hd_PkV RX4 yX4_addsBlow cX4_addsBlow 3 (none) 2 := ⟨q1360, qs35, q73, q1361, rfl, by decide +kernel, by decide +kernel, by decide +kernel⟩
-- areAll
def hf_M_areAll (a1 : Int32) (a2 : Int32) (a3 : Int32) (S : hd_St) : (Option Bool) :=
  (hf_M_isBlade a1 S).bind fun r1 =>
    if r1 = true then
    ((hf_M_isThumbs a2 S).bind fun r3 =>
    if r3 = true then
    ((hf_M_isBlow a3 S).bind fun r5 =>
    if r5 = true then
    (some true)
    else
    (some false))
    else
    (some false))
    else
    (some false)
theorem hw_M_areAll (l : Launch) (E : hd_EV) (a1 : Int32) (a2 : Int32) (a3 : Int32) (S : hd_St) (y : Bool) (h : hf_M_areAll a1 a2 a3 S = some y) : hd_Mt l E yX4_areAll cX4_areAll 4 (some .boolean) (hd_Rm 3 0 0) [.ref (hd_ad E 38), .int a1, .int a2, .int a3] S (some (.int (hd_bI y))) S := by
  refine hd_Mt.start [(0, .ref (hd_ad E 38)), (1, .int a1), (2, .int a2), (3, .int a3)] hd_pnX4 rfl (Nat.le_of_ble_eq_true rfl) (fun κ X hl hr hn => ?_)
  have X : hd_Cx κ E cX4_areAll RX4 4 (hd_Rm 3 0 0) := X
  unfold hf_M_areAll at h
  refine hv_aload_n X dX4_areAll_0 0 rfl ?_
  refine hv_iload_n X dX4_areAll_1 1 rfl ?_
  obtain ⟨r1, e2, h⟩ := hd_bind h
  refine hv_cV X pk_M_isBlade hd_rcM (hw_M_isBlade _ E a1 S r1 e2) q1369 dX4_areAll_2 (by decide) (by decide) (Nat.zero_le _) (Nat.zero_le _) rfl rfl (Nat.le_of_ble_eq_true rfl) rfl ?_
  refine hv_ifb_eq X 28 h dX4_areAll_5 (by decide) (fun h => ?_) (fun h => ?_)
  · refine hv_iconst X (v := 0) dX4_areAll_28 (by decide) ?_
    obtain rfl := Option.some.inj h
    exact hv_zret X hr rfl dX4_areAll_29 (Nat.zero_le _) (Nat.zero_le _)
  · refine hv_aload_n X dX4_areAll_8 0 rfl ?_
    refine hv_iload_n X dX4_areAll_9 2 rfl ?_
    obtain ⟨r3, e4, h⟩ := hd_bind h
    refine hv_cV X pk_M_isThumbs hd_rcM (hw_M_isThumbs _ E a2 S r3 e4) q1373 dX4_areAll_10 (by decide) (by decide) (Nat.zero_le _) (Nat.zero_le _) rfl rfl (Nat.le_of_ble_eq_true rfl) rfl ?_
    refine hv_ifb_eq X 28 h dX4_areAll_13 (by decide) (fun h => ?_) (fun h => ?_)
    · refine hv_iconst X (v := 0) dX4_areAll_28 (by decide) ?_
      obtain rfl := Option.some.inj h
      exact hv_zret X hr rfl dX4_areAll_29 (Nat.zero_le _) (Nat.zero_le _)
    · refine hv_aload_n X dX4_areAll_16 0 rfl ?_
      refine hv_iload_n X dX4_areAll_17 3 rfl ?_
      obtain ⟨r5, e6, h⟩ := hd_bind h
      refine hv_cV X pk_M_isBlow hd_rcM (hw_M_isBlow _ E a3 S r5 e6) q1377 dX4_areAll_18 (by decide) (by decide) (Nat.zero_le _) (Nat.zero_le _) rfl rfl (Nat.le_of_ble_eq_true rfl) rfl ?_
      refine hv_ifb_eq X 28 h dX4_areAll_21 (by decide) (fun h => ?_) (fun h => ?_)
      · refine hv_iconst X (v := 0) dX4_areAll_28 (by decide) ?_
        obtain rfl := Option.some.inj h
        exact hv_zret X hr rfl dX4_areAll_29 (Nat.zero_le _) (Nat.zero_le _)
      · refine hv_iconst X (v := 1) dX4_areAll_24 (by decide) ?_
        refine hv_goto X 29 dX4_areAll_25 (by decide) ?_
        obtain rfl := Option.some.inj h
        exact hv_zret X hr rfl dX4_areAll_29 (Nat.zero_le _) (Nat.zero_le _)
theorem pk_M_areAll : hd_PkV RX4 yX4_areAll cX4_areAll 4 (some .boolean) 3 := ⟨q1367, qs36, q73, q1368, rfl, by decide +kernel, by decide +kernel, by decide +kernel⟩
-- isSplit
def hf_M_isSplit (a1 : Int32) (S : hd_St) : (Option Bool) :=
  (hf_M_bladeOf a1 3 S).bind fun r1 =>
    (hf_M_bladeOf a1 1 S).bind fun r3 =>
    (hf_M_bladeOf a1 2 S).bind fun r5 =>
    if r1 ≤ (r3 + r5) then
    (some false)
    else
    (some true)
theorem hw_M_isSplit (l : Launch) (E : hd_EV) (a1 : Int32) (S : hd_St) (y : Bool) (h : hf_M_isSplit a1 S = some y) : hd_Mt l E yX4_isSplit cX4_isSplit 2 (some .boolean) (hd_Rm 3 0 0) [.ref (hd_ad E 38), .int a1] S (some (.int (hd_bI y))) S := by
  refine hd_Mt.start [(0, .ref (hd_ad E 38)), (1, .int a1)] hd_pnX4 rfl (Nat.le_of_ble_eq_true rfl) (fun κ X hl hr hn => ?_)
  have X : hd_Cx κ E cX4_isSplit RX4 2 (hd_Rm 3 0 0) := X
  unfold hf_M_isSplit at h
  refine hv_aload_n X dX4_isSplit_0 0 rfl ?_
  refine hv_iload_n X dX4_isSplit_1 1 rfl ?_
  refine hv_iconst X (v := 3) dX4_isSplit_2 (by decide) ?_
  obtain ⟨r1, e2, h⟩ := hd_bind h
  refine hv_cV X pk_M_bladeOf hd_rcM (hw_M_bladeOf _ E a1 3 S r1 e2) q1385 dX4_isSplit_3 (by decide) (by decide) (Nat.zero_le _) (Nat.zero_le _) rfl rfl (Nat.le_of_ble_eq_true rfl) rfl ?_
  refine hv_aload_n X dX4_isSplit_6 0 rfl ?_
  refine hv_iload_n X dX4_isSplit_7 1 rfl ?_
  refine hv_iconst X (v := 1) dX4_isSplit_8 (by decide) ?_
  obtain ⟨r3, e4, h⟩ := hd_bind h
  refine hv_cV X pk_M_bladeOf hd_rcM (hw_M_bladeOf _ E a1 1 S r3 e4) q1385 dX4_isSplit_9 (by decide) (by decide) (Nat.zero_le _) (Nat.zero_le _) rfl rfl (Nat.le_of_ble_eq_true rfl) rfl ?_
  refine hv_aload_n X dX4_isSplit_12 0 rfl ?_
  refine hv_iload_n X dX4_isSplit_13 1 rfl ?_
  refine hv_iconst X (v := 2) dX4_isSplit_14 (by decide) ?_
  obtain ⟨r5, e6, h⟩ := hd_bind h
  refine hv_cV X pk_M_bladeOf hd_rcM (hw_M_bladeOf _ E a1 2 S r5 e6) q1385 dX4_isSplit_15 (by decide) (by decide) (Nat.zero_le _) (Nat.zero_le _) rfl rfl (Nat.le_of_ble_eq_true rfl) rfl ?_
  refine hv_iadd X dX4_isSplit_18 ?_
  refine hv_icmp_le X 26 h dX4_isSplit_19 (by decide) (fun h => ?_) (fun h => ?_)
  · refine hv_iconst X (v := 0) dX4_isSplit_26 (by decide) ?_
    obtain rfl := Option.some.inj h
    exact hv_zret X hr rfl dX4_isSplit_27 (Nat.zero_le _) (Nat.zero_le _)
  · refine hv_iconst X (v := 1) dX4_isSplit_22 (by decide) ?_
    refine hv_goto X 27 dX4_isSplit_23 (by decide) ?_
    obtain rfl := Option.some.inj h
    exact hv_zret X hr rfl dX4_isSplit_27 (Nat.zero_le _) (Nat.zero_le _)
theorem pk_M_isSplit : hd_PkV RX4 yX4_isSplit cX4_isSplit 2 (some .boolean) 1 := ⟨q1383, qs40, q73, q1384, rfl, by decide +kernel, by decide +kernel, by decide +kernel⟩
-- wears
def hf_M_wears (a1 : Int32) (a2 : Int32) (S : hd_St) : (Option Int32) :=
  hd_nm (a2 / 10) fun v1 =>
    (hf_M_kind a1 S).bind fun r2 =>
    if r2 = 2 then
    (some (v1 + 1))
    else
    (if r2 = 3 then
    (some ((2 : Int32) * (v1 + 1)))
    else
    (if r2 = 4 then
    ((hf_M_figure a1 S).bind fun r4 =>
    some (v1 + r4))
    else
    (if r2 = 5 then
    (some (v1 + 1))
    else
    (if r2 = 6 then
    (some 0)
    else
    (if r2 = 7 then
    (some (v1 + 1))
    else
    (some v1))))))
theorem hw_M_wears (l : Launch) (E : hd_EV) (a1 : Int32) (a2 : Int32) (S : hd_St) (y : Int32) (h : hf_M_wears a1 a2 S = some y) : hd_Mt l E yX4_wears cX4_wears 4 (some .int) (hd_Rm 3 0 0) [.ref (hd_ad E 38), .int a1, .int a2] S (some (.int y)) S := by
  refine hd_Mt.start [(0, .ref (hd_ad E 38)), (1, .int a1), (2, .int a2)] hd_pnX4 rfl (Nat.le_of_ble_eq_true rfl) (fun κ X hl hr hn => ?_)
  have X : hd_Cx κ E cX4_wears RX4 4 (hd_Rm 3 0 0) := X
  unfold hf_M_wears at h
  refine hv_iload_n X dX4_wears_0 2 rfl ?_
  refine hv_bipush X (v := 10) dX4_wears_1 (by decide) ?_
  refine hv_idivc X (by decide) dX4_wears_3 ?_
  refine hv_nmI h (fun v1 h => ?_)
  refine hv_istore_n X [(3, .int v1), (0, .ref (hd_ad E 38)), (1, .int a1), (2, .int a2)] dX4_wears_4 (by decide) rfl ?_
  refine hv_aload_n X dX4_wears_5 1 rfl ?_
  refine hv_iload_n X dX4_wears_6 2 rfl ?_
  obtain ⟨r2, e3, h⟩ := hd_bind h
  refine hv_cV X pk_M_kind hd_rcM (hw_M_kind _ E a1 S r2 e3) q1393 dX4_wears_7 (by decide) (by decide) (Nat.zero_le _) (Nat.zero_le _) rfl rfl (Nat.le_of_ble_eq_true rfl) rfl ?_
  refine hv_case h (fun c0 h => ?_) (fun c0 h => ?_)
  · refine hv_tswIn X 48 c0 dX4_wears_10 (by decide) (by decide) (off := 38) (by decide) (by decide) ?_
    refine hv_iload_n X dX4_wears_48 0 rfl ?_
    refine hv_iconst X (v := 1) dX4_wears_49 (by decide) ?_
    refine hv_iadd X dX4_wears_50 ?_
    obtain rfl := Option.some.inj h
    exact hv_iret X hr dX4_wears_51 (Nat.zero_le _) (Nat.zero_le _)
  · refine hv_case h (fun c1 h => ?_) (fun c1 h => ?_)
    · refine hv_tswIn X 52 c1 dX4_wears_10 (by decide) (by decide) (off := 42) (by decide) (by decide) ?_
      refine hv_iconst X (v := 2) dX4_wears_52 (by decide) ?_
      refine hv_iload_n X dX4_wears_53 0 rfl ?_
      refine hv_iconst X (v := 1) dX4_wears_54 (by decide) ?_
      refine hv_iadd X dX4_wears_55 ?_
      refine hv_imul X dX4_wears_56 ?_
      obtain rfl := Option.some.inj h
      exact hv_iret X hr dX4_wears_57 (Nat.zero_le _) (Nat.zero_le _)
    · refine hv_case h (fun c2 h => ?_) (fun c2 h => ?_)
      · refine hv_tswIn X 58 c2 dX4_wears_10 (by decide) (by decide) (off := 48) (by decide) (by decide) ?_
        refine hv_iload_n X dX4_wears_58 0 rfl ?_
        refine hv_aload_n X dX4_wears_59 1 rfl ?_
        refine hv_iload_n X dX4_wears_60 2 rfl ?_
        obtain ⟨r4, e5, h⟩ := hd_bind h
        refine hv_cV X pk_M_figure hd_rcM (hw_M_figure _ E a1 S r4 e5) q1397 dX4_wears_61 (by decide) (by decide) (Nat.zero_le _) (Nat.zero_le _) rfl rfl (Nat.le_of_ble_eq_true rfl) rfl ?_
        refine hv_iadd X dX4_wears_64 ?_
        obtain rfl := Option.some.inj h
        exact hv_iret X hr dX4_wears_65 (Nat.zero_le _) (Nat.zero_le _)
      · refine hv_case h (fun c3 h => ?_) (fun c3 h => ?_)
        · refine hv_tswIn X 48 c3 dX4_wears_10 (by decide) (by decide) (off := 38) (by decide) (by decide) ?_
          refine hv_iload_n X dX4_wears_48 0 rfl ?_
          refine hv_iconst X (v := 1) dX4_wears_49 (by decide) ?_
          refine hv_iadd X dX4_wears_50 ?_
          obtain rfl := Option.some.inj h
          exact hv_iret X hr dX4_wears_51 (Nat.zero_le _) (Nat.zero_le _)
        · refine hv_case h (fun c4 h => ?_) (fun c4 h => ?_)
          · refine hv_tswIn X 66 c4 dX4_wears_10 (by decide) (by decide) (off := 56) (by decide) (by decide) ?_
            refine hv_iconst X (v := 0) dX4_wears_66 (by decide) ?_
            obtain rfl := Option.some.inj h
            exact hv_iret X hr dX4_wears_67 (Nat.zero_le _) (Nat.zero_le _)
          · refine hv_case h (fun c5 h => ?_) (fun c5 h => ?_)
            · refine hv_tswIn X 48 c5 dX4_wears_10 (by decide) (by decide) (off := 38) (by decide) (by decide) ?_
              refine hv_iload_n X dX4_wears_48 0 rfl ?_
              refine hv_iconst X (v := 1) dX4_wears_49 (by decide) ?_
              refine hv_iadd X dX4_wears_50 ?_
              obtain rfl := Option.some.inj h
              exact hv_iret X hr dX4_wears_51 (Nat.zero_le _) (Nat.zero_le _)
            · refine hv_tswOut X 68 dX4_wears_10 (by have b0 := hd_ni c0 (a := 2) (by decide); have b1 := hd_ni c1 (a := 3) (by decide); have b2 := hd_ni c2 (a := 4) (by decide); have b3 := hd_ni c3 (a := 5) (by decide); have b4 := hd_ni c4 (a := 6) (by decide); have b5 := hd_ni c5 (a := 7) (by decide); omega) (by decide) ?_
              refine hv_iload_n X dX4_wears_68 0 rfl ?_
              obtain rfl := Option.some.inj h
              exact hv_iret X hr dX4_wears_69 (Nat.zero_le _) (Nat.zero_le _)
theorem pk_M_wears : hd_PkV RX4 yX4_wears cX4_wears 4 (some .int) 2 := ⟨q1391, qs42, q73, q1392, rfl, by decide +kernel, by decide +kernel, by decide +kernel⟩
-- blade
def hf_M_blade (a1 : Int32) (a2 : Int32) (S : hd_St) : (Option Int32) :=
  (hf_M_isBlade a1 S).bind fun r1 =>
    if r1 = true then
    (if (hf_M_isIn a2 0 4) = true then
    (if (4 : Int32) ≤ a2 then
    ((hf_M_isSplit a1 S).bind fun r3 =>
    if r3 = true then
    (some 1)
    else
    (some 0))
    else
    ((hf_M_bladeOf a1 a2 S).bind fun r5 =>
    some r5))
    else
    (some (-1)))
    else
    (some (-1))
theorem hw_M_blade (l : Launch) (E : hd_EV) (a1 : Int32) (a2 : Int32) (S : hd_St) (y : Int32) (h : hf_M_blade a1 a2 S = some y) : hd_Mt l E yX4_blade cX4_blade 3 (some .int) (hd_Rm 4 0 0) [.ref (hd_ad E 38), .int a1, .int a2] S (some (.int y)) S := by
  refine hd_Mt.start [(0, .ref (hd_ad E 38)), (1, .int a1), (2, .int a2)] hd_pnX4 rfl (Nat.le_of_ble_eq_true rfl) (fun κ X hl hr hn => ?_)
  have X : hd_Cx κ E cX4_blade RX4 3 (hd_Rm 4 0 0) := X
  unfold hf_M_blade at h
  refine hv_aload_n X dX4_blade_0 0 rfl ?_
  refine hv_iload_n X dX4_blade_1 1 rfl ?_
  obtain ⟨r1, e2, h⟩ := hd_bind h
  refine hv_cV X pk_M_isBlade hd_rcM (hw_M_isBlade _ E a1 S r1 e2) q1369 dX4_blade_2 (by decide) (by decide) (Nat.zero_le _) (Nat.zero_le _) rfl rfl (Nat.le_of_ble_eq_true rfl) rfl ?_
  refine hv_ifb_eq X 17 h dX4_blade_5 (by decide) (fun h => ?_) (fun h => ?_)
  · refine hv_iconst X (v := (-1)) dX4_blade_17 (by decide) ?_
    obtain rfl := Option.some.inj h
    exact hv_iret X hr dX4_blade_18 (Nat.zero_le _) (Nat.zero_le _)
  · refine hv_iload_n X dX4_blade_8 2 rfl ?_
    refine hv_iconst X (v := 0) dX4_blade_9 (by decide) ?_
    refine hv_iconst X (v := 4) dX4_blade_10 (by decide) ?_
    refine hv_cS X pk_M_isIn (hw_M_isIn _ E a2 0 4 S) q1319 dX4_blade_11 (by decide) (by decide) (Nat.zero_le _) (Nat.zero_le _) rfl rfl (Nat.le_of_ble_eq_true rfl) rfl ?_
    refine hv_ifb_ne X 19 h dX4_blade_14 (by decide) (fun h => ?_) (fun h => ?_)
    · refine hv_iload_n X dX4_blade_19 2 rfl ?_
      refine hv_iconst X (v := 4) dX4_blade_20 (by decide) ?_
      refine hv_icmp_ge X 33 h dX4_blade_21 (by decide) (fun h => ?_) (fun h => ?_)
      · refine hv_aload_n X dX4_blade_33 0 rfl ?_
        refine hv_iload_n X dX4_blade_34 1 rfl ?_
        obtain ⟨r3, e4, h⟩ := hd_bind h
        refine hv_cV X pk_M_isSplit hd_rcM (hw_M_isSplit _ E a1 S r3 e4) q1381 dX4_blade_35 (by decide) (by decide) (Nat.zero_le _) (Nat.zero_le _) rfl rfl (Nat.le_of_ble_eq_true rfl) rfl ?_
        refine hv_ifb_eq X 45 h dX4_blade_38 (by decide) (fun h => ?_) (fun h => ?_)
        · refine hv_iconst X (v := 0) dX4_blade_45 (by decide) ?_
          obtain rfl := Option.some.inj h
          exact hv_iret X hr dX4_blade_46 (Nat.zero_le _) (Nat.zero_le _)
        · refine hv_iconst X (v := 1) dX4_blade_41 (by decide) ?_
          refine hv_goto X 46 dX4_blade_42 (by decide) ?_
          obtain rfl := Option.some.inj h
          exact hv_iret X hr dX4_blade_46 (Nat.zero_le _) (Nat.zero_le _)
      · refine hv_aload_n X dX4_blade_24 0 rfl ?_
        refine hv_iload_n X dX4_blade_25 1 rfl ?_
        refine hv_iload_n X dX4_blade_26 2 rfl ?_
        obtain ⟨r5, e6, h⟩ := hd_bind h
        refine hv_cV X pk_M_bladeOf hd_rcM (hw_M_bladeOf _ E a1 a2 S r5 e6) q1385 dX4_blade_27 (by decide) (by decide) (Nat.zero_le _) (Nat.zero_le _) rfl rfl (Nat.le_of_ble_eq_true rfl) rfl ?_
        refine hv_goto X 46 dX4_blade_30 (by decide) ?_
        obtain rfl := Option.some.inj h
        exact hv_iret X hr dX4_blade_46 (Nat.zero_le _) (Nat.zero_le _)
    · refine hv_iconst X (v := (-1)) dX4_blade_17 (by decide) ?_
      obtain rfl := Option.some.inj h
      exact hv_iret X hr dX4_blade_18 (Nat.zero_le _) (Nat.zero_le _)
theorem pk_M_blade : hd_PkV RX4 yX4_blade cX4_blade 3 (some .int) 2 := ⟨q1402, q1403, q73, q1404, rfl, by decide +kernel, by decide +kernel, by decide +kernel⟩
-- blow
def hf_M_blow (a1 : Int32) (a2 : Int32) (S : hd_St) : (Option Int32) :=
  (hf_M_isBlow a1 S).bind fun r1 =>
    if r1 = true then
    (if (hf_M_isIn a2 0 2) = true then
    (if (2 : Int32) ≤ a2 then
    ((hf_M_wears a1 30 S).bind fun r3 =>
    some r3)
    else
    (if hd_ck (hf_M_atBlow a1 a2) 47 = true then
    some (hd_I S 39 (hf_M_atBlow a1 a2).toNatClampNeg)
    else none))
    else
    (some (-1)))
    else
    (some (-1))
theorem hw_M_blow (l : Launch) (E : hd_EV) (a1 : Int32) (a2 : Int32) (S : hd_St) (y : Int32) (h : hf_M_blow a1 a2 S = some y) : hd_Mt l E yX4_blow cX4_blow 3 (some .int) (hd_Rm 4 0 0) [.ref (hd_ad E 38), .int a1, .int a2] S (some (.int y)) S := by
  refine hd_Mt.start [(0, .ref (hd_ad E 38)), (1, .int a1), (2, .int a2)] hd_pnX4 rfl (Nat.le_of_ble_eq_true rfl) (fun κ X hl hr hn => ?_)
  have X : hd_Cx κ E cX4_blow RX4 3 (hd_Rm 4 0 0) := X
  unfold hf_M_blow at h
  refine hv_aload_n X dX4_blow_0 0 rfl ?_
  refine hv_iload_n X dX4_blow_1 1 rfl ?_
  obtain ⟨r1, e2, h⟩ := hd_bind h
  refine hv_cV X pk_M_isBlow hd_rcM (hw_M_isBlow _ E a1 S r1 e2) q1377 dX4_blow_2 (by decide) (by decide) (Nat.zero_le _) (Nat.zero_le _) rfl rfl (Nat.le_of_ble_eq_true rfl) rfl ?_
  refine hv_ifb_eq X 17 h dX4_blow_5 (by decide) (fun h => ?_) (fun h => ?_)
  · refine hv_iconst X (v := (-1)) dX4_blow_17 (by decide) ?_
    obtain rfl := Option.some.inj h
    exact hv_iret X hr dX4_blow_18 (Nat.zero_le _) (Nat.zero_le _)
  · refine hv_iload_n X dX4_blow_8 2 rfl ?_
    refine hv_iconst X (v := 0) dX4_blow_9 (by decide) ?_
    refine hv_iconst X (v := 2) dX4_blow_10 (by decide) ?_
    refine hv_cS X pk_M_isIn (hw_M_isIn _ E a2 0 2 S) q1319 dX4_blow_11 (by decide) (by decide) (Nat.zero_le _) (Nat.zero_le _) rfl rfl (Nat.le_of_ble_eq_true rfl) rfl ?_
    refine hv_ifb_ne X 19 h dX4_blow_14 (by decide) (fun h => ?_) (fun h => ?_)
    · refine hv_iload_n X dX4_blow_19 2 rfl ?_
      refine hv_iconst X (v := 2) dX4_blow_20 (by decide) ?_
      refine hv_icmp_ge X 37 h dX4_blow_21 (by decide) (fun h => ?_) (fun h => ?_)
      · refine hv_aload_n X dX4_blow_37 0 rfl ?_
        refine hv_iload_n X dX4_blow_38 1 rfl ?_
        refine hv_bipush X (v := 30) dX4_blow_39 (by decide) ?_
        obtain ⟨r3, e4, h⟩ := hd_bind h
        refine hv_cV X pk_M_wears hd_rcM (hw_M_wears _ E a1 30 S r3 e4) q1389 dX4_blow_41 (by decide) (by decide) (Nat.zero_le _) (Nat.zero_le _) rfl rfl (Nat.le_of_ble_eq_true rfl) rfl ?_
        obtain rfl := Option.some.inj h
        exact hv_iret X hr dX4_blow_44 (Nat.zero_le _) (Nat.zero_le _)
      · refine hv_aload_n X dX4_blow_24 0 rfl ?_
        refine hg_M_s X q1241 dX4_blow_25 ?_
        refine hv_iload_n X dX4_blow_28 1 rfl ?_
        refine hv_iload_n X dX4_blow_29 2 rfl ?_
        refine hv_cS X pk_M_atBlow (hw_M_atBlow _ E a1 a2 S) q1362 dX4_blow_30 (by decide) (by decide) (Nat.zero_le _) (Nat.zero_le _) rfl rfl (Nat.le_of_ble_eq_true rfl) rfl ?_
        refine hv_iald X h hd_ia39 dX4_blow_33 (fun h => ?_)
        refine hv_goto X 44 dX4_blow_34 (by decide) ?_
        obtain rfl := Option.some.inj h
        exact hv_iret X hr dX4_blow_44 (Nat.zero_le _) (Nat.zero_le _)
    · refine hv_iconst X (v := (-1)) dX4_blow_17 (by decide) ?_
      obtain rfl := Option.some.inj h
      exact hv_iret X hr dX4_blow_18 (Nat.zero_le _) (Nat.zero_le _)
theorem pk_M_blow : hd_PkV RX4 yX4_blow cX4_blow 3 (some .int) 2 := ⟨q1410, q1411, q73, q1412, rfl, by decide +kernel, by decide +kernel, by decide +kernel⟩
-- grows
def hf_M_grows (a1 : Int32) (a2 : Int32) (a3 : Int32) (S : hd_St) : (Option (Int32 × hd_St)) :=
  if (hf_M_isBladeLike a1 a2 a3) = true then
    (if hd_ck 0 47 = true then
    if (hd_I S 39 (0 : Int32).toNatClampNeg) = (6 : Int32) then
    (some ((-2), S))
    else
    ((hf_M_addsBlade a1 a2 a3 S).bind fun S1 =>
    if hd_ck 0 47 = true then
    some (((hd_I S1 39 (0 : Int32).toNatClampNeg) - 1), S1)
    else none)
    else none)
    else
    (some ((-1), S))
theorem hw_M_grows (l : Launch) (E : hd_EV) (a1 : Int32) (a2 : Int32) (a3 : Int32) (S : hd_St) (y : (Int32 × hd_St)) (h : hf_M_grows a1 a2 a3 S = some y) : hd_Mt l E yX4_grows cX4_grows 4 (some .int) (hd_Rm 3 0 0) [.ref (hd_ad E 38), .int a1, .int a2, .int a3] S (some (.int y.1)) y.2 := by
  refine hd_Mt.start [(0, .ref (hd_ad E 38)), (1, .int a1), (2, .int a2), (3, .int a3)] hd_pnX4 rfl (Nat.le_of_ble_eq_true rfl) (fun κ X hl hr hn => ?_)
  have X : hd_Cx κ E cX4_grows RX4 4 (hd_Rm 3 0 0) := X
  unfold hf_M_grows at h
  refine hv_iload_n X dX4_grows_0 1 rfl ?_
  refine hv_iload_n X dX4_grows_1 2 rfl ?_
  refine hv_iload_n X dX4_grows_2 3 rfl ?_
  refine hv_cS X pk_M_isBladeLike (hw_M_isBladeLike _ E a1 a2 a3 S) q1341 dX4_grows_3 (by decide) (by decide) (Nat.zero_le _) (Nat.zero_le _) rfl rfl (Nat.le_of_ble_eq_true rfl) rfl ?_
  refine hv_ifb_ne X 11 h dX4_grows_6 (by decide) (fun h => ?_) (fun h => ?_)
  · refine hv_aload_n X dX4_grows_11 0 rfl ?_
    refine hg_M_s X q1241 dX4_grows_12 ?_
    refine hv_iconst X (v := 0) dX4_grows_15 (by decide) ?_
    refine hv_iald X h hd_ia39 dX4_grows_16 (fun h => ?_)
    refine hv_bipush X (v := 6) dX4_grows_17 (by decide) ?_
    refine hv_icmp_ne X 25 h dX4_grows_19 (by decide) (fun h => ?_) (fun h => ?_)
    · refine hv_aload_n X dX4_grows_25 0 rfl ?_
      refine hv_iload_n X dX4_grows_26 1 rfl ?_
      refine hv_iload_n X dX4_grows_27 2 rfl ?_
      refine hv_iload_n X dX4_grows_28 3 rfl ?_
      obtain ⟨S1, e2, h⟩ := hd_bind h
      refine hv_cV X pk_M_addsBlade hd_rcM (hw_M_addsBlade _ E a1 a2 a3 S S1 e2) q1344 dX4_grows_29 (by decide) (by decide) (Nat.zero_le _) (Nat.zero_le _) rfl rfl (Nat.le_of_ble_eq_true rfl) rfl ?_
      refine hv_aload_n X dX4_grows_32 0 rfl ?_
      refine hg_M_s X q1241 dX4_grows_33 ?_
      refine hv_iconst X (v := 0) dX4_grows_36 (by decide) ?_
      refine hv_iald X h hd_ia39 dX4_grows_37 (fun h => ?_)
      refine hv_iconst X (v := 1) dX4_grows_38 (by decide) ?_
      refine hv_isub X dX4_grows_39 ?_
      obtain rfl := Option.some.inj h
      exact hv_iret X hr dX4_grows_40 (Nat.zero_le _) (Nat.zero_le _)
    · refine hv_bipush X (v := (-2)) dX4_grows_22 (by decide) ?_
      obtain rfl := Option.some.inj h
      exact hv_iret X hr dX4_grows_24 (Nat.zero_le _) (Nat.zero_le _)
  · refine hv_iconst X (v := (-1)) dX4_grows_9 (by decide) ?_
    obtain rfl := Option.some.inj h
    exact hv_iret X hr dX4_grows_10 (Nat.zero_le _) (Nat.zero_le _)
theorem pk_M_grows : hd_PkV RX4 yX4_grows cX4_grows 4 (some .int) 3 := ⟨q1414, q1415, q73, q1416, rfl, by decide +kernel, by decide +kernel, by decide +kernel⟩
-- wrongKept
def hf_M_wrongKept (a1 : Int32) (S : hd_St) : (Option Int32) :=
  if (hf_M_isShelf a1) = true then
    (if hd_ck a1 8 = true then
    if (hd_I S 45 a1.toNatClampNeg) = 0 then
    (some (-11))
    else
    (if hd_ck a1 8 = true then
    if (hd_I S 45 a1.toNatClampNeg) = (2 : Int32) then
    (some (-12))
    else
    (some 0)
    else none)
    else none)
    else
    (some (-1))
theorem hw_M_wrongKept (l : Launch) (E : hd_EV) (a1 : Int32) (S : hd_St) (y : Int32) (h : hf_M_wrongKept a1 S = some y) : hd_Mt l E yX4_wrongKept cX4_wrongKept 2 (some .int) (hd_Rm 3 0 0) [.ref (hd_ad E 38), .int a1] S (some (.int y)) S := by
  refine hd_Mt.start [(0, .ref (hd_ad E 38)), (1, .int a1)] hd_pnX4 rfl (Nat.le_of_ble_eq_true rfl) (fun κ X hl hr hn => ?_)
  have X : hd_Cx κ E cX4_wrongKept RX4 2 (hd_Rm 3 0 0) := X
  unfold hf_M_wrongKept at h
  refine hv_iload_n X dX4_wrongKept_0 1 rfl ?_
  refine hv_cS X pk_M_isShelf (hw_M_isShelf _ E a1 S) q1316 dX4_wrongKept_1 (by decide) (by decide) (Nat.zero_le _) (Nat.zero_le _) rfl rfl (Nat.le_of_ble_eq_true rfl) rfl ?_
  refine hv_ifb_ne X 11 h dX4_wrongKept_4 (by decide) (fun h => ?_) (fun h => ?_)
  · refine hv_aload_n X dX4_wrongKept_11 0 rfl ?_
    refine hg_M_kept X q1256 dX4_wrongKept_12 ?_
    refine hv_iload_n X dX4_wrongKept_15 1 rfl ?_
    refine hv_iald X h hd_ia45 dX4_wrongKept_16 (fun h => ?_)
    refine hv_if_ne X 25 h dX4_wrongKept_17 (by decide) (fun h => ?_) (fun h => ?_)
    · refine hv_aload_n X dX4_wrongKept_25 0 rfl ?_
      refine hg_M_kept X q1256 dX4_wrongKept_26 ?_
      refine hv_iload_n X dX4_wrongKept_29 1 rfl ?_
      refine hv_iald X h hd_ia45 dX4_wrongKept_30 (fun h => ?_)
      refine hv_iconst X (v := 2) dX4_wrongKept_31 (by decide) ?_
      refine hv_icmp_ne X 40 h dX4_wrongKept_32 (by decide) (fun h => ?_) (fun h => ?_)
      · refine hv_iconst X (v := 0) dX4_wrongKept_40 (by decide) ?_
        obtain rfl := Option.some.inj h
        exact hv_iret X hr dX4_wrongKept_41 (Nat.zero_le _) (Nat.zero_le _)
      · refine hv_bipush X (v := (-12)) dX4_wrongKept_35 (by decide) ?_
        refine hv_goto X 41 dX4_wrongKept_37 (by decide) ?_
        obtain rfl := Option.some.inj h
        exact hv_iret X hr dX4_wrongKept_41 (Nat.zero_le _) (Nat.zero_le _)
    · refine hv_bipush X (v := (-11)) dX4_wrongKept_20 (by decide) ?_
      refine hv_goto X 41 dX4_wrongKept_22 (by decide) ?_
      obtain rfl := Option.some.inj h
      exact hv_iret X hr dX4_wrongKept_41 (Nat.zero_le _) (Nat.zero_le _)
  · refine hv_iconst X (v := (-1)) dX4_wrongKept_7 (by decide) ?_
    refine hv_goto X 41 dX4_wrongKept_8 (by decide) ?_
    obtain rfl := Option.some.inj h
    exact hv_iret X hr dX4_wrongKept_41 (Nat.zero_le _) (Nat.zero_le _)
theorem pk_M_wrongKept : hd_PkV RX4 yX4_wrongKept cX4_wrongKept 2 (some .int) 1 := ⟨q1423, qs45, q73, q1424, rfl, by decide +kernel, by decide +kernel, by decide +kernel⟩
-- comes
def hf_M_comes (a1 : Int32) (a2 : Int32) (S : hd_St) : (Option (Int32 × hd_St)) :=
  if (hf_M_isIn a1 0 9) = true then
    (if (hf_M_isForce a2) = true then
    (if hd_ck 1 47 = true then
    if (hd_I S 39 (1 : Int32).toNatClampNeg) = (4 : Int32) then
    (some ((-2), S))
    else
    ((hf_M_addsThumbs a1 a2 S).bind fun S1 =>
    if hd_ck 1 47 = true then
    some (((hd_I S1 39 (1 : Int32).toNatClampNeg) - 1), S1)
    else none)
    else none)
    else
    (some ((-1), S)))
    else
    (some ((-1), S))
theorem hw_M_comes (l : Launch) (E : hd_EV) (a1 : Int32) (a2 : Int32) (S : hd_St) (y : (Int32 × hd_St)) (h : hf_M_comes a1 a2 S = some y) : hd_Mt l E yX4_comes cX4_comes 3 (some .int) (hd_Rm 3 0 0) [.ref (hd_ad E 38), .int a1, .int a2] S (some (.int y.1)) y.2 := by
  refine hd_Mt.start [(0, .ref (hd_ad E 38)), (1, .int a1), (2, .int a2)] hd_pnX4 rfl (Nat.le_of_ble_eq_true rfl) (fun κ X hl hr hn => ?_)
  have X : hd_Cx κ E cX4_comes RX4 3 (hd_Rm 3 0 0) := X
  unfold hf_M_comes at h
  refine hv_iload_n X dX4_comes_0 1 rfl ?_
  refine hv_iconst X (v := 0) dX4_comes_1 (by decide) ?_
  refine hv_bipush X (v := 9) dX4_comes_2 (by decide) ?_
  refine hv_cS X pk_M_isIn (hw_M_isIn _ E a1 0 9 S) q1319 dX4_comes_4 (by decide) (by decide) (Nat.zero_le _) (Nat.zero_le _) rfl rfl (Nat.le_of_ble_eq_true rfl) rfl ?_
  refine hv_ifb_eq X 17 h dX4_comes_7 (by decide) (fun h => ?_) (fun h => ?_)
  · refine hv_iconst X (v := (-1)) dX4_comes_17 (by decide) ?_
    obtain rfl := Option.some.inj h
    exact hv_iret X hr dX4_comes_18 (Nat.zero_le _) (Nat.zero_le _)
  · refine hv_iload_n X dX4_comes_10 2 rfl ?_
    refine hv_cS X pk_M_isForce (hw_M_isForce _ E a2 S) q1429 dX4_comes_11 (by decide) (by decide) (Nat.zero_le _) (Nat.zero_le _) rfl rfl (Nat.le_of_ble_eq_true rfl) rfl ?_
    refine hv_ifb_ne X 19 h dX4_comes_14 (by decide) (fun h => ?_) (fun h => ?_)
    · refine hv_aload_n X dX4_comes_19 0 rfl ?_
      refine hg_M_s X q1241 dX4_comes_20 ?_
      refine hv_iconst X (v := 1) dX4_comes_23 (by decide) ?_
      refine hv_iald X h hd_ia39 dX4_comes_24 (fun h => ?_)
      refine hv_iconst X (v := 4) dX4_comes_25 (by decide) ?_
      refine hv_icmp_ne X 32 h dX4_comes_26 (by decide) (fun h => ?_) (fun h => ?_)
      · refine hv_aload_n X dX4_comes_32 0 rfl ?_
        refine hv_iload_n X dX4_comes_33 1 rfl ?_
        refine hv_iload_n X dX4_comes_34 2 rfl ?_
        obtain ⟨S1, e2, h⟩ := hd_bind h
        refine hv_cV X pk_M_addsThumbs hd_rcM (hw_M_addsThumbs _ E a1 a2 S S1 e2) q1351 dX4_comes_35 (by decide) (by decide) (Nat.zero_le _) (Nat.zero_le _) rfl rfl (Nat.le_of_ble_eq_true rfl) rfl ?_
        refine hv_aload_n X dX4_comes_38 0 rfl ?_
        refine hg_M_s X q1241 dX4_comes_39 ?_
        refine hv_iconst X (v := 1) dX4_comes_42 (by decide) ?_
        refine hv_iald X h hd_ia39 dX4_comes_43 (fun h => ?_)
        refine hv_iconst X (v := 1) dX4_comes_44 (by decide) ?_
        refine hv_isub X dX4_comes_45 ?_
        obtain rfl := Option.some.inj h
        exact hv_iret X hr dX4_comes_46 (Nat.zero_le _) (Nat.zero_le _)
      · refine hv_bipush X (v := (-2)) dX4_comes_29 (by decide) ?_
        obtain rfl := Option.some.inj h
        exact hv_iret X hr dX4_comes_31 (Nat.zero_le _) (Nat.zero_le _)
    · refine hv_iconst X (v := (-1)) dX4_comes_17 (by decide) ?_
      obtain rfl := Option.some.inj h
      exact hv_iret X hr dX4_comes_18 (Nat.zero_le _) (Nat.zero_le _)
theorem pk_M_comes : hd_PkV RX4 yX4_comes cX4_comes 3 (some .int) 2 := ⟨q1426, q1427, q73, q1428, rfl, by decide +kernel, by decide +kernel, by decide +kernel⟩
-- lowPlain
def hf_M_lowPlain_42 (S : hd_St) (x3 : Int32) (t0 : Int32) : (Option Int32) :=
  (hf_M_kind x3 S).bind fun r8 =>
    if r8 = (3 : Int32) then
    (some (t0 + 10))
    else
    ((hf_M_kind x3 S).bind fun r10 =>
    if r10 = (6 : Int32) then
    (some (t0 + 1))
    else
    (some t0))
theorem hw_M_lowPlain_42 {κ : hd_VK} {E : hd_EV} (X : hd_Cx κ E cX4_lowPlain RX4 5 (hd_Rm 3 0 0)) (hr : (hd_kQ κ).sig.returnType = some .int) {S : hd_St} {y : Int32} (x3 : Int32) (t0 : Int32) (h : hf_M_lowPlain_42 S x3 t0 = some y) : hd_V κ E 5 0 0 (hd_Qf κ E (some (.int y)) S) S 42 [(0, .ref (hd_ad E 38)), (3, .int x3)] [.int t0] := by
  unfold hf_M_lowPlain_42 at h
  refine hv_istore X [(4, .int t0), (0, .ref (hd_ad E 38)), (3, .int x3)] dX4_lowPlain_42 (by decide) rfl ?_
  refine hv_aload_n X dX4_lowPlain_44 1 rfl ?_
  refine hv_iload_n X dX4_lowPlain_45 2 rfl ?_
  obtain ⟨r8, e9, h⟩ := hd_bind h
  refine hv_cV X pk_M_kind hd_rcM (hw_M_kind _ E x3 S r8 e9) q1393 dX4_lowPlain_46 (by decide) (by decide) (Nat.zero_le _) (Nat.zero_le _) rfl rfl (Nat.le_of_ble_eq_true rfl) rfl ?_
  refine hv_iconst X (v := 3) dX4_lowPlain_49 (by decide) ?_
  refine hv_icmp_ne X 61 h dX4_lowPlain_50 (by decide) (fun h => ?_) (fun h => ?_)
  · refine hv_aload_n X dX4_lowPlain_61 1 rfl ?_
    refine hv_iload_n X dX4_lowPlain_62 2 rfl ?_
    obtain ⟨r10, e11, h⟩ := hd_bind h
    refine hv_cV X pk_M_kind hd_rcM (hw_M_kind _ E x3 S r10 e11) q1393 dX4_lowPlain_63 (by decide) (by decide) (Nat.zero_le _) (Nat.zero_le _) rfl rfl (Nat.le_of_ble_eq_true rfl) rfl ?_
    refine hv_bipush X (v := 6) dX4_lowPlain_66 (by decide) ?_
    refine hv_icmp_ne X 78 h dX4_lowPlain_68 (by decide) (fun h => ?_) (fun h => ?_)
    · refine hv_iload X dX4_lowPlain_78 0 rfl ?_
      obtain rfl := Option.some.inj h
      exact hv_iret X hr dX4_lowPlain_80 (Nat.zero_le _) (Nat.zero_le _)
    · refine hv_iload X dX4_lowPlain_71 0 rfl ?_
      refine hv_iconst X (v := 1) dX4_lowPlain_73 (by decide) ?_
      refine hv_iadd X dX4_lowPlain_74 ?_
      refine hv_goto X 80 dX4_lowPlain_75 (by decide) ?_
      obtain rfl := Option.some.inj h
      exact hv_iret X hr dX4_lowPlain_80 (Nat.zero_le _) (Nat.zero_le _)
  · refine hv_iload X dX4_lowPlain_53 0 rfl ?_
    refine hv_bipush X (v := 10) dX4_lowPlain_55 (by decide) ?_
    refine hv_iadd X dX4_lowPlain_57 ?_
    refine hv_goto X 80 dX4_lowPlain_58 (by decide) ?_
    obtain rfl := Option.some.inj h
    exact hv_iret X hr dX4_lowPlain_80 (Nat.zero_le _) (Nat.zero_le _)
def hf_M_lowPlain (a1 : Int32) (a2 : Int32) (a3 : Int32) (S : hd_St) : (Option Int32) :=
  (hf_M_bladeOf a1 0 S).bind fun r1 =>
    (hf_M_slitOf a2 S).bind fun r3 =>
    hd_nm (r1 + r3) fun v5 =>
    (hf_M_kind a3 S).bind fun r6 =>
    if (hf_M_isSounding r6) = true then
    (if (2 : Int32) ≤ v5 then
    (hf_M_lowPlain_42 S a3 (v5 - 2))
    else
    (hf_M_lowPlain_42 S a3 0))
    else
    (some v5)
theorem hw_M_lowPlain (l : Launch) (E : hd_EV) (a1 : Int32) (a2 : Int32) (a3 : Int32) (S : hd_St) (y : Int32) (h : hf_M_lowPlain a1 a2 a3 S = some y) : hd_Mt l E yX4_lowPlain cX4_lowPlain 5 (some .int) (hd_Rm 3 0 0) [.ref (hd_ad E 38), .int a1, .int a2, .int a3] S (some (.int y)) S := by
  refine hd_Mt.start [(0, .ref (hd_ad E 38)), (1, .int a1), (2, .int a2), (3, .int a3)] hd_pnX4 rfl (Nat.le_of_ble_eq_true rfl) (fun κ X hl hr hn => ?_)
  have X : hd_Cx κ E cX4_lowPlain RX4 5 (hd_Rm 3 0 0) := X
  unfold hf_M_lowPlain at h
  refine hv_aload_n X dX4_lowPlain_0 0 rfl ?_
  refine hv_iload_n X dX4_lowPlain_1 1 rfl ?_
  refine hv_iconst X (v := 0) dX4_lowPlain_2 (by decide) ?_
  obtain ⟨r1, e2, h⟩ := hd_bind h
  refine hv_cV X pk_M_bladeOf hd_rcM (hw_M_bladeOf _ E a1 0 S r1 e2) q1385 dX4_lowPlain_3 (by decide) (by decide) (Nat.zero_le _) (Nat.zero_le _) rfl rfl (Nat.le_of_ble_eq_true rfl) rfl ?_
  refine hv_aload_n X dX4_lowPlain_6 0 rfl ?_
  refine hv_iload_n X dX4_lowPlain_7 2 rfl ?_
  obtain ⟨r3, e4, h⟩ := hd_bind h
  refine hv_cV X pk_M_slitOf hd_rcM (hw_M_slitOf _ E a2 S r3 e4) q1448 dX4_lowPlain_8 (by decide) (by decide) (Nat.zero_le _) (Nat.zero_le _) rfl rfl (Nat.le_of_ble_eq_true rfl) rfl ?_
  refine hv_iadd X dX4_lowPlain_11 ?_
  refine hv_nmI h (fun v5 h => ?_)
  refine hv_istore X [(4, .int v5), (0, .ref (hd_ad E 38)), (1, .int a1), (2, .int a2), (3, .int a3)] dX4_lowPlain_12 (by decide) rfl ?_
  refine hv_aload_n X dX4_lowPlain_14 1 rfl ?_
  refine hv_iload_n X dX4_lowPlain_15 4 rfl ?_
  obtain ⟨r6, e7, h⟩ := hd_bind h
  refine hv_cV X pk_M_kind hd_rcM (hw_M_kind _ E a3 S r6 e7) q1393 dX4_lowPlain_16 (by decide) (by decide) (Nat.zero_le _) (Nat.zero_le _) rfl rfl (Nat.le_of_ble_eq_true rfl) rfl ?_
  refine hv_cS X pk_M_isSounding (hw_M_isSounding _ E r6 S) q1452 dX4_lowPlain_19 (by decide) (by decide) (Nat.zero_le _) (Nat.zero_le _) rfl rfl (Nat.le_of_ble_eq_true rfl) rfl ?_
  refine hv_ifb_ne X 28 h dX4_lowPlain_22 (by decide) (fun h => ?_) (fun h => ?_)
  · refine hv_iload X dX4_lowPlain_28 0 rfl ?_
    refine hv_iconst X (v := 2) dX4_lowPlain_30 (by decide) ?_
    refine hv_icmp_ge X 38 h dX4_lowPlain_31 (by decide) (fun h => ?_) (fun h => ?_)
    · refine hv_iload X dX4_lowPlain_38 0 rfl ?_
      refine hv_iconst X (v := 2) dX4_lowPlain_40 (by decide) ?_
      refine hv_isub X dX4_lowPlain_41 ?_
      refine hv_sub [(0, .ref (hd_ad E 38)), (3, .int a3)] [1, 4] rfl ?_
      exact hw_M_lowPlain_42 X hr a3 (v5 - 2) h
    · refine hv_iconst X (v := 0) dX4_lowPlain_34 (by decide) ?_
      refine hv_goto X 42 dX4_lowPlain_35 (by decide) ?_
      refine hv_sub [(0, .ref (hd_ad E 38)), (3, .int a3)] [1, 4] rfl ?_
      exact hw_M_lowPlain_42 X hr a3 0 h
  · refine hv_iload X dX4_lowPlain_25 0 rfl ?_
    obtain rfl := Option.some.inj h
    exact hv_iret X hr dX4_lowPlain_27 (Nat.zero_le _) (Nat.zero_le _)
theorem pk_M_lowPlain : hd_PkV RX4 yX4_lowPlain cX4_lowPlain 5 (some .int) 3 := ⟨q1446, qs47, q73, q1447, rfl, by decide +kernel, by decide +kernel, by decide +kernel⟩
