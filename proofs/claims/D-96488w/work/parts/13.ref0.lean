set_option maxRecDepth 100000
-- isIn
def hf_M_isIn (a0 : Int32) (a1 : Int32) (a2 : Int32) : Bool :=
  if a0 < a1 then
    (false)
    else
    (if a2 < a0 then
    (false)
    else
    (true))
theorem hw_M_isIn (l : Launch) (E : hd_EV) (a0 : Int32) (a1 : Int32) (a2 : Int32) (S : hd_St) : hd_Mt l E yX4_isIn cX4_isIn 3 (some .boolean) (hd_Rm 1 0 0) [.int a0, .int a1, .int a2] S (some (.int (hd_bI (hf_M_isIn a0 a1 a2)))) S := by
  obtain ⟨y, h⟩ : ∃ y, hf_M_isIn a0 a1 a2 = y := ⟨_, rfl⟩
  rw [h]
  refine hd_Mt.start [(0, .int a0), (1, .int a1), (2, .int a2)] hd_pnX4 rfl (Nat.le_of_ble_eq_true rfl) (fun κ X hl hr hn => ?_)
  have X : hd_Cx κ E cX4_isIn RX4 3 (hd_Rm 1 0 0) := X
  unfold hf_M_isIn at h
  refine hv_iload_n X dX4_isIn_0 0 rfl ?_
  refine hv_iload_n X dX4_isIn_1 1 rfl ?_
  refine hv_icmp_lt X 14 h dX4_isIn_2 (by decide) (fun h => ?_) (fun h => ?_)
  · refine hv_iconst X (v := 0) dX4_isIn_14 (by decide) ?_
    subst h
    exact hv_zret X hr rfl dX4_isIn_15 (Nat.zero_le _) (Nat.zero_le _)
  · refine hv_iload_n X dX4_isIn_5 0 rfl ?_
    refine hv_iload_n X dX4_isIn_6 2 rfl ?_
    refine hv_icmp_gt X 14 h dX4_isIn_7 (by decide) (fun h => ?_) (fun h => ?_)
    · refine hv_iconst X (v := 0) dX4_isIn_14 (by decide) ?_
      subst h
      exact hv_zret X hr rfl dX4_isIn_15 (Nat.zero_le _) (Nat.zero_le _)
    · refine hv_iconst X (v := 1) dX4_isIn_10 (by decide) ?_
      refine hv_goto X 15 dX4_isIn_11 (by decide) ?_
      subst h
      exact hv_zret X hr rfl dX4_isIn_15 (Nat.zero_le _) (Nat.zero_le _)
theorem pk_M_isIn : hd_PkS yX4_isIn cX4_isIn 3 (some .boolean) 3 := ⟨q1320, q73, q1321, by decide +kernel, by decide +kernel, by decide +kernel⟩
-- here
def hf_M_here (S : hd_St) : (Option Int32) :=
  if (hd_I S 38 7) ≤ (hd_I S 38 5) then
    (some (-1))
    else
    (if hd_ck ((hd_I S 38 6) + (hd_I S 38 5)) 800 = true then
    some ((hd_I S 50 ((hd_I S 38 6) + (hd_I S 38 5)).toNatClampNeg) &&& 255)
    else none)
theorem hw_M_here (l : Launch) (E : hd_EV) (S : hd_St) (y : Int32) (h : hf_M_here S = some y) : hd_Mt l E yX4_here cX4_here 1 (some .int) (hd_Rm 1 0 0) [.ref (hd_ad E 38)] S (some (.int y)) S := by
  refine hd_Mt.start [(0, .ref (hd_ad E 38))] hd_pnX4 rfl (Nat.le_of_ble_eq_true rfl) (fun κ X hl hr hn => ?_)
  have X : hd_Cx κ E cX4_here RX4 1 (hd_Rm 1 0 0) := X
  unfold hf_M_here at h
  refine hv_aload_n X dX4_here_0 0 rfl ?_
  refine hg_M_at X q1246 dX4_here_1 ?_
  refine hv_aload_n X dX4_here_4 0 rfl ?_
  refine hg_M_rowEnd X q1248 dX4_here_5 ?_
  refine hv_icmp_ge X 32 h dX4_here_8 (by decide) (fun h => ?_) (fun h => ?_)
  · refine hv_iconst X (v := (-1)) dX4_here_32 (by decide) ?_
    obtain rfl := Option.some.inj h
    exact hv_iret X hr dX4_here_33 (Nat.zero_le _) (Nat.zero_le _)
  · refine hv_aload_n X dX4_here_11 0 rfl ?_
    refine hg_M_element X q1261 dX4_here_12 ?_
    refine hv_aload_n X dX4_here_15 0 rfl ?_
    refine hg_M_rowAt X q1247 dX4_here_16 ?_
    refine hv_aload_n X dX4_here_19 0 rfl ?_
    refine hg_M_at X q1246 dX4_here_20 ?_
    refine hv_iadd X dX4_here_23 ?_
    refine hv_iald X h hd_ia50 dX4_here_24 (fun h => ?_)
    refine hv_sipush X (v := 255) dX4_here_25 (by decide) ?_
    refine hv_iand X dX4_here_28 ?_
    refine hv_goto X 33 dX4_here_29 (by decide) ?_
    obtain rfl := Option.some.inj h
    exact hv_iret X hr dX4_here_33 (Nat.zero_le _) (Nat.zero_le _)
theorem pk_M_here : hd_PkV RX4 yX4_here cX4_here 1 (some .int) 0 := ⟨q1328, qs30, q73, q1329, rfl, by decide +kernel, by decide +kernel, by decide +kernel⟩
-- readsNumber
def hf_M_readsNumber_9 : Nat → Int32 → Int32 → Int32 → hd_St → (Option (Bool × hd_St))
  | 0, _, _, _, _ => none
  | n + 1, x1, x2, x3, S =>
    if x2 ≤ x3 then
    (some (true, S))
    else
    ((hf_M_here S).bind fun r2 =>
    if (hf_M_isIn r2 48 57) = true then
    (if hd_ck x1 5 = true then
    (hf_M_here S).bind fun r4 =>
    if hd_ck x1 5 = true then
    hd_nm (hd_sI S 42 x1.toNatClampNeg ((((10 : Int32) * (hd_I S 42 x1.toNatClampNeg)) + r4) - 48)) fun S6 =>
    hd_nm (hd_sI S6 38 5 ((hd_I S6 38 5) + 1)) fun S7 =>
    hf_M_readsNumber_9 n x1 x2 (x3 + 1) S7
    else none
    else none)
    else
    (some (false, S)))
theorem hw_M_readsNumber_9 {κ : hd_VK} {E : hd_EV} (X : hd_Cx κ E cX4_readsNumber RX4 4 (hd_Rm 2 0 0)) (hr : (hd_kQ κ).sig.returnType = some .boolean) {y : (Bool × hd_St)} : ∀ (n : Nat) (x1 : Int32) (x2 : Int32) (x3 : Int32) (S : hd_St), hf_M_readsNumber_9 n x1 x2 x3 S = some y → hd_V κ E 4 0 0 (hd_Qf κ E (some (.int (hd_bI y.1))) y.2) S 9 [(0, .ref (hd_ad E 38)), (1, .int x1), (2, .int x2), (3, .int x3)] [] := by
  intro n
  induction n with
  | zero => intro x1 x2 x3 S h; have h : (none : Option (Bool × hd_St)) = some y := h; cases h
  | succ n ih =>
    intro x1 x2 x3 S h
    rw [hf_M_readsNumber_9] at h
    refine hv_iload_n X dX4_readsNumber_9 3 rfl ?_
    refine hv_iload_n X dX4_readsNumber_10 2 rfl ?_
    refine hv_icmp_ge X 69 h dX4_readsNumber_11 (by decide) (fun h => ?_) (fun h => ?_)
    · refine hv_iconst X (v := 1) dX4_readsNumber_69 (by decide) ?_
      obtain rfl := Option.some.inj h
      exact hv_zret X hr rfl dX4_readsNumber_70 (Nat.zero_le _) (Nat.zero_le _)
    · refine hv_aload_n X dX4_readsNumber_14 0 rfl ?_
      obtain ⟨r2, e3, h⟩ := hd_bind h
      refine hv_cV X pk_M_here hd_rcM (hw_M_here _ E S r2 e3) q1326 dX4_readsNumber_15 (by decide) (by decide) (Nat.zero_le _) (Nat.zero_le _) rfl rfl (Nat.le_of_ble_eq_true rfl) rfl ?_
      refine hv_bipush X (v := 48) dX4_readsNumber_18 (by decide) ?_
      refine hv_bipush X (v := 57) dX4_readsNumber_20 (by decide) ?_
      refine hv_cS X pk_M_isIn (hw_M_isIn _ E r2 48 57 S) q1319 dX4_readsNumber_22 (by decide) (by decide) (Nat.zero_le _) (Nat.zero_le _) rfl rfl (Nat.le_of_ble_eq_true rfl) rfl ?_
      refine hv_ifb_ne X 30 h dX4_readsNumber_25 (by decide) (fun h => ?_) (fun h => ?_)
      · refine hv_aload_n X dX4_readsNumber_30 0 rfl ?_
        refine hg_M_numbers X q1249 dX4_readsNumber_31 ?_
        refine hv_iload_n X dX4_readsNumber_34 1 rfl ?_
        refine hv_bipush X (v := 10) dX4_readsNumber_35 (by decide) ?_
        refine hv_aload_n X dX4_readsNumber_37 0 rfl ?_
        refine hg_M_numbers X q1249 dX4_readsNumber_38 ?_
        refine hv_iload_n X dX4_readsNumber_41 1 rfl ?_
        refine hv_iald X h hd_ia42 dX4_readsNumber_42 (fun h => ?_)
        refine hv_imul X dX4_readsNumber_43 ?_
        refine hv_aload_n X dX4_readsNumber_44 0 rfl ?_
        obtain ⟨r4, e5, h⟩ := hd_bind h
        refine hv_cV X pk_M_here hd_rcM (hw_M_here _ E S r4 e5) q1326 dX4_readsNumber_45 (by decide) (by decide) (Nat.zero_le _) (Nat.zero_le _) rfl rfl (Nat.le_of_ble_eq_true rfl) rfl ?_
        refine hv_iadd X dX4_readsNumber_48 ?_
        refine hv_bipush X (v := 48) dX4_readsNumber_49 (by decide) ?_
        refine hv_isub X dX4_readsNumber_51 ?_
        refine hv_iast X h hd_ia42 dX4_readsNumber_52 (fun h => ?_)
        refine hv_nmS h (fun S6 h => ?_)
        refine hv_aload_n X dX4_readsNumber_53 0 rfl ?_
        refine hv_dup X dX4_readsNumber_54 rfl ?_
        refine hg_M_at X q1246 dX4_readsNumber_55 ?_
        refine hv_iconst X (v := 1) dX4_readsNumber_58 (by decide) ?_
        refine hv_iadd X dX4_readsNumber_59 ?_
        refine hp_M_at X q1246 dX4_readsNumber_60 ?_
        refine hv_nmS h (fun S7 h => ?_)
        refine hv_iinc X (v := 1) [(3, .int (x3 + 1)), (0, .ref (hd_ad E 38)), (1, .int x1), (2, .int x2)] dX4_readsNumber_63 3 rfl (by decide) (by decide) rfl ?_
        refine hv_goto X 9 dX4_readsNumber_66 (by decide) ?_
        refine hv_sub [(0, .ref (hd_ad E 38)), (1, .int x1), (2, .int x2), (3, .int (x3 + 1))] [1, 2, 3, 0] rfl ?_
        exact ih x1 x2 (x3 + 1) S7 h
      · refine hv_iconst X (v := 0) dX4_readsNumber_28 (by decide) ?_
        obtain rfl := Option.some.inj h
        exact hv_zret X hr rfl dX4_readsNumber_29 (Nat.zero_le _) (Nat.zero_le _)
def hf_M_readsNumber (a1 : Int32) (a2 : Int32) (S : hd_St) : (Option (Bool × hd_St)) :=
  if hd_ck a1 5 = true then
    hd_nm (hd_sI S 42 a1.toNatClampNeg 0) fun S1 =>
    hf_M_readsNumber_9 hd_fuel a1 a2 0 S1
    else none
theorem hw_M_readsNumber (l : Launch) (E : hd_EV) (a1 : Int32) (a2 : Int32) (S : hd_St) (y : (Bool × hd_St)) (h : hf_M_readsNumber a1 a2 S = some y) : hd_Mt l E yX4_readsNumber cX4_readsNumber 4 (some .boolean) (hd_Rm 2 0 0) [.ref (hd_ad E 38), .int a1, .int a2] S (some (.int (hd_bI y.1))) y.2 := by
  refine hd_Mt.start [(0, .ref (hd_ad E 38)), (1, .int a1), (2, .int a2)] hd_pnX4 rfl (Nat.le_of_ble_eq_true rfl) (fun κ X hl hr hn => ?_)
  have X : hd_Cx κ E cX4_readsNumber RX4 4 (hd_Rm 2 0 0) := X
  unfold hf_M_readsNumber at h
  refine hv_aload_n X dX4_readsNumber_0 0 rfl ?_
  refine hg_M_numbers X q1249 dX4_readsNumber_1 ?_
  refine hv_iload_n X dX4_readsNumber_4 1 rfl ?_
  refine hv_iconst X (v := 0) dX4_readsNumber_5 (by decide) ?_
  refine hv_iast X h hd_ia42 dX4_readsNumber_6 (fun h => ?_)
  refine hv_nmS h (fun S1 h => ?_)
  refine hv_iconst X (v := 0) dX4_readsNumber_7 (by decide) ?_
  refine hv_istore_n X [(3, .int 0), (0, .ref (hd_ad E 38)), (1, .int a1), (2, .int a2)] dX4_readsNumber_8 (by decide) rfl ?_
  refine hv_sub [(0, .ref (hd_ad E 38)), (1, .int a1), (2, .int a2), (3, .int 0)] [1, 2, 3, 0] rfl ?_
  exact hw_M_readsNumber_9 X hr hd_fuel a1 a2 0 S1 h
theorem pk_M_readsNumber : hd_PkV RX4 yX4_readsNumber cX4_readsNumber 4 (some .boolean) 2 := ⟨q1332, qs31, q73, q1333, rfl, by decide +kernel, by decide +kernel, by decide +kernel⟩
-- copies
def hf_M_copies_2 (a0 : Nat) (a1 : Nat) : Nat → Int32 → hd_St → (Option hd_St)
  | 0, _, _ => none
  | n + 1, x2, S =>
    if (47 : Int32) ≤ x2 then
    (some S)
    else
    (if hd_ck x2 47 = true then
    if hd_ck x2 47 = true then
    hd_nm (hd_sI S a1 x2.toNatClampNeg (hd_I S a0 x2.toNatClampNeg)) fun S1 =>
    hf_M_copies_2 a0 a1 n (x2 + 1) S1
    else none
    else none)
theorem hw_M_copies_2 {κ : hd_VK} {E : hd_EV} (X : hd_Cx κ E cX4_copies RX4 3 (hd_Rm 1 0 0)) (hr : (hd_kQ κ).sig.returnType = none) (a0 : Nat) (a1 : Nat) (ha0 : hd_ia a0 47) (ha1 : hd_ia a1 47) {y : hd_St} : ∀ (n : Nat) (x2 : Int32) (S : hd_St), hf_M_copies_2 a0 a1 n x2 S = some y → hd_V κ E 3 0 0 (hd_Qf κ E none y) S 2 [(0, .ref (hd_ad E a0)), (1, .ref (hd_ad E a1)), (2, .int x2)] [] := by
  intro n
  induction n with
  | zero => intro x2 S h; have h : (none : Option hd_St) = some y := h; cases h
  | succ n ih =>
    intro x2 S h
    rw [hf_M_copies_2] at h
    refine hv_iload_n X dX4_copies_2 2 rfl ?_
    refine hv_bipush X (v := 47) dX4_copies_3 (by decide) ?_
    refine hv_icmp_ge X 20 h dX4_copies_5 (by decide) (fun h => ?_) (fun h => ?_)
    · obtain rfl := Option.some.inj h
      exact hv_vret X hr dX4_copies_20 (Nat.zero_le _) (Nat.zero_le _)
    · refine hv_aload_n X dX4_copies_8 1 rfl ?_
      refine hv_iload_n X dX4_copies_9 2 rfl ?_
      refine hv_aload_n X dX4_copies_10 0 rfl ?_
      refine hv_iload_n X dX4_copies_11 2 rfl ?_
      refine hv_iald X h ha0 dX4_copies_12 (fun h => ?_)
      refine hv_iast X h ha1 dX4_copies_13 (fun h => ?_)
      refine hv_nmS h (fun S1 h => ?_)
      refine hv_iinc X (v := 1) [(2, .int (x2 + 1)), (0, .ref (hd_ad E a0)), (1, .ref (hd_ad E a1))] dX4_copies_14 2 rfl (by decide) (by decide) rfl ?_
      refine hv_goto X 2 dX4_copies_17 (by decide) ?_
      refine hv_sub [(0, .ref (hd_ad E a0)), (1, .ref (hd_ad E a1)), (2, .int (x2 + 1))] [1, 2, 0] rfl ?_
      exact ih (x2 + 1) S1 h
def hf_M_copies (a0 : Nat) (a1 : Nat) (S : hd_St) : (Option hd_St) :=
  hf_M_copies_2 a0 a1 hd_fuel 0 S
theorem hw_M_copies (l : Launch) (E : hd_EV) (a0 : Nat) (a1 : Nat) (ha0 : hd_ia a0 47) (ha1 : hd_ia a1 47) (S : hd_St) (y : hd_St) (h : hf_M_copies a0 a1 S = some y) : hd_Mt l E yX4_copies cX4_copies 3 (none) (hd_Rm 1 0 0) [.ref (hd_ad E a0), .ref (hd_ad E a1)] S none y := by
  refine hd_Mt.start [(0, .ref (hd_ad E a0)), (1, .ref (hd_ad E a1))] hd_pnX4 rfl (Nat.le_of_ble_eq_true rfl) (fun κ X hl hr hn => ?_)
  have X : hd_Cx κ E cX4_copies RX4 3 (hd_Rm 1 0 0) := X
  unfold hf_M_copies at h
  refine hv_iconst X (v := 0) dX4_copies_0 (by decide) ?_
  refine hv_istore_n X [(2, .int 0), (0, .ref (hd_ad E a0)), (1, .ref (hd_ad E a1))] dX4_copies_1 (by decide) rfl ?_
  refine hv_sub [(0, .ref (hd_ad E a0)), (1, .ref (hd_ad E a1)), (2, .int 0)] [1, 2, 0] rfl ?_
  exact hw_M_copies_2 X hr a0 a1 ha0 ha1 hd_fuel 0 S h
theorem pk_M_copies : hd_PkS yX4_copies cX4_copies 3 (none) 2 := ⟨q1335, q73, q1336, by decide +kernel, by decide +kernel, by decide +kernel⟩
-- isBladeLike
def hf_M_isBladeLike (a0 : Int32) (a1 : Int32) (a2 : Int32) : Bool :=
  if (hf_M_isIn a0 1 24) = true then
    (if (hf_M_isIn a1 1 24) = true then
    (if (hf_M_isIn a2 0 9) = true then
    (true)
    else
    (false))
    else
    (false))
    else
    (false)
theorem hw_M_isBladeLike (l : Launch) (E : hd_EV) (a0 : Int32) (a1 : Int32) (a2 : Int32) (S : hd_St) : hd_Mt l E yX4_isBladeLike cX4_isBladeLike 3 (some .boolean) (hd_Rm 2 0 0) [.int a0, .int a1, .int a2] S (some (.int (hd_bI (hf_M_isBladeLike a0 a1 a2)))) S := by
  obtain ⟨y, h⟩ : ∃ y, hf_M_isBladeLike a0 a1 a2 = y := ⟨_, rfl⟩
  rw [h]
  refine hd_Mt.start [(0, .int a0), (1, .int a1), (2, .int a2)] hd_pnX4 rfl (Nat.le_of_ble_eq_true rfl) (fun κ X hl hr hn => ?_)
  have X : hd_Cx κ E cX4_isBladeLike RX4 3 (hd_Rm 2 0 0) := X
  unfold hf_M_isBladeLike at h
  refine hv_iload_n X dX4_isBladeLike_0 0 rfl ?_
  refine hv_iconst X (v := 1) dX4_isBladeLike_1 (by decide) ?_
  refine hv_bipush X (v := 24) dX4_isBladeLike_2 (by decide) ?_
  refine hv_cS X pk_M_isIn (hw_M_isIn _ E a0 1 24 S) q1319 dX4_isBladeLike_4 (by decide) (by decide) (Nat.zero_le _) (Nat.zero_le _) rfl rfl (Nat.le_of_ble_eq_true rfl) rfl ?_
  refine hv_ifb_eq X 34 h dX4_isBladeLike_7 (by decide) (fun h => ?_) (fun h => ?_)
  · refine hv_iconst X (v := 0) dX4_isBladeLike_34 (by decide) ?_
    subst h
    exact hv_zret X hr rfl dX4_isBladeLike_35 (Nat.zero_le _) (Nat.zero_le _)
  · refine hv_iload_n X dX4_isBladeLike_10 1 rfl ?_
    refine hv_iconst X (v := 1) dX4_isBladeLike_11 (by decide) ?_
    refine hv_bipush X (v := 24) dX4_isBladeLike_12 (by decide) ?_
    refine hv_cS X pk_M_isIn (hw_M_isIn _ E a1 1 24 S) q1319 dX4_isBladeLike_14 (by decide) (by decide) (Nat.zero_le _) (Nat.zero_le _) rfl rfl (Nat.le_of_ble_eq_true rfl) rfl ?_
    refine hv_ifb_eq X 34 h dX4_isBladeLike_17 (by decide) (fun h => ?_) (fun h => ?_)
    · refine hv_iconst X (v := 0) dX4_isBladeLike_34 (by decide) ?_
      subst h
      exact hv_zret X hr rfl dX4_isBladeLike_35 (Nat.zero_le _) (Nat.zero_le _)
    · refine hv_iload_n X dX4_isBladeLike_20 2 rfl ?_
      refine hv_iconst X (v := 0) dX4_isBladeLike_21 (by decide) ?_
      refine hv_bipush X (v := 9) dX4_isBladeLike_22 (by decide) ?_
      refine hv_cS X pk_M_isIn (hw_M_isIn _ E a2 0 9 S) q1319 dX4_isBladeLike_24 (by decide) (by decide) (Nat.zero_le _) (Nat.zero_le _) rfl rfl (Nat.le_of_ble_eq_true rfl) rfl ?_
      refine hv_ifb_eq X 34 h dX4_isBladeLike_27 (by decide) (fun h => ?_) (fun h => ?_)
      · refine hv_iconst X (v := 0) dX4_isBladeLike_34 (by decide) ?_
        subst h
        exact hv_zret X hr rfl dX4_isBladeLike_35 (Nat.zero_le _) (Nat.zero_le _)
      · refine hv_iconst X (v := 1) dX4_isBladeLike_30 (by decide) ?_
        refine hv_goto X 35 dX4_isBladeLike_31 (by decide) ?_
        subst h
        exact hv_zret X hr rfl dX4_isBladeLike_35 (Nat.zero_le _) (Nat.zero_le _)
theorem pk_M_isBladeLike : hd_PkS yX4_isBladeLike cX4_isBladeLike 3 (some .boolean) 3 := ⟨q1342, q73, q1343, by decide +kernel, by decide +kernel, by decide +kernel⟩
-- atBlade
def hf_M_atBlade (a0 : Int32) (a1 : Int32) : Int32 :=
  (((3 : Int32) + ((4 : Int32) * a0)) + a1)
theorem hw_M_atBlade (l : Launch) (E : hd_EV) (a0 : Int32) (a1 : Int32) (S : hd_St) : hd_Mt l E yX4_atBlade cX4_atBlade 2 (some .int) (hd_Rm 1 0 0) [.int a0, .int a1] S (some (.int (hf_M_atBlade a0 a1))) S := by
  obtain ⟨y, h⟩ : ∃ y, hf_M_atBlade a0 a1 = y := ⟨_, rfl⟩
  rw [h]
  refine hd_Mt.start [(0, .int a0), (1, .int a1)] hd_pnX4 rfl (Nat.le_of_ble_eq_true rfl) (fun κ X hl hr hn => ?_)
  have X : hd_Cx κ E cX4_atBlade RX4 2 (hd_Rm 1 0 0) := X
  unfold hf_M_atBlade at h
  refine hv_iconst X (v := 3) dX4_atBlade_0 (by decide) ?_
  refine hv_iconst X (v := 4) dX4_atBlade_1 (by decide) ?_
  refine hv_iload_n X dX4_atBlade_2 0 rfl ?_
  refine hv_imul X dX4_atBlade_3 ?_
  refine hv_iadd X dX4_atBlade_4 ?_
  refine hv_iload_n X dX4_atBlade_5 1 rfl ?_
  refine hv_iadd X dX4_atBlade_6 ?_
  subst h
  exact hv_iret X hr dX4_atBlade_7 (Nat.zero_le _) (Nat.zero_le _)
theorem pk_M_atBlade : hd_PkS yX4_atBlade cX4_atBlade 2 (some .int) 2 := ⟨q1349, q73, q1350, by decide +kernel, by decide +kernel, by decide +kernel⟩
-- atThumbs
def hf_M_atThumbs (a0 : Int32) (a1 : Int32) : Int32 :=
  (((27 : Int32) + ((2 : Int32) * a0)) + a1)
theorem hw_M_atThumbs (l : Launch) (E : hd_EV) (a0 : Int32) (a1 : Int32) (S : hd_St) : hd_Mt l E yX4_atThumbs cX4_atThumbs 2 (some .int) (hd_Rm 1 0 0) [.int a0, .int a1] S (some (.int (hf_M_atThumbs a0 a1))) S := by
  obtain ⟨y, h⟩ : ∃ y, hf_M_atThumbs a0 a1 = y := ⟨_, rfl⟩
  rw [h]
  refine hd_Mt.start [(0, .int a0), (1, .int a1)] hd_pnX4 rfl (Nat.le_of_ble_eq_true rfl) (fun κ X hl hr hn => ?_)
  have X : hd_Cx κ E cX4_atThumbs RX4 2 (hd_Rm 1 0 0) := X
  unfold hf_M_atThumbs at h
  refine hv_bipush X (v := 27) dX4_atThumbs_0 (by decide) ?_
  refine hv_iconst X (v := 2) dX4_atThumbs_2 (by decide) ?_
  refine hv_iload_n X dX4_atThumbs_3 0 rfl ?_
  refine hv_imul X dX4_atThumbs_4 ?_
  refine hv_iadd X dX4_atThumbs_5 ?_
  refine hv_iload_n X dX4_atThumbs_6 1 rfl ?_
  refine hv_iadd X dX4_atThumbs_7 ?_
  subst h
  exact hv_iret X hr dX4_atThumbs_8 (Nat.zero_le _) (Nat.zero_le _)
theorem pk_M_atThumbs : hd_PkS yX4_atThumbs cX4_atThumbs 2 (some .int) 2 := ⟨q1356, q73, q1357, by decide +kernel, by decide +kernel, by decide +kernel⟩
-- atBlow
def hf_M_atBlow (a0 : Int32) (a1 : Int32) : Int32 :=
  (((35 : Int32) + ((2 : Int32) * a0)) + a1)
theorem hw_M_atBlow (l : Launch) (E : hd_EV) (a0 : Int32) (a1 : Int32) (S : hd_St) : hd_Mt l E yX4_atBlow cX4_atBlow 2 (some .int) (hd_Rm 1 0 0) [.int a0, .int a1] S (some (.int (hf_M_atBlow a0 a1))) S := by
  obtain ⟨y, h⟩ : ∃ y, hf_M_atBlow a0 a1 = y := ⟨_, rfl⟩
  rw [h]
  refine hd_Mt.start [(0, .int a0), (1, .int a1)] hd_pnX4 rfl (Nat.le_of_ble_eq_true rfl) (fun κ X hl hr hn => ?_)
  have X : hd_Cx κ E cX4_atBlow RX4 2 (hd_Rm 1 0 0) := X
  unfold hf_M_atBlow at h
  refine hv_bipush X (v := 35) dX4_atBlow_0 (by decide) ?_
  refine hv_iconst X (v := 2) dX4_atBlow_2 (by decide) ?_
  refine hv_iload_n X dX4_atBlow_3 0 rfl ?_
  refine hv_imul X dX4_atBlow_4 ?_
  refine hv_iadd X dX4_atBlow_5 ?_
  refine hv_iload_n X dX4_atBlow_6 1 rfl ?_
  refine hv_iadd X dX4_atBlow_7 ?_
  subst h
  exact hv_iret X hr dX4_atBlow_8 (Nat.zero_le _) (Nat.zero_le _)
theorem pk_M_atBlow : hd_PkS yX4_atBlow cX4_atBlow 2 (some .int) 2 := ⟨q1363, q73, q1364, by decide +kernel, by decide +kernel, by decide +kernel⟩
-- isBlade
def hf_M_isBlade (a1 : Int32) (S : hd_St) : (Option Bool) :=
  if hd_ck 0 47 = true then
    some (hf_M_isIn a1 0 ((hd_I S 39 (0 : Int32).toNatClampNeg) - 1))
    else none
theorem hw_M_isBlade (l : Launch) (E : hd_EV) (a1 : Int32) (S : hd_St) (y : Bool) (h : hf_M_isBlade a1 S = some y) : hd_Mt l E yX4_isBlade cX4_isBlade 2 (some .boolean) (hd_Rm 2 0 0) [.ref (hd_ad E 38), .int a1] S (some (.int (hd_bI y))) S := by
  refine hd_Mt.start [(0, .ref (hd_ad E 38)), (1, .int a1)] hd_pnX4 rfl (Nat.le_of_ble_eq_true rfl) (fun κ X hl hr hn => ?_)
  have X : hd_Cx κ E cX4_isBlade RX4 2 (hd_Rm 2 0 0) := X
  unfold hf_M_isBlade at h
  refine hv_iload_n X dX4_isBlade_0 1 rfl ?_
  refine hv_iconst X (v := 0) dX4_isBlade_1 (by decide) ?_
  refine hv_aload_n X dX4_isBlade_2 0 rfl ?_
  refine hg_M_s X q1241 dX4_isBlade_3 ?_
  refine hv_iconst X (v := 0) dX4_isBlade_6 (by decide) ?_
  refine hv_iald X h hd_ia39 dX4_isBlade_7 (fun h => ?_)
  refine hv_iconst X (v := 1) dX4_isBlade_8 (by decide) ?_
  refine hv_isub X dX4_isBlade_9 ?_
  refine hv_cS X pk_M_isIn (hw_M_isIn _ E a1 0 ((hd_I S 39 (0 : Int32).toNatClampNeg) - 1) S) q1319 dX4_isBlade_10 (by decide) (by decide) (Nat.zero_le _) (Nat.zero_le _) rfl rfl (Nat.le_of_ble_eq_true rfl) rfl ?_
  obtain rfl := Option.some.inj h
  exact hv_zret X hr rfl dX4_isBlade_13 (Nat.zero_le _) (Nat.zero_le _)
theorem pk_M_isBlade : hd_PkV RX4 yX4_isBlade cX4_isBlade 2 (some .boolean) 1 := ⟨q1371, qs37, q73, q1372, rfl, by decide +kernel, by decide +kernel, by decide +kernel⟩
-- isThumbs
def hf_M_isThumbs (a1 : Int32) (S : hd_St) : (Option Bool) :=
  if hd_ck 1 47 = true then
    some (hf_M_isIn a1 0 ((hd_I S 39 (1 : Int32).toNatClampNeg) - 1))
    else none
theorem hw_M_isThumbs (l : Launch) (E : hd_EV) (a1 : Int32) (S : hd_St) (y : Bool) (h : hf_M_isThumbs a1 S = some y) : hd_Mt l E yX4_isThumbs cX4_isThumbs 2 (some .boolean) (hd_Rm 2 0 0) [.ref (hd_ad E 38), .int a1] S (some (.int (hd_bI y))) S := by
  refine hd_Mt.start [(0, .ref (hd_ad E 38)), (1, .int a1)] hd_pnX4 rfl (Nat.le_of_ble_eq_true rfl) (fun κ X hl hr hn => ?_)
  have X : hd_Cx κ E cX4_isThumbs RX4 2 (hd_Rm 2 0 0) := X
  unfold hf_M_isThumbs at h
  refine hv_iload_n X dX4_isThumbs_0 1 rfl ?_
  refine hv_iconst X (v := 0) dX4_isThumbs_1 (by decide) ?_
  refine hv_aload_n X dX4_isThumbs_2 0 rfl ?_
  refine hg_M_s X q1241 dX4_isThumbs_3 ?_
  refine hv_iconst X (v := 1) dX4_isThumbs_6 (by decide) ?_
  refine hv_iald X h hd_ia39 dX4_isThumbs_7 (fun h => ?_)
  refine hv_iconst X (v := 1) dX4_isThumbs_8 (by decide) ?_
  refine hv_isub X dX4_isThumbs_9 ?_
  refine hv_cS X pk_M_isIn (hw_M_isIn _ E a1 0 ((hd_I S 39 (1 : Int32).toNatClampNeg) - 1) S) q1319 dX4_isThumbs_10 (by decide) (by decide) (Nat.zero_le _) (Nat.zero_le _) rfl rfl (Nat.le_of_ble_eq_true rfl) rfl ?_
  obtain rfl := Option.some.inj h
  exact hv_zret X hr rfl dX4_isThumbs_13 (Nat.zero_le _) (Nat.zero_le _)
theorem pk_M_isThumbs : hd_PkV RX4 yX4_isThumbs cX4_isThumbs 2 (some .boolean) 1 := ⟨q1375, qs38, q73, q1376, rfl, by decide +kernel, by decide +kernel, by decide +kernel⟩
-- isBlow
def hf_M_isBlow (a1 : Int32) (S : hd_St) : (Option Bool) :=
  if hd_ck 2 47 = true then
    some (hf_M_isIn a1 0 ((hd_I S 39 (2 : Int32).toNatClampNeg) - 1))
    else none
theorem hw_M_isBlow (l : Launch) (E : hd_EV) (a1 : Int32) (S : hd_St) (y : Bool) (h : hf_M_isBlow a1 S = some y) : hd_Mt l E yX4_isBlow cX4_isBlow 2 (some .boolean) (hd_Rm 2 0 0) [.ref (hd_ad E 38), .int a1] S (some (.int (hd_bI y))) S := by
  refine hd_Mt.start [(0, .ref (hd_ad E 38)), (1, .int a1)] hd_pnX4 rfl (Nat.le_of_ble_eq_true rfl) (fun κ X hl hr hn => ?_)
  have X : hd_Cx κ E cX4_isBlow RX4 2 (hd_Rm 2 0 0) := X
  unfold hf_M_isBlow at h
  refine hv_iload_n X dX4_isBlow_0 1 rfl ?_
  refine hv_iconst X (v := 0) dX4_isBlow_1 (by decide) ?_
  refine hv_aload_n X dX4_isBlow_2 0 rfl ?_
  refine hg_M_s X q1241 dX4_isBlow_3 ?_
  refine hv_iconst X (v := 2) dX4_isBlow_6 (by decide) ?_
  refine hv_iald X h hd_ia39 dX4_isBlow_7 (fun h => ?_)
  refine hv_iconst X (v := 1) dX4_isBlow_8 (by decide) ?_
  refine hv_isub X dX4_isBlow_9 ?_
  refine hv_cS X pk_M_isIn (hw_M_isIn _ E a1 0 ((hd_I S 39 (2 : Int32).toNatClampNeg) - 1) S) q1319 dX4_isBlow_10 (by decide) (by decide) (Nat.zero_le _) (Nat.zero_le _) rfl rfl (Nat.le_of_ble_eq_true rfl) rfl ?_
  obtain rfl := Option.some.inj h
  exact hv_zret X hr rfl dX4_isBlow_13 (Nat.zero_le _) (Nat.zero_le _)
theorem pk_M_isBlow : hd_PkV RX4 yX4_isBlow cX4_isBlow 2 (some .boolean) 1 := ⟨q1379, qs39, q73, q1380, rfl, by decide +kernel, by decide +kernel, by decide +kernel⟩
-- bladeOf
def hf_M_bladeOf (a1 : Int32) (a2 : Int32) (S : hd_St) : (Option Int32) :=
  if hd_ck (hf_M_atBlade a1 a2) 47 = true then
    some (hd_I S 39 (hf_M_atBlade a1 a2).toNatClampNeg)
    else none
theorem hw_M_bladeOf (l : Launch) (E : hd_EV) (a1 : Int32) (a2 : Int32) (S : hd_St) (y : Int32) (h : hf_M_bladeOf a1 a2 S = some y) : hd_Mt l E yX4_bladeOf cX4_bladeOf 3 (some .int) (hd_Rm 2 0 0) [.ref (hd_ad E 38), .int a1, .int a2] S (some (.int y)) S := by
  refine hd_Mt.start [(0, .ref (hd_ad E 38)), (1, .int a1), (2, .int a2)] hd_pnX4 rfl (Nat.le_of_ble_eq_true rfl) (fun κ X hl hr hn => ?_)
  have X : hd_Cx κ E cX4_bladeOf RX4 3 (hd_Rm 2 0 0) := X
  unfold hf_M_bladeOf at h
  refine hv_aload_n X dX4_bladeOf_0 0 rfl ?_
  refine hg_M_s X q1241 dX4_bladeOf_1 ?_
  refine hv_iload_n X dX4_bladeOf_4 1 rfl ?_
  refine hv_iload_n X dX4_bladeOf_5 2 rfl ?_
  refine hv_cS X pk_M_atBlade (hw_M_atBlade _ E a1 a2 S) q1348 dX4_bladeOf_6 (by decide) (by decide) (Nat.zero_le _) (Nat.zero_le _) rfl rfl (Nat.le_of_ble_eq_true rfl) rfl ?_
  refine hv_iald X h hd_ia39 dX4_bladeOf_9 (fun h => ?_)
  obtain rfl := Option.some.inj h
  exact hv_iret X hr dX4_bladeOf_10 (Nat.zero_le _) (Nat.zero_le _)
theorem pk_M_bladeOf : hd_PkV RX4 yX4_bladeOf cX4_bladeOf 3 (some .int) 2 := ⟨q1387, qs41, q73, q1388, rfl, by decide +kernel, by decide +kernel, by decide +kernel⟩
-- kind
def hf_M_kind (a1 : Int32) (S : hd_St) : (Option Int32) :=
  if hd_ck (hf_M_atBlow a1 0) 47 = true then
    some (hd_I S 39 (hf_M_atBlow a1 0).toNatClampNeg)
    else none
theorem hw_M_kind (l : Launch) (E : hd_EV) (a1 : Int32) (S : hd_St) (y : Int32) (h : hf_M_kind a1 S = some y) : hd_Mt l E yX4_kind cX4_kind 2 (some .int) (hd_Rm 2 0 0) [.ref (hd_ad E 38), .int a1] S (some (.int y)) S := by
  refine hd_Mt.start [(0, .ref (hd_ad E 38)), (1, .int a1)] hd_pnX4 rfl (Nat.le_of_ble_eq_true rfl) (fun κ X hl hr hn => ?_)
  have X : hd_Cx κ E cX4_kind RX4 2 (hd_Rm 2 0 0) := X
  unfold hf_M_kind at h
  refine hv_aload_n X dX4_kind_0 0 rfl ?_
  refine hg_M_s X q1241 dX4_kind_1 ?_
  refine hv_iload_n X dX4_kind_4 1 rfl ?_
  refine hv_iconst X (v := 0) dX4_kind_5 (by decide) ?_
  refine hv_cS X pk_M_atBlow (hw_M_atBlow _ E a1 0 S) q1362 dX4_kind_6 (by decide) (by decide) (Nat.zero_le _) (Nat.zero_le _) rfl rfl (Nat.le_of_ble_eq_true rfl) rfl ?_
  refine hv_iald X h hd_ia39 dX4_kind_9 (fun h => ?_)
  obtain rfl := Option.some.inj h
  exact hv_iret X hr dX4_kind_10 (Nat.zero_le _) (Nat.zero_le _)
theorem pk_M_kind : hd_PkV RX4 yX4_kind cX4_kind 2 (some .int) 1 := ⟨q1395, qs43, q73, q1396, rfl, by decide +kernel, by decide +kernel, by decide +kernel⟩
-- figure
def hf_M_figure (a1 : Int32) (S : hd_St) : (Option Int32) :=
  if hd_ck (hf_M_atBlow a1 1) 47 = true then
    some (hd_I S 39 (hf_M_atBlow a1 1).toNatClampNeg)
    else none
theorem hw_M_figure (l : Launch) (E : hd_EV) (a1 : Int32) (S : hd_St) (y : Int32) (h : hf_M_figure a1 S = some y) : hd_Mt l E yX4_figure cX4_figure 2 (some .int) (hd_Rm 2 0 0) [.ref (hd_ad E 38), .int a1] S (some (.int y)) S := by
  refine hd_Mt.start [(0, .ref (hd_ad E 38)), (1, .int a1)] hd_pnX4 rfl (Nat.le_of_ble_eq_true rfl) (fun κ X hl hr hn => ?_)
  have X : hd_Cx κ E cX4_figure RX4 2 (hd_Rm 2 0 0) := X
  unfold hf_M_figure at h
  refine hv_aload_n X dX4_figure_0 0 rfl ?_
  refine hg_M_s X q1241 dX4_figure_1 ?_
  refine hv_iload_n X dX4_figure_4 1 rfl ?_
  refine hv_iconst X (v := 1) dX4_figure_5 (by decide) ?_
  refine hv_cS X pk_M_atBlow (hw_M_atBlow _ E a1 1 S) q1362 dX4_figure_6 (by decide) (by decide) (Nat.zero_le _) (Nat.zero_le _) rfl rfl (Nat.le_of_ble_eq_true rfl) rfl ?_
  refine hv_iald X h hd_ia39 dX4_figure_9 (fun h => ?_)
  obtain rfl := Option.some.inj h
  exact hv_iret X hr dX4_figure_10 (Nat.zero_le _) (Nat.zero_le _)
theorem pk_M_figure : hd_PkV RX4 yX4_figure cX4_figure 2 (some .int) 1 := ⟨q1399, qs44, q73, q1400, rfl, by decide +kernel, by decide +kernel, by decide +kernel⟩
-- thumbs
def hf_M_thumbs (a1 : Int32) (a2 : Int32) (S : hd_St) : (Option Int32) :=
  (hf_M_isThumbs a1 S).bind fun r1 =>
    if r1 = true then
    (if (hf_M_isIn a2 0 1) = true then
    (if hd_ck (hf_M_atThumbs a1 a2) 47 = true then
    some (hd_I S 39 (hf_M_atThumbs a1 a2).toNatClampNeg)
    else none)
    else
    (some (-1)))
    else
    (some (-1))
theorem hw_M_thumbs (l : Launch) (E : hd_EV) (a1 : Int32) (a2 : Int32) (S : hd_St) (y : Int32) (h : hf_M_thumbs a1 a2 S = some y) : hd_Mt l E yX4_thumbs cX4_thumbs 3 (some .int) (hd_Rm 3 0 0) [.ref (hd_ad E 38), .int a1, .int a2] S (some (.int y)) S := by
  refine hd_Mt.start [(0, .ref (hd_ad E 38)), (1, .int a1), (2, .int a2)] hd_pnX4 rfl (Nat.le_of_ble_eq_true rfl) (fun κ X hl hr hn => ?_)
  have X : hd_Cx κ E cX4_thumbs RX4 3 (hd_Rm 3 0 0) := X
  unfold hf_M_thumbs at h
  refine hv_aload_n X dX4_thumbs_0 0 rfl ?_
  refine hv_iload_n X dX4_thumbs_1 1 rfl ?_
  obtain ⟨r1, e2, h⟩ := hd_bind h
  refine hv_cV X pk_M_isThumbs hd_rcM (hw_M_isThumbs _ E a1 S r1 e2) q1373 dX4_thumbs_2 (by decide) (by decide) (Nat.zero_le _) (Nat.zero_le _) rfl rfl (Nat.le_of_ble_eq_true rfl) rfl ?_
  refine hv_ifb_eq X 30 h dX4_thumbs_5 (by decide) (fun h => ?_) (fun h => ?_)
  · refine hv_iconst X (v := (-1)) dX4_thumbs_30 (by decide) ?_
    obtain rfl := Option.some.inj h
    exact hv_iret X hr dX4_thumbs_31 (Nat.zero_le _) (Nat.zero_le _)
  · refine hv_iload_n X dX4_thumbs_8 2 rfl ?_
    refine hv_iconst X (v := 0) dX4_thumbs_9 (by decide) ?_
    refine hv_iconst X (v := 1) dX4_thumbs_10 (by decide) ?_
    refine hv_cS X pk_M_isIn (hw_M_isIn _ E a2 0 1 S) q1319 dX4_thumbs_11 (by decide) (by decide) (Nat.zero_le _) (Nat.zero_le _) rfl rfl (Nat.le_of_ble_eq_true rfl) rfl ?_
    refine hv_ifb_eq X 30 h dX4_thumbs_14 (by decide) (fun h => ?_) (fun h => ?_)
    · refine hv_iconst X (v := (-1)) dX4_thumbs_30 (by decide) ?_
      obtain rfl := Option.some.inj h
      exact hv_iret X hr dX4_thumbs_31 (Nat.zero_le _) (Nat.zero_le _)
    · refine hv_aload_n X dX4_thumbs_17 0 rfl ?_
      refine hg_M_s X q1241 dX4_thumbs_18 ?_
      refine hv_iload_n X dX4_thumbs_21 1 rfl ?_
      refine hv_iload_n X dX4_thumbs_22 2 rfl ?_
      refine hv_cS X pk_M_atThumbs (hw_M_atThumbs _ E a1 a2 S) q1355 dX4_thumbs_23 (by decide) (by decide) (Nat.zero_le _) (Nat.zero_le _) rfl rfl (Nat.le_of_ble_eq_true rfl) rfl ?_
      refine hv_iald X h hd_ia39 dX4_thumbs_26 (fun h => ?_)
      refine hv_goto X 31 dX4_thumbs_27 (by decide) ?_
      obtain rfl := Option.some.inj h
      exact hv_iret X hr dX4_thumbs_31 (Nat.zero_le _) (Nat.zero_le _)
theorem pk_M_thumbs : hd_PkV RX4 yX4_thumbs cX4_thumbs 3 (some .int) 2 := ⟨q1406, q1407, q73, q1408, rfl, by decide +kernel, by decide +kernel, by decide +kernel⟩
-- isForce
def hf_M_isForce (a0 : Int32) : Bool :=
  (hf_M_isIn a0 0 60)
theorem hw_M_isForce (l : Launch) (E : hd_EV) (a0 : Int32) (S : hd_St) : hd_Mt l E yX4_isForce cX4_isForce 1 (some .boolean) (hd_Rm 2 0 0) [.int a0] S (some (.int (hd_bI (hf_M_isForce a0)))) S := by
  obtain ⟨y, h⟩ : ∃ y, hf_M_isForce a0 = y := ⟨_, rfl⟩
  rw [h]
  refine hd_Mt.start [(0, .int a0)] hd_pnX4 rfl (Nat.le_of_ble_eq_true rfl) (fun κ X hl hr hn => ?_)
  have X : hd_Cx κ E cX4_isForce RX4 1 (hd_Rm 2 0 0) := X
  unfold hf_M_isForce at h
  refine hv_iload_n X dX4_isForce_0 0 rfl ?_
  refine hv_iconst X (v := 0) dX4_isForce_1 (by decide) ?_
  refine hv_bipush X (v := 60) dX4_isForce_2 (by decide) ?_
  refine hv_cS X pk_M_isIn (hw_M_isIn _ E a0 0 60 S) q1319 dX4_isForce_4 (by decide) (by decide) (Nat.zero_le _) (Nat.zero_le _) rfl rfl (Nat.le_of_ble_eq_true rfl) rfl ?_
  subst h
  exact hv_zret X hr rfl dX4_isForce_7 (Nat.zero_le _) (Nat.zero_le _)
theorem pk_M_isForce : hd_PkS yX4_isForce cX4_isForce 1 (some .boolean) 1 := ⟨q1430, q73, q1431, by decide +kernel, by decide +kernel, by decide +kernel⟩
-- wets
def hf_M_wets (a1 : Int32) (a2 : Int32) (S : hd_St) : (Option (Int32 × hd_St)) :=
  (hf_M_isBlade a1 S).bind fun r1 =>
    if r1 = true then
    (if (hf_M_isIn a2 0 9) = true then
    ((hf_M_bladeOf a1 2 S).bind fun r3 =>
    if hd_ck (hf_M_atBlade a1 2) 47 = true then
    hd_nm (hd_sI S 39 (hf_M_atBlade a1 2).toNatClampNeg a2) fun S5 =>
    some (r3, S5)
    else none)
    else
    (some ((-1), S)))
    else
    (some ((-1), S))
theorem hw_M_wets (l : Launch) (E : hd_EV) (a1 : Int32) (a2 : Int32) (S : hd_St) (y : (Int32 × hd_St)) (h : hf_M_wets a1 a2 S = some y) : hd_Mt l E yX4_wets cX4_wets 4 (some .int) (hd_Rm 3 0 0) [.ref (hd_ad E 38), .int a1, .int a2] S (some (.int y.1)) y.2 := by
  refine hd_Mt.start [(0, .ref (hd_ad E 38)), (1, .int a1), (2, .int a2)] hd_pnX4 rfl (Nat.le_of_ble_eq_true rfl) (fun κ X hl hr hn => ?_)
  have X : hd_Cx κ E cX4_wets RX4 4 (hd_Rm 3 0 0) := X
  unfold hf_M_wets at h
  refine hv_aload_n X dX4_wets_0 0 rfl ?_
  refine hv_iload_n X dX4_wets_1 1 rfl ?_
  obtain ⟨r1, e2, h⟩ := hd_bind h
  refine hv_cV X pk_M_isBlade hd_rcM (hw_M_isBlade _ E a1 S r1 e2) q1369 dX4_wets_2 (by decide) (by decide) (Nat.zero_le _) (Nat.zero_le _) rfl rfl (Nat.le_of_ble_eq_true rfl) rfl ?_
  refine hv_ifb_eq X 18 h dX4_wets_5 (by decide) (fun h => ?_) (fun h => ?_)
  · refine hv_iconst X (v := (-1)) dX4_wets_18 (by decide) ?_
    obtain rfl := Option.some.inj h
    exact hv_iret X hr dX4_wets_19 (Nat.zero_le _) (Nat.zero_le _)
  · refine hv_iload_n X dX4_wets_8 2 rfl ?_
    refine hv_iconst X (v := 0) dX4_wets_9 (by decide) ?_
    refine hv_bipush X (v := 9) dX4_wets_10 (by decide) ?_
    refine hv_cS X pk_M_isIn (hw_M_isIn _ E a2 0 9 S) q1319 dX4_wets_12 (by decide) (by decide) (Nat.zero_le _) (Nat.zero_le _) rfl rfl (Nat.le_of_ble_eq_true rfl) rfl ?_
    refine hv_ifb_ne X 20 h dX4_wets_15 (by decide) (fun h => ?_) (fun h => ?_)
    · refine hv_aload_n X dX4_wets_20 0 rfl ?_
      refine hv_iload_n X dX4_wets_21 1 rfl ?_
      refine hv_iconst X (v := 2) dX4_wets_22 (by decide) ?_
      obtain ⟨r3, e4, h⟩ := hd_bind h
      refine hv_cV X pk_M_bladeOf hd_rcM (hw_M_bladeOf _ E a1 2 S r3 e4) q1385 dX4_wets_23 (by decide) (by decide) (Nat.zero_le _) (Nat.zero_le _) rfl rfl (Nat.le_of_ble_eq_true rfl) rfl ?_
      refine hv_istore_n X [(3, .int r3), (0, .ref (hd_ad E 38)), (1, .int a1), (2, .int a2)] dX4_wets_26 (by decide) rfl ?_
      refine hv_aload_n X dX4_wets_27 1 rfl ?_
      refine hg_M_s X q1241 dX4_wets_28 ?_
      refine hv_iload_n X dX4_wets_31 2 rfl ?_
      refine hv_iconst X (v := 2) dX4_wets_32 (by decide) ?_
      refine hv_cS X pk_M_atBlade (hw_M_atBlade _ E a1 2 S) q1348 dX4_wets_33 (by decide) (by decide) (Nat.zero_le _) (Nat.zero_le _) rfl rfl (Nat.le_of_ble_eq_true rfl) rfl ?_
      refine hv_iload_n X dX4_wets_36 3 rfl ?_
      refine hv_iast X h hd_ia39 dX4_wets_37 (fun h => ?_)
      refine hv_nmS h (fun S5 h => ?_)
      refine hv_iload_n X dX4_wets_38 0 rfl ?_
      obtain rfl := Option.some.inj h
      exact hv_iret X hr dX4_wets_39 (Nat.zero_le _) (Nat.zero_le _)
    · refine hv_iconst X (v := (-1)) dX4_wets_18 (by decide) ?_
      obtain rfl := Option.some.inj h
      exact hv_iret X hr dX4_wets_19 (Nat.zero_le _) (Nat.zero_le _)
theorem pk_M_wets : hd_PkV RX4 yX4_wets cX4_wets 4 (some .int) 2 := ⟨q1433, q1434, q73, q1435, rfl, by decide +kernel, by decide +kernel, by decide +kernel⟩
-- slitOf
def hf_M_slitOf (a1 : Int32) (S : hd_St) : (Option Int32) :=
  if hd_ck (hf_M_atThumbs a1 0) 47 = true then
    hd_nm (hd_I S 39 (hf_M_atThumbs a1 0).toNatClampNeg) fun v1 =>
    if (hd_I S 38 4) = (2 : Int32) then
    (if v1 ≤ 0 then
    (some v1)
    else
    (some (v1 - 1)))
    else
    (some v1)
    else none
theorem hw_M_slitOf (l : Launch) (E : hd_EV) (a1 : Int32) (S : hd_St) (y : Int32) (h : hf_M_slitOf a1 S = some y) : hd_Mt l E yX4_slitOf cX4_slitOf 3 (some .int) (hd_Rm 2 0 0) [.ref (hd_ad E 38), .int a1] S (some (.int y)) S := by
  refine hd_Mt.start [(0, .ref (hd_ad E 38)), (1, .int a1)] hd_pnX4 rfl (Nat.le_of_ble_eq_true rfl) (fun κ X hl hr hn => ?_)
  have X : hd_Cx κ E cX4_slitOf RX4 3 (hd_Rm 2 0 0) := X
  unfold hf_M_slitOf at h
  refine hv_aload_n X dX4_slitOf_0 0 rfl ?_
  refine hg_M_s X q1241 dX4_slitOf_1 ?_
  refine hv_iload_n X dX4_slitOf_4 1 rfl ?_
  refine hv_iconst X (v := 0) dX4_slitOf_5 (by decide) ?_
  refine hv_cS X pk_M_atThumbs (hw_M_atThumbs _ E a1 0 S) q1355 dX4_slitOf_6 (by decide) (by decide) (Nat.zero_le _) (Nat.zero_le _) rfl rfl (Nat.le_of_ble_eq_true rfl) rfl ?_
  refine hv_iald X h hd_ia39 dX4_slitOf_9 (fun h => ?_)
  refine hv_nmI h (fun v1 h => ?_)
  refine hv_istore_n X [(2, .int v1), (0, .ref (hd_ad E 38)), (1, .int a1)] dX4_slitOf_10 (by decide) rfl ?_
  refine hv_aload_n X dX4_slitOf_11 1 rfl ?_
  refine hg_M_help X q1245 dX4_slitOf_12 ?_
  refine hv_iconst X (v := 2) dX4_slitOf_15 (by decide) ?_
  refine hv_icmp_ne X 29 h dX4_slitOf_16 (by decide) (fun h => ?_) (fun h => ?_)
  · refine hv_iload_n X dX4_slitOf_29 0 rfl ?_
    obtain rfl := Option.some.inj h
    exact hv_iret X hr dX4_slitOf_30 (Nat.zero_le _) (Nat.zero_le _)
  · refine hv_iload_n X dX4_slitOf_19 0 rfl ?_
    refine hv_if_le X 29 h dX4_slitOf_20 (by decide) (fun h => ?_) (fun h => ?_)
    · refine hv_iload_n X dX4_slitOf_29 0 rfl ?_
      obtain rfl := Option.some.inj h
      exact hv_iret X hr dX4_slitOf_30 (Nat.zero_le _) (Nat.zero_le _)
    · refine hv_iload_n X dX4_slitOf_23 0 rfl ?_
      refine hv_iconst X (v := 1) dX4_slitOf_24 (by decide) ?_
      refine hv_isub X dX4_slitOf_25 ?_
      refine hv_goto X 30 dX4_slitOf_26 (by decide) ?_
      obtain rfl := Option.some.inj h
      exact hv_iret X hr dX4_slitOf_30 (Nat.zero_le _) (Nat.zero_le _)
theorem pk_M_slitOf : hd_PkV RX4 yX4_slitOf cX4_slitOf 3 (some .int) 1 := ⟨q1450, qs48, q73, q1451, rfl, by decide +kernel, by decide +kernel, by decide +kernel⟩
-- isSounding
def hf_M_isSounding (a0 : Int32) : Bool :=
  if a0 = (2 : Int32) then
    (true)
    else
    (if a0 = (3 : Int32) then
    (true)
    else
    (if a0 = (5 : Int32) then
    (true)
    else
    (if a0 = (6 : Int32) then
    (true)
    else
    (false))))
theorem hw_M_isSounding (l : Launch) (E : hd_EV) (a0 : Int32) (S : hd_St) : hd_Mt l E yX4_isSounding cX4_isSounding 1 (some .boolean) (hd_Rm 1 0 0) [.int a0] S (some (.int (hd_bI (hf_M_isSounding a0)))) S := by
  obtain ⟨y, h⟩ : ∃ y, hf_M_isSounding a0 = y := ⟨_, rfl⟩
  rw [h]
  refine hd_Mt.start [(0, .int a0)] hd_pnX4 rfl (Nat.le_of_ble_eq_true rfl) (fun κ X hl hr hn => ?_)
  have X : hd_Cx κ E cX4_isSounding RX4 1 (hd_Rm 1 0 0) := X
  unfold hf_M_isSounding at h
  refine hv_iload_n X dX4_isSounding_0 0 rfl ?_
  refine hv_iconst X (v := 2) dX4_isSounding_1 (by decide) ?_
  refine hv_icmp_eq X 21 h dX4_isSounding_2 (by decide) (fun h => ?_) (fun h => ?_)
  · refine hv_iconst X (v := 1) dX4_isSounding_21 (by decide) ?_
    refine hv_goto X 26 dX4_isSounding_22 (by decide) ?_
    subst h
    exact hv_zret X hr rfl dX4_isSounding_26 (Nat.zero_le _) (Nat.zero_le _)
  · refine hv_iload_n X dX4_isSounding_5 0 rfl ?_
    refine hv_iconst X (v := 3) dX4_isSounding_6 (by decide) ?_
    refine hv_icmp_eq X 21 h dX4_isSounding_7 (by decide) (fun h => ?_) (fun h => ?_)
    · refine hv_iconst X (v := 1) dX4_isSounding_21 (by decide) ?_
      refine hv_goto X 26 dX4_isSounding_22 (by decide) ?_
      subst h
      exact hv_zret X hr rfl dX4_isSounding_26 (Nat.zero_le _) (Nat.zero_le _)
    · refine hv_iload_n X dX4_isSounding_10 0 rfl ?_
      refine hv_iconst X (v := 5) dX4_isSounding_11 (by decide) ?_
      refine hv_icmp_eq X 21 h dX4_isSounding_12 (by decide) (fun h => ?_) (fun h => ?_)
      · refine hv_iconst X (v := 1) dX4_isSounding_21 (by decide) ?_
        refine hv_goto X 26 dX4_isSounding_22 (by decide) ?_
        subst h
        exact hv_zret X hr rfl dX4_isSounding_26 (Nat.zero_le _) (Nat.zero_le _)
      · refine hv_iload_n X dX4_isSounding_15 0 rfl ?_
        refine hv_bipush X (v := 6) dX4_isSounding_16 (by decide) ?_
        refine hv_icmp_ne X 25 h dX4_isSounding_18 (by decide) (fun h => ?_) (fun h => ?_)
        · refine hv_iconst X (v := 0) dX4_isSounding_25 (by decide) ?_
          subst h
          exact hv_zret X hr rfl dX4_isSounding_26 (Nat.zero_le _) (Nat.zero_le _)
        · refine hv_iconst X (v := 1) dX4_isSounding_21 (by decide) ?_
          refine hv_goto X 26 dX4_isSounding_22 (by decide) ?_
          subst h
          exact hv_zret X hr rfl dX4_isSounding_26 (Nat.zero_le _) (Nat.zero_le _)
theorem pk_M_isSounding : hd_PkS yX4_isSounding cX4_isSounding 1 (some .boolean) 1 := ⟨q1453, q73, q1454, by decide +kernel, by decide +kernel, by decide +kernel⟩
-- softest
def hf_M_softest (a1 : Int32) (a2 : Int32) (S : hd_St) : (Option Int32) :=
  (hf_M_slitOf a1 S).bind fun r1 =>
    hd_nm ((6 : Int32) + ((2 : Int32) * r1)) fun v3 =>
    (hf_M_kind a2 S).bind fun r4 =>
    if r4 = 1 then
    (some 61)
    else
    (if r4 = 2 then
    (some v3)
    else
    (if r4 = 3 then
    (some ((2 : Int32) * v3))
    else
    (if r4 = 4 then
    (some v3)
    else
    (if r4 = 5 then
    (some v3)
    else
    (if r4 = 6 then
    (some (v3 / 2))
    else
    (if r4 = 7 then
    (some 61)
    else
    (some v3)))))))
theorem hw_M_softest (l : Launch) (E : hd_EV) (a1 : Int32) (a2 : Int32) (S : hd_St) (y : Int32) (h : hf_M_softest a1 a2 S = some y) : hd_Mt l E yX4_softest cX4_softest 4 (some .int) (hd_Rm 3 0 0) [.ref (hd_ad E 38), .int a1, .int a2] S (some (.int y)) S := by
  refine hd_Mt.start [(0, .ref (hd_ad E 38)), (1, .int a1), (2, .int a2)] hd_pnX4 rfl (Nat.le_of_ble_eq_true rfl) (fun κ X hl hr hn => ?_)
  have X : hd_Cx κ E cX4_softest RX4 4 (hd_Rm 3 0 0) := X
  unfold hf_M_softest at h
  refine hv_bipush X (v := 6) dX4_softest_0 (by decide) ?_
  refine hv_iconst X (v := 2) dX4_softest_2 (by decide) ?_
  refine hv_aload_n X dX4_softest_3 0 rfl ?_
  refine hv_iload_n X dX4_softest_4 1 rfl ?_
  obtain ⟨r1, e2, h⟩ := hd_bind h
  refine hv_cV X pk_M_slitOf hd_rcM (hw_M_slitOf _ E a1 S r1 e2) q1448 dX4_softest_5 (by decide) (by decide) (Nat.zero_le _) (Nat.zero_le _) rfl rfl (Nat.le_of_ble_eq_true rfl) rfl ?_
  refine hv_imul X dX4_softest_8 ?_
  refine hv_iadd X dX4_softest_9 ?_
  refine hv_nmI h (fun v3 h => ?_)
  refine hv_istore_n X [(3, .int v3), (0, .ref (hd_ad E 38)), (1, .int a1), (2, .int a2)] dX4_softest_10 (by decide) rfl ?_
  refine hv_aload_n X dX4_softest_11 1 rfl ?_
  refine hv_iload_n X dX4_softest_12 3 rfl ?_
  obtain ⟨r4, e5, h⟩ := hd_bind h
  refine hv_cV X pk_M_kind hd_rcM (hw_M_kind _ E a2 S r4 e5) q1393 dX4_softest_13 (by decide) (by decide) (Nat.zero_le _) (Nat.zero_le _) rfl rfl (Nat.le_of_ble_eq_true rfl) rfl ?_
  refine hv_case h (fun c0 h => ?_) (fun c0 h => ?_)
  · refine hv_tswIn X 60 c0 dX4_softest_16 (by decide) (by decide) (off := 44) (by decide) (by decide) ?_
    refine hv_bipush X (v := 61) dX4_softest_60 (by decide) ?_
    obtain rfl := Option.some.inj h
    exact hv_iret X hr dX4_softest_62 (Nat.zero_le _) (Nat.zero_le _)
  · refine hv_case h (fun c1 h => ?_) (fun c1 h => ?_)
    · refine hv_tswIn X 71 c1 dX4_softest_16 (by decide) (by decide) (off := 55) (by decide) (by decide) ?_
      refine hv_iload_n X dX4_softest_71 0 rfl ?_
      obtain rfl := Option.some.inj h
      exact hv_iret X hr dX4_softest_72 (Nat.zero_le _) (Nat.zero_le _)
    · refine hv_case h (fun c2 h => ?_) (fun c2 h => ?_)
      · refine hv_tswIn X 63 c2 dX4_softest_16 (by decide) (by decide) (off := 47) (by decide) (by decide) ?_
        refine hv_iconst X (v := 2) dX4_softest_63 (by decide) ?_
        refine hv_iload_n X dX4_softest_64 0 rfl ?_
        refine hv_imul X dX4_softest_65 ?_
        obtain rfl := Option.some.inj h
        exact hv_iret X hr dX4_softest_66 (Nat.zero_le _) (Nat.zero_le _)
      · refine hv_case h (fun c3 h => ?_) (fun c3 h => ?_)
        · refine hv_tswIn X 71 c3 dX4_softest_16 (by decide) (by decide) (off := 55) (by decide) (by decide) ?_
          refine hv_iload_n X dX4_softest_71 0 rfl ?_
          obtain rfl := Option.some.inj h
          exact hv_iret X hr dX4_softest_72 (Nat.zero_le _) (Nat.zero_le _)
        · refine hv_case h (fun c4 h => ?_) (fun c4 h => ?_)
          · refine hv_tswIn X 71 c4 dX4_softest_16 (by decide) (by decide) (off := 55) (by decide) (by decide) ?_
            refine hv_iload_n X dX4_softest_71 0 rfl ?_
            obtain rfl := Option.some.inj h
            exact hv_iret X hr dX4_softest_72 (Nat.zero_le _) (Nat.zero_le _)
          · refine hv_case h (fun c5 h => ?_) (fun c5 h => ?_)
            · refine hv_tswIn X 67 c5 dX4_softest_16 (by decide) (by decide) (off := 51) (by decide) (by decide) ?_
              refine hv_iload_n X dX4_softest_67 0 rfl ?_
              refine hv_iconst X (v := 2) dX4_softest_68 (by decide) ?_
              refine hv_idivc X (by decide) dX4_softest_69 ?_
              obtain rfl := Option.some.inj h
              exact hv_iret X hr dX4_softest_70 (Nat.zero_le _) (Nat.zero_le _)
            · refine hv_case h (fun c6 h => ?_) (fun c6 h => ?_)
              · refine hv_tswIn X 60 c6 dX4_softest_16 (by decide) (by decide) (off := 44) (by decide) (by decide) ?_
                refine hv_bipush X (v := 61) dX4_softest_60 (by decide) ?_
                obtain rfl := Option.some.inj h
                exact hv_iret X hr dX4_softest_62 (Nat.zero_le _) (Nat.zero_le _)
              · refine hv_tswOut X 71 dX4_softest_16 (by have b0 := hd_ni c0 (a := 1) (by decide); have b1 := hd_ni c1 (a := 2) (by decide); have b2 := hd_ni c2 (a := 3) (by decide); have b3 := hd_ni c3 (a := 4) (by decide); have b4 := hd_ni c4 (a := 5) (by decide); have b5 := hd_ni c5 (a := 6) (by decide); have b6 := hd_ni c6 (a := 7) (by decide); omega) (by decide) ?_
                refine hv_iload_n X dX4_softest_71 0 rfl ?_
                obtain rfl := Option.some.inj h
                exact hv_iret X hr dX4_softest_72 (Nat.zero_le _) (Nat.zero_le _)
theorem pk_M_softest : hd_PkV RX4 yX4_softest cX4_softest 4 (some .int) 2 := ⟨q1461, qs50, q73, q1462, rfl, by decide +kernel, by decide +kernel, by decide +kernel⟩
-- hardest
def hf_M_hardest (a1 : Int32) (a2 : Int32) (S : hd_St) : (Option Int32) :=
  (hf_M_softest a1 a2 S).bind fun r1 =>
    (hf_M_kind a2 S).bind fun r3 =>
    if r3 = (4 : Int32) then
    ((hf_M_figure a2 S).bind fun r7 =>
    some (r1 + ((20 : Int32) - r7)))
    else
    ((hf_M_kind a2 S).bind fun r5 =>
    if r5 = (6 : Int32) then
    (some (r1 + 10))
    else
    (some (r1 + 20)))
theorem hw_M_hardest (l : Launch) (E : hd_EV) (a1 : Int32) (a2 : Int32) (S : hd_St) (y : Int32) (h : hf_M_hardest a1 a2 S = some y) : hd_Mt l E yX4_hardest cX4_hardest 3 (some .int) (hd_Rm 4 0 0) [.ref (hd_ad E 38), .int a1, .int a2] S (some (.int y)) S := by
  refine hd_Mt.start [(0, .ref (hd_ad E 38)), (1, .int a1), (2, .int a2)] hd_pnX4 rfl (Nat.le_of_ble_eq_true rfl) (fun κ X hl hr hn => ?_)
  have X : hd_Cx κ E cX4_hardest RX4 3 (hd_Rm 4 0 0) := X
  unfold hf_M_hardest at h
  refine hv_aload_n X dX4_hardest_0 0 rfl ?_
  refine hv_iload_n X dX4_hardest_1 1 rfl ?_
  refine hv_iload_n X dX4_hardest_2 2 rfl ?_
  obtain ⟨r1, e2, h⟩ := hd_bind h
  refine hv_cV X pk_M_softest hd_rcM (hw_M_softest _ E a1 a2 S r1 e2) q1459 dX4_hardest_3 (by decide) (by decide) (Nat.zero_le _) (Nat.zero_le _) rfl rfl (Nat.le_of_ble_eq_true rfl) rfl ?_
  refine hv_aload_n X dX4_hardest_6 0 rfl ?_
  refine hv_iload_n X dX4_hardest_7 2 rfl ?_
  obtain ⟨r3, e4, h⟩ := hd_bind h
  refine hv_cV X pk_M_kind hd_rcM (hw_M_kind _ E a2 S r3 e4) q1393 dX4_hardest_8 (by decide) (by decide) (Nat.zero_le _) (Nat.zero_le _) rfl rfl (Nat.le_of_ble_eq_true rfl) rfl ?_
  refine hv_iconst X (v := 4) dX4_hardest_11 (by decide) ?_
  refine hv_icmp_ne X 26 h dX4_hardest_12 (by decide) (fun h => ?_) (fun h => ?_)
  · refine hv_aload_n X dX4_hardest_26 0 rfl ?_
    refine hv_iload_n X dX4_hardest_27 2 rfl ?_
    obtain ⟨r5, e6, h⟩ := hd_bind h
    refine hv_cV X pk_M_kind hd_rcM (hw_M_kind _ E a2 S r5 e6) q1393 dX4_hardest_28 (by decide) (by decide) (Nat.zero_le _) (Nat.zero_le _) rfl rfl (Nat.le_of_ble_eq_true rfl) rfl ?_
    refine hv_bipush X (v := 6) dX4_hardest_31 (by decide) ?_
    refine hv_icmp_ne X 41 h dX4_hardest_33 (by decide) (fun h => ?_) (fun h => ?_)
    · refine hv_bipush X (v := 20) dX4_hardest_41 (by decide) ?_
      refine hv_iadd X dX4_hardest_43 ?_
      obtain rfl := Option.some.inj h
      exact hv_iret X hr dX4_hardest_44 (Nat.zero_le _) (Nat.zero_le _)
    · refine hv_bipush X (v := 10) dX4_hardest_36 (by decide) ?_
      refine hv_goto X 43 dX4_hardest_38 (by decide) ?_
      refine hv_iadd X dX4_hardest_43 ?_
      obtain rfl := Option.some.inj h
      exact hv_iret X hr dX4_hardest_44 (Nat.zero_le _) (Nat.zero_le _)
  · refine hv_bipush X (v := 20) dX4_hardest_15 (by decide) ?_
    refine hv_aload_n X dX4_hardest_17 0 rfl ?_
    refine hv_iload_n X dX4_hardest_18 2 rfl ?_
    obtain ⟨r7, e8, h⟩ := hd_bind h
    refine hv_cV X pk_M_figure hd_rcM (hw_M_figure _ E a2 S r7 e8) q1397 dX4_hardest_19 (by decide) (by decide) (Nat.zero_le _) (Nat.zero_le _) rfl rfl (Nat.le_of_ble_eq_true rfl) rfl ?_
    refine hv_isub X dX4_hardest_22 ?_
    refine hv_goto X 43 dX4_hardest_23 (by decide) ?_
    refine hv_iadd X dX4_hardest_43 ?_
    obtain rfl := Option.some.inj h
    exact hv_iret X hr dX4_hardest_44 (Nat.zero_le _) (Nat.zero_le _)
theorem pk_M_hardest : hd_PkV RX4 yX4_hardest cX4_hardest 3 (some .int) 2 := ⟨q1465, qs51, q73, q1466, rfl, by decide +kernel, by decide +kernel, by decide +kernel⟩
-- gripOf
def hf_M_gripOf_23 (S : hd_St) (t0 : Int32) (t1 : Int32) : (Option Int32) :=
  hd_nm (t1 + t0) fun v1 =>
    if v1 ≤ (60 : Int32) then
    (some v1)
    else
    (some 60)
theorem hw_M_gripOf_23 {κ : hd_VK} {E : hd_EV} (X : hd_Cx κ E cX4_gripOf RX4 3 (hd_Rm 2 0 0)) (hr : (hd_kQ κ).sig.returnType = some .int) {S : hd_St} {y : Int32} (t0 : Int32) (t1 : Int32) (h : hf_M_gripOf_23 S t0 t1 = some y) : hd_V κ E 3 0 0 (hd_Qf κ E (some (.int y)) S) S 23 [] [.int t0, .int t1] := by
  unfold hf_M_gripOf_23 at h
  refine hv_iadd X dX4_gripOf_23 ?_
  refine hv_nmI h (fun v1 h => ?_)
  refine hv_istore_n X [(2, .int v1)] dX4_gripOf_24 (by decide) rfl ?_
  refine hv_iload_n X dX4_gripOf_25 0 rfl ?_
  refine hv_bipush X (v := 60) dX4_gripOf_26 (by decide) ?_
  refine hv_icmp_le X 36 h dX4_gripOf_28 (by decide) (fun h => ?_) (fun h => ?_)
  · refine hv_iload_n X dX4_gripOf_36 0 rfl ?_
    obtain rfl := Option.some.inj h
    exact hv_iret X hr dX4_gripOf_37 (Nat.zero_le _) (Nat.zero_le _)
  · refine hv_bipush X (v := 60) dX4_gripOf_31 (by decide) ?_
    refine hv_goto X 37 dX4_gripOf_33 (by decide) ?_
    obtain rfl := Option.some.inj h
    exact hv_iret X hr dX4_gripOf_37 (Nat.zero_le _) (Nat.zero_le _)
def hf_M_gripOf (a1 : Int32) (S : hd_St) : (Option Int32) :=
  if hd_ck (hf_M_atThumbs a1 1) 47 = true then
    if (hd_I S 38 4) = (1 : Int32) then
    (hf_M_gripOf_23 S 5 (hd_I S 39 (hf_M_atThumbs a1 1).toNatClampNeg))
    else
    (hf_M_gripOf_23 S 0 (hd_I S 39 (hf_M_atThumbs a1 1).toNatClampNeg))
    else none
theorem hw_M_gripOf (l : Launch) (E : hd_EV) (a1 : Int32) (S : hd_St) (y : Int32) (h : hf_M_gripOf a1 S = some y) : hd_Mt l E yX4_gripOf cX4_gripOf 3 (some .int) (hd_Rm 2 0 0) [.ref (hd_ad E 38), .int a1] S (some (.int y)) S := by
  refine hd_Mt.start [(0, .ref (hd_ad E 38)), (1, .int a1)] hd_pnX4 rfl (Nat.le_of_ble_eq_true rfl) (fun κ X hl hr hn => ?_)
  have X : hd_Cx κ E cX4_gripOf RX4 3 (hd_Rm 2 0 0) := X
  unfold hf_M_gripOf at h
  refine hv_aload_n X dX4_gripOf_0 0 rfl ?_
  refine hg_M_s X q1241 dX4_gripOf_1 ?_
  refine hv_iload_n X dX4_gripOf_4 1 rfl ?_
  refine hv_iconst X (v := 1) dX4_gripOf_5 (by decide) ?_
  refine hv_cS X pk_M_atThumbs (hw_M_atThumbs _ E a1 1 S) q1355 dX4_gripOf_6 (by decide) (by decide) (Nat.zero_le _) (Nat.zero_le _) rfl rfl (Nat.le_of_ble_eq_true rfl) rfl ?_
  refine hv_iald X h hd_ia39 dX4_gripOf_9 (fun h => ?_)
  refine hv_aload_n X dX4_gripOf_10 0 rfl ?_
  refine hg_M_help X q1245 dX4_gripOf_11 ?_
  refine hv_iconst X (v := 1) dX4_gripOf_14 (by decide) ?_
  refine hv_icmp_ne X 22 h dX4_gripOf_15 (by decide) (fun h => ?_) (fun h => ?_)
  · refine hv_iconst X (v := 0) dX4_gripOf_22 (by decide) ?_
    refine hv_sub [] [] rfl ?_
    exact hw_M_gripOf_23 X hr 0 (hd_I S 39 (hf_M_atThumbs a1 1).toNatClampNeg) h
  · refine hv_iconst X (v := 5) dX4_gripOf_18 (by decide) ?_
    refine hv_goto X 23 dX4_gripOf_19 (by decide) ?_
    refine hv_sub [] [] rfl ?_
    exact hw_M_gripOf_23 X hr 5 (hd_I S 39 (hf_M_atThumbs a1 1).toNatClampNeg) h
theorem pk_M_gripOf : hd_PkV RX4 yX4_gripOf cX4_gripOf 3 (some .int) 1 := ⟨q1485, qs55, q73, q1486, rfl, by decide +kernel, by decide +kernel, by decide +kernel⟩
-- isHard
def hf_M_isHard (a1 : Int32) (a2 : Int32) (a3 : Int32) (S : hd_St) : (Option Bool) :=
  (hf_M_softest a1 a2 S).bind fun r1 =>
    (hf_M_hardest a1 a2 S).bind fun r3 =>
    some (hf_M_isIn a3 r1 r3)
theorem hw_M_isHard (l : Launch) (E : hd_EV) (a1 : Int32) (a2 : Int32) (a3 : Int32) (S : hd_St) (y : Bool) (h : hf_M_isHard a1 a2 a3 S = some y) : hd_Mt l E yX4_isHard cX4_isHard 4 (some .boolean) (hd_Rm 5 0 0) [.ref (hd_ad E 38), .int a1, .int a2, .int a3] S (some (.int (hd_bI y))) S := by
  refine hd_Mt.start [(0, .ref (hd_ad E 38)), (1, .int a1), (2, .int a2), (3, .int a3)] hd_pnX4 rfl (Nat.le_of_ble_eq_true rfl) (fun κ X hl hr hn => ?_)
  have X : hd_Cx κ E cX4_isHard RX4 4 (hd_Rm 5 0 0) := X
  unfold hf_M_isHard at h
  refine hv_iload_n X dX4_isHard_0 3 rfl ?_
  refine hv_aload_n X dX4_isHard_1 0 rfl ?_
  refine hv_iload_n X dX4_isHard_2 1 rfl ?_
  refine hv_iload_n X dX4_isHard_3 2 rfl ?_
  obtain ⟨r1, e2, h⟩ := hd_bind h
  refine hv_cV X pk_M_softest hd_rcM (hw_M_softest _ E a1 a2 S r1 e2) q1459 dX4_isHard_4 (by decide) (by decide) (Nat.zero_le _) (Nat.zero_le _) rfl rfl (Nat.le_of_ble_eq_true rfl) rfl ?_
  refine hv_aload_n X dX4_isHard_7 0 rfl ?_
  refine hv_iload_n X dX4_isHard_8 1 rfl ?_
  refine hv_iload_n X dX4_isHard_9 2 rfl ?_
  obtain ⟨r3, e4, h⟩ := hd_bind h
  refine hv_cV X pk_M_hardest hd_rcM (hw_M_hardest _ E a1 a2 S r3 e4) q1463 dX4_isHard_10 (by decide) (by decide) (Nat.zero_le _) (Nat.zero_le _) rfl rfl (Nat.le_of_ble_eq_true rfl) rfl ?_
  refine hv_cS X pk_M_isIn (hw_M_isIn _ E a3 r1 r3 S) q1319 dX4_isHard_13 (by decide) (by decide) (Nat.zero_le _) (Nat.zero_le _) rfl rfl (Nat.le_of_ble_eq_true rfl) rfl ?_
  obtain rfl := Option.some.inj h
  exact hv_zret X hr rfl dX4_isHard_16 (Nat.zero_le _) (Nat.zero_le _)
theorem pk_M_isHard : hd_PkV RX4 yX4_isHard cX4_isHard 4 (some .boolean) 3 := ⟨q1489, qs56, q73, q1490, rfl, by decide +kernel, by decide +kernel, by decide +kernel⟩
-- pitchOf
def hf_M_pitchOf (a1 : Int32) (a2 : Int32) (a3 : Int32) (a4 : Int32) (S : hd_St) : (Option Int32) :=
  (hf_M_bladeOf a1 0 S).bind fun r1 =>
    hd_nm (((60 : Int32) - r1) + a3) fun v3 =>
    (hf_M_kind a2 S).bind fun r4 =>
    if r4 = 3 then
    (some (v3 + 12))
    else
    (if r4 = 4 then
    ((hf_M_figure a2 S).bind fun r6 =>
    some (v3 + r6))
    else
    (if r4 = 5 then
    (some (v3 - a4))
    else
    (if r4 = 6 then
    (some (v3 - a4))
    else
    (some v3))))
theorem hw_M_pitchOf (l : Launch) (E : hd_EV) (a1 : Int32) (a2 : Int32) (a3 : Int32) (a4 : Int32) (S : hd_St) (y : Int32) (h : hf_M_pitchOf a1 a2 a3 a4 S = some y) : hd_Mt l E yX4_pitchOf cX4_pitchOf 6 (some .int) (hd_Rm 3 0 0) [.ref (hd_ad E 38), .int a1, .int a2, .int a3, .int a4] S (some (.int y)) S := by
  refine hd_Mt.start [(0, .ref (hd_ad E 38)), (1, .int a1), (2, .int a2), (3, .int a3), (4, .int a4)] hd_pnX4 rfl (Nat.le_of_ble_eq_true rfl) (fun κ X hl hr hn => ?_)
  have X : hd_Cx κ E cX4_pitchOf RX4 6 (hd_Rm 3 0 0) := X
  unfold hf_M_pitchOf at h
  refine hv_bipush X (v := 60) dX4_pitchOf_0 (by decide) ?_
  refine hv_aload_n X dX4_pitchOf_2 0 rfl ?_
  refine hv_iload_n X dX4_pitchOf_3 1 rfl ?_
  refine hv_iconst X (v := 0) dX4_pitchOf_4 (by decide) ?_
  obtain ⟨r1, e2, h⟩ := hd_bind h
  refine hv_cV X pk_M_bladeOf hd_rcM (hw_M_bladeOf _ E a1 0 S r1 e2) q1385 dX4_pitchOf_5 (by decide) (by decide) (Nat.zero_le _) (Nat.zero_le _) rfl rfl (Nat.le_of_ble_eq_true rfl) rfl ?_
  refine hv_isub X dX4_pitchOf_8 ?_
  refine hv_iload_n X dX4_pitchOf_9 3 rfl ?_
  refine hv_iadd X dX4_pitchOf_10 ?_
  refine hv_nmI h (fun v3 h => ?_)
  refine hv_istore X [(5, .int v3), (0, .ref (hd_ad E 38)), (1, .int a1), (2, .int a2), (3, .int a3), (4, .int a4)] dX4_pitchOf_11 (by decide) rfl ?_
  refine hv_aload_n X dX4_pitchOf_13 1 rfl ?_
  refine hv_iload_n X dX4_pitchOf_14 3 rfl ?_
  obtain ⟨r4, e5, h⟩ := hd_bind h
  refine hv_cV X pk_M_kind hd_rcM (hw_M_kind _ E a2 S r4 e5) q1393 dX4_pitchOf_15 (by decide) (by decide) (Nat.zero_le _) (Nat.zero_le _) rfl rfl (Nat.le_of_ble_eq_true rfl) rfl ?_
  refine hv_case h (fun c0 h => ?_) (fun c0 h => ?_)
  · refine hv_tswIn X 48 c0 dX4_pitchOf_18 (by decide) (by decide) (off := 30) (by decide) (by decide) ?_
    refine hv_iload X dX4_pitchOf_48 0 rfl ?_
    refine hv_bipush X (v := 12) dX4_pitchOf_50 (by decide) ?_
    refine hv_iadd X dX4_pitchOf_52 ?_
    obtain rfl := Option.some.inj h
    exact hv_iret X hr dX4_pitchOf_53 (Nat.zero_le _) (Nat.zero_le _)
  · refine hv_case h (fun c1 h => ?_) (fun c1 h => ?_)
    · refine hv_tswIn X 60 c1 dX4_pitchOf_18 (by decide) (by decide) (off := 42) (by decide) (by decide) ?_
      refine hv_iload X dX4_pitchOf_60 0 rfl ?_
      refine hv_aload_n X dX4_pitchOf_62 1 rfl ?_
      refine hv_iload_n X dX4_pitchOf_63 3 rfl ?_
      obtain ⟨r6, e7, h⟩ := hd_bind h
      refine hv_cV X pk_M_figure hd_rcM (hw_M_figure _ E a2 S r6 e7) q1397 dX4_pitchOf_64 (by decide) (by decide) (Nat.zero_le _) (Nat.zero_le _) rfl rfl (Nat.le_of_ble_eq_true rfl) rfl ?_
      refine hv_iadd X dX4_pitchOf_67 ?_
      obtain rfl := Option.some.inj h
      exact hv_iret X hr dX4_pitchOf_68 (Nat.zero_le _) (Nat.zero_le _)
    · refine hv_case h (fun c2 h => ?_) (fun c2 h => ?_)
      · refine hv_tswIn X 54 c2 dX4_pitchOf_18 (by decide) (by decide) (off := 36) (by decide) (by decide) ?_
        refine hv_iload X dX4_pitchOf_54 0 rfl ?_
        refine hv_iload X dX4_pitchOf_56 5 rfl ?_
        refine hv_isub X dX4_pitchOf_58 ?_
        obtain rfl := Option.some.inj h
        exact hv_iret X hr dX4_pitchOf_59 (Nat.zero_le _) (Nat.zero_le _)
      · refine hv_case h (fun c3 h => ?_) (fun c3 h => ?_)
        · refine hv_tswIn X 54 c3 dX4_pitchOf_18 (by decide) (by decide) (off := 36) (by decide) (by decide) ?_
          refine hv_iload X dX4_pitchOf_54 0 rfl ?_
          refine hv_iload X dX4_pitchOf_56 5 rfl ?_
          refine hv_isub X dX4_pitchOf_58 ?_
          obtain rfl := Option.some.inj h
          exact hv_iret X hr dX4_pitchOf_59 (Nat.zero_le _) (Nat.zero_le _)
        · refine hv_tswOut X 69 dX4_pitchOf_18 (by have b0 := hd_ni c0 (a := 3) (by decide); have b1 := hd_ni c1 (a := 4) (by decide); have b2 := hd_ni c2 (a := 5) (by decide); have b3 := hd_ni c3 (a := 6) (by decide); omega) (by decide) ?_
          refine hv_iload X dX4_pitchOf_69 0 rfl ?_
          obtain rfl := Option.some.inj h
          exact hv_iret X hr dX4_pitchOf_71 (Nat.zero_le _) (Nat.zero_le _)
theorem pk_M_pitchOf : hd_PkV RX4 yX4_pitchOf cX4_pitchOf 6 (some .int) 4 := ⟨q1497, qs57, q73, q1498, rfl, by decide +kernel, by decide +kernel, by decide +kernel⟩
-- size
def hf_M_size (a0 : Int32) : Int32 :=
  if 0 ≤ a0 then
    (a0)
    else
    ((-a0))
theorem hw_M_size (l : Launch) (E : hd_EV) (a0 : Int32) (S : hd_St) : hd_Mt l E yX4_size cX4_size 1 (some .int) (hd_Rm 1 0 0) [.int a0] S (some (.int (hf_M_size a0))) S := by
  obtain ⟨y, h⟩ : ∃ y, hf_M_size a0 = y := ⟨_, rfl⟩
  rw [h]
  refine hd_Mt.start [(0, .int a0)] hd_pnX4 rfl (Nat.le_of_ble_eq_true rfl) (fun κ X hl hr hn => ?_)
  have X : hd_Cx κ E cX4_size RX4 1 (hd_Rm 1 0 0) := X
  unfold hf_M_size at h
  refine hv_iload_n X dX4_size_0 0 rfl ?_
  refine hv_if_ge X 9 h dX4_size_1 (by decide) (fun h => ?_) (fun h => ?_)
  · refine hv_iload_n X dX4_size_9 0 rfl ?_
    subst h
    exact hv_iret X hr dX4_size_10 (Nat.zero_le _) (Nat.zero_le _)
  · refine hv_iload_n X dX4_size_4 0 rfl ?_
    refine hv_ineg X dX4_size_5 ?_
    refine hv_goto X 10 dX4_size_6 (by decide) ?_
    subst h
    exact hv_iret X hr dX4_size_10 (Nat.zero_le _) (Nat.zero_le _)
theorem pk_M_size : hd_PkS yX4_size cX4_size 1 (some .int) 1 := ⟨q1534, q73, q1535, by decide +kernel, by decide +kernel, by decide +kernel⟩
-- canAnyForce
def hf_M_canAnyForce_2 (S : hd_St) : Nat → Int32 → Int32 → Int32 → (Option Bool)
  | 0, _, _, _ => none
  | n + 1, x1, x2, x3 =>
    if (60 : Int32) < x3 then
    (some false)
    else
    ((hf_M_isHard x1 x2 x3 S).bind fun r1 =>
    if r1 = true then
    (some true)
    else
    (hf_M_canAnyForce_2 S n x1 x2 (x3 + 1)))
theorem hw_M_canAnyForce_2 {κ : hd_VK} {E : hd_EV} (X : hd_Cx κ E cX4_canAnyForce RX4 4 (hd_Rm 6 0 0)) (hr : (hd_kQ κ).sig.returnType = some .boolean) {S : hd_St} {y : Bool} : ∀ (n : Nat) (x1 : Int32) (x2 : Int32) (x3 : Int32), hf_M_canAnyForce_2 S n x1 x2 x3 = some y → hd_V κ E 4 0 0 (hd_Qf κ E (some (.int (hd_bI y))) S) S 2 [(0, .ref (hd_ad E 38)), (1, .int x1), (2, .int x2), (3, .int x3)] [] := by
  intro n
  induction n with
  | zero => intro x1 x2 x3 h; have h : (none : Option Bool) = some y := h; cases h
  | succ n ih =>
    intro x1 x2 x3 h
    rw [hf_M_canAnyForce_2] at h
    refine hv_iload_n X dX4_canAnyForce_2 3 rfl ?_
    refine hv_bipush X (v := 60) dX4_canAnyForce_3 (by decide) ?_
    refine hv_icmp_gt X 26 h dX4_canAnyForce_5 (by decide) (fun h => ?_) (fun h => ?_)
    · refine hv_iconst X (v := 0) dX4_canAnyForce_26 (by decide) ?_
      obtain rfl := Option.some.inj h
      exact hv_zret X hr rfl dX4_canAnyForce_27 (Nat.zero_le _) (Nat.zero_le _)
    · refine hv_aload_n X dX4_canAnyForce_8 0 rfl ?_
      refine hv_iload_n X dX4_canAnyForce_9 1 rfl ?_
      refine hv_iload_n X dX4_canAnyForce_10 2 rfl ?_
      refine hv_iload_n X dX4_canAnyForce_11 3 rfl ?_
      obtain ⟨r1, e2, h⟩ := hd_bind h
      refine hv_cV X pk_M_isHard hd_rcM (hw_M_isHard _ E x1 x2 x3 S r1 e2) q1487 dX4_canAnyForce_12 (by decide) (by decide) (Nat.zero_le _) (Nat.zero_le _) rfl rfl (Nat.le_of_ble_eq_true rfl) rfl ?_
      refine hv_ifb_eq X 20 h dX4_canAnyForce_15 (by decide) (fun h => ?_) (fun h => ?_)
      · refine hv_iinc X (v := 1) [(3, .int (x3 + 1)), (0, .ref (hd_ad E 38)), (1, .int x1), (2, .int x2)] dX4_canAnyForce_20 3 rfl (by decide) (by decide) rfl ?_
        refine hv_goto X 2 dX4_canAnyForce_23 (by decide) ?_
        refine hv_sub [(0, .ref (hd_ad E 38)), (1, .int x1), (2, .int x2), (3, .int (x3 + 1))] [1, 2, 3, 0] rfl ?_
        exact ih x1 x2 (x3 + 1) h
      · refine hv_iconst X (v := 1) dX4_canAnyForce_18 (by decide) ?_
        obtain rfl := Option.some.inj h
        exact hv_zret X hr rfl dX4_canAnyForce_19 (Nat.zero_le _) (Nat.zero_le _)
def hf_M_canAnyForce (a1 : Int32) (a2 : Int32) (S : hd_St) : (Option Bool) :=
  hf_M_canAnyForce_2 S hd_fuel a1 a2 0
theorem hw_M_canAnyForce (l : Launch) (E : hd_EV) (a1 : Int32) (a2 : Int32) (S : hd_St) (y : Bool) (h : hf_M_canAnyForce a1 a2 S = some y) : hd_Mt l E yX4_canAnyForce cX4_canAnyForce 4 (some .boolean) (hd_Rm 6 0 0) [.ref (hd_ad E 38), .int a1, .int a2] S (some (.int (hd_bI y))) S := by
  refine hd_Mt.start [(0, .ref (hd_ad E 38)), (1, .int a1), (2, .int a2)] hd_pnX4 rfl (Nat.le_of_ble_eq_true rfl) (fun κ X hl hr hn => ?_)
  have X : hd_Cx κ E cX4_canAnyForce RX4 4 (hd_Rm 6 0 0) := X
  unfold hf_M_canAnyForce at h
  refine hv_iconst X (v := 0) dX4_canAnyForce_0 (by decide) ?_
  refine hv_istore_n X [(3, .int 0), (0, .ref (hd_ad E 38)), (1, .int a1), (2, .int a2)] dX4_canAnyForce_1 (by decide) rfl ?_
  refine hv_sub [(0, .ref (hd_ad E 38)), (1, .int a1), (2, .int a2), (3, .int 0)] [1, 2, 3, 0] rfl ?_
  exact hw_M_canAnyForce_2 X hr hd_fuel a1 a2 0 h
theorem pk_M_canAnyForce : hd_PkV RX4 yX4_canAnyForce cX4_canAnyForce 4 (some .boolean) 2 := ⟨q1550, qs61, q73, q1551, rfl, by decide +kernel, by decide +kernel, by decide +kernel⟩
-- clash
def hf_M_clash_53 (S : hd_St) (K36 : Int32 → Int32 → Int32 → Int32 → Int32 → Int32 → (Option Int32)) : Nat → Int32 → Int32 → Int32 → Int32 → Int32 → Int32 → Int32 → (Option Int32)
  | 0, _, _, _, _, _, _, _ => none
  | n + 1, x1, x2, x3, x4, x5, x6, x7 =>
    if hd_ck 0 47 = true then
    if (hd_I S 39 (0 : Int32).toNatClampNeg) ≤ x7 then
    (K36 x1 x2 x3 x4 x5 (x6 + 1))
    else
    ((hf_M_pitchOf x6 x1 x2 0 S).bind fun r4 =>
    (hf_M_pitchOf x7 x1 x2 0 S).bind fun r6 =>
    if (hf_M_isIn (hf_M_size (r4 - r6)) 1 2) = true then
    (if x4 = 0 then
    (hd_nm (((10 : Int32) * x6) + x7) fun v8 =>
    hf_M_clash_53 S K36 n x1 x2 x3 (x4 + 1) v8 x6 (x7 + 1))
    else
    (hf_M_clash_53 S K36 n x1 x2 x3 (x4 + 1) x5 x6 (x7 + 1)))
    else
    (hf_M_clash_53 S K36 n x1 x2 x3 x4 x5 x6 (x7 + 1)))
    else none
theorem hw_M_clash_53 {κ : hd_VK} {E : hd_EV} (X : hd_Cx κ E cX4_clash RX4 8 (hd_Rm 4 0 0)) (hr : (hd_kQ κ).sig.returnType = some .int) {S : hd_St} {y : Int32} (K36 : Int32 → Int32 → Int32 → Int32 → Int32 → Int32 → (Option Int32)) (hK36 : ∀ (x1 : Int32) (x2 : Int32) (x3 : Int32) (x4 : Int32) (x5 : Int32) (x6 : Int32), K36 x1 x2 x3 x4 x5 x6 = some y → hd_V κ E 8 0 0 (hd_Qf κ E (some (.int y)) S) S 36 [(0, .ref (hd_ad E 38)), (1, .int x1), (2, .int x2), (3, .int x3), (4, .int x4), (5, .int x5), (6, .int x6)] []) : ∀ (n : Nat) (x1 : Int32) (x2 : Int32) (x3 : Int32) (x4 : Int32) (x5 : Int32) (x6 : Int32) (x7 : Int32), hf_M_clash_53 S K36 n x1 x2 x3 x4 x5 x6 x7 = some y → hd_V κ E 8 0 0 (hd_Qf κ E (some (.int y)) S) S 53 [(0, .ref (hd_ad E 38)), (1, .int x1), (2, .int x2), (3, .int x3), (4, .int x4), (5, .int x5), (6, .int x6), (7, .int x7)] [] := by
  intro n
  induction n with
  | zero => intro x1 x2 x3 x4 x5 x6 x7 h; have h : (none : Option Int32) = some y := h; cases h
  | succ n ih =>
    intro x1 x2 x3 x4 x5 x6 x7 h
    rw [hf_M_clash_53] at h
    refine hv_iload X dX4_clash_53 7 rfl ?_
    refine hv_aload_n X dX4_clash_55 0 rfl ?_
    refine hg_M_s X q1241 dX4_clash_56 ?_
    refine hv_iconst X (v := 0) dX4_clash_59 (by decide) ?_
    refine hv_iald X h hd_ia39 dX4_clash_60 (fun h => ?_)
    refine hv_icmp_ge X 126 h dX4_clash_61 (by decide) (fun h => ?_) (fun h => ?_)
    · refine hv_iinc X (v := 1) [(6, .int (x6 + 1)), (0, .ref (hd_ad E 38)), (1, .int x1), (2, .int x2), (3, .int x3), (4, .int x4), (5, .int x5), (7, .int x7)] dX4_clash_126 6 rfl (by decide) (by decide) rfl ?_
      refine hv_goto X 36 dX4_clash_129 (by decide) ?_
      refine hv_sub [(0, .ref (hd_ad E 38)), (1, .int x1), (2, .int x2), (3, .int x3), (4, .int x4), (5, .int x5), (6, .int (x6 + 1))] [1, 2, 3, 4, 5, 6, 0] rfl ?_
      exact hK36 x1 x2 x3 x4 x5 (x6 + 1) h
    · refine hv_aload_n X dX4_clash_64 0 rfl ?_
      refine hv_iload X dX4_clash_65 6 rfl ?_
      refine hv_iload_n X dX4_clash_67 1 rfl ?_
      refine hv_iload_n X dX4_clash_68 2 rfl ?_
      refine hv_iconst X (v := 0) dX4_clash_69 (by decide) ?_
      obtain ⟨r4, e5, h⟩ := hd_bind h
      refine hv_cV X pk_M_pitchOf hd_rcM (hw_M_pitchOf _ E x6 x1 x2 0 S r4 e5) q1495 dX4_clash_70 (by decide) (by decide) (Nat.zero_le _) (Nat.zero_le _) rfl rfl (Nat.le_of_ble_eq_true rfl) rfl ?_
      refine hv_aload_n X dX4_clash_73 0 rfl ?_
      refine hv_iload X dX4_clash_74 7 rfl ?_
      refine hv_iload_n X dX4_clash_76 1 rfl ?_
      refine hv_iload_n X dX4_clash_77 2 rfl ?_
      refine hv_iconst X (v := 0) dX4_clash_78 (by decide) ?_
      obtain ⟨r6, e7, h⟩ := hd_bind h
      refine hv_cV X pk_M_pitchOf hd_rcM (hw_M_pitchOf _ E x7 x1 x2 0 S r6 e7) q1495 dX4_clash_79 (by decide) (by decide) (Nat.zero_le _) (Nat.zero_le _) rfl rfl (Nat.le_of_ble_eq_true rfl) rfl ?_
      refine hv_isub X dX4_clash_82 ?_
      refine hv_cS X pk_M_size (hw_M_size _ E (r4 - r6) S) q1533 dX4_clash_83 (by decide) (by decide) (Nat.zero_le _) (Nat.zero_le _) rfl rfl (Nat.le_of_ble_eq_true rfl) rfl ?_
      refine hv_iconst X (v := 1) dX4_clash_86 (by decide) ?_
      refine hv_iconst X (v := 2) dX4_clash_87 (by decide) ?_
      refine hv_cS X pk_M_isIn (hw_M_isIn _ E (hf_M_size (r4 - r6)) 1 2 S) q1319 dX4_clash_88 (by decide) (by decide) (Nat.zero_le _) (Nat.zero_le _) rfl rfl (Nat.le_of_ble_eq_true rfl) rfl ?_
      refine hv_ifb_ne X 97 h dX4_clash_91 (by decide) (fun h => ?_) (fun h => ?_)
      · refine hv_iload X dX4_clash_97 4 rfl ?_
        refine hv_if_ne X 113 h dX4_clash_99 (by decide) (fun h => ?_) (fun h => ?_)
        · refine hv_iload X dX4_clash_113 5 rfl ?_
          refine hv_istore X [(5, .int x5), (0, .ref (hd_ad E 38)), (1, .int x1), (2, .int x2), (3, .int x3), (4, .int x4), (6, .int x6), (7, .int x7)] dX4_clash_115 (by decide) rfl ?_
          refine hv_iinc X (v := 1) [(4, .int (x4 + 1)), (5, .int x5), (0, .ref (hd_ad E 38)), (1, .int x1), (2, .int x2), (3, .int x3), (6, .int x6), (7, .int x7)] dX4_clash_117 5 rfl (by decide) (by decide) rfl ?_
          refine hv_iinc X (v := 1) [(7, .int (x7 + 1)), (4, .int (x4 + 1)), (5, .int x5), (0, .ref (hd_ad E 38)), (1, .int x1), (2, .int x2), (3, .int x3), (6, .int x6)] dX4_clash_120 7 rfl (by decide) (by decide) rfl ?_
          refine hv_goto X 53 dX4_clash_123 (by decide) ?_
          refine hv_sub [(0, .ref (hd_ad E 38)), (1, .int x1), (2, .int x2), (3, .int x3), (4, .int (x4 + 1)), (5, .int x5), (6, .int x6), (7, .int (x7 + 1))] [3, 4, 5, 6, 1, 2, 7, 0] rfl ?_
          exact ih x1 x2 x3 (x4 + 1) x5 x6 (x7 + 1) h
        · refine hv_bipush X (v := 10) dX4_clash_102 (by decide) ?_
          refine hv_iload X dX4_clash_104 6 rfl ?_
          refine hv_imul X dX4_clash_106 ?_
          refine hv_iload X dX4_clash_107 7 rfl ?_
          refine hv_iadd X dX4_clash_109 ?_
          refine hv_goto X 115 dX4_clash_110 (by decide) ?_
          refine hv_nmI h (fun v8 h => ?_)
          refine hv_istore X [(5, .int v8), (0, .ref (hd_ad E 38)), (1, .int x1), (2, .int x2), (3, .int x3), (4, .int x4), (6, .int x6), (7, .int x7)] dX4_clash_115 (by decide) rfl ?_
          refine hv_iinc X (v := 1) [(4, .int (x4 + 1)), (5, .int v8), (0, .ref (hd_ad E 38)), (1, .int x1), (2, .int x2), (3, .int x3), (6, .int x6), (7, .int x7)] dX4_clash_117 5 rfl (by decide) (by decide) rfl ?_
          refine hv_iinc X (v := 1) [(7, .int (x7 + 1)), (4, .int (x4 + 1)), (5, .int v8), (0, .ref (hd_ad E 38)), (1, .int x1), (2, .int x2), (3, .int x3), (6, .int x6)] dX4_clash_120 7 rfl (by decide) (by decide) rfl ?_
          refine hv_goto X 53 dX4_clash_123 (by decide) ?_
          refine hv_sub [(0, .ref (hd_ad E 38)), (1, .int x1), (2, .int x2), (3, .int x3), (4, .int (x4 + 1)), (5, .int v8), (6, .int x6), (7, .int (x7 + 1))] [3, 4, 5, 6, 1, 2, 7, 0] rfl ?_
          exact ih x1 x2 x3 (x4 + 1) v8 x6 (x7 + 1) h
      · refine hv_goto X 120 dX4_clash_94 (by decide) ?_
        refine hv_iinc X (v := 1) [(7, .int (x7 + 1)), (0, .ref (hd_ad E 38)), (1, .int x1), (2, .int x2), (3, .int x3), (4, .int x4), (5, .int x5), (6, .int x6)] dX4_clash_120 7 rfl (by decide) (by decide) rfl ?_
        refine hv_goto X 53 dX4_clash_123 (by decide) ?_
        refine hv_sub [(0, .ref (hd_ad E 38)), (1, .int x1), (2, .int x2), (3, .int x3), (4, .int x4), (5, .int x5), (6, .int x6), (7, .int (x7 + 1))] [1, 2, 3, 4, 5, 6, 7, 0] rfl ?_
        exact ih x1 x2 x3 x4 x5 x6 (x7 + 1) h
def hf_M_clash_36 (S : hd_St) : Nat → Int32 → Int32 → Int32 → Int32 → Int32 → Int32 → (Option Int32)
  | 0, _, _, _, _, _, _ => none
  | n + 1, x1, x2, x3, x4, x5, x6 =>
    if hd_ck 0 47 = true then
    if (hd_I S 39 (0 : Int32).toNatClampNeg) ≤ x6 then
    (if x3 = 0 then
    (some x4)
    else
    (some x5))
    else
    (hd_nm (x6 + 1) fun v3 =>
    hf_M_clash_53 S (hf_M_clash_36 S n) hd_fuel x1 x2 x3 x4 x5 x6 v3)
    else none
theorem hw_M_clash_36 {κ : hd_VK} {E : hd_EV} (X : hd_Cx κ E cX4_clash RX4 8 (hd_Rm 4 0 0)) (hr : (hd_kQ κ).sig.returnType = some .int) {S : hd_St} {y : Int32} : ∀ (n : Nat) (x1 : Int32) (x2 : Int32) (x3 : Int32) (x4 : Int32) (x5 : Int32) (x6 : Int32), hf_M_clash_36 S n x1 x2 x3 x4 x5 x6 = some y → hd_V κ E 8 0 0 (hd_Qf κ E (some (.int y)) S) S 36 [(0, .ref (hd_ad E 38)), (1, .int x1), (2, .int x2), (3, .int x3), (4, .int x4), (5, .int x5), (6, .int x6)] [] := by
  intro n
  induction n with
  | zero => intro x1 x2 x3 x4 x5 x6 h; have h : (none : Option Int32) = some y := h; cases h
  | succ n ih =>
    intro x1 x2 x3 x4 x5 x6 h
    rw [hf_M_clash_36] at h
    refine hv_iload X dX4_clash_36 6 rfl ?_
    refine hv_aload_n X dX4_clash_38 0 rfl ?_
    refine hg_M_s X q1241 dX4_clash_39 ?_
    refine hv_iconst X (v := 0) dX4_clash_42 (by decide) ?_
    refine hv_iald X h hd_ia39 dX4_clash_43 (fun h => ?_)
    refine hv_icmp_ge X 132 h dX4_clash_44 (by decide) (fun h => ?_) (fun h => ?_)
    · refine hv_iload_n X dX4_clash_132 3 rfl ?_
      refine hv_if_ne X 141 h dX4_clash_133 (by decide) (fun h => ?_) (fun h => ?_)
      · refine hv_iload X dX4_clash_141 5 rfl ?_
        obtain rfl := Option.some.inj h
        exact hv_iret X hr dX4_clash_143 (Nat.zero_le _) (Nat.zero_le _)
      · refine hv_iload X dX4_clash_136 4 rfl ?_
        refine hv_goto X 143 dX4_clash_138 (by decide) ?_
        obtain rfl := Option.some.inj h
        exact hv_iret X hr dX4_clash_143 (Nat.zero_le _) (Nat.zero_le _)
    · refine hv_iload X dX4_clash_47 6 rfl ?_
      refine hv_iconst X (v := 1) dX4_clash_49 (by decide) ?_
      refine hv_iadd X dX4_clash_50 ?_
      refine hv_nmI h (fun v3 h => ?_)
      refine hv_istore X [(7, .int v3), (0, .ref (hd_ad E 38)), (1, .int x1), (2, .int x2), (3, .int x3), (4, .int x4), (5, .int x5), (6, .int x6)] dX4_clash_51 (by decide) rfl ?_
      refine hv_sub [(0, .ref (hd_ad E 38)), (1, .int x1), (2, .int x2), (3, .int x3), (4, .int x4), (5, .int x5), (6, .int x6), (7, .int v3)] [1, 2, 3, 4, 5, 6, 7, 0] rfl ?_
      exact hw_M_clash_53 X hr (hf_M_clash_36 S n) ih hd_fuel x1 x2 x3 x4 x5 x6 v3 h
def hf_M_clash (a1 : Int32) (a2 : Int32) (a3 : Int32) (S : hd_St) : (Option Int32) :=
  (hf_M_isBlow a1 S).bind fun r1 =>
    if r1 = true then
    (if (hf_M_isForce a2) = true then
    (if (hf_M_isIn a3 0 1) = true then
    (hf_M_clash_36 S hd_fuel a1 a2 a3 0 (-4) 0)
    else
    (some (-1)))
    else
    (some (-1)))
    else
    (some (-1))
theorem hw_M_clash (l : Launch) (E : hd_EV) (a1 : Int32) (a2 : Int32) (a3 : Int32) (S : hd_St) (y : Int32) (h : hf_M_clash a1 a2 a3 S = some y) : hd_Mt l E yX4_clash cX4_clash 8 (some .int) (hd_Rm 4 0 0) [.ref (hd_ad E 38), .int a1, .int a2, .int a3] S (some (.int y)) S := by
  refine hd_Mt.start [(0, .ref (hd_ad E 38)), (1, .int a1), (2, .int a2), (3, .int a3)] hd_pnX4 rfl (Nat.le_of_ble_eq_true rfl) (fun κ X hl hr hn => ?_)
  have X : hd_Cx κ E cX4_clash RX4 8 (hd_Rm 4 0 0) := X
  unfold hf_M_clash at h
  refine hv_aload_n X dX4_clash_0 0 rfl ?_
  refine hv_iload_n X dX4_clash_1 1 rfl ?_
  obtain ⟨r1, e2, h⟩ := hd_bind h
  refine hv_cV X pk_M_isBlow hd_rcM (hw_M_isBlow _ E a1 S r1 e2) q1377 dX4_clash_2 (by decide) (by decide) (Nat.zero_le _) (Nat.zero_le _) rfl rfl (Nat.le_of_ble_eq_true rfl) rfl ?_
  refine hv_ifb_eq X 24 h dX4_clash_5 (by decide) (fun h => ?_) (fun h => ?_)
  · refine hv_iconst X (v := (-1)) dX4_clash_24 (by decide) ?_
    obtain rfl := Option.some.inj h
    exact hv_iret X hr dX4_clash_25 (Nat.zero_le _) (Nat.zero_le _)
  · refine hv_iload_n X dX4_clash_8 2 rfl ?_
    refine hv_cS X pk_M_isForce (hw_M_isForce _ E a2 S) q1429 dX4_clash_9 (by decide) (by decide) (Nat.zero_le _) (Nat.zero_le _) rfl rfl (Nat.le_of_ble_eq_true rfl) rfl ?_
    refine hv_ifb_eq X 24 h dX4_clash_12 (by decide) (fun h => ?_) (fun h => ?_)
    · refine hv_iconst X (v := (-1)) dX4_clash_24 (by decide) ?_
      obtain rfl := Option.some.inj h
      exact hv_iret X hr dX4_clash_25 (Nat.zero_le _) (Nat.zero_le _)
    · refine hv_iload_n X dX4_clash_15 3 rfl ?_
      refine hv_iconst X (v := 0) dX4_clash_16 (by decide) ?_
      refine hv_iconst X (v := 1) dX4_clash_17 (by decide) ?_
      refine hv_cS X pk_M_isIn (hw_M_isIn _ E a3 0 1 S) q1319 dX4_clash_18 (by decide) (by decide) (Nat.zero_le _) (Nat.zero_le _) rfl rfl (Nat.le_of_ble_eq_true rfl) rfl ?_
      refine hv_ifb_ne X 26 h dX4_clash_21 (by decide) (fun h => ?_) (fun h => ?_)
      · refine hv_iconst X (v := 0) dX4_clash_26 (by decide) ?_
        refine hv_istore X [(4, .int 0), (0, .ref (hd_ad E 38)), (1, .int a1), (2, .int a2), (3, .int a3)] dX4_clash_27 (by decide) rfl ?_
        refine hv_bipush X (v := (-4)) dX4_clash_29 (by decide) ?_
        refine hv_istore X [(5, .int (-4)), (4, .int 0), (0, .ref (hd_ad E 38)), (1, .int a1), (2, .int a2), (3, .int a3)] dX4_clash_31 (by decide) rfl ?_
        refine hv_iconst X (v := 0) dX4_clash_33 (by decide) ?_
        refine hv_istore X [(6, .int 0), (5, .int (-4)), (4, .int 0), (0, .ref (hd_ad E 38)), (1, .int a1), (2, .int a2), (3, .int a3)] dX4_clash_34 (by decide) rfl ?_
        refine hv_sub [(0, .ref (hd_ad E 38)), (1, .int a1), (2, .int a2), (3, .int a3), (4, .int 0), (5, .int (-4)), (6, .int 0)] [3, 4, 5, 6, 2, 1, 0] rfl ?_
        exact hw_M_clash_36 X hr hd_fuel a1 a2 a3 0 (-4) 0 h
      · refine hv_iconst X (v := (-1)) dX4_clash_24 (by decide) ?_
        obtain rfl := Option.some.inj h
        exact hv_iret X hr dX4_clash_25 (Nat.zero_le _) (Nat.zero_le _)
theorem pk_M_clash : hd_PkV RX4 yX4_clash cX4_clash 8 (some .int) 3 := ⟨q1574, q1575, q73, q1576, rfl, by decide +kernel, by decide +kernel, by decide +kernel⟩
-- heard
def hf_M_heard_74 (x1 : Int32) (t0 : Int32) (t1 : Int32) : Int32 :=
  hd_nm (t1 ||| t0) fun v2 =>
    if (x1 - x1 / 7 * 7) = (3 : Int32) then
    ((v2 ||| 8))
    else
    ((v2 ||| 0))
theorem hw_M_heard_74 {κ : hd_VK} {E : hd_EV} (X : hd_Cx κ E cX4_heard RX4 4 (hd_Rm 3 0 0)) (hr : (hd_kQ κ).sig.returnType = some .int) {S : hd_St} {y : Int32} (x1 : Int32) (t0 : Int32) (t1 : Int32) (h : hf_M_heard_74 x1 t0 t1 = y) : hd_V κ E 4 0 0 (hd_Qf κ E (some (.int y)) S) S 74 [(1, .int x1)] [.int t0, .int t1] := by
  unfold hf_M_heard_74 at h
  refine hv_ior X dX4_heard_74 ?_
  refine hv_nmI h (fun v2 h => ?_)
  refine hv_istore_n X [(3, .int v2), (1, .int x1)] dX4_heard_75 (by decide) rfl ?_
  refine hv_iload_n X dX4_heard_76 0 rfl ?_
  refine hv_iload_n X dX4_heard_77 1 rfl ?_
  refine hv_bipush X (v := 7) dX4_heard_78 (by decide) ?_
  refine hv_iremc X (by decide) dX4_heard_80 ?_
  refine hv_iconst X (v := 3) dX4_heard_81 (by decide) ?_
  refine hv_icmp_ne X 90 h dX4_heard_82 (by decide) (fun h => ?_) (fun h => ?_)
  · refine hv_iconst X (v := 0) dX4_heard_90 (by decide) ?_
    refine hv_ior X dX4_heard_91 ?_
    subst h
    exact hv_iret X hr dX4_heard_92 (Nat.zero_le _) (Nat.zero_le _)
  · refine hv_bipush X (v := 8) dX4_heard_85 (by decide) ?_
    refine hv_goto X 91 dX4_heard_87 (by decide) ?_
    refine hv_ior X dX4_heard_91 ?_
    subst h
    exact hv_iret X hr dX4_heard_92 (Nat.zero_le _) (Nat.zero_le _)
def hf_M_heard_73 (x1 : Int32) (t0 : Int32) : Int32 :=
  hf_M_heard_74 x1 0 t0
theorem hw_M_heard_73 {κ : hd_VK} {E : hd_EV} (X : hd_Cx κ E cX4_heard RX4 4 (hd_Rm 3 0 0)) (hr : (hd_kQ κ).sig.returnType = some .int) {S : hd_St} {y : Int32} (x1 : Int32) (t0 : Int32) (h : hf_M_heard_73 x1 t0 = y) : hd_V κ E 4 0 0 (hd_Qf κ E (some (.int y)) S) S 73 [(1, .int x1)] [.int t0] := by
  unfold hf_M_heard_73 at h
  refine hv_iconst X (v := 0) dX4_heard_73 (by decide) ?_
  exact hw_M_heard_74 X hr x1 0 t0 h
def hf_M_heard_54 (x1 : Int32) (x2 : Int32) (t0 : Int32) (t1 : Int32) : Int32 :=
  hd_nm (t1 ||| t0) fun v1 =>
    if x1 ≤ (60 : Int32) then
    (hf_M_heard_73 x1 v1)
    else
    (if x2 ≤ (20 : Int32) then
    (hf_M_heard_73 x1 v1)
    else
    (hf_M_heard_74 x1 4 v1))
theorem hw_M_heard_54 {κ : hd_VK} {E : hd_EV} (X : hd_Cx κ E cX4_heard RX4 4 (hd_Rm 3 0 0)) (hr : (hd_kQ κ).sig.returnType = some .int) {S : hd_St} {y : Int32} (x1 : Int32) (x2 : Int32) (t0 : Int32) (t1 : Int32) (h : hf_M_heard_54 x1 x2 t0 t1 = y) : hd_V κ E 4 0 0 (hd_Qf κ E (some (.int y)) S) S 54 [(1, .int x1), (2, .int x2)] [.int t0, .int t1] := by
  unfold hf_M_heard_54 at h
  refine hv_ior X dX4_heard_54 ?_
  refine hv_nmI h (fun v1 h => ?_)
  refine hv_istore_n X [(3, .int v1), (1, .int x1), (2, .int x2)] dX4_heard_55 (by decide) rfl ?_
  refine hv_iload_n X dX4_heard_56 0 rfl ?_
  refine hv_iload_n X dX4_heard_57 1 rfl ?_
  refine hv_bipush X (v := 60) dX4_heard_58 (by decide) ?_
  refine hv_icmp_le X 73 h dX4_heard_60 (by decide) (fun h => ?_) (fun h => ?_)
  · refine hv_sub [(1, .int x1)] [1] rfl ?_
    exact hw_M_heard_73 X hr x1 v1 h
  · refine hv_iload_n X dX4_heard_63 2 rfl ?_
    refine hv_bipush X (v := 20) dX4_heard_64 (by decide) ?_
    refine hv_icmp_le X 73 h dX4_heard_66 (by decide) (fun h => ?_) (fun h => ?_)
    · refine hv_sub [(1, .int x1)] [1] rfl ?_
      exact hw_M_heard_73 X hr x1 v1 h
    · refine hv_iconst X (v := 4) dX4_heard_69 (by decide) ?_
      refine hv_goto X 74 dX4_heard_70 (by decide) ?_
      refine hv_sub [(1, .int x1)] [1] rfl ?_
      exact hw_M_heard_74 X hr x1 4 v1 h
def hf_M_heard_53 (x1 : Int32) (x2 : Int32) (t0 : Int32) : Int32 :=
  hf_M_heard_54 x1 x2 0 t0
theorem hw_M_heard_53 {κ : hd_VK} {E : hd_EV} (X : hd_Cx κ E cX4_heard RX4 4 (hd_Rm 3 0 0)) (hr : (hd_kQ κ).sig.returnType = some .int) {S : hd_St} {y : Int32} (x1 : Int32) (x2 : Int32) (t0 : Int32) (h : hf_M_heard_53 x1 x2 t0 = y) : hd_V κ E 4 0 0 (hd_Qf κ E (some (.int y)) S) S 53 [(1, .int x1), (2, .int x2)] [.int t0] := by
  unfold hf_M_heard_53 at h
  refine hv_iconst X (v := 0) dX4_heard_53 (by decide) ?_
  exact hw_M_heard_54 X hr x1 x2 0 t0 h
def hf_M_heard_30 (x1 : Int32) (x2 : Int32) (t0 : Int32) : Int32 :=
  if (hf_M_isIn x1 50 70) = true then
    (if (20 : Int32) < x2 then
    (hf_M_heard_53 x1 x2 t0)
    else
    (hf_M_heard_54 x1 x2 2 t0))
    else
    (hf_M_heard_53 x1 x2 t0)
theorem hw_M_heard_30 {κ : hd_VK} {E : hd_EV} (X : hd_Cx κ E cX4_heard RX4 4 (hd_Rm 3 0 0)) (hr : (hd_kQ κ).sig.returnType = some .int) {S : hd_St} {y : Int32} (x1 : Int32) (x2 : Int32) (t0 : Int32) (h : hf_M_heard_30 x1 x2 t0 = y) : hd_V κ E 4 0 0 (hd_Qf κ E (some (.int y)) S) S 30 [(1, .int x1), (2, .int x2)] [.int t0] := by
  unfold hf_M_heard_30 at h
  refine hv_istore_n X [(3, .int t0), (1, .int x1), (2, .int x2)] dX4_heard_30 (by decide) rfl ?_
  refine hv_iload_n X dX4_heard_31 0 rfl ?_
  refine hv_iload_n X dX4_heard_32 1 rfl ?_
  refine hv_bipush X (v := 50) dX4_heard_33 (by decide) ?_
  refine hv_bipush X (v := 70) dX4_heard_35 (by decide) ?_
  refine hv_cS X pk_M_isIn (hw_M_isIn _ E x1 50 70 S) q1319 dX4_heard_37 (by decide) (by decide) (Nat.zero_le _) (Nat.zero_le _) rfl rfl (Nat.le_of_ble_eq_true rfl) rfl ?_
  refine hv_ifb_eq X 53 h dX4_heard_40 (by decide) (fun h => ?_) (fun h => ?_)
  · refine hv_sub [(1, .int x1), (2, .int x2)] [1, 2] rfl ?_
    exact hw_M_heard_53 X hr x1 x2 t0 h
  · refine hv_iload_n X dX4_heard_43 2 rfl ?_
    refine hv_bipush X (v := 20) dX4_heard_44 (by decide) ?_
    refine hv_icmp_gt X 53 h dX4_heard_46 (by decide) (fun h => ?_) (fun h => ?_)
    · refine hv_sub [(1, .int x1), (2, .int x2)] [1, 2] rfl ?_
      exact hw_M_heard_53 X hr x1 x2 t0 h
    · refine hv_iconst X (v := 2) dX4_heard_49 (by decide) ?_
      refine hv_goto X 54 dX4_heard_50 (by decide) ?_
      refine hv_sub [(1, .int x1), (2, .int x2)] [1, 2] rfl ?_
      exact hw_M_heard_54 X hr x1 x2 2 t0 h
def hf_M_heard (a1 : Int32) (a2 : Int32) : Int32 :=
  if (hf_M_isIn a1 0 99) = true then
    (if (hf_M_isForce a2) = true then
    (if a1 ≤ (70 : Int32) then
    (hf_M_heard_30 a1 a2 0)
    else
    (hf_M_heard_30 a1 a2 1))
    else
    ((-1)))
    else
    ((-1))
theorem hw_M_heard (l : Launch) (E : hd_EV) (a1 : Int32) (a2 : Int32) (S : hd_St) : hd_Mt l E yX4_heard cX4_heard 4 (some .int) (hd_Rm 3 0 0) [.ref (hd_ad E 38), .int a1, .int a2] S (some (.int (hf_M_heard a1 a2))) S := by
  obtain ⟨y, h⟩ : ∃ y, hf_M_heard a1 a2 = y := ⟨_, rfl⟩
  rw [h]
  refine hd_Mt.start [(0, .ref (hd_ad E 38)), (1, .int a1), (2, .int a2)] hd_pnX4 rfl (Nat.le_of_ble_eq_true rfl) (fun κ X hl hr hn => ?_)
  have X : hd_Cx κ E cX4_heard RX4 4 (hd_Rm 3 0 0) := X
  unfold hf_M_heard at h
  refine hv_iload_n X dX4_heard_0 1 rfl ?_
  refine hv_iconst X (v := 0) dX4_heard_1 (by decide) ?_
  refine hv_bipush X (v := 99) dX4_heard_2 (by decide) ?_
  refine hv_cS X pk_M_isIn (hw_M_isIn _ E a1 0 99 S) q1319 dX4_heard_4 (by decide) (by decide) (Nat.zero_le _) (Nat.zero_le _) rfl rfl (Nat.le_of_ble_eq_true rfl) rfl ?_
  refine hv_ifb_eq X 17 h dX4_heard_7 (by decide) (fun h => ?_) (fun h => ?_)
  · refine hv_iconst X (v := (-1)) dX4_heard_17 (by decide) ?_
    subst h
    exact hv_iret X hr dX4_heard_18 (Nat.zero_le _) (Nat.zero_le _)
  · refine hv_iload_n X dX4_heard_10 2 rfl ?_
    refine hv_cS X pk_M_isForce (hw_M_isForce _ E a2 S) q1429 dX4_heard_11 (by decide) (by decide) (Nat.zero_le _) (Nat.zero_le _) rfl rfl (Nat.le_of_ble_eq_true rfl) rfl ?_
    refine hv_ifb_ne X 19 h dX4_heard_14 (by decide) (fun h => ?_) (fun h => ?_)
    · refine hv_iload_n X dX4_heard_19 1 rfl ?_
      refine hv_bipush X (v := 70) dX4_heard_20 (by decide) ?_
      refine hv_icmp_le X 29 h dX4_heard_22 (by decide) (fun h => ?_) (fun h => ?_)
      · refine hv_iconst X (v := 0) dX4_heard_29 (by decide) ?_
        refine hv_sub [(1, .int a1), (2, .int a2)] [1, 2] rfl ?_
        exact hw_M_heard_30 X hr a1 a2 0 h
      · refine hv_iconst X (v := 1) dX4_heard_25 (by decide) ?_
        refine hv_goto X 30 dX4_heard_26 (by decide) ?_
        refine hv_sub [(1, .int a1), (2, .int a2)] [1, 2] rfl ?_
        exact hw_M_heard_30 X hr a1 a2 1 h
    · refine hv_iconst X (v := (-1)) dX4_heard_17 (by decide) ?_
      subst h
      exact hv_iret X hr dX4_heard_18 (Nat.zero_le _) (Nat.zero_le _)
theorem pk_M_heard : hd_PkV RX4 yX4_heard cX4_heard 4 (some .int) 2 := ⟨q1578, q1579, q73, q1580, rfl, by decide +kernel, by decide +kernel, by decide +kernel⟩
-- areOdds
def hf_M_areOdds (a0 : Int32) (a1 : Int32) : Bool :=
  if (hf_M_isIn a0 0 12) = true then
    (if a1 < 0 then
    (false)
    else
    (if (10 : Int32) < (a1 / 100) then
    (false)
    else
    (if (10 : Int32) < ((a1 / 100) + (a1 - a1 / 100 * 100)) then
    (false)
    else
    (true))))
    else
    (false)
theorem hw_M_areOdds (l : Launch) (E : hd_EV) (a0 : Int32) (a1 : Int32) (S : hd_St) : hd_Mt l E yX4_areOdds cX4_areOdds 2 (some .boolean) (hd_Rm 2 0 0) [.int a0, .int a1] S (some (.int (hd_bI (hf_M_areOdds a0 a1)))) S := by
  obtain ⟨y, h⟩ : ∃ y, hf_M_areOdds a0 a1 = y := ⟨_, rfl⟩
  rw [h]
  refine hd_Mt.start [(0, .int a0), (1, .int a1)] hd_pnX4 rfl (Nat.le_of_ble_eq_true rfl) (fun κ X hl hr hn => ?_)
  have X : hd_Cx κ E cX4_areOdds RX4 2 (hd_Rm 2 0 0) := X
  unfold hf_M_areOdds at h
  refine hv_iload_n X dX4_areOdds_0 0 rfl ?_
  refine hv_iconst X (v := 0) dX4_areOdds_1 (by decide) ?_
  refine hv_bipush X (v := 12) dX4_areOdds_2 (by decide) ?_
  refine hv_cS X pk_M_isIn (hw_M_isIn _ E a0 0 12 S) q1319 dX4_areOdds_4 (by decide) (by decide) (Nat.zero_le _) (Nat.zero_le _) rfl rfl (Nat.le_of_ble_eq_true rfl) rfl ?_
  refine hv_ifb_eq X 41 h dX4_areOdds_7 (by decide) (fun h => ?_) (fun h => ?_)
  · refine hv_iconst X (v := 0) dX4_areOdds_41 (by decide) ?_
    subst h
    exact hv_zret X hr rfl dX4_areOdds_42 (Nat.zero_le _) (Nat.zero_le _)
  · refine hv_iload_n X dX4_areOdds_10 1 rfl ?_
    refine hv_if_lt X 41 h dX4_areOdds_11 (by decide) (fun h => ?_) (fun h => ?_)
    · refine hv_iconst X (v := 0) dX4_areOdds_41 (by decide) ?_
      subst h
      exact hv_zret X hr rfl dX4_areOdds_42 (Nat.zero_le _) (Nat.zero_le _)
    · refine hv_iload_n X dX4_areOdds_14 1 rfl ?_
      refine hv_bipush X (v := 100) dX4_areOdds_15 (by decide) ?_
      refine hv_idivc X (by decide) dX4_areOdds_17 ?_
      refine hv_bipush X (v := 10) dX4_areOdds_18 (by decide) ?_
      refine hv_icmp_gt X 41 h dX4_areOdds_20 (by decide) (fun h => ?_) (fun h => ?_)
      · refine hv_iconst X (v := 0) dX4_areOdds_41 (by decide) ?_
        subst h
        exact hv_zret X hr rfl dX4_areOdds_42 (Nat.zero_le _) (Nat.zero_le _)
      · refine hv_iload_n X dX4_areOdds_23 1 rfl ?_
        refine hv_bipush X (v := 100) dX4_areOdds_24 (by decide) ?_
        refine hv_idivc X (by decide) dX4_areOdds_26 ?_
        refine hv_iload_n X dX4_areOdds_27 1 rfl ?_
        refine hv_bipush X (v := 100) dX4_areOdds_28 (by decide) ?_
        refine hv_iremc X (by decide) dX4_areOdds_30 ?_
        refine hv_iadd X dX4_areOdds_31 ?_
        refine hv_bipush X (v := 10) dX4_areOdds_32 (by decide) ?_
        refine hv_icmp_gt X 41 h dX4_areOdds_34 (by decide) (fun h => ?_) (fun h => ?_)
        · refine hv_iconst X (v := 0) dX4_areOdds_41 (by decide) ?_
          subst h
          exact hv_zret X hr rfl dX4_areOdds_42 (Nat.zero_le _) (Nat.zero_le _)
        · refine hv_iconst X (v := 1) dX4_areOdds_37 (by decide) ?_
          refine hv_goto X 42 dX4_areOdds_38 (by decide) ?_
          subst h
          exact hv_zret X hr rfl dX4_areOdds_42 (Nat.zero_le _) (Nat.zero_le _)
theorem pk_M_areOdds : hd_PkS yX4_areOdds cX4_areOdds 2 (some .boolean) 2 := ⟨q1586, q73, q1587, by decide +kernel, by decide +kernel, by decide +kernel⟩
-- nearParts
def hf_M_nearParts_203 (K49 : Int32 → Int32 → Int32 → Int32 → hd_St → (Option (Int64 × hd_St))) : Nat → Int32 → Int32 → Int32 → Int32 → Int32 → hd_St → (Option (Int64 × hd_St))
  | 0, _, _, _, _, _, _ => none
  | n + 1, x3, x4, x5, x6, x7, S =>
    if (13 : Int32) ≤ x7 then
    (K49 x3 x4 x5 (x6 + 1) S)
    else
    (if hd_ck x7 13 = true then
    if hd_ck x7 13 = true then
    hd_nm (hd_sJ S 43 x7.toNatClampNeg (hd_J S 44 x7.toNatClampNeg)) fun S4 =>
    hf_M_nearParts_203 K49 n x3 x4 x5 x6 (x7 + 1) S4
    else none
    else none)
theorem hw_M_nearParts_203 {κ : hd_VK} {E : hd_EV} (X : hd_Cx κ E cX4_nearParts RX4 9 (hd_Rm 1 0 0)) (hr : (hd_kQ κ).sig.returnType = some .long) {y : (Int64 × hd_St)} (K49 : Int32 → Int32 → Int32 → Int32 → hd_St → (Option (Int64 × hd_St))) (hK49 : ∀ (x3 : Int32) (x4 : Int32) (x5 : Int32) (x6 : Int32) (S : hd_St), K49 x3 x4 x5 x6 S = some y → hd_V κ E 9 0 0 (hd_Qf κ E (some (.long y.1)) y.2) S 49 [(0, .ref (hd_ad E 38)), (3, .int x3), (4, .int x4), (5, .int x5), (6, .int x6)] []) : ∀ (n : Nat) (x3 : Int32) (x4 : Int32) (x5 : Int32) (x6 : Int32) (x7 : Int32) (S : hd_St), hf_M_nearParts_203 K49 n x3 x4 x5 x6 x7 S = some y → hd_V κ E 9 0 0 (hd_Qf κ E (some (.long y.1)) y.2) S 203 [(0, .ref (hd_ad E 38)), (3, .int x3), (4, .int x4), (5, .int x5), (6, .int x6), (7, .int x7)] [] := by
  intro n
  induction n with
  | zero => intro x3 x4 x5 x6 x7 S h; have h : (none : Option (Int64 × hd_St)) = some y := h; cases h
  | succ n ih =>
    intro x3 x4 x5 x6 x7 S h
    rw [hf_M_nearParts_203] at h
    refine hv_iload X dX4_nearParts_203 5 rfl ?_
    refine hv_bipush X (v := 13) dX4_nearParts_205 (by decide) ?_
    refine hv_icmp_ge X 230 h dX4_nearParts_207 (by decide) (fun h => ?_) (fun h => ?_)
    · refine hv_iinc X (v := 1) [(6, .int (x6 + 1)), (0, .ref (hd_ad E 38)), (3, .int x3), (4, .int x4), (5, .int x5), (7, .int x7)] dX4_nearParts_230 4 rfl (by decide) (by decide) rfl ?_
      refine hv_goto X 49 dX4_nearParts_233 (by decide) ?_
      refine hv_sub [(0, .ref (hd_ad E 38)), (3, .int x3), (4, .int x4), (5, .int x5), (6, .int (x6 + 1))] [1, 2, 3, 4, 0] rfl ?_
      exact hK49 x3 x4 x5 (x6 + 1) S h
    · refine hv_aload_n X dX4_nearParts_210 0 rfl ?_
      refine hg_M_off X q1253 dX4_nearParts_211 ?_
      refine hv_iload X dX4_nearParts_214 5 rfl ?_
      refine hv_aload_n X dX4_nearParts_216 0 rfl ?_
      refine hg_M_then X q1254 dX4_nearParts_217 ?_
      refine hv_iload X dX4_nearParts_220 5 rfl ?_
      refine hv_lald X h hd_la44 dX4_nearParts_222 (fun h => ?_)
      refine hv_last X h hd_la43 dX4_nearParts_223 (fun h => ?_)
      refine hv_nmS h (fun S4 h => ?_)
      refine hv_iinc X (v := 1) [(7, .int (x7 + 1)), (0, .ref (hd_ad E 38)), (3, .int x3), (4, .int x4), (5, .int x5), (6, .int x6)] dX4_nearParts_224 5 rfl (by decide) (by decide) rfl ?_
      refine hv_goto X 203 dX4_nearParts_227 (by decide) ?_
      refine hv_sub [(0, .ref (hd_ad E 38)), (3, .int x3), (4, .int x4), (5, .int x5), (6, .int x6), (7, .int (x7 + 1))] [1, 2, 3, 4, 5, 0] rfl ?_
      exact ih x3 x4 x5 x6 (x7 + 1) S4 h
def hf_M_nearParts_121 (K49 : Int32 → Int32 → Int32 → Int32 → hd_St → (Option (Int64 × hd_St))) (K98 : Int32 → Int32 → Int32 → Int32 → Int32 → hd_St → (Option (Int64 × hd_St))) (x3 : Int32) (x4 : Int32) (x5 : Int32) (x6 : Int32) (x7 : Int32) (t0 : Int32) (S : hd_St) : (Option (Int64 × hd_St)) :=
  hd_nm (x7 - 1) fun v5 =>
    if hd_ck v5 13 = true then
    if hd_ck x7 13 = true then
    if hd_ck v5 13 = true then
    hd_nm (hd_sJ S 44 v5.toNatClampNeg ((hd_J S 44 v5.toNatClampNeg) + (x4.toInt64 * (hd_J S 43 x7.toNatClampNeg)))) fun S6 =>
    if hd_ck t0 13 = true then
    if hd_ck x7 13 = true then
    if hd_ck t0 13 = true then
    hd_nm (hd_sJ S6 44 t0.toNatClampNeg ((hd_J S6 44 t0.toNatClampNeg) + (x5.toInt64 * (hd_J S6 43 x7.toNatClampNeg)))) fun S7 =>
    if hd_ck x7 13 = true then
    if hd_ck x7 13 = true then
    if hd_ck x7 13 = true then
    hd_nm (hd_sJ S7 44 x7.toNatClampNeg ((hd_J S7 44 x7.toNatClampNeg) + ((((10 : Int32) - x4) - x5).toInt64 * (hd_J S7 43 x7.toNatClampNeg)))) fun S8 =>
    K98 x3 x4 x5 x6 (x7 + 1) S8
    else none
    else none
    else none
    else none
    else none
    else none
    else none
    else none
    else none
theorem hw_M_nearParts_121 {κ : hd_VK} {E : hd_EV} (X : hd_Cx κ E cX4_nearParts RX4 9 (hd_Rm 1 0 0)) (hr : (hd_kQ κ).sig.returnType = some .long) {y : (Int64 × hd_St)} (K49 : Int32 → Int32 → Int32 → Int32 → hd_St → (Option (Int64 × hd_St))) (hK49 : ∀ (x3 : Int32) (x4 : Int32) (x5 : Int32) (x6 : Int32) (S : hd_St), K49 x3 x4 x5 x6 S = some y → hd_V κ E 9 0 0 (hd_Qf κ E (some (.long y.1)) y.2) S 49 [(0, .ref (hd_ad E 38)), (3, .int x3), (4, .int x4), (5, .int x5), (6, .int x6)] []) (K98 : Int32 → Int32 → Int32 → Int32 → Int32 → hd_St → (Option (Int64 × hd_St))) (hK98 : ∀ (x3 : Int32) (x4 : Int32) (x5 : Int32) (x6 : Int32) (x7 : Int32) (S : hd_St), K98 x3 x4 x5 x6 x7 S = some y → hd_V κ E 9 0 0 (hd_Qf κ E (some (.long y.1)) y.2) S 98 [(0, .ref (hd_ad E 38)), (3, .int x3), (4, .int x4), (5, .int x5), (6, .int x6), (7, .int x7)] []) (x3 : Int32) (x4 : Int32) (x5 : Int32) (x6 : Int32) (x7 : Int32) (t0 : Int32) (S : hd_St) (h : hf_M_nearParts_121 K49 K98 x3 x4 x5 x6 x7 t0 S = some y) : hd_V κ E 9 0 0 (hd_Qf κ E (some (.long y.1)) y.2) S 121 [(0, .ref (hd_ad E 38)), (3, .int x3), (4, .int x4), (5, .int x5), (6, .int x6), (7, .int x7)] [.int t0] := by
  unfold hf_M_nearParts_121 at h
  refine hv_istore X [(8, .int t0), (0, .ref (hd_ad E 38)), (3, .int x3), (4, .int x4), (5, .int x5), (6, .int x6), (7, .int x7)] dX4_nearParts_121 (by decide) rfl ?_
  refine hv_aload_n X dX4_nearParts_123 1 rfl ?_
  refine hg_M_then X q1254 dX4_nearParts_124 ?_
  refine hv_iload X dX4_nearParts_127 6 rfl ?_
  refine hv_iconst X (v := 1) dX4_nearParts_129 (by decide) ?_
  refine hv_isub X dX4_nearParts_130 ?_
  refine hv_nmI h (fun v5 h => ?_)
  refine hv_dup2 X dX4_nearParts_131 rfl rfl ?_
  refine hv_lald X h hd_la44 dX4_nearParts_132 (fun h => ?_)
  refine hv_iload X dX4_nearParts_133 3 rfl ?_
  refine hv_i2l X dX4_nearParts_135 ?_
  refine hv_aload_n X dX4_nearParts_136 1 rfl ?_
  refine hg_M_off X q1253 dX4_nearParts_137 ?_
  refine hv_iload X dX4_nearParts_140 6 rfl ?_
  refine hv_lald X h hd_la43 dX4_nearParts_142 (fun h => ?_)
  refine hv_lmul X dX4_nearParts_143 ?_
  refine hv_ladd X dX4_nearParts_144 ?_
  refine hv_last X h hd_la44 dX4_nearParts_145 (fun h => ?_)
  refine hv_nmS h (fun S6 h => ?_)
  refine hv_aload_n X dX4_nearParts_146 1 rfl ?_
  refine hg_M_then X q1254 dX4_nearParts_147 ?_
  refine hv_iload X dX4_nearParts_150 0 rfl ?_
  refine hv_dup2 X dX4_nearParts_152 rfl rfl ?_
  refine hv_lald X h hd_la44 dX4_nearParts_153 (fun h => ?_)
  refine hv_iload X dX4_nearParts_154 4 rfl ?_
  refine hv_i2l X dX4_nearParts_156 ?_
  refine hv_aload_n X dX4_nearParts_157 1 rfl ?_
  refine hg_M_off X q1253 dX4_nearParts_158 ?_
  refine hv_iload X dX4_nearParts_161 6 rfl ?_
  refine hv_lald X h hd_la43 dX4_nearParts_163 (fun h => ?_)
  refine hv_lmul X dX4_nearParts_164 ?_
  refine hv_ladd X dX4_nearParts_165 ?_
  refine hv_last X h hd_la44 dX4_nearParts_166 (fun h => ?_)
  refine hv_nmS h (fun S7 h => ?_)
  refine hv_aload_n X dX4_nearParts_167 1 rfl ?_
  refine hg_M_then X q1254 dX4_nearParts_168 ?_
  refine hv_iload X dX4_nearParts_171 6 rfl ?_
  refine hv_dup2 X dX4_nearParts_173 rfl rfl ?_
  refine hv_lald X h hd_la44 dX4_nearParts_174 (fun h => ?_)
  refine hv_bipush X (v := 10) dX4_nearParts_175 (by decide) ?_
  refine hv_iload X dX4_nearParts_177 3 rfl ?_
  refine hv_isub X dX4_nearParts_179 ?_
  refine hv_iload X dX4_nearParts_180 4 rfl ?_
  refine hv_isub X dX4_nearParts_182 ?_
  refine hv_i2l X dX4_nearParts_183 ?_
  refine hv_aload_n X dX4_nearParts_184 1 rfl ?_
  refine hg_M_off X q1253 dX4_nearParts_185 ?_
  refine hv_iload X dX4_nearParts_188 6 rfl ?_
  refine hv_lald X h hd_la43 dX4_nearParts_190 (fun h => ?_)
  refine hv_lmul X dX4_nearParts_191 ?_
  refine hv_ladd X dX4_nearParts_192 ?_
  refine hv_last X h hd_la44 dX4_nearParts_193 (fun h => ?_)
  refine hv_nmS h (fun S8 h => ?_)
  refine hv_iinc X (v := 1) [(7, .int (x7 + 1)), (8, .int t0), (0, .ref (hd_ad E 38)), (3, .int x3), (4, .int x4), (5, .int x5), (6, .int x6)] dX4_nearParts_194 6 rfl (by decide) (by decide) rfl ?_
  refine hv_goto X 98 dX4_nearParts_197 (by decide) ?_
  refine hv_sub [(0, .ref (hd_ad E 38)), (3, .int x3), (4, .int x4), (5, .int x5), (6, .int x6), (7, .int (x7 + 1))] [2, 3, 4, 5, 6, 0] rfl ?_
  exact hK98 x3 x4 x5 x6 (x7 + 1) S8 h
def hf_M_nearParts_98 (K49 : Int32 → Int32 → Int32 → Int32 → hd_St → (Option (Int64 × hd_St))) : Nat → Int32 → Int32 → Int32 → Int32 → Int32 → hd_St → (Option (Int64 × hd_St))
  | 0, _, _, _, _, _, _ => none
  | n + 1, x3, x4, x5, x6, x7, S =>
    if (13 : Int32) ≤ x7 then
    (hf_M_nearParts_203 K49 hd_fuel x3 x4 x5 x6 0 S)
    else
    (if x7 = (12 : Int32) then
    (hf_M_nearParts_121 K49 (hf_M_nearParts_98 K49 n) x3 x4 x5 x6 x7 12 S)
    else
    (hf_M_nearParts_121 K49 (hf_M_nearParts_98 K49 n) x3 x4 x5 x6 x7 (x7 + 1) S))
theorem hw_M_nearParts_98 {κ : hd_VK} {E : hd_EV} (X : hd_Cx κ E cX4_nearParts RX4 9 (hd_Rm 1 0 0)) (hr : (hd_kQ κ).sig.returnType = some .long) {y : (Int64 × hd_St)} (K49 : Int32 → Int32 → Int32 → Int32 → hd_St → (Option (Int64 × hd_St))) (hK49 : ∀ (x3 : Int32) (x4 : Int32) (x5 : Int32) (x6 : Int32) (S : hd_St), K49 x3 x4 x5 x6 S = some y → hd_V κ E 9 0 0 (hd_Qf κ E (some (.long y.1)) y.2) S 49 [(0, .ref (hd_ad E 38)), (3, .int x3), (4, .int x4), (5, .int x5), (6, .int x6)] []) : ∀ (n : Nat) (x3 : Int32) (x4 : Int32) (x5 : Int32) (x6 : Int32) (x7 : Int32) (S : hd_St), hf_M_nearParts_98 K49 n x3 x4 x5 x6 x7 S = some y → hd_V κ E 9 0 0 (hd_Qf κ E (some (.long y.1)) y.2) S 98 [(0, .ref (hd_ad E 38)), (3, .int x3), (4, .int x4), (5, .int x5), (6, .int x6), (7, .int x7)] [] := by
  intro n
  induction n with
  | zero => intro x3 x4 x5 x6 x7 S h; have h : (none : Option (Int64 × hd_St)) = some y := h; cases h
  | succ n ih =>
    intro x3 x4 x5 x6 x7 S h
    rw [hf_M_nearParts_98] at h
    refine hv_iload X dX4_nearParts_98 5 rfl ?_
    refine hv_bipush X (v := 13) dX4_nearParts_100 (by decide) ?_
    refine hv_icmp_ge X 200 h dX4_nearParts_102 (by decide) (fun h => ?_) (fun h => ?_)
    · refine hv_iconst X (v := 0) dX4_nearParts_200 (by decide) ?_
      refine hv_istore X [(7, .int 0), (0, .ref (hd_ad E 38)), (3, .int x3), (4, .int x4), (5, .int x5), (6, .int x6)] dX4_nearParts_201 (by decide) rfl ?_
      refine hv_sub [(0, .ref (hd_ad E 38)), (3, .int x3), (4, .int x4), (5, .int x5), (6, .int x6), (7, .int 0)] [1, 2, 3, 4, 5, 0] rfl ?_
      exact hw_M_nearParts_203 X hr K49 hK49 hd_fuel x3 x4 x5 x6 0 S h
    · refine hv_iload X dX4_nearParts_105 5 rfl ?_
      refine hv_bipush X (v := 12) dX4_nearParts_107 (by decide) ?_
      refine hv_icmp_ne X 117 h dX4_nearParts_109 (by decide) (fun h => ?_) (fun h => ?_)
      · refine hv_iload X dX4_nearParts_117 5 rfl ?_
        refine hv_iconst X (v := 1) dX4_nearParts_119 (by decide) ?_
        refine hv_iadd X dX4_nearParts_120 ?_
        exact hw_M_nearParts_121 X hr K49 hK49 (hf_M_nearParts_98 K49 n) ih x3 x4 x5 x6 x7 (x7 + 1) S h
      · refine hv_bipush X (v := 12) dX4_nearParts_112 (by decide) ?_
        refine hv_goto X 121 dX4_nearParts_114 (by decide) ?_
        exact hw_M_nearParts_121 X hr K49 hK49 (hf_M_nearParts_98 K49 n) ih x3 x4 x5 x6 x7 12 S h
def hf_M_nearParts_58 (K49 : Int32 → Int32 → Int32 → Int32 → hd_St → (Option (Int64 × hd_St))) : Nat → Int32 → Int32 → Int32 → Int32 → Int32 → hd_St → (Option (Int64 × hd_St))
  | 0, _, _, _, _, _, _ => none
  | n + 1, x3, x4, x5, x6, x7, S =>
    if (13 : Int32) ≤ x7 then
    (if hd_ck 0 13 = true then
    if hd_ck 0 13 = true then
    hd_nm (hd_sJ S 44 (0 : Int32).toNatClampNeg ((10 : Int64) * (hd_J S 43 (0 : Int32).toNatClampNeg))) fun S3 =>
    hf_M_nearParts_98 K49 hd_fuel x3 x4 x5 x6 1 S3
    else none
    else none)
    else
    (if hd_ck x7 13 = true then
    hd_nm (hd_sJ S 44 x7.toNatClampNeg (0 : Int64)) fun S9 =>
    hf_M_nearParts_58 K49 n x3 x4 x5 x6 (x7 + 1) S9
    else none)
theorem hw_M_nearParts_58 {κ : hd_VK} {E : hd_EV} (X : hd_Cx κ E cX4_nearParts RX4 9 (hd_Rm 1 0 0)) (hr : (hd_kQ κ).sig.returnType = some .long) {y : (Int64 × hd_St)} (K49 : Int32 → Int32 → Int32 → Int32 → hd_St → (Option (Int64 × hd_St))) (hK49 : ∀ (x3 : Int32) (x4 : Int32) (x5 : Int32) (x6 : Int32) (S : hd_St), K49 x3 x4 x5 x6 S = some y → hd_V κ E 9 0 0 (hd_Qf κ E (some (.long y.1)) y.2) S 49 [(0, .ref (hd_ad E 38)), (3, .int x3), (4, .int x4), (5, .int x5), (6, .int x6)] []) : ∀ (n : Nat) (x3 : Int32) (x4 : Int32) (x5 : Int32) (x6 : Int32) (x7 : Int32) (S : hd_St), hf_M_nearParts_58 K49 n x3 x4 x5 x6 x7 S = some y → hd_V κ E 9 0 0 (hd_Qf κ E (some (.long y.1)) y.2) S 58 [(0, .ref (hd_ad E 38)), (3, .int x3), (4, .int x4), (5, .int x5), (6, .int x6), (7, .int x7)] [] := by
  intro n
  induction n with
  | zero => intro x3 x4 x5 x6 x7 S h; have h : (none : Option (Int64 × hd_St)) = some y := h; cases h
  | succ n ih =>
    intro x3 x4 x5 x6 x7 S h
    rw [hf_M_nearParts_58] at h
    refine hv_iload X dX4_nearParts_58 5 rfl ?_
    refine hv_bipush X (v := 13) dX4_nearParts_60 (by decide) ?_
    refine hv_icmp_ge X 79 h dX4_nearParts_62 (by decide) (fun h => ?_) (fun h => ?_)
    · refine hv_aload_n X dX4_nearParts_79 0 rfl ?_
      refine hg_M_then X q1254 dX4_nearParts_80 ?_
      refine hv_iconst X (v := 0) dX4_nearParts_83 (by decide) ?_
      refine hv_ldc2 X q1593 dX4_nearParts_84 ?_
      refine hv_aload_n X dX4_nearParts_87 0 rfl ?_
      refine hg_M_off X q1253 dX4_nearParts_88 ?_
      refine hv_iconst X (v := 0) dX4_nearParts_91 (by decide) ?_
      refine hv_lald X h hd_la43 dX4_nearParts_92 (fun h => ?_)
      refine hv_lmul X dX4_nearParts_93 ?_
      refine hv_last X h hd_la44 dX4_nearParts_94 (fun h => ?_)
      refine hv_nmS h (fun S3 h => ?_)
      refine hv_iconst X (v := 1) dX4_nearParts_95 (by decide) ?_
      refine hv_istore X [(7, .int 1), (0, .ref (hd_ad E 38)), (3, .int x3), (4, .int x4), (5, .int x5), (6, .int x6)] dX4_nearParts_96 (by decide) rfl ?_
      refine hv_sub [(0, .ref (hd_ad E 38)), (3, .int x3), (4, .int x4), (5, .int x5), (6, .int x6), (7, .int 1)] [1, 2, 3, 4, 5, 0] rfl ?_
      exact hw_M_nearParts_98 X hr K49 hK49 hd_fuel x3 x4 x5 x6 1 S3 h
    · refine hv_aload_n X dX4_nearParts_65 0 rfl ?_
      refine hg_M_then X q1254 dX4_nearParts_66 ?_
      refine hv_iload X dX4_nearParts_69 5 rfl ?_
      refine hv_lconst X (v := 0) dX4_nearParts_71 (by decide) ?_
      refine hv_last X h hd_la44 dX4_nearParts_72 (fun h => ?_)
      refine hv_nmS h (fun S9 h => ?_)
      refine hv_iinc X (v := 1) [(7, .int (x7 + 1)), (0, .ref (hd_ad E 38)), (3, .int x3), (4, .int x4), (5, .int x5), (6, .int x6)] dX4_nearParts_73 5 rfl (by decide) (by decide) rfl ?_
      refine hv_goto X 58 dX4_nearParts_76 (by decide) ?_
      refine hv_sub [(0, .ref (hd_ad E 38)), (3, .int x3), (4, .int x4), (5, .int x5), (6, .int x6), (7, .int (x7 + 1))] [1, 2, 3, 4, 5, 0] rfl ?_
      exact ih x3 x4 x5 x6 (x7 + 1) S9 h
def hf_M_nearParts_49 : Nat → Int32 → Int32 → Int32 → Int32 → hd_St → (Option (Int64 × hd_St))
  | 0, _, _, _, _, _ => none
  | n + 1, x3, x4, x5, x6, S =>
    if x3 ≤ x6 then
    (if hd_ck 0 13 = true then
    some ((hd_J S 43 (0 : Int32).toNatClampNeg), S)
    else none)
    else
    (hf_M_nearParts_58 (hf_M_nearParts_49 n) hd_fuel x3 x4 x5 x6 0 S)
theorem hw_M_nearParts_49 {κ : hd_VK} {E : hd_EV} (X : hd_Cx κ E cX4_nearParts RX4 9 (hd_Rm 1 0 0)) (hr : (hd_kQ κ).sig.returnType = some .long) {y : (Int64 × hd_St)} : ∀ (n : Nat) (x3 : Int32) (x4 : Int32) (x5 : Int32) (x6 : Int32) (S : hd_St), hf_M_nearParts_49 n x3 x4 x5 x6 S = some y → hd_V κ E 9 0 0 (hd_Qf κ E (some (.long y.1)) y.2) S 49 [(0, .ref (hd_ad E 38)), (3, .int x3), (4, .int x4), (5, .int x5), (6, .int x6)] [] := by
  intro n
  induction n with
  | zero => intro x3 x4 x5 x6 S h; have h : (none : Option (Int64 × hd_St)) = some y := h; cases h
  | succ n ih =>
    intro x3 x4 x5 x6 S h
    rw [hf_M_nearParts_49] at h
    refine hv_iload X dX4_nearParts_49 4 rfl ?_
    refine hv_iload_n X dX4_nearParts_51 1 rfl ?_
    refine hv_icmp_ge X 236 h dX4_nearParts_52 (by decide) (fun h => ?_) (fun h => ?_)
    · refine hv_aload_n X dX4_nearParts_236 0 rfl ?_
      refine hg_M_off X q1253 dX4_nearParts_237 ?_
      refine hv_iconst X (v := 0) dX4_nearParts_240 (by decide) ?_
      refine hv_lald X h hd_la43 dX4_nearParts_241 (fun h => ?_)
      obtain rfl := Option.some.inj h
      exact hv_lret X hr dX4_nearParts_242 (Nat.zero_le _) (Nat.zero_le _)
    · refine hv_iconst X (v := 0) dX4_nearParts_55 (by decide) ?_
      refine hv_istore X [(7, .int 0), (0, .ref (hd_ad E 38)), (3, .int x3), (4, .int x4), (5, .int x5), (6, .int x6)] dX4_nearParts_56 (by decide) rfl ?_
      refine hv_sub [(0, .ref (hd_ad E 38)), (3, .int x3), (4, .int x4), (5, .int x5), (6, .int x6), (7, .int 0)] [1, 2, 3, 4, 5, 0] rfl ?_
      exact hw_M_nearParts_58 X hr (hf_M_nearParts_49 n) ih hd_fuel x3 x4 x5 x6 0 S h
def hf_M_nearParts_15 : Nat → Int32 → Int32 → Int32 → Int32 → Int32 → hd_St → (Option (Int64 × hd_St))
  | 0, _, _, _, _, _, _ => none
  | n + 1, x1, x3, x4, x5, x6, S =>
    if (13 : Int32) ≤ x6 then
    (hf_M_nearParts_49 hd_fuel x3 x4 x5 0 S)
    else
    (if x6 = x1 then
    (if hd_ck x6 13 = true then
    hd_nm (hd_sJ S 43 x6.toNatClampNeg (1 : Int64)) fun S11 =>
    hf_M_nearParts_15 n x1 x3 x4 x5 (x6 + 1) S11
    else none)
    else
    (if hd_ck x6 13 = true then
    hd_nm (hd_sJ S 43 x6.toNatClampNeg (0 : Int64)) fun S10 =>
    hf_M_nearParts_15 n x1 x3 x4 x5 (x6 + 1) S10
    else none))
theorem hw_M_nearParts_15 {κ : hd_VK} {E : hd_EV} (X : hd_Cx κ E cX4_nearParts RX4 9 (hd_Rm 1 0 0)) (hr : (hd_kQ κ).sig.returnType = some .long) {y : (Int64 × hd_St)} : ∀ (n : Nat) (x1 : Int32) (x3 : Int32) (x4 : Int32) (x5 : Int32) (x6 : Int32) (S : hd_St), hf_M_nearParts_15 n x1 x3 x4 x5 x6 S = some y → hd_V κ E 9 0 0 (hd_Qf κ E (some (.long y.1)) y.2) S 15 [(0, .ref (hd_ad E 38)), (1, .int x1), (3, .int x3), (4, .int x4), (5, .int x5), (6, .int x6)] [] := by
  intro n
  induction n with
  | zero => intro x1 x3 x4 x5 x6 S h; have h : (none : Option (Int64 × hd_St)) = some y := h; cases h
  | succ n ih =>
    intro x1 x3 x4 x5 x6 S h
    rw [hf_M_nearParts_15] at h
    refine hv_iload X dX4_nearParts_15 5 rfl ?_
    refine hv_bipush X (v := 13) dX4_nearParts_17 (by decide) ?_
    refine hv_icmp_ge X 46 h dX4_nearParts_19 (by decide) (fun h => ?_) (fun h => ?_)
    · refine hv_iconst X (v := 0) dX4_nearParts_46 (by decide) ?_
      refine hv_istore X [(6, .int 0), (0, .ref (hd_ad E 38)), (1, .int x1), (3, .int x3), (4, .int x4), (5, .int x5)] dX4_nearParts_47 (by decide) rfl ?_
      refine hv_sub [(0, .ref (hd_ad E 38)), (3, .int x3), (4, .int x4), (5, .int x5), (6, .int 0)] [1, 3, 4, 5, 0] rfl ?_
      exact hw_M_nearParts_49 X hr hd_fuel x3 x4 x5 0 S h
    · refine hv_aload_n X dX4_nearParts_22 0 rfl ?_
      refine hg_M_off X q1253 dX4_nearParts_23 ?_
      refine hv_iload X dX4_nearParts_26 5 rfl ?_
      refine hv_iload X dX4_nearParts_28 5 rfl ?_
      refine hv_iload_n X dX4_nearParts_30 1 rfl ?_
      refine hv_icmp_ne X 38 h dX4_nearParts_31 (by decide) (fun h => ?_) (fun h => ?_)
      · refine hv_lconst X (v := 0) dX4_nearParts_38 (by decide) ?_
        refine hv_last X h hd_la43 dX4_nearParts_39 (fun h => ?_)
        refine hv_nmS h (fun S10 h => ?_)
        refine hv_iinc X (v := 1) [(6, .int (x6 + 1)), (0, .ref (hd_ad E 38)), (1, .int x1), (3, .int x3), (4, .int x4), (5, .int x5)] dX4_nearParts_40 5 rfl (by decide) (by decide) rfl ?_
        refine hv_goto X 15 dX4_nearParts_43 (by decide) ?_
        refine hv_sub [(0, .ref (hd_ad E 38)), (1, .int x1), (3, .int x3), (4, .int x4), (5, .int x5), (6, .int (x6 + 1))] [1, 2, 3, 4, 5, 0] rfl ?_
        exact ih x1 x3 x4 x5 (x6 + 1) S10 h
      · refine hv_lconst X (v := 1) dX4_nearParts_34 (by decide) ?_
        refine hv_goto X 39 dX4_nearParts_35 (by decide) ?_
        refine hv_last X h hd_la43 dX4_nearParts_39 (fun h => ?_)
        refine hv_nmS h (fun S11 h => ?_)
        refine hv_iinc X (v := 1) [(6, .int (x6 + 1)), (0, .ref (hd_ad E 38)), (1, .int x1), (3, .int x3), (4, .int x4), (5, .int x5)] dX4_nearParts_40 5 rfl (by decide) (by decide) rfl ?_
        refine hv_goto X 15 dX4_nearParts_43 (by decide) ?_
        refine hv_sub [(0, .ref (hd_ad E 38)), (1, .int x1), (3, .int x3), (4, .int x4), (5, .int x5), (6, .int (x6 + 1))] [1, 2, 3, 4, 5, 0] rfl ?_
        exact ih x1 x3 x4 x5 (x6 + 1) S11 h
def hf_M_nearParts (a1 : Int32) (a2 : Int32) (a3 : Int32) (S : hd_St) : (Option (Int64 × hd_St)) :=
  hd_nm (a2 / 100) fun v1 =>
    hd_nm (a2 - a2 / 100 * 100) fun v2 =>
    hf_M_nearParts_15 hd_fuel a1 a3 v1 v2 0 S
theorem hw_M_nearParts (l : Launch) (E : hd_EV) (a1 : Int32) (a2 : Int32) (a3 : Int32) (S : hd_St) (y : (Int64 × hd_St)) (h : hf_M_nearParts a1 a2 a3 S = some y) : hd_Mt l E yX4_nearParts cX4_nearParts 9 (some .long) (hd_Rm 1 0 0) [.ref (hd_ad E 38), .int a1, .int a2, .int a3] S (some (.long y.1)) y.2 := by
  refine hd_Mt.start [(0, .ref (hd_ad E 38)), (1, .int a1), (2, .int a2), (3, .int a3)] hd_pnX4 rfl (Nat.le_of_ble_eq_true rfl) (fun κ X hl hr hn => ?_)
  have X : hd_Cx κ E cX4_nearParts RX4 9 (hd_Rm 1 0 0) := X
  unfold hf_M_nearParts at h
  refine hv_iload_n X dX4_nearParts_0 2 rfl ?_
  refine hv_bipush X (v := 100) dX4_nearParts_1 (by decide) ?_
  refine hv_idivc X (by decide) dX4_nearParts_3 ?_
  refine hv_nmI h (fun v1 h => ?_)
  refine hv_istore X [(4, .int v1), (0, .ref (hd_ad E 38)), (1, .int a1), (2, .int a2), (3, .int a3)] dX4_nearParts_4 (by decide) rfl ?_
  refine hv_iload_n X dX4_nearParts_6 3 rfl ?_
  refine hv_bipush X (v := 100) dX4_nearParts_7 (by decide) ?_
  refine hv_iremc X (by decide) dX4_nearParts_9 ?_
  refine hv_nmI h (fun v2 h => ?_)
  refine hv_istore X [(5, .int v2), (4, .int v1), (0, .ref (hd_ad E 38)), (1, .int a1), (2, .int a2), (3, .int a3)] dX4_nearParts_10 (by decide) rfl ?_
  refine hv_iconst X (v := 0) dX4_nearParts_12 (by decide) ?_
  refine hv_istore X [(6, .int 0), (5, .int v2), (4, .int v1), (0, .ref (hd_ad E 38)), (1, .int a1), (2, .int a2), (3, .int a3)] dX4_nearParts_13 (by decide) rfl ?_
  refine hv_sub [(0, .ref (hd_ad E 38)), (1, .int a1), (3, .int a3), (4, .int v1), (5, .int v2), (6, .int 0)] [3, 4, 6, 2, 1, 0] rfl ?_
  exact hw_M_nearParts_15 X hr hd_fuel a1 a3 v1 v2 0 S h
theorem pk_M_nearParts : hd_PkV RX4 yX4_nearParts cX4_nearParts 9 (some .long) 3 := ⟨q1591, qs64, q73, q1592, rfl, by decide +kernel, by decide +kernel, by decide +kernel⟩
