set_option maxRecDepth 100000
theorem hd_pnX10 : plainName RX10 = true := by decide +kernel
theorem hd_pnX11 : plainName RX11 = true := by decide +kernel
theorem hd_pnX12 : plainName RX12 = true := by decide +kernel
theorem hd_pnX13 : plainName RX13 = true := by decide +kernel
theorem hd_pnX14 : plainName RX14 = true := by decide +kernel
theorem hd_pnX15 : plainName RX15 = true := by decide +kernel
theorem hd_pnX17 : plainName RX17 = true := by decide +kernel
theorem hd_pnX18 : plainName RX18 = true := by decide +kernel
theorem hd_pnX19 : plainName RX19 = true := by decide +kernel
theorem hd_pnX20 : plainName RX20 = true := by decide +kernel
theorem hd_pnX8 : plainName RX8 = true := by decide +kernel
theorem hd_pnX9 : plainName RX9 = true := by decide +kernel
def hf_B_X10_kind (fig : Int32) : Int32 :=
  2
theorem hw_B_X10_kind (l : Launch) (E : hd_EV) (S : hd_St) (a0 : Nat) (hc : hd_cb S a0 = true) : hd_Mt l E yX10_kind cX10_kind 1 (some .int) (hd_Rm 1 0 0) [.ref a0] S (some (.int (hf_B_X10_kind ((hd_P S a0).2.2 0)))) S := by
  obtain ⟨y, h⟩ : ∃ y, hf_B_X10_kind ((hd_P S a0).2.2 0) = y := ⟨_, rfl⟩
  rw [h]
  refine hd_Mt.start [(0, .ref a0)] hd_pnX10 rfl (Nat.le_of_ble_eq_true rfl) (fun κ X hl hr hn => ?_)
  have X : hd_Cx κ E cX10_kind RX10 1 (hd_Rm 1 0 0) := X
  unfold hf_B_X10_kind at h
  refine hv_iconst X (v := 2) dX10_kind_0 (by decide) ?_
  subst h
  exact hv_iret X hr dX10_kind_1 (Nat.zero_le _) (Nat.zero_le _)
def hf_B_X11_kind (fig : Int32) : Int32 :=
  3
theorem hw_B_X11_kind (l : Launch) (E : hd_EV) (S : hd_St) (a0 : Nat) (hc : hd_cb S a0 = true) : hd_Mt l E yX11_kind cX11_kind 1 (some .int) (hd_Rm 2 0 0) [.ref a0] S (some (.int (hf_B_X11_kind ((hd_P S a0).2.2 0)))) S := by
  obtain ⟨y, h⟩ : ∃ y, hf_B_X11_kind ((hd_P S a0).2.2 0) = y := ⟨_, rfl⟩
  rw [h]
  refine hd_Mt.start [(0, .ref a0)] hd_pnX11 rfl (Nat.le_of_ble_eq_true rfl) (fun κ X hl hr hn => ?_)
  have X : hd_Cx κ E cX11_kind RX11 1 (hd_Rm 2 0 0) := X
  unfold hf_B_X11_kind at h
  refine hv_iconst X (v := 3) dX11_kind_0 (by decide) ?_
  subst h
  exact hv_iret X hr dX11_kind_1 (Nat.zero_le _) (Nat.zero_le _)
def hf_B_X12_kind (fig : Int32) : Int32 :=
  4
theorem hw_B_X12_kind (l : Launch) (E : hd_EV) (S : hd_St) (a0 : Nat) (hc : hd_cb S a0 = true) : hd_Mt l E yX12_kind cX12_kind 1 (some .int) (hd_Rm 3 0 0) [.ref a0] S (some (.int (hf_B_X12_kind ((hd_P S a0).2.2 0)))) S := by
  obtain ⟨y, h⟩ : ∃ y, hf_B_X12_kind ((hd_P S a0).2.2 0) = y := ⟨_, rfl⟩
  rw [h]
  refine hd_Mt.start [(0, .ref a0)] hd_pnX12 rfl (Nat.le_of_ble_eq_true rfl) (fun κ X hl hr hn => ?_)
  have X : hd_Cx κ E cX12_kind RX12 1 (hd_Rm 3 0 0) := X
  unfold hf_B_X12_kind at h
  refine hv_iconst X (v := 4) dX12_kind_0 (by decide) ?_
  subst h
  exact hv_iret X hr dX12_kind_1 (Nat.zero_le _) (Nat.zero_le _)
def hf_B_X13_kind (fig : Int32) : Int32 :=
  5
theorem hw_B_X13_kind (l : Launch) (E : hd_EV) (S : hd_St) (a0 : Nat) (hc : hd_cb S a0 = true) : hd_Mt l E yX13_kind cX13_kind 1 (some .int) (hd_Rm 4 0 0) [.ref a0] S (some (.int (hf_B_X13_kind ((hd_P S a0).2.2 0)))) S := by
  obtain ⟨y, h⟩ : ∃ y, hf_B_X13_kind ((hd_P S a0).2.2 0) = y := ⟨_, rfl⟩
  rw [h]
  refine hd_Mt.start [(0, .ref a0)] hd_pnX13 rfl (Nat.le_of_ble_eq_true rfl) (fun κ X hl hr hn => ?_)
  have X : hd_Cx κ E cX13_kind RX13 1 (hd_Rm 4 0 0) := X
  unfold hf_B_X13_kind at h
  refine hv_iconst X (v := 5) dX13_kind_0 (by decide) ?_
  subst h
  exact hv_iret X hr dX13_kind_1 (Nat.zero_le _) (Nat.zero_le _)
def hf_B_X14_wears (fig : Int32) (a1 : Int32) : Int32 :=
  0
theorem hw_B_X14_wears (l : Launch) (E : hd_EV) (S : hd_St) (a0 : Nat) (hc : hd_cb S a0 = true) (a1 : Int32) : hd_Mt l E yX14_wears cX14_wears 2 (some .int) (hd_Rm 1 0 0) [.ref a0, .int a1] S (some (.int (hf_B_X14_wears ((hd_P S a0).2.2 0) a1))) S := by
  obtain ⟨y, h⟩ : ∃ y, hf_B_X14_wears ((hd_P S a0).2.2 0) a1 = y := ⟨_, rfl⟩
  rw [h]
  refine hd_Mt.start [(0, .ref a0), (1, .int a1)] hd_pnX14 rfl (Nat.le_of_ble_eq_true rfl) (fun κ X hl hr hn => ?_)
  have X : hd_Cx κ E cX14_wears RX14 2 (hd_Rm 1 0 0) := X
  unfold hf_B_X14_wears at h
  refine hv_iconst X (v := 0) dX14_wears_0 (by decide) ?_
  subst h
  exact hv_iret X hr dX14_wears_1 (Nat.zero_le _) (Nat.zero_le _)
def hf_B_X14_kind (fig : Int32) : Int32 :=
  6
theorem hw_B_X14_kind (l : Launch) (E : hd_EV) (S : hd_St) (a0 : Nat) (hc : hd_cb S a0 = true) : hd_Mt l E yX14_kind cX14_kind 1 (some .int) (hd_Rm 5 0 0) [.ref a0] S (some (.int (hf_B_X14_kind ((hd_P S a0).2.2 0)))) S := by
  obtain ⟨y, h⟩ : ∃ y, hf_B_X14_kind ((hd_P S a0).2.2 0) = y := ⟨_, rfl⟩
  rw [h]
  refine hd_Mt.start [(0, .ref a0)] hd_pnX14 rfl (Nat.le_of_ble_eq_true rfl) (fun κ X hl hr hn => ?_)
  have X : hd_Cx κ E cX14_kind RX14 1 (hd_Rm 5 0 0) := X
  unfold hf_B_X14_kind at h
  refine hv_bipush X (v := 6) dX14_kind_0 (by decide) ?_
  subst h
  exact hv_iret X hr dX14_kind_2 (Nat.zero_le _) (Nat.zero_le _)
def hf_B_X15_kind (fig : Int32) : Int32 :=
  7
theorem hw_B_X15_kind (l : Launch) (E : hd_EV) (S : hd_St) (a0 : Nat) (hc : hd_cb S a0 = true) : hd_Mt l E yX15_kind cX15_kind 1 (some .int) (hd_Rm 6 0 0) [.ref a0] S (some (.int (hf_B_X15_kind ((hd_P S a0).2.2 0)))) S := by
  obtain ⟨y, h⟩ : ∃ y, hf_B_X15_kind ((hd_P S a0).2.2 0) = y := ⟨_, rfl⟩
  rw [h]
  refine hd_Mt.start [(0, .ref a0)] hd_pnX15 rfl (Nat.le_of_ble_eq_true rfl) (fun κ X hl hr hn => ?_)
  have X : hd_Cx κ E cX15_kind RX15 1 (hd_Rm 6 0 0) := X
  unfold hf_B_X15_kind at h
  refine hv_bipush X (v := 7) dX15_kind_0 (by decide) ?_
  subst h
  exact hv_iret X hr dX15_kind_2 (Nat.zero_le _) (Nat.zero_le _)
def hf_B_X17_wears (fig : Int32) (a1 : Int32) : Int32 :=
  (a1 / 10)
theorem hw_B_X17_wears (l : Launch) (E : hd_EV) (S : hd_St) (a0 : Nat) (hc : hd_cb S a0 = true) (a1 : Int32) : hd_Mt l E yX17_wears cX17_wears 2 (some .int) (hd_Rm 2 0 0) [.ref a0, .int a1] S (some (.int (hf_B_X17_wears ((hd_P S a0).2.2 0) a1))) S := by
  obtain ⟨y, h⟩ : ∃ y, hf_B_X17_wears ((hd_P S a0).2.2 0) a1 = y := ⟨_, rfl⟩
  rw [h]
  refine hd_Mt.start [(0, .ref a0), (1, .int a1)] hd_pnX17 rfl (Nat.le_of_ble_eq_true rfl) (fun κ X hl hr hn => ?_)
  have X : hd_Cx κ E cX17_wears RX17 2 (hd_Rm 2 0 0) := X
  unfold hf_B_X17_wears at h
  refine hv_iload_n X dX17_wears_0 1 rfl ?_
  refine hv_bipush X (v := 10) dX17_wears_1 (by decide) ?_
  refine hv_idivc X (by decide) dX17_wears_3 ?_
  subst h
  exact hv_iret X hr dX17_wears_4 (Nat.zero_le _) (Nat.zero_le _)
def hf_B_X18_above (fig : Int32) (a1 : Int32) : Int32 :=
  ((8 : Int32) + a1)
theorem hw_B_X18_above (l : Launch) (E : hd_EV) (S : hd_St) (a0 : Nat) (hc : hd_cb S a0 = true) (a1 : Int32) : hd_Mt l E yX18_above cX18_above 2 (some .int) (hd_Rm 1 0 0) [.ref a0, .int a1] S (some (.int (hf_B_X18_above ((hd_P S a0).2.2 0) a1))) S := by
  obtain ⟨y, h⟩ : ∃ y, hf_B_X18_above ((hd_P S a0).2.2 0) a1 = y := ⟨_, rfl⟩
  rw [h]
  refine hd_Mt.start [(0, .ref a0), (1, .int a1)] hd_pnX18 rfl (Nat.le_of_ble_eq_true rfl) (fun κ X hl hr hn => ?_)
  have X : hd_Cx κ E cX18_above RX18 2 (hd_Rm 1 0 0) := X
  unfold hf_B_X18_above at h
  refine hv_bipush X (v := 8) dX18_above_0 (by decide) ?_
  refine hv_iload_n X dX18_above_2 1 rfl ?_
  refine hv_iadd X dX18_above_3 ?_
  subst h
  exact hv_iret X hr dX18_above_4 (Nat.zero_le _) (Nat.zero_le _)
def hf_B_X19_over (fig : Int32) : Int32 :=
  20
theorem hw_B_X19_over (l : Launch) (E : hd_EV) (S : hd_St) (a0 : Nat) (hc : hd_cb S a0 = true) : hd_Mt l E yX19_over cX19_over 1 (some .int) (hd_Rm 1 0 0) [.ref a0] S (some (.int (hf_B_X19_over ((hd_P S a0).2.2 0)))) S := by
  obtain ⟨y, h⟩ : ∃ y, hf_B_X19_over ((hd_P S a0).2.2 0) = y := ⟨_, rfl⟩
  rw [h]
  refine hd_Mt.start [(0, .ref a0)] hd_pnX19 rfl (Nat.le_of_ble_eq_true rfl) (fun κ X hl hr hn => ?_)
  have X : hd_Cx κ E cX19_over RX19 1 (hd_Rm 1 0 0) := X
  unfold hf_B_X19_over at h
  refine hv_bipush X (v := 20) dX19_over_0 (by decide) ?_
  subst h
  exact hv_iret X hr dX19_over_2 (Nat.zero_le _) (Nat.zero_le _)
def hf_B_X20_pitch (fig : Int32) (a1 : Int32) (a2 : Int32) (a3 : Int32) : Int32 :=
  (((60 : Int32) - a1) + a2)
theorem hw_B_X20_pitch (l : Launch) (E : hd_EV) (S : hd_St) (a0 : Nat) (hc : hd_cb S a0 = true) (a1 : Int32) (a2 : Int32) (a3 : Int32) : hd_Mt l E yX20_pitch cX20_pitch 4 (some .int) (hd_Rm 1 0 0) [.ref a0, .int a1, .int a2, .int a3] S (some (.int (hf_B_X20_pitch ((hd_P S a0).2.2 0) a1 a2 a3))) S := by
  obtain ⟨y, h⟩ : ∃ y, hf_B_X20_pitch ((hd_P S a0).2.2 0) a1 a2 a3 = y := ⟨_, rfl⟩
  rw [h]
  refine hd_Mt.start [(0, .ref a0), (1, .int a1), (2, .int a2), (3, .int a3)] hd_pnX20 rfl (Nat.le_of_ble_eq_true rfl) (fun κ X hl hr hn => ?_)
  have X : hd_Cx κ E cX20_pitch RX20 4 (hd_Rm 1 0 0) := X
  unfold hf_B_X20_pitch at h
  refine hv_bipush X (v := 60) dX20_pitch_0 (by decide) ?_
  refine hv_iload_n X dX20_pitch_2 1 rfl ?_
  refine hv_isub X dX20_pitch_3 ?_
  refine hv_iload_n X dX20_pitch_4 2 rfl ?_
  refine hv_iadd X dX20_pitch_5 ?_
  subst h
  exact hv_iret X hr dX20_pitch_6 (Nat.zero_le _) (Nat.zero_le _)
def hf_B_X8_low (fig : Int32) (a1 : Int32) (a2 : Int32) : Int32 :=
  (a1 + a2)
theorem hw_B_X8_low (l : Launch) (E : hd_EV) (S : hd_St) (a0 : Nat) (hc : hd_cb S a0 = true) (a1 : Int32) (a2 : Int32) : hd_Mt l E yX8_low cX8_low 3 (some .int) (hd_Rm 1 0 0) [.ref a0, .int a1, .int a2] S (some (.int (hf_B_X8_low ((hd_P S a0).2.2 0) a1 a2))) S := by
  obtain ⟨y, h⟩ : ∃ y, hf_B_X8_low ((hd_P S a0).2.2 0) a1 a2 = y := ⟨_, rfl⟩
  rw [h]
  refine hd_Mt.start [(0, .ref a0), (1, .int a1), (2, .int a2)] hd_pnX8 rfl (Nat.le_of_ble_eq_true rfl) (fun κ X hl hr hn => ?_)
  have X : hd_Cx κ E cX8_low RX8 3 (hd_Rm 1 0 0) := X
  unfold hf_B_X8_low at h
  refine hv_iload_n X dX8_low_0 1 rfl ?_
  refine hv_iload_n X dX8_low_1 2 rfl ?_
  refine hv_iadd X dX8_low_2 ?_
  subst h
  exact hv_iret X hr dX8_low_3 (Nat.zero_le _) (Nat.zero_le _)
def hf_B_X8_softest (fig : Int32) (a1 : Int32) : Int32 :=
  ((6 : Int32) + ((2 : Int32) * a1))
theorem hw_B_X8_softest (l : Launch) (E : hd_EV) (S : hd_St) (a0 : Nat) (hc : hd_cb S a0 = true) (a1 : Int32) : hd_Mt l E yX8_softest cX8_softest 2 (some .int) (hd_Rm 1 0 0) [.ref a0, .int a1] S (some (.int (hf_B_X8_softest ((hd_P S a0).2.2 0) a1))) S := by
  obtain ⟨y, h⟩ : ∃ y, hf_B_X8_softest ((hd_P S a0).2.2 0) a1 = y := ⟨_, rfl⟩
  rw [h]
  refine hd_Mt.start [(0, .ref a0), (1, .int a1)] hd_pnX8 rfl (Nat.le_of_ble_eq_true rfl) (fun κ X hl hr hn => ?_)
  have X : hd_Cx κ E cX8_softest RX8 2 (hd_Rm 1 0 0) := X
  unfold hf_B_X8_softest at h
  refine hv_bipush X (v := 6) dX8_softest_0 (by decide) ?_
  refine hv_iconst X (v := 2) dX8_softest_2 (by decide) ?_
  refine hv_iload_n X dX8_softest_3 1 rfl ?_
  refine hv_imul X dX8_softest_4 ?_
  refine hv_iadd X dX8_softest_5 ?_
  subst h
  exact hv_iret X hr dX8_softest_6 (Nat.zero_le _) (Nat.zero_le _)
def hf_B_X8_kind (fig : Int32) : Int32 :=
  0
theorem hw_B_X8_kind (l : Launch) (E : hd_EV) (S : hd_St) (a0 : Nat) (hc : hd_cb S a0 = true) : hd_Mt l E yX8_kind cX8_kind 1 (some .int) (hd_Rm 7 0 0) [.ref a0] S (some (.int (hf_B_X8_kind ((hd_P S a0).2.2 0)))) S := by
  obtain ⟨y, h⟩ : ∃ y, hf_B_X8_kind ((hd_P S a0).2.2 0) = y := ⟨_, rfl⟩
  rw [h]
  refine hd_Mt.start [(0, .ref a0)] hd_pnX8 rfl (Nat.le_of_ble_eq_true rfl) (fun κ X hl hr hn => ?_)
  have X : hd_Cx κ E cX8_kind RX8 1 (hd_Rm 7 0 0) := X
  unfold hf_B_X8_kind at h
  refine hv_iconst X (v := 0) dX8_kind_0 (by decide) ?_
  subst h
  exact hv_iret X hr dX8_kind_1 (Nat.zero_le _) (Nat.zero_le _)
def hf_B_X8_cost (fig : Int32) : Int32 :=
  3
theorem hw_B_X8_cost (l : Launch) (E : hd_EV) (S : hd_St) (a0 : Nat) (hc : hd_cb S a0 = true) : hd_Mt l E yX8_cost cX8_cost 1 (some .int) (hd_Rm 1 0 0) [.ref a0] S (some (.int (hf_B_X8_cost ((hd_P S a0).2.2 0)))) S := by
  obtain ⟨y, h⟩ : ∃ y, hf_B_X8_cost ((hd_P S a0).2.2 0) = y := ⟨_, rfl⟩
  rw [h]
  refine hd_Mt.start [(0, .ref a0)] hd_pnX8 rfl (Nat.le_of_ble_eq_true rfl) (fun κ X hl hr hn => ?_)
  have X : hd_Cx κ E cX8_cost RX8 1 (hd_Rm 1 0 0) := X
  unfold hf_B_X8_cost at h
  refine hv_iconst X (v := 3) dX8_cost_0 (by decide) ?_
  subst h
  exact hv_iret X hr dX8_cost_1 (Nat.zero_le _) (Nat.zero_le _)
def hf_B_X9_softest (fig : Int32) (a1 : Int32) : Int32 :=
  61
theorem hw_B_X9_softest (l : Launch) (E : hd_EV) (S : hd_St) (a0 : Nat) (hc : hd_cb S a0 = true) (a1 : Int32) : hd_Mt l E yX9_softest cX9_softest 2 (some .int) (hd_Rm 2 0 0) [.ref a0, .int a1] S (some (.int (hf_B_X9_softest ((hd_P S a0).2.2 0) a1))) S := by
  obtain ⟨y, h⟩ : ∃ y, hf_B_X9_softest ((hd_P S a0).2.2 0) a1 = y := ⟨_, rfl⟩
  rw [h]
  refine hd_Mt.start [(0, .ref a0), (1, .int a1)] hd_pnX9 rfl (Nat.le_of_ble_eq_true rfl) (fun κ X hl hr hn => ?_)
  have X : hd_Cx κ E cX9_softest RX9 2 (hd_Rm 2 0 0) := X
  unfold hf_B_X9_softest at h
  refine hv_bipush X (v := 61) dX9_softest_0 (by decide) ?_
  subst h
  exact hv_iret X hr dX9_softest_2 (Nat.zero_le _) (Nat.zero_le _)
def hf_B_X9_kind (fig : Int32) : Int32 :=
  1
theorem hw_B_X9_kind (l : Launch) (E : hd_EV) (S : hd_St) (a0 : Nat) (hc : hd_cb S a0 = true) : hd_Mt l E yX9_kind cX9_kind 1 (some .int) (hd_Rm 8 0 0) [.ref a0] S (some (.int (hf_B_X9_kind ((hd_P S a0).2.2 0)))) S := by
  obtain ⟨y, h⟩ : ∃ y, hf_B_X9_kind ((hd_P S a0).2.2 0) = y := ⟨_, rfl⟩
  rw [h]
  refine hd_Mt.start [(0, .ref a0)] hd_pnX9 rfl (Nat.le_of_ble_eq_true rfl) (fun κ X hl hr hn => ?_)
  have X : hd_Cx κ E cX9_kind RX9 1 (hd_Rm 8 0 0) := X
  unfold hf_B_X9_kind at h
  refine hv_iconst X (v := 1) dX9_kind_0 (by decide) ?_
  subst h
  exact hv_iret X hr dX9_kind_1 (Nat.zero_le _) (Nat.zero_le _)
def hf_B_X9_cost (fig : Int32) : Int32 :=
  ((hf_B_X8_cost fig) - 1)
theorem hw_B_X9_cost (l : Launch) (E : hd_EV) (S : hd_St) (a0 : Nat) (hc : hd_cb S a0 = true) : hd_Mt l E yX9_cost cX9_cost 1 (some .int) (hd_Rm 2 0 0) [.ref a0] S (some (.int (hf_B_X9_cost ((hd_P S a0).2.2 0)))) S := by
  obtain ⟨y, h⟩ : ∃ y, hf_B_X9_cost ((hd_P S a0).2.2 0) = y := ⟨_, rfl⟩
  rw [h]
  refine hd_Mt.start [(0, .ref a0)] hd_pnX9 rfl (Nat.le_of_ble_eq_true rfl) (fun κ X hl hr hn => ?_)
  have X : hd_Cx κ E cX9_cost RX9 1 (hd_Rm 2 0 0) := X
  unfold hf_B_X9_cost at h
  refine hv_aload_n X dX9_cost_0 0 rfl ?_
  refine hv_super X (na := 0) (x := ⟨"BladeBetweenThumbs$Blow", "cost", "()I"⟩) (y := yX8_cost) (owner := "BladeBetweenThumbs$Blow") hc (hw_B_X8_cost _ E S a0 hc) (X.ts _ q1128) (X.ts _ q1116) q354 rfl q1114 q83 q1124 (by decide +kernel) (by decide +kernel) (hd_foundC X (by decide +kernel) (X.ts _ q1116) rfl q1114 (fun cn co h1 h2 => hd_sub0 h1 h2)) dX9_cost_1 (by decide) (by decide) (Nat.zero_le _) (Nat.zero_le _) rfl rfl (Nat.le_of_ble_eq_true rfl) rfl ?_
  refine hv_iconst X (v := 1) dX9_cost_4 (by decide) ?_
  refine hv_isub X dX9_cost_5 ?_
  subst h
  exact hv_iret X hr dX9_cost_6 (Nat.zero_le _) (Nat.zero_le _)
def hf_B_X10_wears (fig : Int32) (a1 : Int32) : Int32 :=
  ((hf_B_X17_wears fig a1) + 1)
theorem hw_B_X10_wears (l : Launch) (E : hd_EV) (S : hd_St) (a0 : Nat) (hc : hd_cb S a0 = true) (a1 : Int32) : hd_Mt l E yX10_wears cX10_wears 2 (some .int) (hd_Rm 3 0 0) [.ref a0, .int a1] S (some (.int (hf_B_X10_wears ((hd_P S a0).2.2 0) a1))) S := by
  obtain ⟨y, h⟩ : ∃ y, hf_B_X10_wears ((hd_P S a0).2.2 0) a1 = y := ⟨_, rfl⟩
  rw [h]
  refine hd_Mt.start [(0, .ref a0), (1, .int a1)] hd_pnX10 rfl (Nat.le_of_ble_eq_true rfl) (fun κ X hl hr hn => ?_)
  have X : hd_Cx κ E cX10_wears RX10 2 (hd_Rm 3 0 0) := X
  unfold hf_B_X10_wears at h
  refine hv_aload_n X dX10_wears_0 0 rfl ?_
  refine hv_iload_n X dX10_wears_1 1 rfl ?_
  refine hv_super X (na := 1) (x := ⟨"BladeBetweenThumbs$Blow", "wears", "(I)I"⟩) (y := yX17_wears) (owner := "BladeBetweenThumbs$Wears") hc (hw_B_X17_wears _ E S a0 hc a1) (X.dw (List.mem_of_getElem? (i := 2) rfl)) (X.dw (List.mem_of_getElem? (i := 1) rfl)) q362 rfl q437 q1725 q438 (by decide +kernel) (by decide +kernel) (hd_foundD X (by decide +kernel) (X.dw (List.mem_of_getElem? (i := 1) rfl)) rfl q437 (List.mem_of_getElem? (i := 3) rfl)) dX10_wears_2 (by decide) (by decide) (Nat.zero_le _) (Nat.zero_le _) rfl rfl (Nat.le_of_ble_eq_true rfl) rfl ?_
  refine hv_iconst X (v := 1) dX10_wears_5 (by decide) ?_
  refine hv_iadd X dX10_wears_6 ?_
  subst h
  exact hv_iret X hr dX10_wears_7 (Nat.zero_le _) (Nat.zero_le _)
def hf_B_X10_low (fig : Int32) (a1 : Int32) (a2 : Int32) : Int32 :=
  (if (0 : Int32) < ((hf_B_X8_low fig a1 a2) - 2) then ((hf_B_X8_low fig a1 a2) - 2) else (0 : Int32))
theorem hw_B_X10_low (l : Launch) (E : hd_EV) (S : hd_St) (a0 : Nat) (hc : hd_cb S a0 = true) (a1 : Int32) (a2 : Int32) : hd_Mt l E yX10_low cX10_low 3 (some .int) (hd_Rm 2 0 0) [.ref a0, .int a1, .int a2] S (some (.int (hf_B_X10_low ((hd_P S a0).2.2 0) a1 a2))) S := by
  obtain ⟨y, h⟩ : ∃ y, hf_B_X10_low ((hd_P S a0).2.2 0) a1 a2 = y := ⟨_, rfl⟩
  rw [h]
  refine hd_Mt.start [(0, .ref a0), (1, .int a1), (2, .int a2)] hd_pnX10 rfl (Nat.le_of_ble_eq_true rfl) (fun κ X hl hr hn => ?_)
  have X : hd_Cx κ E cX10_low RX10 3 (hd_Rm 2 0 0) := X
  unfold hf_B_X10_low at h
  refine hv_iconst X (v := 0) dX10_low_0 (by decide) ?_
  refine hv_aload_n X dX10_low_1 0 rfl ?_
  refine hv_iload_n X dX10_low_2 1 rfl ?_
  refine hv_iload_n X dX10_low_3 2 rfl ?_
  refine hv_super X (na := 2) (x := ⟨"BladeBetweenThumbs$Blow", "low", "(II)I"⟩) (y := yX8_low) (owner := "BladeBetweenThumbs$Blow") hc (hw_B_X8_low _ E S a0 hc a1 a2) (X.ts _ q474) (X.ts _ q470) q362 rfl q468 q83 q475 (by decide +kernel) (by decide +kernel) (hd_foundC X (by decide +kernel) (X.ts _ q470) rfl q468 (fun cn co h1 h2 => hd_sub0 h1 h2)) dX10_low_4 (by decide) (by decide) (Nat.zero_le _) (Nat.zero_le _) rfl rfl (Nat.le_of_ble_eq_true rfl) rfl ?_
  refine hv_iconst X (v := 2) dX10_low_7 (by decide) ?_
  refine hv_isub X dX10_low_8 ?_
  refine hv_max X q476 q477 q91 q478 (by decide) (Nat.le_of_ble_eq_true rfl) (Nat.zero_le _) (Nat.zero_le _) dX10_low_9 ?_
  subst h
  exact hv_iret X hr dX10_low_12 (Nat.zero_le _) (Nat.zero_le _)
def hf_B_X10_cost (fig : Int32) : Int32 :=
  ((hf_B_X8_cost fig) + fig)
theorem hw_B_X10_cost (l : Launch) (E : hd_EV) (S : hd_St) (a0 : Nat) (hc : hd_cb S a0 = true) : hd_Mt l E yX10_cost cX10_cost 1 (some .int) (hd_Rm 3 0 0) [.ref a0] S (some (.int (hf_B_X10_cost ((hd_P S a0).2.2 0)))) S := by
  obtain ⟨y, h⟩ : ∃ y, hf_B_X10_cost ((hd_P S a0).2.2 0) = y := ⟨_, rfl⟩
  rw [h]
  refine hd_Mt.start [(0, .ref a0)] hd_pnX10 rfl (Nat.le_of_ble_eq_true rfl) (fun κ X hl hr hn => ?_)
  have X : hd_Cx κ E cX10_cost RX10 1 (hd_Rm 3 0 0) := X
  unfold hf_B_X10_cost at h
  refine hv_aload_n X dX10_cost_0 0 rfl ?_
  refine hv_super X (na := 0) (x := ⟨"BladeBetweenThumbs$Blow", "cost", "()I"⟩) (y := yX8_cost) (owner := "BladeBetweenThumbs$Blow") hc (hw_B_X8_cost _ E S a0 hc) (X.ts _ q1123) (X.ts _ q1116) q362 rfl q1114 q83 q1124 (by decide +kernel) (by decide +kernel) (hd_foundC X (by decide +kernel) (X.ts _ q1116) rfl q1114 (fun cn co h1 h2 => hd_sub0 h1 h2)) dX10_cost_1 (by decide) (by decide) (Nat.zero_le _) (Nat.zero_le _) rfl rfl (Nat.le_of_ble_eq_true rfl) rfl ?_
  refine hv_aload_n X dX10_cost_4 0 rfl ?_
  refine hg_B_fig X hc (fun x9 h9 => u_same (X.ts _ q342) x9 h9) q341 dX10_cost_5 ?_
  refine hv_iadd X dX10_cost_8 ?_
  subst h
  exact hv_iret X hr dX10_cost_9 (Nat.zero_le _) (Nat.zero_le _)
def hf_B_X11_wears (fig : Int32) (a1 : Int32) : Int32 :=
  ((2 : Int32) * (hf_B_X10_wears fig a1))
theorem hw_B_X11_wears (l : Launch) (E : hd_EV) (S : hd_St) (a0 : Nat) (hc : hd_cb S a0 = true) (a1 : Int32) : hd_Mt l E yX11_wears cX11_wears 2 (some .int) (hd_Rm 4 0 0) [.ref a0, .int a1] S (some (.int (hf_B_X11_wears ((hd_P S a0).2.2 0) a1))) S := by
  obtain ⟨y, h⟩ : ∃ y, hf_B_X11_wears ((hd_P S a0).2.2 0) a1 = y := ⟨_, rfl⟩
  rw [h]
  refine hd_Mt.start [(0, .ref a0), (1, .int a1)] hd_pnX11 rfl (Nat.le_of_ble_eq_true rfl) (fun κ X hl hr hn => ?_)
  have X : hd_Cx κ E cX11_wears RX11 2 (hd_Rm 4 0 0) := X
  unfold hf_B_X11_wears at h
  refine hv_iconst X (v := 2) dX11_wears_0 (by decide) ?_
  refine hv_aload_n X dX11_wears_1 0 rfl ?_
  refine hv_iload_n X dX11_wears_2 1 rfl ?_
  refine hv_super X (na := 1) (x := ⟨"BladeBetweenThumbs$Sounding", "wears", "(I)I"⟩) (y := yX10_wears) (owner := "BladeBetweenThumbs$Sounding") hc (hw_B_X10_wears _ E S a0 hc a1) (X.ts _ q443) (X.ts _ q1718) q370 rfl q435 q85 q436 (by decide +kernel) (by decide +kernel) (hd_foundC X (by decide +kernel) (X.ts _ q1718) rfl q435 (fun cn co h1 h2 => hd_sub0 h1 h2)) dX11_wears_3 (by decide) (by decide) (Nat.zero_le _) (Nat.zero_le _) rfl rfl (Nat.le_of_ble_eq_true rfl) rfl ?_
  refine hv_imul X dX11_wears_6 ?_
  subst h
  exact hv_iret X hr dX11_wears_7 (Nat.zero_le _) (Nat.zero_le _)
def hf_B_X11_low (fig : Int32) (a1 : Int32) (a2 : Int32) : Int32 :=
  ((hf_B_X10_low fig a1 a2) + 10)
theorem hw_B_X11_low (l : Launch) (E : hd_EV) (S : hd_St) (a0 : Nat) (hc : hd_cb S a0 = true) (a1 : Int32) (a2 : Int32) : hd_Mt l E yX11_low cX11_low 3 (some .int) (hd_Rm 3 0 0) [.ref a0, .int a1, .int a2] S (some (.int (hf_B_X11_low ((hd_P S a0).2.2 0) a1 a2))) S := by
  obtain ⟨y, h⟩ : ∃ y, hf_B_X11_low ((hd_P S a0).2.2 0) a1 a2 = y := ⟨_, rfl⟩
  rw [h]
  refine hd_Mt.start [(0, .ref a0), (1, .int a1), (2, .int a2)] hd_pnX11 rfl (Nat.le_of_ble_eq_true rfl) (fun κ X hl hr hn => ?_)
  have X : hd_Cx κ E cX11_low RX11 3 (hd_Rm 3 0 0) := X
  unfold hf_B_X11_low at h
  refine hv_aload_n X dX11_low_0 0 rfl ?_
  refine hv_iload_n X dX11_low_1 1 rfl ?_
  refine hv_iload_n X dX11_low_2 2 rfl ?_
  refine hv_super X (na := 2) (x := ⟨"BladeBetweenThumbs$Sounding", "low", "(II)I"⟩) (y := yX10_low) (owner := "BladeBetweenThumbs$Sounding") hc (hw_B_X10_low _ E S a0 hc a1 a2) (X.ts _ q483) (X.ts _ q1719) q370 rfl q472 q85 q473 (by decide +kernel) (by decide +kernel) (hd_foundC X (by decide +kernel) (X.ts _ q1719) rfl q472 (fun cn co h1 h2 => hd_sub0 h1 h2)) dX11_low_3 (by decide) (by decide) (Nat.zero_le _) (Nat.zero_le _) rfl rfl (Nat.le_of_ble_eq_true rfl) rfl ?_
  refine hv_bipush X (v := 10) dX11_low_6 (by decide) ?_
  refine hv_iadd X dX11_low_8 ?_
  subst h
  exact hv_iret X hr dX11_low_9 (Nat.zero_le _) (Nat.zero_le _)
def hf_B_X11_above (fig : Int32) (a1 : Int32) : Int32 :=
  ((hf_B_X18_above fig a1) / 2)
theorem hw_B_X11_above (l : Launch) (E : hd_EV) (S : hd_St) (a0 : Nat) (hc : hd_cb S a0 = true) (a1 : Int32) : hd_Mt l E yX11_above cX11_above 2 (some .int) (hd_Rm 2 0 0) [.ref a0, .int a1] S (some (.int (hf_B_X11_above ((hd_P S a0).2.2 0) a1))) S := by
  obtain ⟨y, h⟩ : ∃ y, hf_B_X11_above ((hd_P S a0).2.2 0) a1 = y := ⟨_, rfl⟩
  rw [h]
  refine hd_Mt.start [(0, .ref a0), (1, .int a1)] hd_pnX11 rfl (Nat.le_of_ble_eq_true rfl) (fun κ X hl hr hn => ?_)
  have X : hd_Cx κ E cX11_above RX11 2 (hd_Rm 2 0 0) := X
  unfold hf_B_X11_above at h
  refine hv_aload_n X dX11_above_0 0 rfl ?_
  refine hv_iload_n X dX11_above_1 1 rfl ?_
  refine hv_super X (na := 1) (x := ⟨"BladeBetweenThumbs$Sounding", "above", "(I)I"⟩) (y := yX18_above) (owner := "BladeBetweenThumbs$Stretches") hc (hw_B_X18_above _ E S a0 hc a1) (X.dw (List.mem_of_getElem? (i := 8) rfl)) (X.dw (List.mem_of_getElem? (i := 9) rfl)) q370 rfl q505 q1726 q506 (by decide +kernel) (by decide +kernel) (hd_foundD X (by decide +kernel) (X.dw (List.mem_of_getElem? (i := 9) rfl)) rfl q505 (List.mem_of_getElem? (i := 20) rfl)) dX11_above_2 (by decide) (by decide) (Nat.zero_le _) (Nat.zero_le _) rfl rfl (Nat.le_of_ble_eq_true rfl) rfl ?_
  refine hv_iconst X (v := 2) dX11_above_5 (by decide) ?_
  refine hv_idivc X (by decide) dX11_above_6 ?_
  subst h
  exact hv_iret X hr dX11_above_7 (Nat.zero_le _) (Nat.zero_le _)
def hf_B_X11_softest (fig : Int32) (a1 : Int32) : Int32 :=
  ((2 : Int32) * (hf_B_X8_softest fig a1))
theorem hw_B_X11_softest (l : Launch) (E : hd_EV) (S : hd_St) (a0 : Nat) (hc : hd_cb S a0 = true) (a1 : Int32) : hd_Mt l E yX11_softest cX11_softest 2 (some .int) (hd_Rm 3 0 0) [.ref a0, .int a1] S (some (.int (hf_B_X11_softest ((hd_P S a0).2.2 0) a1))) S := by
  obtain ⟨y, h⟩ : ∃ y, hf_B_X11_softest ((hd_P S a0).2.2 0) a1 = y := ⟨_, rfl⟩
  rw [h]
  refine hd_Mt.start [(0, .ref a0), (1, .int a1)] hd_pnX11 rfl (Nat.le_of_ble_eq_true rfl) (fun κ X hl hr hn => ?_)
  have X : hd_Cx κ E cX11_softest RX11 2 (hd_Rm 3 0 0) := X
  unfold hf_B_X11_softest at h
  refine hv_iconst X (v := 2) dX11_softest_0 (by decide) ?_
  refine hv_aload_n X dX11_softest_1 0 rfl ?_
  refine hv_iload_n X dX11_softest_2 1 rfl ?_
  refine hv_super X (na := 1) (x := ⟨"BladeBetweenThumbs$Sounding", "softest", "(I)I"⟩) (y := yX8_softest) (owner := "BladeBetweenThumbs$Blow") hc (hw_B_X8_softest _ E S a0 hc a1) (X.ts _ q527) (X.ts _ q528) q370 rfl q517 q83 q530 (by decide +kernel) (by decide +kernel) (hd_foundC X (by decide +kernel) (X.ts _ q528) rfl q517 (fun cn co h1 h2 => hd_sub1 (X.ts _ q362) h1 h2)) dX11_softest_3 (by decide) (by decide) (Nat.zero_le _) (Nat.zero_le _) rfl rfl (Nat.le_of_ble_eq_true rfl) rfl ?_
  refine hv_imul X dX11_softest_6 ?_
  subst h
  exact hv_iret X hr dX11_softest_7 (Nat.zero_le _) (Nat.zero_le _)
def hf_B_X11_pitch (fig : Int32) (a1 : Int32) (a2 : Int32) (a3 : Int32) : Int32 :=
  ((hf_B_X20_pitch fig a1 a2 a3) + 12)
theorem hw_B_X11_pitch (l : Launch) (E : hd_EV) (S : hd_St) (a0 : Nat) (hc : hd_cb S a0 = true) (a1 : Int32) (a2 : Int32) (a3 : Int32) : hd_Mt l E yX11_pitch cX11_pitch 4 (some .int) (hd_Rm 2 0 0) [.ref a0, .int a1, .int a2, .int a3] S (some (.int (hf_B_X11_pitch ((hd_P S a0).2.2 0) a1 a2 a3))) S := by
  obtain ⟨y, h⟩ : ∃ y, hf_B_X11_pitch ((hd_P S a0).2.2 0) a1 a2 a3 = y := ⟨_, rfl⟩
  rw [h]
  refine hd_Mt.start [(0, .ref a0), (1, .int a1), (2, .int a2), (3, .int a3)] hd_pnX11 rfl (Nat.le_of_ble_eq_true rfl) (fun κ X hl hr hn => ?_)
  have X : hd_Cx κ E cX11_pitch RX11 4 (hd_Rm 2 0 0) := X
  unfold hf_B_X11_pitch at h
  refine hv_aload_n X dX11_pitch_0 0 rfl ?_
  refine hv_iload_n X dX11_pitch_1 1 rfl ?_
  refine hv_iload_n X dX11_pitch_2 2 rfl ?_
  refine hv_iload_n X dX11_pitch_3 3 rfl ?_
  refine hv_super X (na := 3) (x := ⟨"BladeBetweenThumbs$Sounding", "pitch", "(III)I"⟩) (y := yX20_pitch) (owner := "BladeBetweenThumbs$Sounds") hc (hw_B_X20_pitch _ E S a0 hc a1 a2 a3) (X.dw (List.mem_of_getElem? (i := 20) rfl)) (X.dw (List.mem_of_getElem? (i := 19) rfl)) q370 rfl q651 q1728 q652 (by decide +kernel) (by decide +kernel) (hd_foundD X (by decide +kernel) (X.dw (List.mem_of_getElem? (i := 19) rfl)) rfl q651 (List.mem_of_getElem? (i := 21) rfl)) dX11_pitch_4 (by decide) (by decide) (Nat.zero_le _) (Nat.zero_le _) rfl rfl (Nat.le_of_ble_eq_true rfl) rfl ?_
  refine hv_bipush X (v := 12) dX11_pitch_7 (by decide) ?_
  refine hv_iadd X dX11_pitch_9 ?_
  subst h
  exact hv_iret X hr dX11_pitch_10 (Nat.zero_le _) (Nat.zero_le _)
def hf_B_X11_cost (fig : Int32) : Int32 :=
  ((2 : Int32) * (hf_B_X10_cost fig))
theorem hw_B_X11_cost (l : Launch) (E : hd_EV) (S : hd_St) (a0 : Nat) (hc : hd_cb S a0 = true) : hd_Mt l E yX11_cost cX11_cost 1 (some .int) (hd_Rm 4 0 0) [.ref a0] S (some (.int (hf_B_X11_cost ((hd_P S a0).2.2 0)))) S := by
  obtain ⟨y, h⟩ : ∃ y, hf_B_X11_cost ((hd_P S a0).2.2 0) = y := ⟨_, rfl⟩
  rw [h]
  refine hd_Mt.start [(0, .ref a0)] hd_pnX11 rfl (Nat.le_of_ble_eq_true rfl) (fun κ X hl hr hn => ?_)
  have X : hd_Cx κ E cX11_cost RX11 1 (hd_Rm 4 0 0) := X
  unfold hf_B_X11_cost at h
  refine hv_iconst X (v := 2) dX11_cost_0 (by decide) ?_
  refine hv_aload_n X dX11_cost_1 0 rfl ?_
  refine hv_super X (na := 0) (x := ⟨"BladeBetweenThumbs$Sounding", "cost", "()I"⟩) (y := yX10_cost) (owner := "BladeBetweenThumbs$Sounding") hc (hw_B_X10_cost _ E S a0 hc) (X.ts _ q1132) (X.ts _ q1720) q370 rfl q1121 q85 q1122 (by decide +kernel) (by decide +kernel) (hd_foundC X (by decide +kernel) (X.ts _ q1720) rfl q1121 (fun cn co h1 h2 => hd_sub0 h1 h2)) dX11_cost_2 (by decide) (by decide) (Nat.zero_le _) (Nat.zero_le _) rfl rfl (Nat.le_of_ble_eq_true rfl) rfl ?_
  refine hv_imul X dX11_cost_5 ?_
  subst h
  exact hv_iret X hr dX11_cost_6 (Nat.zero_le _) (Nat.zero_le _)
def hf_B_X12_wears (fig : Int32) (a1 : Int32) : Int32 :=
  ((hf_B_X17_wears fig a1) + fig)
theorem hw_B_X12_wears (l : Launch) (E : hd_EV) (S : hd_St) (a0 : Nat) (hc : hd_cb S a0 = true) (a1 : Int32) : hd_Mt l E yX12_wears cX12_wears 2 (some .int) (hd_Rm 5 0 0) [.ref a0, .int a1] S (some (.int (hf_B_X12_wears ((hd_P S a0).2.2 0) a1))) S := by
  obtain ⟨y, h⟩ : ∃ y, hf_B_X12_wears ((hd_P S a0).2.2 0) a1 = y := ⟨_, rfl⟩
  rw [h]
  refine hd_Mt.start [(0, .ref a0), (1, .int a1)] hd_pnX12 rfl (Nat.le_of_ble_eq_true rfl) (fun κ X hl hr hn => ?_)
  have X : hd_Cx κ E cX12_wears RX12 2 (hd_Rm 5 0 0) := X
  unfold hf_B_X12_wears at h
  refine hv_aload_n X dX12_wears_0 0 rfl ?_
  refine hv_iload_n X dX12_wears_1 1 rfl ?_
  refine hv_super X (na := 1) (x := ⟨"BladeBetweenThumbs$Blow", "wears", "(I)I"⟩) (y := yX17_wears) (owner := "BladeBetweenThumbs$Wears") hc (hw_B_X17_wears _ E S a0 hc a1) (X.dw (List.mem_of_getElem? (i := 5) rfl)) (X.dw (List.mem_of_getElem? (i := 1) rfl)) q378 rfl q437 q1725 q438 (by decide +kernel) (by decide +kernel) (hd_foundD X (by decide +kernel) (X.dw (List.mem_of_getElem? (i := 1) rfl)) rfl q437 (List.mem_of_getElem? (i := 3) rfl)) dX12_wears_2 (by decide) (by decide) (Nat.zero_le _) (Nat.zero_le _) rfl rfl (Nat.le_of_ble_eq_true rfl) rfl ?_
  refine hv_aload_n X dX12_wears_5 0 rfl ?_
  refine hg_B_fig X hc (fun x9 h9 => u_same (X.ts _ q338) x9 h9) q337 dX12_wears_6 ?_
  refine hv_iadd X dX12_wears_9 ?_
  subst h
  exact hv_iret X hr dX12_wears_10 (Nat.zero_le _) (Nat.zero_le _)
def hf_B_X12_over (fig : Int32) : Int32 :=
  ((hf_B_X19_over fig) - fig)
theorem hw_B_X12_over (l : Launch) (E : hd_EV) (S : hd_St) (a0 : Nat) (hc : hd_cb S a0 = true) : hd_Mt l E yX12_over cX12_over 1 (some .int) (hd_Rm 2 0 0) [.ref a0] S (some (.int (hf_B_X12_over ((hd_P S a0).2.2 0)))) S := by
  obtain ⟨y, h⟩ : ∃ y, hf_B_X12_over ((hd_P S a0).2.2 0) = y := ⟨_, rfl⟩
  rw [h]
  refine hd_Mt.start [(0, .ref a0)] hd_pnX12 rfl (Nat.le_of_ble_eq_true rfl) (fun κ X hl hr hn => ?_)
  have X : hd_Cx κ E cX12_over RX12 1 (hd_Rm 2 0 0) := X
  unfold hf_B_X12_over at h
  refine hv_aload_n X dX12_over_0 0 rfl ?_
  refine hv_super X (na := 0) (x := ⟨"BladeBetweenThumbs$Blow", "over", "()I"⟩) (y := yX19_over) (owner := "BladeBetweenThumbs$Blows") hc (hw_B_X19_over _ E S a0 hc) (X.dw (List.mem_of_getElem? (i := 14) rfl)) (X.dw (List.mem_of_getElem? (i := 11) rfl)) q378 rfl q552 q1727 q553 (by decide +kernel) (by decide +kernel) (hd_foundD X (by decide +kernel) (X.dw (List.mem_of_getElem? (i := 11) rfl)) rfl q552 (List.mem_of_getElem? (i := 1) rfl)) dX12_over_1 (by decide) (by decide) (Nat.zero_le _) (Nat.zero_le _) rfl rfl (Nat.le_of_ble_eq_true rfl) rfl ?_
  refine hv_aload_n X dX12_over_4 0 rfl ?_
  refine hg_B_fig X hc (fun x9 h9 => u_same (X.ts _ q338) x9 h9) q337 dX12_over_5 ?_
  refine hv_isub X dX12_over_8 ?_
  subst h
  exact hv_iret X hr dX12_over_9 (Nat.zero_le _) (Nat.zero_le _)
def hf_B_X12_pitch (fig : Int32) (a1 : Int32) (a2 : Int32) (a3 : Int32) : Int32 :=
  ((hf_B_X20_pitch fig a1 a2 a3) + fig)
theorem hw_B_X12_pitch (l : Launch) (E : hd_EV) (S : hd_St) (a0 : Nat) (hc : hd_cb S a0 = true) (a1 : Int32) (a2 : Int32) (a3 : Int32) : hd_Mt l E yX12_pitch cX12_pitch 4 (some .int) (hd_Rm 3 0 0) [.ref a0, .int a1, .int a2, .int a3] S (some (.int (hf_B_X12_pitch ((hd_P S a0).2.2 0) a1 a2 a3))) S := by
  obtain ⟨y, h⟩ : ∃ y, hf_B_X12_pitch ((hd_P S a0).2.2 0) a1 a2 a3 = y := ⟨_, rfl⟩
  rw [h]
  refine hd_Mt.start [(0, .ref a0), (1, .int a1), (2, .int a2), (3, .int a3)] hd_pnX12 rfl (Nat.le_of_ble_eq_true rfl) (fun κ X hl hr hn => ?_)
  have X : hd_Cx κ E cX12_pitch RX12 4 (hd_Rm 3 0 0) := X
  unfold hf_B_X12_pitch at h
  refine hv_aload_n X dX12_pitch_0 0 rfl ?_
  refine hv_iload_n X dX12_pitch_1 1 rfl ?_
  refine hv_iload_n X dX12_pitch_2 2 rfl ?_
  refine hv_iload_n X dX12_pitch_3 3 rfl ?_
  refine hv_super X (na := 3) (x := ⟨"BladeBetweenThumbs$Blow", "pitch", "(III)I"⟩) (y := yX20_pitch) (owner := "BladeBetweenThumbs$Sounds") hc (hw_B_X20_pitch _ E S a0 hc a1 a2 a3) (X.dw (List.mem_of_getElem? (i := 21) rfl)) (X.dw (List.mem_of_getElem? (i := 17) rfl)) q378 rfl q651 q1728 q652 (by decide +kernel) (by decide +kernel) (hd_foundD X (by decide +kernel) (X.dw (List.mem_of_getElem? (i := 17) rfl)) rfl q651 (List.mem_of_getElem? (i := 2) rfl)) dX12_pitch_4 (by decide) (by decide) (Nat.zero_le _) (Nat.zero_le _) rfl rfl (Nat.le_of_ble_eq_true rfl) rfl ?_
  refine hv_aload_n X dX12_pitch_7 0 rfl ?_
  refine hg_B_fig X hc (fun x9 h9 => u_same (X.ts _ q338) x9 h9) q337 dX12_pitch_8 ?_
  refine hv_iadd X dX12_pitch_11 ?_
  subst h
  exact hv_iret X hr dX12_pitch_12 (Nat.zero_le _) (Nat.zero_le _)
def hf_B_X12_cost (fig : Int32) : Int32 :=
  ((hf_B_X8_cost fig) + 4)
theorem hw_B_X12_cost (l : Launch) (E : hd_EV) (S : hd_St) (a0 : Nat) (hc : hd_cb S a0 = true) : hd_Mt l E yX12_cost cX12_cost 1 (some .int) (hd_Rm 5 0 0) [.ref a0] S (some (.int (hf_B_X12_cost ((hd_P S a0).2.2 0)))) S := by
  obtain ⟨y, h⟩ : ∃ y, hf_B_X12_cost ((hd_P S a0).2.2 0) = y := ⟨_, rfl⟩
  rw [h]
  refine hd_Mt.start [(0, .ref a0)] hd_pnX12 rfl (Nat.le_of_ble_eq_true rfl) (fun κ X hl hr hn => ?_)
  have X : hd_Cx κ E cX12_cost RX12 1 (hd_Rm 5 0 0) := X
  unfold hf_B_X12_cost at h
  refine hv_aload_n X dX12_cost_0 0 rfl ?_
  refine hv_super X (na := 0) (x := ⟨"BladeBetweenThumbs$Blow", "cost", "()I"⟩) (y := yX8_cost) (owner := "BladeBetweenThumbs$Blow") hc (hw_B_X8_cost _ E S a0 hc) (X.ts _ q1145) (X.ts _ q1116) q378 rfl q1114 q83 q1124 (by decide +kernel) (by decide +kernel) (hd_foundC X (by decide +kernel) (X.ts _ q1116) rfl q1114 (fun cn co h1 h2 => hd_sub0 h1 h2)) dX12_cost_1 (by decide) (by decide) (Nat.zero_le _) (Nat.zero_le _) rfl rfl (Nat.le_of_ble_eq_true rfl) rfl ?_
  refine hv_iconst X (v := 4) dX12_cost_4 (by decide) ?_
  refine hv_iadd X dX12_cost_5 ?_
  subst h
  exact hv_iret X hr dX12_cost_6 (Nat.zero_le _) (Nat.zero_le _)
def hf_B_X13_pitch (fig : Int32) (a1 : Int32) (a2 : Int32) (a3 : Int32) : Int32 :=
  ((hf_B_X20_pitch fig a1 a2 a3) - a3)
theorem hw_B_X13_pitch (l : Launch) (E : hd_EV) (S : hd_St) (a0 : Nat) (hc : hd_cb S a0 = true) (a1 : Int32) (a2 : Int32) (a3 : Int32) : hd_Mt l E yX13_pitch cX13_pitch 4 (some .int) (hd_Rm 4 0 0) [.ref a0, .int a1, .int a2, .int a3] S (some (.int (hf_B_X13_pitch ((hd_P S a0).2.2 0) a1 a2 a3))) S := by
  obtain ⟨y, h⟩ : ∃ y, hf_B_X13_pitch ((hd_P S a0).2.2 0) a1 a2 a3 = y := ⟨_, rfl⟩
  rw [h]
  refine hd_Mt.start [(0, .ref a0), (1, .int a1), (2, .int a2), (3, .int a3)] hd_pnX13 rfl (Nat.le_of_ble_eq_true rfl) (fun κ X hl hr hn => ?_)
  have X : hd_Cx κ E cX13_pitch RX13 4 (hd_Rm 4 0 0) := X
  unfold hf_B_X13_pitch at h
  refine hv_aload_n X dX13_pitch_0 0 rfl ?_
  refine hv_iload_n X dX13_pitch_1 1 rfl ?_
  refine hv_iload_n X dX13_pitch_2 2 rfl ?_
  refine hv_iload_n X dX13_pitch_3 3 rfl ?_
  refine hv_super X (na := 3) (x := ⟨"BladeBetweenThumbs$Sounding", "pitch", "(III)I"⟩) (y := yX20_pitch) (owner := "BladeBetweenThumbs$Sounds") hc (hw_B_X20_pitch _ E S a0 hc a1 a2 a3) (X.dw (List.mem_of_getElem? (i := 18) rfl)) (X.dw (List.mem_of_getElem? (i := 19) rfl)) q386 rfl q651 q1728 q652 (by decide +kernel) (by decide +kernel) (hd_foundD X (by decide +kernel) (X.dw (List.mem_of_getElem? (i := 19) rfl)) rfl q651 (List.mem_of_getElem? (i := 21) rfl)) dX13_pitch_4 (by decide) (by decide) (Nat.zero_le _) (Nat.zero_le _) rfl rfl (Nat.le_of_ble_eq_true rfl) rfl ?_
  refine hv_iload_n X dX13_pitch_7 3 rfl ?_
  refine hv_isub X dX13_pitch_8 ?_
  subst h
  exact hv_iret X hr dX13_pitch_9 (Nat.zero_le _) (Nat.zero_le _)
def hf_B_X13_cost (fig : Int32) : Int32 :=
  ((hf_B_X10_cost fig) + 2)
theorem hw_B_X13_cost (l : Launch) (E : hd_EV) (S : hd_St) (a0 : Nat) (hc : hd_cb S a0 = true) : hd_Mt l E yX13_cost cX13_cost 1 (some .int) (hd_Rm 6 0 0) [.ref a0] S (some (.int (hf_B_X13_cost ((hd_P S a0).2.2 0)))) S := by
  obtain ⟨y, h⟩ : ∃ y, hf_B_X13_cost ((hd_P S a0).2.2 0) = y := ⟨_, rfl⟩
  rw [h]
  refine hd_Mt.start [(0, .ref a0)] hd_pnX13 rfl (Nat.le_of_ble_eq_true rfl) (fun κ X hl hr hn => ?_)
  have X : hd_Cx κ E cX13_cost RX13 1 (hd_Rm 6 0 0) := X
  unfold hf_B_X13_cost at h
  refine hv_aload_n X dX13_cost_0 0 rfl ?_
  refine hv_super X (na := 0) (x := ⟨"BladeBetweenThumbs$Sounding", "cost", "()I"⟩) (y := yX10_cost) (owner := "BladeBetweenThumbs$Sounding") hc (hw_B_X10_cost _ E S a0 hc) (X.ts _ q1120) (X.ts _ q1720) q386 rfl q1121 q85 q1122 (by decide +kernel) (by decide +kernel) (hd_foundC X (by decide +kernel) (X.ts _ q1720) rfl q1121 (fun cn co h1 h2 => hd_sub0 h1 h2)) dX13_cost_1 (by decide) (by decide) (Nat.zero_le _) (Nat.zero_le _) rfl rfl (Nat.le_of_ble_eq_true rfl) rfl ?_
  refine hv_iconst X (v := 2) dX13_cost_4 (by decide) ?_
  refine hv_iadd X dX13_cost_5 ?_
  subst h
  exact hv_iret X hr dX13_cost_6 (Nat.zero_le _) (Nat.zero_le _)
def hf_B_X14_low (fig : Int32) (a1 : Int32) (a2 : Int32) : Int32 :=
  ((hf_B_X10_low fig a1 a2) + 1)
theorem hw_B_X14_low (l : Launch) (E : hd_EV) (S : hd_St) (a0 : Nat) (hc : hd_cb S a0 = true) (a1 : Int32) (a2 : Int32) : hd_Mt l E yX14_low cX14_low 3 (some .int) (hd_Rm 4 0 0) [.ref a0, .int a1, .int a2] S (some (.int (hf_B_X14_low ((hd_P S a0).2.2 0) a1 a2))) S := by
  obtain ⟨y, h⟩ : ∃ y, hf_B_X14_low ((hd_P S a0).2.2 0) a1 a2 = y := ⟨_, rfl⟩
  rw [h]
  refine hd_Mt.start [(0, .ref a0), (1, .int a1), (2, .int a2)] hd_pnX14 rfl (Nat.le_of_ble_eq_true rfl) (fun κ X hl hr hn => ?_)
  have X : hd_Cx κ E cX14_low RX14 3 (hd_Rm 4 0 0) := X
  unfold hf_B_X14_low at h
  refine hv_aload_n X dX14_low_0 0 rfl ?_
  refine hv_iload_n X dX14_low_1 1 rfl ?_
  refine hv_iload_n X dX14_low_2 2 rfl ?_
  refine hv_super X (na := 2) (x := ⟨"BladeBetweenThumbs$Cupped", "low", "(II)I"⟩) (y := yX10_low) (owner := "BladeBetweenThumbs$Sounding") hc (hw_B_X10_low _ E S a0 hc a1 a2) (X.ts _ q488) (X.ts _ q489) q394 rfl q472 q85 q473 (by decide +kernel) (by decide +kernel) (hd_foundC X (by decide +kernel) (X.ts _ q489) rfl q472 (fun cn co h1 h2 => hd_sub1 (X.ts _ q386) h1 h2)) dX14_low_3 (by decide) (by decide) (Nat.zero_le _) (Nat.zero_le _) rfl rfl (Nat.le_of_ble_eq_true rfl) rfl ?_
  refine hv_iconst X (v := 1) dX14_low_6 (by decide) ?_
  refine hv_iadd X dX14_low_7 ?_
  subst h
  exact hv_iret X hr dX14_low_8 (Nat.zero_le _) (Nat.zero_le _)
def hf_B_X14_softest (fig : Int32) (a1 : Int32) : Int32 :=
  ((hf_B_X8_softest fig a1) / 2)
theorem hw_B_X14_softest (l : Launch) (E : hd_EV) (S : hd_St) (a0 : Nat) (hc : hd_cb S a0 = true) (a1 : Int32) : hd_Mt l E yX14_softest cX14_softest 2 (some .int) (hd_Rm 4 0 0) [.ref a0, .int a1] S (some (.int (hf_B_X14_softest ((hd_P S a0).2.2 0) a1))) S := by
  obtain ⟨y, h⟩ : ∃ y, hf_B_X14_softest ((hd_P S a0).2.2 0) a1 = y := ⟨_, rfl⟩
  rw [h]
  refine hd_Mt.start [(0, .ref a0), (1, .int a1)] hd_pnX14 rfl (Nat.le_of_ble_eq_true rfl) (fun κ X hl hr hn => ?_)
  have X : hd_Cx κ E cX14_softest RX14 2 (hd_Rm 4 0 0) := X
  unfold hf_B_X14_softest at h
  refine hv_aload_n X dX14_softest_0 0 rfl ?_
  refine hv_iload_n X dX14_softest_1 1 rfl ?_
  refine hv_super X (na := 1) (x := ⟨"BladeBetweenThumbs$Cupped", "softest", "(I)I"⟩) (y := yX8_softest) (owner := "BladeBetweenThumbs$Blow") hc (hw_B_X8_softest _ E S a0 hc a1) (X.ts _ q535) (X.ts _ q536) q394 rfl q517 q83 q530 (by decide +kernel) (by decide +kernel) (hd_foundC X (by decide +kernel) (X.ts _ q536) rfl q517 (fun cn co h1 h2 => hd_sub2 (by decide +kernel) (X.ts _ q386) (X.ts _ q362) h1 h2)) dX14_softest_2 (by decide) (by decide) (Nat.zero_le _) (Nat.zero_le _) rfl rfl (Nat.le_of_ble_eq_true rfl) rfl ?_
  refine hv_iconst X (v := 2) dX14_softest_5 (by decide) ?_
  refine hv_idivc X (by decide) dX14_softest_6 ?_
  subst h
  exact hv_iret X hr dX14_softest_7 (Nat.zero_le _) (Nat.zero_le _)
def hf_B_X14_over (fig : Int32) : Int32 :=
  ((hf_B_X19_over fig) / 2)
theorem hw_B_X14_over (l : Launch) (E : hd_EV) (S : hd_St) (a0 : Nat) (hc : hd_cb S a0 = true) : hd_Mt l E yX14_over cX14_over 1 (some .int) (hd_Rm 3 0 0) [.ref a0] S (some (.int (hf_B_X14_over ((hd_P S a0).2.2 0)))) S := by
  obtain ⟨y, h⟩ : ∃ y, hf_B_X14_over ((hd_P S a0).2.2 0) = y := ⟨_, rfl⟩
  rw [h]
  refine hd_Mt.start [(0, .ref a0)] hd_pnX14 rfl (Nat.le_of_ble_eq_true rfl) (fun κ X hl hr hn => ?_)
  have X : hd_Cx κ E cX14_over RX14 1 (hd_Rm 3 0 0) := X
  unfold hf_B_X14_over at h
  refine hv_aload_n X dX14_over_0 0 rfl ?_
  refine hv_super X (na := 0) (x := ⟨"BladeBetweenThumbs$Cupped", "over", "()I"⟩) (y := yX19_over) (owner := "BladeBetweenThumbs$Blows") hc (hw_B_X19_over _ E S a0 hc) (X.dw (List.mem_of_getElem? (i := 12) rfl)) (X.dw (List.mem_of_getElem? (i := 13) rfl)) q394 rfl q552 q1727 q553 (by decide +kernel) (by decide +kernel) (hd_foundD X (by decide +kernel) (X.dw (List.mem_of_getElem? (i := 13) rfl)) rfl q552 (List.mem_of_getElem? (i := 6) rfl)) dX14_over_1 (by decide) (by decide) (Nat.zero_le _) (Nat.zero_le _) rfl rfl (Nat.le_of_ble_eq_true rfl) rfl ?_
  refine hv_iconst X (v := 2) dX14_over_4 (by decide) ?_
  refine hv_idivc X (by decide) dX14_over_5 ?_
  subst h
  exact hv_iret X hr dX14_over_6 (Nat.zero_le _) (Nat.zero_le _)
def hf_B_X14_cost (fig : Int32) : Int32 :=
  ((hf_B_X13_cost fig) / 2)
theorem hw_B_X14_cost (l : Launch) (E : hd_EV) (S : hd_St) (a0 : Nat) (hc : hd_cb S a0 = true) : hd_Mt l E yX14_cost cX14_cost 1 (some .int) (hd_Rm 7 0 0) [.ref a0] S (some (.int (hf_B_X14_cost ((hd_P S a0).2.2 0)))) S := by
  obtain ⟨y, h⟩ : ∃ y, hf_B_X14_cost ((hd_P S a0).2.2 0) = y := ⟨_, rfl⟩
  rw [h]
  refine hd_Mt.start [(0, .ref a0)] hd_pnX14 rfl (Nat.le_of_ble_eq_true rfl) (fun κ X hl hr hn => ?_)
  have X : hd_Cx κ E cX14_cost RX14 1 (hd_Rm 7 0 0) := X
  unfold hf_B_X14_cost at h
  refine hv_aload_n X dX14_cost_0 0 rfl ?_
  refine hv_super X (na := 0) (x := ⟨"BladeBetweenThumbs$Cupped", "cost", "()I"⟩) (y := yX13_cost) (owner := "BladeBetweenThumbs$Cupped") hc (hw_B_X13_cost _ E S a0 hc) (X.ts _ q1140) (X.ts _ q1722) q394 rfl q1118 q88 q1119 (by decide +kernel) (by decide +kernel) (hd_foundC X (by decide +kernel) (X.ts _ q1722) rfl q1118 (fun cn co h1 h2 => hd_sub0 h1 h2)) dX14_cost_1 (by decide) (by decide) (Nat.zero_le _) (Nat.zero_le _) rfl rfl (Nat.le_of_ble_eq_true rfl) rfl ?_
  refine hv_iconst X (v := 2) dX14_cost_4 (by decide) ?_
  refine hv_idivc X (by decide) dX14_cost_5 ?_
  subst h
  exact hv_iret X hr dX14_cost_6 (Nat.zero_le _) (Nat.zero_le _)
def hf_B_X15_wears (fig : Int32) (a1 : Int32) : Int32 :=
  ((hf_B_X17_wears fig a1) + 1)
theorem hw_B_X15_wears (l : Launch) (E : hd_EV) (S : hd_St) (a0 : Nat) (hc : hd_cb S a0 = true) (a1 : Int32) : hd_Mt l E yX15_wears cX15_wears 2 (some .int) (hd_Rm 6 0 0) [.ref a0, .int a1] S (some (.int (hf_B_X15_wears ((hd_P S a0).2.2 0) a1))) S := by
  obtain ⟨y, h⟩ : ∃ y, hf_B_X15_wears ((hd_P S a0).2.2 0) a1 = y := ⟨_, rfl⟩
  rw [h]
  refine hd_Mt.start [(0, .ref a0), (1, .int a1)] hd_pnX15 rfl (Nat.le_of_ble_eq_true rfl) (fun κ X hl hr hn => ?_)
  have X : hd_Cx κ E cX15_wears RX15 2 (hd_Rm 6 0 0) := X
  unfold hf_B_X15_wears at h
  refine hv_aload_n X dX15_wears_0 0 rfl ?_
  refine hv_iload_n X dX15_wears_1 1 rfl ?_
  refine hv_super X (na := 1) (x := ⟨"BladeBetweenThumbs$Empty", "wears", "(I)I"⟩) (y := yX17_wears) (owner := "BladeBetweenThumbs$Wears") hc (hw_B_X17_wears _ E S a0 hc a1) (X.dw (List.mem_of_getElem? (i := 3) rfl)) (X.dw (List.mem_of_getElem? (i := 4) rfl)) q402 rfl q437 q1725 q438 (by decide +kernel) (by decide +kernel) (hd_foundD X (by decide +kernel) (X.dw (List.mem_of_getElem? (i := 4) rfl)) rfl q437 (List.mem_of_getElem? (i := 11) rfl)) dX15_wears_2 (by decide) (by decide) (Nat.zero_le _) (Nat.zero_le _) rfl rfl (Nat.le_of_ble_eq_true rfl) rfl ?_
  refine hv_iconst X (v := 1) dX15_wears_5 (by decide) ?_
  refine hv_iadd X dX15_wears_6 ?_
  subst h
  exact hv_iret X hr dX15_wears_7 (Nat.zero_le _) (Nat.zero_le _)
def hf_B_X15_cost (fig : Int32) : Int32 :=
  ((hf_B_X9_cost fig) + fig)
theorem hw_B_X15_cost (l : Launch) (E : hd_EV) (S : hd_St) (a0 : Nat) (hc : hd_cb S a0 = true) : hd_Mt l E yX15_cost cX15_cost 1 (some .int) (hd_Rm 8 0 0) [.ref a0] S (some (.int (hf_B_X15_cost ((hd_P S a0).2.2 0)))) S := by
  obtain ⟨y, h⟩ : ∃ y, hf_B_X15_cost ((hd_P S a0).2.2 0) = y := ⟨_, rfl⟩
  rw [h]
  refine hd_Mt.start [(0, .ref a0)] hd_pnX15 rfl (Nat.le_of_ble_eq_true rfl) (fun κ X hl hr hn => ?_)
  have X : hd_Cx κ E cX15_cost RX15 1 (hd_Rm 8 0 0) := X
  unfold hf_B_X15_cost at h
  refine hv_aload_n X dX15_cost_0 0 rfl ?_
  refine hv_super X (na := 0) (x := ⟨"BladeBetweenThumbs$Empty", "cost", "()I"⟩) (y := yX9_cost) (owner := "BladeBetweenThumbs$Empty") hc (hw_B_X9_cost _ E S a0 hc) (X.ts _ q1136) (X.ts _ q1721) q402 rfl q1126 q84 q1127 (by decide +kernel) (by decide +kernel) (hd_foundC X (by decide +kernel) (X.ts _ q1721) rfl q1126 (fun cn co h1 h2 => hd_sub0 h1 h2)) dX15_cost_1 (by decide) (by decide) (Nat.zero_le _) (Nat.zero_le _) rfl rfl (Nat.le_of_ble_eq_true rfl) rfl ?_
  refine hv_aload_n X dX15_cost_4 0 rfl ?_
  refine hg_B_fig X hc (fun x9 h9 => u_same (X.ts _ q340) x9 h9) q339 dX15_cost_5 ?_
  refine hv_iadd X dX15_cost_8 ?_
  subst h
  exact hv_iret X hr dX15_cost_9 (Nat.zero_le _) (Nat.zero_le _)
def hb_low (t : Nat) (fig : Int32) (a1 : Int32) (a2 : Int32) : Int32 := if t = 0 then hf_B_X8_low fig a1 a2 else if t = 1 then hf_B_X8_low fig a1 a2 else if t = 2 then hf_B_X10_low fig a1 a2 else if t = 3 then hf_B_X11_low fig a1 a2 else if t = 4 then hf_B_X8_low fig a1 a2 else if t = 5 then hf_B_X10_low fig a1 a2 else if t = 6 then hf_B_X14_low fig a1 a2 else hf_B_X8_low fig a1 a2
theorem hv_bl_low {κ : hd_VK} {E : hd_EV} {nL cells slots n c k : Nat} {Q : State → Prop} {S : hd_St} {pc : Nat} {lv : List (Nat × Value)} {st : List Value} {cc : ByteArray} {own : String} (X : hd_Cx κ E cc own nL (hd_Rm n c k)) {a index : Nat} {a1 : Int32} {a2 : Int32} {α : Type} {o : Option α} {r : α} (h : (if hd_cb S a = true then o else none) = some r) (hlink : (Cond.methodLink own index ⟨"BladeBetweenThumbs$Blow", "low", "(II)I"⟩).before (hd_kA κ) (hd_kS κ) = true) (hd : decode cc pc = .ok (.invokevirtual index, 3)) (hmn : 8 < n) (hcc : cells ≤ c) (hss : slots ≤ k) (hrm : (st.map fun v => v.category).sum ≤ 8) (kk : o = some r → hd_V κ E nL cells slots Q S (pc + 3) lv (.int (hb_low (hd_P S a).1 ((hd_P S a).2.2 0) a1 a2) :: st)) : hd_V κ E nL cells slots Q S pc lv (.int a2 :: .int a1 :: .ref a :: st) := by
  obtain ⟨hc, h⟩ := hd_if h
  have kk := kk h
  obtain ⟨hin, ht⟩ := of_decide_eq_true hc
  obtain ⟨k2, hkk⟩ := hd_pool E hin
  rw [hd_pE_b ht] at hkk
  have h8 : (hd_P S a).1 = 0 ∨ (hd_P S a).1 = 1 ∨ (hd_P S a).1 = 2 ∨ (hd_P S a).1 = 3 ∨ (hd_P S a).1 = 4 ∨ (hd_P S a).1 = 5 ∨ (hd_P S a).1 = 6 ∨ (hd_P S a).1 = 7 := by omega
  rcases h8 with h8 | h8 | h8 | h8 | h8 | h8 | h8 | h8
  · rw [h8] at hkk kk
    refine hv_virt X (na := 2) (C := "BladeBetweenThumbs$Blow") (owner := "BladeBetweenThumbs$Blow") (x := ⟨"BladeBetweenThumbs$Blow", "low", "(II)I"⟩) (y := yX8_low) ⟨k2, 8, _, _, hkk, rfl, rfl⟩ (hw_B_X8_low _ E S a hc a1 a2) hlink (X.ts _ q470) (by decide +kernel) (hd_Sel.ofS (va_Decl.of (X.ts _ q468) (X.ts _ q475)) (by decide +kernel) (X.ts _ q469) (X.ts _ q468)) q83 q475 (by decide +kernel) hd (by have := hmn; omega) (by decide) hcc hss rfl rfl hrm rfl ?_
    exact kk
  · rw [h8] at hkk kk
    refine hv_virt X (na := 2) (C := "BladeBetweenThumbs$Empty") (owner := "BladeBetweenThumbs$Blow") (x := ⟨"BladeBetweenThumbs$Blow", "low", "(II)I"⟩) (y := yX8_low) ⟨k2, 9, _, _, hkk, rfl, rfl⟩ (hw_B_X8_low _ E S a hc a1 a2) hlink (X.ts _ q470) (by decide +kernel) (hd_Sel.ofS (va_Decl.of (X.ts _ q468) (X.ts _ q475)) (by decide +kernel) (X.ts _ q479) (X.ts _ q468)) q83 q475 (by decide +kernel) hd (by have := hmn; omega) (by decide) hcc hss rfl rfl hrm rfl ?_
    exact kk
  · rw [h8] at hkk kk
    refine hv_virt X (na := 2) (C := "BladeBetweenThumbs$Sounding") (owner := "BladeBetweenThumbs$Blow") (x := ⟨"BladeBetweenThumbs$Blow", "low", "(II)I"⟩) (y := yX10_low) ⟨k2, 10, _, _, hkk, rfl, rfl⟩ (hw_B_X10_low _ E S a hc a1 a2) hlink (X.ts _ q470) (by decide +kernel) (hd_Sel.ofS (va_Decl.of (X.ts _ q468) (X.ts _ q475)) (by decide +kernel) (X.ts _ q491) (X.ts _ q472)) q85 q473 (by decide +kernel) hd (by have := hmn; omega) (by decide) hcc hss rfl rfl hrm rfl ?_
    exact kk
  · rw [h8] at hkk kk
    refine hv_virt X (na := 2) (C := "BladeBetweenThumbs$Shrieking") (owner := "BladeBetweenThumbs$Blow") (x := ⟨"BladeBetweenThumbs$Blow", "low", "(II)I"⟩) (y := yX11_low) ⟨k2, 11, _, _, hkk, rfl, rfl⟩ (hw_B_X11_low _ E S a hc a1 a2) hlink (X.ts _ q470) (by decide +kernel) (hd_Sel.ofS (va_Decl.of (X.ts _ q468) (X.ts _ q475)) (by decide +kernel) (X.ts _ q480) (X.ts _ q481)) q86 q482 (by decide +kernel) hd (by have := hmn; omega) (by decide) hcc hss rfl rfl hrm rfl ?_
    exact kk
  · rw [h8] at hkk kk
    refine hv_virt X (na := 2) (C := "BladeBetweenThumbs$Splitting") (owner := "BladeBetweenThumbs$Blow") (x := ⟨"BladeBetweenThumbs$Blow", "low", "(II)I"⟩) (y := yX8_low) ⟨k2, 12, _, _, hkk, rfl, rfl⟩ (hw_B_X8_low _ E S a hc a1 a2) hlink (X.ts _ q470) (by decide +kernel) (hd_Sel.ofS (va_Decl.of (X.ts _ q468) (X.ts _ q475)) (by decide +kernel) (X.ts _ q492) (X.ts _ q468)) q83 q475 (by decide +kernel) hd (by have := hmn; omega) (by decide) hcc hss rfl rfl hrm rfl ?_
    exact kk
  · rw [h8] at hkk kk
    refine hv_virt X (na := 2) (C := "BladeBetweenThumbs$Cupped") (owner := "BladeBetweenThumbs$Blow") (x := ⟨"BladeBetweenThumbs$Blow", "low", "(II)I"⟩) (y := yX10_low) ⟨k2, 13, _, _, hkk, rfl, rfl⟩ (hw_B_X10_low _ E S a hc a1 a2) hlink (X.ts _ q470) (by decide +kernel) (hd_Sel.ofS (va_Decl.of (X.ts _ q468) (X.ts _ q475)) (by decide +kernel) (X.ts _ q471) (X.ts _ q472)) q85 q473 (by decide +kernel) hd (by have := hmn; omega) (by decide) hcc hss rfl rfl hrm rfl ?_
    exact kk
  · rw [h8] at hkk kk
    refine hv_virt X (na := 2) (C := "BladeBetweenThumbs$Soft") (owner := "BladeBetweenThumbs$Blow") (x := ⟨"BladeBetweenThumbs$Blow", "low", "(II)I"⟩) (y := yX14_low) ⟨k2, 14, _, _, hkk, rfl, rfl⟩ (hw_B_X14_low _ E S a hc a1 a2) hlink (X.ts _ q470) (by decide +kernel) (hd_Sel.ofS (va_Decl.of (X.ts _ q468) (X.ts _ q475)) (by decide +kernel) (X.ts _ q485) (X.ts _ q486)) q89 q487 (by decide +kernel) hd (by have := hmn; omega) (by decide) hcc hss rfl rfl hrm rfl ?_
    exact kk
  · rw [h8] at hkk kk
    refine hv_virt X (na := 2) (C := "BladeBetweenThumbs$Slipped") (owner := "BladeBetweenThumbs$Blow") (x := ⟨"BladeBetweenThumbs$Blow", "low", "(II)I"⟩) (y := yX8_low) ⟨k2, 15, _, _, hkk, rfl, rfl⟩ (hw_B_X8_low _ E S a hc a1 a2) hlink (X.ts _ q470) (by decide +kernel) (hd_Sel.ofS (va_Decl.of (X.ts _ q468) (X.ts _ q475)) (by decide +kernel) (X.ts _ q484) (X.ts _ q468)) q83 q475 (by decide +kernel) hd (by have := hmn; omega) (by decide) hcc hss rfl rfl hrm rfl ?_
    exact kk
def hb_above (t : Nat) (fig : Int32) (a1 : Int32) : Int32 := if t = 0 then hf_B_X18_above fig a1 else if t = 1 then hf_B_X18_above fig a1 else if t = 2 then hf_B_X18_above fig a1 else if t = 3 then hf_B_X11_above fig a1 else if t = 4 then hf_B_X18_above fig a1 else if t = 5 then hf_B_X18_above fig a1 else if t = 6 then hf_B_X18_above fig a1 else hf_B_X18_above fig a1
theorem hv_bl_above {κ : hd_VK} {E : hd_EV} {nL cells slots n c k : Nat} {Q : State → Prop} {S : hd_St} {pc : Nat} {lv : List (Nat × Value)} {st : List Value} {cc : ByteArray} {own : String} (X : hd_Cx κ E cc own nL (hd_Rm n c k)) {a index : Nat} {a1 : Int32} {α : Type} {o : Option α} {r : α} (h : (if hd_cb S a = true then o else none) = some r) (hlink : (Cond.methodLink own index ⟨"BladeBetweenThumbs$Blow", "above", "(I)I"⟩).before (hd_kA κ) (hd_kS κ) = true) (hd : decode cc pc = .ok (.invokevirtual index, 3)) (hmn : 8 < n) (hcc : cells ≤ c) (hss : slots ≤ k) (hrm : (st.map fun v => v.category).sum ≤ 8) (kk : o = some r → hd_V κ E nL cells slots Q S (pc + 3) lv (.int (hb_above (hd_P S a).1 ((hd_P S a).2.2 0) a1) :: st)) : hd_V κ E nL cells slots Q S pc lv (.int a1 :: .ref a :: st) := by
  obtain ⟨hc, h⟩ := hd_if h
  have kk := kk h
  obtain ⟨hin, ht⟩ := of_decide_eq_true hc
  obtain ⟨k2, hkk⟩ := hd_pool E hin
  rw [hd_pE_b ht] at hkk
  have h8 : (hd_P S a).1 = 0 ∨ (hd_P S a).1 = 1 ∨ (hd_P S a).1 = 2 ∨ (hd_P S a).1 = 3 ∨ (hd_P S a).1 = 4 ∨ (hd_P S a).1 = 5 ∨ (hd_P S a).1 = 6 ∨ (hd_P S a).1 = 7 := by omega
  rcases h8 with h8 | h8 | h8 | h8 | h8 | h8 | h8 | h8
  · rw [h8] at hkk kk
    refine hv_virt X (na := 1) (C := "BladeBetweenThumbs$Blow") (owner := "BladeBetweenThumbs$Stretches") (x := ⟨"BladeBetweenThumbs$Blow", "above", "(I)I"⟩) (y := yX18_above) ⟨k2, 8, _, _, hkk, rfl, rfl⟩ (hw_B_X18_above _ E S a hc a1) hlink (X.dw (List.mem_of_getElem? (i := 7) rfl)) (by decide +kernel) (hd_Sel.ofD (va_Decl.abs (X.nw q498 rfl)) (X.dw (List.mem_of_getElem? (i := 7) rfl)) (X.li (List.mem_of_getElem? (i := 0) rfl)) (X.ts _ q505)) q1726 q506 (by decide +kernel) hd (by have := hmn; omega) (by decide) hcc hss rfl rfl hrm rfl ?_
    exact kk
  · rw [h8] at hkk kk
    refine hv_virt X (na := 1) (C := "BladeBetweenThumbs$Empty") (owner := "BladeBetweenThumbs$Stretches") (x := ⟨"BladeBetweenThumbs$Blow", "above", "(I)I"⟩) (y := yX18_above) ⟨k2, 9, _, _, hkk, rfl, rfl⟩ (hw_B_X18_above _ E S a hc a1) hlink (X.dw (List.mem_of_getElem? (i := 7) rfl)) (by decide +kernel) (hd_Sel.ofD (va_Decl.abs (X.nw q498 rfl)) (X.dw (List.mem_of_getElem? (i := 7) rfl)) (X.li (List.mem_of_getElem? (i := 7) rfl)) (X.ts _ q505)) q1726 q506 (by decide +kernel) hd (by have := hmn; omega) (by decide) hcc hss rfl rfl hrm rfl ?_
    exact kk
  · rw [h8] at hkk kk
    refine hv_virt X (na := 1) (C := "BladeBetweenThumbs$Sounding") (owner := "BladeBetweenThumbs$Stretches") (x := ⟨"BladeBetweenThumbs$Blow", "above", "(I)I"⟩) (y := yX18_above) ⟨k2, 10, _, _, hkk, rfl, rfl⟩ (hw_B_X18_above _ E S a hc a1) hlink (X.dw (List.mem_of_getElem? (i := 7) rfl)) (by decide +kernel) (hd_Sel.ofD (va_Decl.abs (X.nw q498 rfl)) (X.dw (List.mem_of_getElem? (i := 7) rfl)) (X.li (List.mem_of_getElem? (i := 17) rfl)) (X.ts _ q505)) q1726 q506 (by decide +kernel) hd (by have := hmn; omega) (by decide) hcc hss rfl rfl hrm rfl ?_
    exact kk
  · rw [h8] at hkk kk
    refine hv_virt X (na := 1) (C := "BladeBetweenThumbs$Shrieking") (owner := "BladeBetweenThumbs$Stretches") (x := ⟨"BladeBetweenThumbs$Blow", "above", "(I)I"⟩) (y := yX11_above) ⟨k2, 11, _, _, hkk, rfl, rfl⟩ (hw_B_X11_above _ E S a hc a1) hlink (X.dw (List.mem_of_getElem? (i := 7) rfl)) (by decide +kernel) (hd_Sel.ofS (va_Decl.abs (X.nw q498 rfl)) (by decide +kernel) (X.ts _ q502) (X.ts _ q503)) q86 q504 (by decide +kernel) hd (by have := hmn; omega) (by decide) hcc hss rfl rfl hrm rfl ?_
    exact kk
  · rw [h8] at hkk kk
    refine hv_virt X (na := 1) (C := "BladeBetweenThumbs$Splitting") (owner := "BladeBetweenThumbs$Stretches") (x := ⟨"BladeBetweenThumbs$Blow", "above", "(I)I"⟩) (y := yX18_above) ⟨k2, 12, _, _, hkk, rfl, rfl⟩ (hw_B_X18_above _ E S a hc a1) hlink (X.dw (List.mem_of_getElem? (i := 7) rfl)) (by decide +kernel) (hd_Sel.ofD (va_Decl.abs (X.nw q498 rfl)) (X.dw (List.mem_of_getElem? (i := 7) rfl)) (X.li (List.mem_of_getElem? (i := 22) rfl)) (X.ts _ q505)) q1726 q506 (by decide +kernel) hd (by have := hmn; omega) (by decide) hcc hss rfl rfl hrm rfl ?_
    exact kk
  · rw [h8] at hkk kk
    refine hv_virt X (na := 1) (C := "BladeBetweenThumbs$Cupped") (owner := "BladeBetweenThumbs$Stretches") (x := ⟨"BladeBetweenThumbs$Blow", "above", "(I)I"⟩) (y := yX18_above) ⟨k2, 13, _, _, hkk, rfl, rfl⟩ (hw_B_X18_above _ E S a hc a1) hlink (X.dw (List.mem_of_getElem? (i := 7) rfl)) (by decide +kernel) (hd_Sel.ofD (va_Decl.abs (X.nw q498 rfl)) (X.dw (List.mem_of_getElem? (i := 7) rfl)) (X.li (List.mem_of_getElem? (i := 4) rfl)) (X.ts _ q505)) q1726 q506 (by decide +kernel) hd (by have := hmn; omega) (by decide) hcc hss rfl rfl hrm rfl ?_
    exact kk
  · rw [h8] at hkk kk
    refine hv_virt X (na := 1) (C := "BladeBetweenThumbs$Soft") (owner := "BladeBetweenThumbs$Stretches") (x := ⟨"BladeBetweenThumbs$Blow", "above", "(I)I"⟩) (y := yX18_above) ⟨k2, 14, _, _, hkk, rfl, rfl⟩ (hw_B_X18_above _ E S a hc a1) hlink (X.dw (List.mem_of_getElem? (i := 7) rfl)) (by decide +kernel) (hd_Sel.ofD (va_Decl.abs (X.nw q498 rfl)) (X.dw (List.mem_of_getElem? (i := 7) rfl)) (X.li (List.mem_of_getElem? (i := 16) rfl)) (X.ts _ q505)) q1726 q506 (by decide +kernel) hd (by have := hmn; omega) (by decide) hcc hss rfl rfl hrm rfl ?_
    exact kk
  · rw [h8] at hkk kk
    refine hv_virt X (na := 1) (C := "BladeBetweenThumbs$Slipped") (owner := "BladeBetweenThumbs$Stretches") (x := ⟨"BladeBetweenThumbs$Blow", "above", "(I)I"⟩) (y := yX18_above) ⟨k2, 15, _, _, hkk, rfl, rfl⟩ (hw_B_X18_above _ E S a hc a1) hlink (X.dw (List.mem_of_getElem? (i := 7) rfl)) (by decide +kernel) (hd_Sel.ofD (va_Decl.abs (X.nw q498 rfl)) (X.dw (List.mem_of_getElem? (i := 7) rfl)) (X.li (List.mem_of_getElem? (i := 13) rfl)) (X.ts _ q505)) q1726 q506 (by decide +kernel) hd (by have := hmn; omega) (by decide) hcc hss rfl rfl hrm rfl ?_
    exact kk
def hb_softest (t : Nat) (fig : Int32) (a1 : Int32) : Int32 := if t = 0 then hf_B_X8_softest fig a1 else if t = 1 then hf_B_X9_softest fig a1 else if t = 2 then hf_B_X8_softest fig a1 else if t = 3 then hf_B_X11_softest fig a1 else if t = 4 then hf_B_X8_softest fig a1 else if t = 5 then hf_B_X8_softest fig a1 else if t = 6 then hf_B_X14_softest fig a1 else hf_B_X9_softest fig a1
theorem hv_bl_softest {κ : hd_VK} {E : hd_EV} {nL cells slots n c k : Nat} {Q : State → Prop} {S : hd_St} {pc : Nat} {lv : List (Nat × Value)} {st : List Value} {cc : ByteArray} {own : String} (X : hd_Cx κ E cc own nL (hd_Rm n c k)) {a index : Nat} {a1 : Int32} {α : Type} {o : Option α} {r : α} (h : (if hd_cb S a = true then o else none) = some r) (hlink : (Cond.methodLink own index ⟨"BladeBetweenThumbs$Blow", "softest", "(I)I"⟩).before (hd_kA κ) (hd_kS κ) = true) (hd : decode cc pc = .ok (.invokevirtual index, 3)) (hmn : 8 < n) (hcc : cells ≤ c) (hss : slots ≤ k) (hrm : (st.map fun v => v.category).sum ≤ 8) (kk : o = some r → hd_V κ E nL cells slots Q S (pc + 3) lv (.int (hb_softest (hd_P S a).1 ((hd_P S a).2.2 0) a1) :: st)) : hd_V κ E nL cells slots Q S pc lv (.int a1 :: .ref a :: st) := by
  obtain ⟨hc, h⟩ := hd_if h
  have kk := kk h
  obtain ⟨hin, ht⟩ := of_decide_eq_true hc
  obtain ⟨k2, hkk⟩ := hd_pool E hin
  rw [hd_pE_b ht] at hkk
  have h8 : (hd_P S a).1 = 0 ∨ (hd_P S a).1 = 1 ∨ (hd_P S a).1 = 2 ∨ (hd_P S a).1 = 3 ∨ (hd_P S a).1 = 4 ∨ (hd_P S a).1 = 5 ∨ (hd_P S a).1 = 6 ∨ (hd_P S a).1 = 7 := by omega
  rcases h8 with h8 | h8 | h8 | h8 | h8 | h8 | h8 | h8
  · rw [h8] at hkk kk
    refine hv_virt X (na := 1) (C := "BladeBetweenThumbs$Blow") (owner := "BladeBetweenThumbs$Blow") (x := ⟨"BladeBetweenThumbs$Blow", "softest", "(I)I"⟩) (y := yX8_softest) ⟨k2, 8, _, _, hkk, rfl, rfl⟩ (hw_B_X8_softest _ E S a hc a1) hlink (X.ts _ q519) (by decide +kernel) (hd_Sel.ofS (va_Decl.abs (X.nw q529 rfl)) (by decide +kernel) (X.ts _ q518) (X.ts _ q517)) q83 q530 (by decide +kernel) hd (by have := hmn; omega) (by decide) hcc hss rfl rfl hrm rfl ?_
    exact kk
  · rw [h8] at hkk kk
    refine hv_virt X (na := 1) (C := "BladeBetweenThumbs$Empty") (owner := "BladeBetweenThumbs$Blow") (x := ⟨"BladeBetweenThumbs$Blow", "softest", "(I)I"⟩) (y := yX9_softest) ⟨k2, 9, _, _, hkk, rfl, rfl⟩ (hw_B_X9_softest _ E S a hc a1) hlink (X.ts _ q519) (by decide +kernel) (hd_Sel.ofS (va_Decl.abs (X.nw q529 rfl)) (by decide +kernel) (X.ts _ q521) (X.ts _ q522)) q84 q523 (by decide +kernel) hd (by have := hmn; omega) (by decide) hcc hss rfl rfl hrm rfl ?_
    exact kk
  · rw [h8] at hkk kk
    refine hv_virt X (na := 1) (C := "BladeBetweenThumbs$Sounding") (owner := "BladeBetweenThumbs$Blow") (x := ⟨"BladeBetweenThumbs$Blow", "softest", "(I)I"⟩) (y := yX8_softest) ⟨k2, 10, _, _, hkk, rfl, rfl⟩ (hw_B_X8_softest _ E S a hc a1) hlink (X.ts _ q519) (by decide +kernel) (hd_Sel.ofS (va_Decl.abs (X.nw q529 rfl)) (by decide +kernel) (X.ts _ q537) (X.ts _ q517)) q83 q530 (by decide +kernel) hd (by have := hmn; omega) (by decide) hcc hss rfl rfl hrm rfl ?_
    exact kk
  · rw [h8] at hkk kk
    refine hv_virt X (na := 1) (C := "BladeBetweenThumbs$Shrieking") (owner := "BladeBetweenThumbs$Blow") (x := ⟨"BladeBetweenThumbs$Blow", "softest", "(I)I"⟩) (y := yX11_softest) ⟨k2, 11, _, _, hkk, rfl, rfl⟩ (hw_B_X11_softest _ E S a hc a1) hlink (X.ts _ q519) (by decide +kernel) (hd_Sel.ofS (va_Decl.abs (X.nw q529 rfl)) (by decide +kernel) (X.ts _ q524) (X.ts _ q525)) q86 q526 (by decide +kernel) hd (by have := hmn; omega) (by decide) hcc hss rfl rfl hrm rfl ?_
    exact kk
  · rw [h8] at hkk kk
    refine hv_virt X (na := 1) (C := "BladeBetweenThumbs$Splitting") (owner := "BladeBetweenThumbs$Blow") (x := ⟨"BladeBetweenThumbs$Blow", "softest", "(I)I"⟩) (y := yX8_softest) ⟨k2, 12, _, _, hkk, rfl, rfl⟩ (hw_B_X8_softest _ E S a hc a1) hlink (X.ts _ q519) (by decide +kernel) (hd_Sel.ofS (va_Decl.abs (X.nw q529 rfl)) (by decide +kernel) (X.ts _ q538) (X.ts _ q517)) q83 q530 (by decide +kernel) hd (by have := hmn; omega) (by decide) hcc hss rfl rfl hrm rfl ?_
    exact kk
  · rw [h8] at hkk kk
    refine hv_virt X (na := 1) (C := "BladeBetweenThumbs$Cupped") (owner := "BladeBetweenThumbs$Blow") (x := ⟨"BladeBetweenThumbs$Blow", "softest", "(I)I"⟩) (y := yX8_softest) ⟨k2, 13, _, _, hkk, rfl, rfl⟩ (hw_B_X8_softest _ E S a hc a1) hlink (X.ts _ q519) (by decide +kernel) (hd_Sel.ofS (va_Decl.abs (X.nw q529 rfl)) (by decide +kernel) (X.ts _ q520) (X.ts _ q517)) q83 q530 (by decide +kernel) hd (by have := hmn; omega) (by decide) hcc hss rfl rfl hrm rfl ?_
    exact kk
  · rw [h8] at hkk kk
    refine hv_virt X (na := 1) (C := "BladeBetweenThumbs$Soft") (owner := "BladeBetweenThumbs$Blow") (x := ⟨"BladeBetweenThumbs$Blow", "softest", "(I)I"⟩) (y := yX14_softest) ⟨k2, 14, _, _, hkk, rfl, rfl⟩ (hw_B_X14_softest _ E S a hc a1) hlink (X.ts _ q519) (by decide +kernel) (hd_Sel.ofS (va_Decl.abs (X.nw q529 rfl)) (by decide +kernel) (X.ts _ q532) (X.ts _ q533)) q89 q534 (by decide +kernel) hd (by have := hmn; omega) (by decide) hcc hss rfl rfl hrm rfl ?_
    exact kk
  · rw [h8] at hkk kk
    refine hv_virt X (na := 1) (C := "BladeBetweenThumbs$Slipped") (owner := "BladeBetweenThumbs$Blow") (x := ⟨"BladeBetweenThumbs$Blow", "softest", "(I)I"⟩) (y := yX9_softest) ⟨k2, 15, _, _, hkk, rfl, rfl⟩ (hw_B_X9_softest _ E S a hc a1) hlink (X.ts _ q519) (by decide +kernel) (hd_Sel.ofS (va_Decl.abs (X.nw q529 rfl)) (by decide +kernel) (X.ts _ q531) (X.ts _ q522)) q84 q523 (by decide +kernel) hd (by have := hmn; omega) (by decide) hcc hss rfl rfl hrm rfl ?_
    exact kk
def hb_over (t : Nat) (fig : Int32) : Int32 := if t = 0 then hf_B_X19_over fig else if t = 1 then hf_B_X19_over fig else if t = 2 then hf_B_X19_over fig else if t = 3 then hf_B_X19_over fig else if t = 4 then hf_B_X12_over fig else if t = 5 then hf_B_X19_over fig else if t = 6 then hf_B_X14_over fig else hf_B_X19_over fig
theorem hv_bl_over {κ : hd_VK} {E : hd_EV} {nL cells slots n c k : Nat} {Q : State → Prop} {S : hd_St} {pc : Nat} {lv : List (Nat × Value)} {st : List Value} {cc : ByteArray} {own : String} (X : hd_Cx κ E cc own nL (hd_Rm n c k)) {a index : Nat} {α : Type} {o : Option α} {r : α} (h : (if hd_cb S a = true then o else none) = some r) (hlink : (Cond.methodLink own index ⟨"BladeBetweenThumbs$Blow", "over", "()I"⟩).before (hd_kA κ) (hd_kS κ) = true) (hd : decode cc pc = .ok (.invokevirtual index, 3)) (hmn : 8 < n) (hcc : cells ≤ c) (hss : slots ≤ k) (hrm : (st.map fun v => v.category).sum ≤ 8) (kk : o = some r → hd_V κ E nL cells slots Q S (pc + 3) lv (.int (hb_over (hd_P S a).1 ((hd_P S a).2.2 0)) :: st)) : hd_V κ E nL cells slots Q S pc lv (.ref a :: st) := by
  obtain ⟨hc, h⟩ := hd_if h
  have kk := kk h
  obtain ⟨hin, ht⟩ := of_decide_eq_true hc
  obtain ⟨k2, hkk⟩ := hd_pool E hin
  rw [hd_pE_b ht] at hkk
  have h8 : (hd_P S a).1 = 0 ∨ (hd_P S a).1 = 1 ∨ (hd_P S a).1 = 2 ∨ (hd_P S a).1 = 3 ∨ (hd_P S a).1 = 4 ∨ (hd_P S a).1 = 5 ∨ (hd_P S a).1 = 6 ∨ (hd_P S a).1 = 7 := by omega
  rcases h8 with h8 | h8 | h8 | h8 | h8 | h8 | h8 | h8
  · rw [h8] at hkk kk
    refine hv_virt X (na := 0) (C := "BladeBetweenThumbs$Blow") (owner := "BladeBetweenThumbs$Blows") (x := ⟨"BladeBetweenThumbs$Blow", "over", "()I"⟩) (y := yX19_over) ⟨k2, 8, _, _, hkk, rfl, rfl⟩ (hw_B_X19_over _ E S a hc) hlink (X.dw (List.mem_of_getElem? (i := 11) rfl)) (by decide +kernel) (hd_Sel.ofD (va_Decl.abs (X.nw q543 rfl)) (X.dw (List.mem_of_getElem? (i := 11) rfl)) (X.li (List.mem_of_getElem? (i := 1) rfl)) (X.ts _ q552)) q1727 q553 (by decide +kernel) hd (by have := hmn; omega) (by decide) hcc hss rfl rfl hrm rfl ?_
    exact kk
  · rw [h8] at hkk kk
    refine hv_virt X (na := 0) (C := "BladeBetweenThumbs$Empty") (owner := "BladeBetweenThumbs$Blows") (x := ⟨"BladeBetweenThumbs$Blow", "over", "()I"⟩) (y := yX19_over) ⟨k2, 9, _, _, hkk, rfl, rfl⟩ (hw_B_X19_over _ E S a hc) hlink (X.dw (List.mem_of_getElem? (i := 11) rfl)) (by decide +kernel) (hd_Sel.ofD (va_Decl.abs (X.nw q543 rfl)) (X.dw (List.mem_of_getElem? (i := 11) rfl)) (X.li (List.mem_of_getElem? (i := 8) rfl)) (X.ts _ q552)) q1727 q553 (by decide +kernel) hd (by have := hmn; omega) (by decide) hcc hss rfl rfl hrm rfl ?_
    exact kk
  · rw [h8] at hkk kk
    refine hv_virt X (na := 0) (C := "BladeBetweenThumbs$Sounding") (owner := "BladeBetweenThumbs$Blows") (x := ⟨"BladeBetweenThumbs$Blow", "over", "()I"⟩) (y := yX19_over) ⟨k2, 10, _, _, hkk, rfl, rfl⟩ (hw_B_X19_over _ E S a hc) hlink (X.dw (List.mem_of_getElem? (i := 11) rfl)) (by decide +kernel) (hd_Sel.ofD (va_Decl.abs (X.nw q543 rfl)) (X.dw (List.mem_of_getElem? (i := 11) rfl)) (X.li (List.mem_of_getElem? (i := 18) rfl)) (X.ts _ q552)) q1727 q553 (by decide +kernel) hd (by have := hmn; omega) (by decide) hcc hss rfl rfl hrm rfl ?_
    exact kk
  · rw [h8] at hkk kk
    refine hv_virt X (na := 0) (C := "BladeBetweenThumbs$Shrieking") (owner := "BladeBetweenThumbs$Blows") (x := ⟨"BladeBetweenThumbs$Blow", "over", "()I"⟩) (y := yX19_over) ⟨k2, 11, _, _, hkk, rfl, rfl⟩ (hw_B_X19_over _ E S a hc) hlink (X.dw (List.mem_of_getElem? (i := 11) rfl)) (by decide +kernel) (hd_Sel.ofD (va_Decl.abs (X.nw q543 rfl)) (X.dw (List.mem_of_getElem? (i := 11) rfl)) (X.li (List.mem_of_getElem? (i := 12) rfl)) (X.ts _ q552)) q1727 q553 (by decide +kernel) hd (by have := hmn; omega) (by decide) hcc hss rfl rfl hrm rfl ?_
    exact kk
  · rw [h8] at hkk kk
    refine hv_virt X (na := 0) (C := "BladeBetweenThumbs$Splitting") (owner := "BladeBetweenThumbs$Blows") (x := ⟨"BladeBetweenThumbs$Blow", "over", "()I"⟩) (y := yX12_over) ⟨k2, 12, _, _, hkk, rfl, rfl⟩ (hw_B_X12_over _ E S a hc) hlink (X.dw (List.mem_of_getElem? (i := 11) rfl)) (by decide +kernel) (hd_Sel.ofS (va_Decl.abs (X.nw q543 rfl)) (by decide +kernel) (X.ts _ q555) (X.ts _ q556)) q87 q557 (by decide +kernel) hd (by have := hmn; omega) (by decide) hcc hss rfl rfl hrm rfl ?_
    exact kk
  · rw [h8] at hkk kk
    refine hv_virt X (na := 0) (C := "BladeBetweenThumbs$Cupped") (owner := "BladeBetweenThumbs$Blows") (x := ⟨"BladeBetweenThumbs$Blow", "over", "()I"⟩) (y := yX19_over) ⟨k2, 13, _, _, hkk, rfl, rfl⟩ (hw_B_X19_over _ E S a hc) hlink (X.dw (List.mem_of_getElem? (i := 11) rfl)) (by decide +kernel) (hd_Sel.ofD (va_Decl.abs (X.nw q543 rfl)) (X.dw (List.mem_of_getElem? (i := 11) rfl)) (X.li (List.mem_of_getElem? (i := 5) rfl)) (X.ts _ q552)) q1727 q553 (by decide +kernel) hd (by have := hmn; omega) (by decide) hcc hss rfl rfl hrm rfl ?_
    exact kk
  · rw [h8] at hkk kk
    refine hv_virt X (na := 0) (C := "BladeBetweenThumbs$Soft") (owner := "BladeBetweenThumbs$Blows") (x := ⟨"BladeBetweenThumbs$Blow", "over", "()I"⟩) (y := yX14_over) ⟨k2, 14, _, _, hkk, rfl, rfl⟩ (hw_B_X14_over _ E S a hc) hlink (X.dw (List.mem_of_getElem? (i := 11) rfl)) (by decide +kernel) (hd_Sel.ofS (va_Decl.abs (X.nw q543 rfl)) (by decide +kernel) (X.ts _ q549) (X.ts _ q550)) q89 q551 (by decide +kernel) hd (by have := hmn; omega) (by decide) hcc hss rfl rfl hrm rfl ?_
    exact kk
  · rw [h8] at hkk kk
    refine hv_virt X (na := 0) (C := "BladeBetweenThumbs$Slipped") (owner := "BladeBetweenThumbs$Blows") (x := ⟨"BladeBetweenThumbs$Blow", "over", "()I"⟩) (y := yX19_over) ⟨k2, 15, _, _, hkk, rfl, rfl⟩ (hw_B_X19_over _ E S a hc) hlink (X.dw (List.mem_of_getElem? (i := 11) rfl)) (by decide +kernel) (hd_Sel.ofD (va_Decl.abs (X.nw q543 rfl)) (X.dw (List.mem_of_getElem? (i := 11) rfl)) (X.li (List.mem_of_getElem? (i := 14) rfl)) (X.ts _ q552)) q1727 q553 (by decide +kernel) hd (by have := hmn; omega) (by decide) hcc hss rfl rfl hrm rfl ?_
    exact kk
def hb_pitch (t : Nat) (fig : Int32) (a1 : Int32) (a2 : Int32) (a3 : Int32) : Int32 := if t = 0 then hf_B_X20_pitch fig a1 a2 a3 else if t = 1 then hf_B_X20_pitch fig a1 a2 a3 else if t = 2 then hf_B_X20_pitch fig a1 a2 a3 else if t = 3 then hf_B_X11_pitch fig a1 a2 a3 else if t = 4 then hf_B_X12_pitch fig a1 a2 a3 else if t = 5 then hf_B_X13_pitch fig a1 a2 a3 else if t = 6 then hf_B_X13_pitch fig a1 a2 a3 else hf_B_X20_pitch fig a1 a2 a3
theorem hv_bl_pitch {κ : hd_VK} {E : hd_EV} {nL cells slots n c k : Nat} {Q : State → Prop} {S : hd_St} {pc : Nat} {lv : List (Nat × Value)} {st : List Value} {cc : ByteArray} {own : String} (X : hd_Cx κ E cc own nL (hd_Rm n c k)) {a index : Nat} {a1 : Int32} {a2 : Int32} {a3 : Int32} {α : Type} {o : Option α} {r : α} (h : (if hd_cb S a = true then o else none) = some r) (hlink : (Cond.methodLink own index ⟨"BladeBetweenThumbs$Blow", "pitch", "(III)I"⟩).before (hd_kA κ) (hd_kS κ) = true) (hd : decode cc pc = .ok (.invokevirtual index, 3)) (hmn : 8 < n) (hcc : cells ≤ c) (hss : slots ≤ k) (hrm : (st.map fun v => v.category).sum ≤ 8) (kk : o = some r → hd_V κ E nL cells slots Q S (pc + 3) lv (.int (hb_pitch (hd_P S a).1 ((hd_P S a).2.2 0) a1 a2 a3) :: st)) : hd_V κ E nL cells slots Q S pc lv (.int a3 :: .int a2 :: .int a1 :: .ref a :: st) := by
  obtain ⟨hc, h⟩ := hd_if h
  have kk := kk h
  obtain ⟨hin, ht⟩ := of_decide_eq_true hc
  obtain ⟨k2, hkk⟩ := hd_pool E hin
  rw [hd_pE_b ht] at hkk
  have h8 : (hd_P S a).1 = 0 ∨ (hd_P S a).1 = 1 ∨ (hd_P S a).1 = 2 ∨ (hd_P S a).1 = 3 ∨ (hd_P S a).1 = 4 ∨ (hd_P S a).1 = 5 ∨ (hd_P S a).1 = 6 ∨ (hd_P S a).1 = 7 := by omega
  rcases h8 with h8 | h8 | h8 | h8 | h8 | h8 | h8 | h8
  · rw [h8] at hkk kk
    refine hv_virt X (na := 3) (C := "BladeBetweenThumbs$Blow") (owner := "BladeBetweenThumbs$Sounds") (x := ⟨"BladeBetweenThumbs$Blow", "pitch", "(III)I"⟩) (y := yX20_pitch) ⟨k2, 8, _, _, hkk, rfl, rfl⟩ (hw_B_X20_pitch _ E S a hc a1 a2 a3) hlink (X.dw (List.mem_of_getElem? (i := 17) rfl)) (by decide +kernel) (hd_Sel.ofD (va_Decl.abs (X.nw q646 rfl)) (X.dw (List.mem_of_getElem? (i := 17) rfl)) (X.li (List.mem_of_getElem? (i := 2) rfl)) (X.ts _ q651)) q1728 q652 (by decide +kernel) hd (by have := hmn; omega) (by decide) hcc hss rfl rfl hrm rfl ?_
    exact kk
  · rw [h8] at hkk kk
    refine hv_virt X (na := 3) (C := "BladeBetweenThumbs$Empty") (owner := "BladeBetweenThumbs$Sounds") (x := ⟨"BladeBetweenThumbs$Blow", "pitch", "(III)I"⟩) (y := yX20_pitch) ⟨k2, 9, _, _, hkk, rfl, rfl⟩ (hw_B_X20_pitch _ E S a hc a1 a2 a3) hlink (X.dw (List.mem_of_getElem? (i := 17) rfl)) (by decide +kernel) (hd_Sel.ofD (va_Decl.abs (X.nw q646 rfl)) (X.dw (List.mem_of_getElem? (i := 17) rfl)) (X.li (List.mem_of_getElem? (i := 9) rfl)) (X.ts _ q651)) q1728 q652 (by decide +kernel) hd (by have := hmn; omega) (by decide) hcc hss rfl rfl hrm rfl ?_
    exact kk
  · rw [h8] at hkk kk
    refine hv_virt X (na := 3) (C := "BladeBetweenThumbs$Sounding") (owner := "BladeBetweenThumbs$Sounds") (x := ⟨"BladeBetweenThumbs$Blow", "pitch", "(III)I"⟩) (y := yX20_pitch) ⟨k2, 10, _, _, hkk, rfl, rfl⟩ (hw_B_X20_pitch _ E S a hc a1 a2 a3) hlink (X.dw (List.mem_of_getElem? (i := 17) rfl)) (by decide +kernel) (hd_Sel.ofD (va_Decl.abs (X.nw q646 rfl)) (X.dw (List.mem_of_getElem? (i := 17) rfl)) (X.li (List.mem_of_getElem? (i := 19) rfl)) (X.ts _ q651)) q1728 q652 (by decide +kernel) hd (by have := hmn; omega) (by decide) hcc hss rfl rfl hrm rfl ?_
    exact kk
  · rw [h8] at hkk kk
    refine hv_virt X (na := 3) (C := "BladeBetweenThumbs$Shrieking") (owner := "BladeBetweenThumbs$Sounds") (x := ⟨"BladeBetweenThumbs$Blow", "pitch", "(III)I"⟩) (y := yX11_pitch) ⟨k2, 11, _, _, hkk, rfl, rfl⟩ (hw_B_X11_pitch _ E S a hc a1 a2 a3) hlink (X.dw (List.mem_of_getElem? (i := 17) rfl)) (by decide +kernel) (hd_Sel.ofS (va_Decl.abs (X.nw q646 rfl)) (by decide +kernel) (X.ts _ q654) (X.ts _ q655)) q86 q656 (by decide +kernel) hd (by have := hmn; omega) (by decide) hcc hss rfl rfl hrm rfl ?_
    exact kk
  · rw [h8] at hkk kk
    refine hv_virt X (na := 3) (C := "BladeBetweenThumbs$Splitting") (owner := "BladeBetweenThumbs$Sounds") (x := ⟨"BladeBetweenThumbs$Blow", "pitch", "(III)I"⟩) (y := yX12_pitch) ⟨k2, 12, _, _, hkk, rfl, rfl⟩ (hw_B_X12_pitch _ E S a hc a1 a2 a3) hlink (X.dw (List.mem_of_getElem? (i := 17) rfl)) (by decide +kernel) (hd_Sel.ofS (va_Decl.abs (X.nw q646 rfl)) (by decide +kernel) (X.ts _ q660) (X.ts _ q661)) q87 q662 (by decide +kernel) hd (by have := hmn; omega) (by decide) hcc hss rfl rfl hrm rfl ?_
    exact kk
  · rw [h8] at hkk kk
    refine hv_virt X (na := 3) (C := "BladeBetweenThumbs$Cupped") (owner := "BladeBetweenThumbs$Sounds") (x := ⟨"BladeBetweenThumbs$Blow", "pitch", "(III)I"⟩) (y := yX13_pitch) ⟨k2, 13, _, _, hkk, rfl, rfl⟩ (hw_B_X13_pitch _ E S a hc a1 a2 a3) hlink (X.dw (List.mem_of_getElem? (i := 17) rfl)) (by decide +kernel) (hd_Sel.ofS (va_Decl.abs (X.nw q646 rfl)) (by decide +kernel) (X.ts _ q648) (X.ts _ q649)) q88 q650 (by decide +kernel) hd (by have := hmn; omega) (by decide) hcc hss rfl rfl hrm rfl ?_
    exact kk
  · rw [h8] at hkk kk
    refine hv_virt X (na := 3) (C := "BladeBetweenThumbs$Soft") (owner := "BladeBetweenThumbs$Sounds") (x := ⟨"BladeBetweenThumbs$Blow", "pitch", "(III)I"⟩) (y := yX13_pitch) ⟨k2, 14, _, _, hkk, rfl, rfl⟩ (hw_B_X13_pitch _ E S a hc a1 a2 a3) hlink (X.dw (List.mem_of_getElem? (i := 17) rfl)) (by decide +kernel) (hd_Sel.ofS (va_Decl.abs (X.nw q646 rfl)) (by decide +kernel) (X.ts _ q658) (X.ts _ q649)) q88 q650 (by decide +kernel) hd (by have := hmn; omega) (by decide) hcc hss rfl rfl hrm rfl ?_
    exact kk
  · rw [h8] at hkk kk
    refine hv_virt X (na := 3) (C := "BladeBetweenThumbs$Slipped") (owner := "BladeBetweenThumbs$Sounds") (x := ⟨"BladeBetweenThumbs$Blow", "pitch", "(III)I"⟩) (y := yX20_pitch) ⟨k2, 15, _, _, hkk, rfl, rfl⟩ (hw_B_X20_pitch _ E S a hc a1 a2 a3) hlink (X.dw (List.mem_of_getElem? (i := 17) rfl)) (by decide +kernel) (hd_Sel.ofD (va_Decl.abs (X.nw q646 rfl)) (X.dw (List.mem_of_getElem? (i := 17) rfl)) (X.li (List.mem_of_getElem? (i := 15) rfl)) (X.ts _ q651)) q1728 q652 (by decide +kernel) hd (by have := hmn; omega) (by decide) hcc hss rfl rfl hrm rfl ?_
    exact kk
def hb_wears (t : Nat) (fig : Int32) (a1 : Int32) : Int32 := if t = 0 then hf_B_X17_wears fig a1 else if t = 1 then hf_B_X17_wears fig a1 else if t = 2 then hf_B_X10_wears fig a1 else if t = 3 then hf_B_X11_wears fig a1 else if t = 4 then hf_B_X12_wears fig a1 else if t = 5 then hf_B_X10_wears fig a1 else if t = 6 then hf_B_X14_wears fig a1 else hf_B_X15_wears fig a1
theorem hv_bl_wears {κ : hd_VK} {E : hd_EV} {nL cells slots n c k : Nat} {Q : State → Prop} {S : hd_St} {pc : Nat} {lv : List (Nat × Value)} {st : List Value} {cc : ByteArray} {own : String} (X : hd_Cx κ E cc own nL (hd_Rm n c k)) {a index : Nat} {a1 : Int32} {α : Type} {o : Option α} {r : α} (h : (if hd_cb S a = true then o else none) = some r) (hlink : (Cond.methodLink own index ⟨"BladeBetweenThumbs$Blow", "wears", "(I)I"⟩).before (hd_kA κ) (hd_kS κ) = true) (hd : decode cc pc = .ok (.invokevirtual index, 3)) (hmn : 8 < n) (hcc : cells ≤ c) (hss : slots ≤ k) (hrm : (st.map fun v => v.category).sum ≤ 8) (kk : o = some r → hd_V κ E nL cells slots Q S (pc + 3) lv (.int (hb_wears (hd_P S a).1 ((hd_P S a).2.2 0) a1) :: st)) : hd_V κ E nL cells slots Q S pc lv (.int a1 :: .ref a :: st) := by
  obtain ⟨hc, h⟩ := hd_if h
  have kk := kk h
  obtain ⟨hin, ht⟩ := of_decide_eq_true hc
  obtain ⟨k2, hkk⟩ := hd_pool E hin
  rw [hd_pE_b ht] at hkk
  have h8 : (hd_P S a).1 = 0 ∨ (hd_P S a).1 = 1 ∨ (hd_P S a).1 = 2 ∨ (hd_P S a).1 = 3 ∨ (hd_P S a).1 = 4 ∨ (hd_P S a).1 = 5 ∨ (hd_P S a).1 = 6 ∨ (hd_P S a).1 = 7 := by omega
  rcases h8 with h8 | h8 | h8 | h8 | h8 | h8 | h8 | h8
  · rw [h8] at hkk kk
    refine hv_virt X (na := 1) (C := "BladeBetweenThumbs$Blow") (owner := "BladeBetweenThumbs$Wears") (x := ⟨"BladeBetweenThumbs$Blow", "wears", "(I)I"⟩) (y := yX17_wears) ⟨k2, 8, _, _, hkk, rfl, rfl⟩ (hw_B_X17_wears _ E S a hc a1) hlink (X.dw (List.mem_of_getElem? (i := 1) rfl)) (by decide +kernel) (hd_Sel.ofD (va_Decl.abs (X.nw q432 rfl)) (X.dw (List.mem_of_getElem? (i := 1) rfl)) (X.li (List.mem_of_getElem? (i := 3) rfl)) (X.ts _ q437)) q1725 q438 (by decide +kernel) hd (by have := hmn; omega) (by decide) hcc hss rfl rfl hrm rfl ?_
    exact kk
  · rw [h8] at hkk kk
    refine hv_virt X (na := 1) (C := "BladeBetweenThumbs$Empty") (owner := "BladeBetweenThumbs$Wears") (x := ⟨"BladeBetweenThumbs$Blow", "wears", "(I)I"⟩) (y := yX17_wears) ⟨k2, 9, _, _, hkk, rfl, rfl⟩ (hw_B_X17_wears _ E S a hc a1) hlink (X.dw (List.mem_of_getElem? (i := 1) rfl)) (by decide +kernel) (hd_Sel.ofD (va_Decl.abs (X.nw q432 rfl)) (X.dw (List.mem_of_getElem? (i := 1) rfl)) (X.li (List.mem_of_getElem? (i := 10) rfl)) (X.ts _ q437)) q1725 q438 (by decide +kernel) hd (by have := hmn; omega) (by decide) hcc hss rfl rfl hrm rfl ?_
    exact kk
  · rw [h8] at hkk kk
    refine hv_virt X (na := 1) (C := "BladeBetweenThumbs$Sounding") (owner := "BladeBetweenThumbs$Wears") (x := ⟨"BladeBetweenThumbs$Blow", "wears", "(I)I"⟩) (y := yX10_wears) ⟨k2, 10, _, _, hkk, rfl, rfl⟩ (hw_B_X10_wears _ E S a hc a1) hlink (X.dw (List.mem_of_getElem? (i := 1) rfl)) (by decide +kernel) (hd_Sel.ofS (va_Decl.abs (X.nw q432 rfl)) (by decide +kernel) (X.ts _ q450) (X.ts _ q435)) q85 q436 (by decide +kernel) hd (by have := hmn; omega) (by decide) hcc hss rfl rfl hrm rfl ?_
    exact kk
  · rw [h8] at hkk kk
    refine hv_virt X (na := 1) (C := "BladeBetweenThumbs$Shrieking") (owner := "BladeBetweenThumbs$Wears") (x := ⟨"BladeBetweenThumbs$Blow", "wears", "(I)I"⟩) (y := yX11_wears) ⟨k2, 11, _, _, hkk, rfl, rfl⟩ (hw_B_X11_wears _ E S a hc a1) hlink (X.dw (List.mem_of_getElem? (i := 1) rfl)) (by decide +kernel) (hd_Sel.ofS (va_Decl.abs (X.nw q432 rfl)) (by decide +kernel) (X.ts _ q440) (X.ts _ q441)) q86 q442 (by decide +kernel) hd (by have := hmn; omega) (by decide) hcc hss rfl rfl hrm rfl ?_
    exact kk
  · rw [h8] at hkk kk
    refine hv_virt X (na := 1) (C := "BladeBetweenThumbs$Splitting") (owner := "BladeBetweenThumbs$Wears") (x := ⟨"BladeBetweenThumbs$Blow", "wears", "(I)I"⟩) (y := yX12_wears) ⟨k2, 12, _, _, hkk, rfl, rfl⟩ (hw_B_X12_wears _ E S a hc a1) hlink (X.dw (List.mem_of_getElem? (i := 1) rfl)) (by decide +kernel) (hd_Sel.ofS (va_Decl.abs (X.nw q432 rfl)) (by decide +kernel) (X.ts _ q451) (X.ts _ q452)) q87 q453 (by decide +kernel) hd (by have := hmn; omega) (by decide) hcc hss rfl rfl hrm rfl ?_
    exact kk
  · rw [h8] at hkk kk
    refine hv_virt X (na := 1) (C := "BladeBetweenThumbs$Cupped") (owner := "BladeBetweenThumbs$Wears") (x := ⟨"BladeBetweenThumbs$Blow", "wears", "(I)I"⟩) (y := yX10_wears) ⟨k2, 13, _, _, hkk, rfl, rfl⟩ (hw_B_X10_wears _ E S a hc a1) hlink (X.dw (List.mem_of_getElem? (i := 1) rfl)) (by decide +kernel) (hd_Sel.ofS (va_Decl.abs (X.nw q432 rfl)) (by decide +kernel) (X.ts _ q434) (X.ts _ q435)) q85 q436 (by decide +kernel) hd (by have := hmn; omega) (by decide) hcc hss rfl rfl hrm rfl ?_
    exact kk
  · rw [h8] at hkk kk
    refine hv_virt X (na := 1) (C := "BladeBetweenThumbs$Soft") (owner := "BladeBetweenThumbs$Wears") (x := ⟨"BladeBetweenThumbs$Blow", "wears", "(I)I"⟩) (y := yX14_wears) ⟨k2, 14, _, _, hkk, rfl, rfl⟩ (hw_B_X14_wears _ E S a hc a1) hlink (X.dw (List.mem_of_getElem? (i := 1) rfl)) (by decide +kernel) (hd_Sel.ofS (va_Decl.abs (X.nw q432 rfl)) (by decide +kernel) (X.ts _ q447) (X.ts _ q448)) q89 q449 (by decide +kernel) hd (by have := hmn; omega) (by decide) hcc hss rfl rfl hrm rfl ?_
    exact kk
  · rw [h8] at hkk kk
    refine hv_virt X (na := 1) (C := "BladeBetweenThumbs$Slipped") (owner := "BladeBetweenThumbs$Wears") (x := ⟨"BladeBetweenThumbs$Blow", "wears", "(I)I"⟩) (y := yX15_wears) ⟨k2, 15, _, _, hkk, rfl, rfl⟩ (hw_B_X15_wears _ E S a hc a1) hlink (X.dw (List.mem_of_getElem? (i := 1) rfl)) (by decide +kernel) (hd_Sel.ofS (va_Decl.abs (X.nw q432 rfl)) (by decide +kernel) (X.ts _ q444) (X.ts _ q445)) q90 q446 (by decide +kernel) hd (by have := hmn; omega) (by decide) hcc hss rfl rfl hrm rfl ?_
    exact kk
def hb_kind (t : Nat) (fig : Int32) : Int32 := if t = 0 then hf_B_X8_kind fig else if t = 1 then hf_B_X9_kind fig else if t = 2 then hf_B_X10_kind fig else if t = 3 then hf_B_X11_kind fig else if t = 4 then hf_B_X12_kind fig else if t = 5 then hf_B_X13_kind fig else if t = 6 then hf_B_X14_kind fig else hf_B_X15_kind fig
theorem hv_bl_kind {κ : hd_VK} {E : hd_EV} {nL cells slots n c k : Nat} {Q : State → Prop} {S : hd_St} {pc : Nat} {lv : List (Nat × Value)} {st : List Value} {cc : ByteArray} {own : String} (X : hd_Cx κ E cc own nL (hd_Rm n c k)) {a index : Nat} {α : Type} {o : Option α} {r : α} (h : (if hd_cb S a = true then o else none) = some r) (hlink : (Cond.methodLink own index ⟨"BladeBetweenThumbs$Blow", "kind", "()I"⟩).before (hd_kA κ) (hd_kS κ) = true) (hd : decode cc pc = .ok (.invokevirtual index, 3)) (hmn : 8 < n) (hcc : cells ≤ c) (hss : slots ≤ k) (hrm : (st.map fun v => v.category).sum ≤ 8) (kk : o = some r → hd_V κ E nL cells slots Q S (pc + 3) lv (.int (hb_kind (hd_P S a).1 ((hd_P S a).2.2 0)) :: st)) : hd_V κ E nL cells slots Q S pc lv (.ref a :: st) := by
  obtain ⟨hc, h⟩ := hd_if h
  have kk := kk h
  obtain ⟨hin, ht⟩ := of_decide_eq_true hc
  obtain ⟨k2, hkk⟩ := hd_pool E hin
  rw [hd_pE_b ht] at hkk
  have h8 : (hd_P S a).1 = 0 ∨ (hd_P S a).1 = 1 ∨ (hd_P S a).1 = 2 ∨ (hd_P S a).1 = 3 ∨ (hd_P S a).1 = 4 ∨ (hd_P S a).1 = 5 ∨ (hd_P S a).1 = 6 ∨ (hd_P S a).1 = 7 := by omega
  rcases h8 with h8 | h8 | h8 | h8 | h8 | h8 | h8 | h8
  · rw [h8] at hkk kk
    refine hv_virt X (na := 0) (C := "BladeBetweenThumbs$Blow") (owner := "BladeBetweenThumbs$Blow") (x := ⟨"BladeBetweenThumbs$Blow", "kind", "()I"⟩) (y := yX8_kind) ⟨k2, 8, _, _, hkk, rfl, rfl⟩ (hw_B_X8_kind _ E S a hc) hlink (X.ts _ q578) (by decide +kernel) (hd_Sel.ofS (va_Decl.of (X.ts _ q576) (X.ts _ q600)) (by decide +kernel) (X.ts _ q577) (X.ts _ q576)) q83 q600 (by decide +kernel) hd (by have := hmn; omega) (by decide) hcc hss rfl rfl hrm rfl ?_
    exact kk
  · rw [h8] at hkk kk
    refine hv_virt X (na := 0) (C := "BladeBetweenThumbs$Empty") (owner := "BladeBetweenThumbs$Blow") (x := ⟨"BladeBetweenThumbs$Blow", "kind", "()I"⟩) (y := yX9_kind) ⟨k2, 9, _, _, hkk, rfl, rfl⟩ (hw_B_X9_kind _ E S a hc) hlink (X.ts _ q578) (by decide +kernel) (hd_Sel.ofS (va_Decl.of (X.ts _ q576) (X.ts _ q600)) (by decide +kernel) (X.ts _ q582) (X.ts _ q583)) q84 q584 (by decide +kernel) hd (by have := hmn; omega) (by decide) hcc hss rfl rfl hrm rfl ?_
    exact kk
  · rw [h8] at hkk kk
    refine hv_virt X (na := 0) (C := "BladeBetweenThumbs$Sounding") (owner := "BladeBetweenThumbs$Blow") (x := ⟨"BladeBetweenThumbs$Blow", "kind", "()I"⟩) (y := yX10_kind) ⟨k2, 10, _, _, hkk, rfl, rfl⟩ (hw_B_X10_kind _ E S a hc) hlink (X.ts _ q578) (by decide +kernel) (hd_Sel.ofS (va_Decl.of (X.ts _ q576) (X.ts _ q600)) (by decide +kernel) (X.ts _ q594) (X.ts _ q595)) q85 q596 (by decide +kernel) hd (by have := hmn; omega) (by decide) hcc hss rfl rfl hrm rfl ?_
    exact kk
  · rw [h8] at hkk kk
    refine hv_virt X (na := 0) (C := "BladeBetweenThumbs$Shrieking") (owner := "BladeBetweenThumbs$Blow") (x := ⟨"BladeBetweenThumbs$Blow", "kind", "()I"⟩) (y := yX11_kind) ⟨k2, 11, _, _, hkk, rfl, rfl⟩ (hw_B_X11_kind _ E S a hc) hlink (X.ts _ q578) (by decide +kernel) (hd_Sel.ofS (va_Decl.of (X.ts _ q576) (X.ts _ q600)) (by decide +kernel) (X.ts _ q585) (X.ts _ q586)) q86 q587 (by decide +kernel) hd (by have := hmn; omega) (by decide) hcc hss rfl rfl hrm rfl ?_
    exact kk
  · rw [h8] at hkk kk
    refine hv_virt X (na := 0) (C := "BladeBetweenThumbs$Splitting") (owner := "BladeBetweenThumbs$Blow") (x := ⟨"BladeBetweenThumbs$Blow", "kind", "()I"⟩) (y := yX12_kind) ⟨k2, 12, _, _, hkk, rfl, rfl⟩ (hw_B_X12_kind _ E S a hc) hlink (X.ts _ q578) (by decide +kernel) (hd_Sel.ofS (va_Decl.of (X.ts _ q576) (X.ts _ q600)) (by decide +kernel) (X.ts _ q597) (X.ts _ q598)) q87 q599 (by decide +kernel) hd (by have := hmn; omega) (by decide) hcc hss rfl rfl hrm rfl ?_
    exact kk
  · rw [h8] at hkk kk
    refine hv_virt X (na := 0) (C := "BladeBetweenThumbs$Cupped") (owner := "BladeBetweenThumbs$Blow") (x := ⟨"BladeBetweenThumbs$Blow", "kind", "()I"⟩) (y := yX13_kind) ⟨k2, 13, _, _, hkk, rfl, rfl⟩ (hw_B_X13_kind _ E S a hc) hlink (X.ts _ q578) (by decide +kernel) (hd_Sel.ofS (va_Decl.of (X.ts _ q576) (X.ts _ q600)) (by decide +kernel) (X.ts _ q579) (X.ts _ q580)) q88 q581 (by decide +kernel) hd (by have := hmn; omega) (by decide) hcc hss rfl rfl hrm rfl ?_
    exact kk
  · rw [h8] at hkk kk
    refine hv_virt X (na := 0) (C := "BladeBetweenThumbs$Soft") (owner := "BladeBetweenThumbs$Blow") (x := ⟨"BladeBetweenThumbs$Blow", "kind", "()I"⟩) (y := yX14_kind) ⟨k2, 14, _, _, hkk, rfl, rfl⟩ (hw_B_X14_kind _ E S a hc) hlink (X.ts _ q578) (by decide +kernel) (hd_Sel.ofS (va_Decl.of (X.ts _ q576) (X.ts _ q600)) (by decide +kernel) (X.ts _ q591) (X.ts _ q592)) q89 q593 (by decide +kernel) hd (by have := hmn; omega) (by decide) hcc hss rfl rfl hrm rfl ?_
    exact kk
  · rw [h8] at hkk kk
    refine hv_virt X (na := 0) (C := "BladeBetweenThumbs$Slipped") (owner := "BladeBetweenThumbs$Blow") (x := ⟨"BladeBetweenThumbs$Blow", "kind", "()I"⟩) (y := yX15_kind) ⟨k2, 15, _, _, hkk, rfl, rfl⟩ (hw_B_X15_kind _ E S a hc) hlink (X.ts _ q578) (by decide +kernel) (hd_Sel.ofS (va_Decl.of (X.ts _ q576) (X.ts _ q600)) (by decide +kernel) (X.ts _ q588) (X.ts _ q589)) q90 q590 (by decide +kernel) hd (by have := hmn; omega) (by decide) hcc hss rfl rfl hrm rfl ?_
    exact kk
def hb_cost (t : Nat) (fig : Int32) : Int32 := if t = 0 then hf_B_X8_cost fig else if t = 1 then hf_B_X9_cost fig else if t = 2 then hf_B_X10_cost fig else if t = 3 then hf_B_X11_cost fig else if t = 4 then hf_B_X12_cost fig else if t = 5 then hf_B_X13_cost fig else if t = 6 then hf_B_X14_cost fig else hf_B_X15_cost fig
theorem hv_bl_cost {κ : hd_VK} {E : hd_EV} {nL cells slots n c k : Nat} {Q : State → Prop} {S : hd_St} {pc : Nat} {lv : List (Nat × Value)} {st : List Value} {cc : ByteArray} {own : String} (X : hd_Cx κ E cc own nL (hd_Rm n c k)) {a index : Nat} {α : Type} {o : Option α} {r : α} (h : (if hd_cb S a = true then o else none) = some r) (hlink : (Cond.methodLink own index ⟨"BladeBetweenThumbs$Blow", "cost", "()I"⟩).before (hd_kA κ) (hd_kS κ) = true) (hd : decode cc pc = .ok (.invokevirtual index, 3)) (hmn : 8 < n) (hcc : cells ≤ c) (hss : slots ≤ k) (hrm : (st.map fun v => v.category).sum ≤ 8) (kk : o = some r → hd_V κ E nL cells slots Q S (pc + 3) lv (.int (hb_cost (hd_P S a).1 ((hd_P S a).2.2 0)) :: st)) : hd_V κ E nL cells slots Q S pc lv (.ref a :: st) := by
  obtain ⟨hc, h⟩ := hd_if h
  have kk := kk h
  obtain ⟨hin, ht⟩ := of_decide_eq_true hc
  obtain ⟨k2, hkk⟩ := hd_pool E hin
  rw [hd_pE_b ht] at hkk
  have h8 : (hd_P S a).1 = 0 ∨ (hd_P S a).1 = 1 ∨ (hd_P S a).1 = 2 ∨ (hd_P S a).1 = 3 ∨ (hd_P S a).1 = 4 ∨ (hd_P S a).1 = 5 ∨ (hd_P S a).1 = 6 ∨ (hd_P S a).1 = 7 := by omega
  rcases h8 with h8 | h8 | h8 | h8 | h8 | h8 | h8 | h8
  · rw [h8] at hkk kk
    refine hv_virt X (na := 0) (C := "BladeBetweenThumbs$Blow") (owner := "BladeBetweenThumbs$Blow") (x := ⟨"BladeBetweenThumbs$Blow", "cost", "()I"⟩) (y := yX8_cost) ⟨k2, 8, _, _, hkk, rfl, rfl⟩ (hw_B_X8_cost _ E S a hc) hlink (X.ts _ q1116) (by decide +kernel) (hd_Sel.ofS (va_Decl.of (X.ts _ q1114) (X.ts _ q1124)) (by decide +kernel) (X.ts _ q1115) (X.ts _ q1114)) q83 q1124 (by decide +kernel) hd (by have := hmn; omega) (by decide) hcc hss rfl rfl hrm rfl ?_
    exact kk
  · rw [h8] at hkk kk
    refine hv_virt X (na := 0) (C := "BladeBetweenThumbs$Empty") (owner := "BladeBetweenThumbs$Blow") (x := ⟨"BladeBetweenThumbs$Blow", "cost", "()I"⟩) (y := yX9_cost) ⟨k2, 9, _, _, hkk, rfl, rfl⟩ (hw_B_X9_cost _ E S a hc) hlink (X.ts _ q1116) (by decide +kernel) (hd_Sel.ofS (va_Decl.of (X.ts _ q1114) (X.ts _ q1124)) (by decide +kernel) (X.ts _ q1125) (X.ts _ q1126)) q84 q1127 (by decide +kernel) hd (by have := hmn; omega) (by decide) hcc hss rfl rfl hrm rfl ?_
    exact kk
  · rw [h8] at hkk kk
    refine hv_virt X (na := 0) (C := "BladeBetweenThumbs$Sounding") (owner := "BladeBetweenThumbs$Blow") (x := ⟨"BladeBetweenThumbs$Blow", "cost", "()I"⟩) (y := yX10_cost) ⟨k2, 10, _, _, hkk, rfl, rfl⟩ (hw_B_X10_cost _ E S a hc) hlink (X.ts _ q1116) (by decide +kernel) (hd_Sel.ofS (va_Decl.of (X.ts _ q1114) (X.ts _ q1124)) (by decide +kernel) (X.ts _ q1141) (X.ts _ q1121)) q85 q1122 (by decide +kernel) hd (by have := hmn; omega) (by decide) hcc hss rfl rfl hrm rfl ?_
    exact kk
  · rw [h8] at hkk kk
    refine hv_virt X (na := 0) (C := "BladeBetweenThumbs$Shrieking") (owner := "BladeBetweenThumbs$Blow") (x := ⟨"BladeBetweenThumbs$Blow", "cost", "()I"⟩) (y := yX11_cost) ⟨k2, 11, _, _, hkk, rfl, rfl⟩ (hw_B_X11_cost _ E S a hc) hlink (X.ts _ q1116) (by decide +kernel) (hd_Sel.ofS (va_Decl.of (X.ts _ q1114) (X.ts _ q1124)) (by decide +kernel) (X.ts _ q1129) (X.ts _ q1130)) q86 q1131 (by decide +kernel) hd (by have := hmn; omega) (by decide) hcc hss rfl rfl hrm rfl ?_
    exact kk
  · rw [h8] at hkk kk
    refine hv_virt X (na := 0) (C := "BladeBetweenThumbs$Splitting") (owner := "BladeBetweenThumbs$Blow") (x := ⟨"BladeBetweenThumbs$Blow", "cost", "()I"⟩) (y := yX12_cost) ⟨k2, 12, _, _, hkk, rfl, rfl⟩ (hw_B_X12_cost _ E S a hc) hlink (X.ts _ q1116) (by decide +kernel) (hd_Sel.ofS (va_Decl.of (X.ts _ q1114) (X.ts _ q1124)) (by decide +kernel) (X.ts _ q1142) (X.ts _ q1143)) q87 q1144 (by decide +kernel) hd (by have := hmn; omega) (by decide) hcc hss rfl rfl hrm rfl ?_
    exact kk
  · rw [h8] at hkk kk
    refine hv_virt X (na := 0) (C := "BladeBetweenThumbs$Cupped") (owner := "BladeBetweenThumbs$Blow") (x := ⟨"BladeBetweenThumbs$Blow", "cost", "()I"⟩) (y := yX13_cost) ⟨k2, 13, _, _, hkk, rfl, rfl⟩ (hw_B_X13_cost _ E S a hc) hlink (X.ts _ q1116) (by decide +kernel) (hd_Sel.ofS (va_Decl.of (X.ts _ q1114) (X.ts _ q1124)) (by decide +kernel) (X.ts _ q1117) (X.ts _ q1118)) q88 q1119 (by decide +kernel) hd (by have := hmn; omega) (by decide) hcc hss rfl rfl hrm rfl ?_
    exact kk
  · rw [h8] at hkk kk
    refine hv_virt X (na := 0) (C := "BladeBetweenThumbs$Soft") (owner := "BladeBetweenThumbs$Blow") (x := ⟨"BladeBetweenThumbs$Blow", "cost", "()I"⟩) (y := yX14_cost) ⟨k2, 14, _, _, hkk, rfl, rfl⟩ (hw_B_X14_cost _ E S a hc) hlink (X.ts _ q1116) (by decide +kernel) (hd_Sel.ofS (va_Decl.of (X.ts _ q1114) (X.ts _ q1124)) (by decide +kernel) (X.ts _ q1137) (X.ts _ q1138)) q89 q1139 (by decide +kernel) hd (by have := hmn; omega) (by decide) hcc hss rfl rfl hrm rfl ?_
    exact kk
  · rw [h8] at hkk kk
    refine hv_virt X (na := 0) (C := "BladeBetweenThumbs$Slipped") (owner := "BladeBetweenThumbs$Blow") (x := ⟨"BladeBetweenThumbs$Blow", "cost", "()I"⟩) (y := yX15_cost) ⟨k2, 15, _, _, hkk, rfl, rfl⟩ (hw_B_X15_cost _ E S a hc) hlink (X.ts _ q1116) (by decide +kernel) (hd_Sel.ofS (va_Decl.of (X.ts _ q1114) (X.ts _ q1124)) (by decide +kernel) (X.ts _ q1133) (X.ts _ q1134)) q90 q1135 (by decide +kernel) hd (by have := hmn; omega) (by decide) hcc hss rfl rfl hrm rfl ?_
    exact kk
