/-! THE WORLD: fixed cells by number (0 the system, 1..3 hedges, 4..24 their arrays, 25 told, 26 notes, 27 28 near and then, 29 shelves, 30..37 a shelf each, 38 the reference, 39..50 its arrays, 51 the law's own array), and a pool of objects (blows, rows, told statements, readers) by address -/
set_option maxRecDepth 100000
abbrev hd_EV : Type := (Nat → ClassId) × (Nat → Nat → Nat) × (Nat → ClassId) × (Nat → Nat) × Nat × Nat
def hd_D (E : hd_EV) : va_G := (E.1, E.2.1)
def hd_cA (E : hd_EV) (k : Nat) : ClassId := E.2.2.1 k
def hd_ad (E : hd_EV) (i : Nat) : Nat := E.2.2.2.1 i
def hd_base (E : hd_EV) : Nat := E.2.2.2.2.1
/-- one address that isn't free: an object that isn't built yet -/
def hd_ex (E : hd_EV) : Nat := E.2.2.2.2.2
def hd_fA (E : hd_EV) : Nat → Prop := fun q => hd_base E ≤ q ∧ q ≠ hd_ex E
def hd_bs (E : hd_EV) (n : Nat) : Prop := hd_base E ≤ n ∧ hd_ex E < n
theorem hd_bs.mono {E : hd_EV} {n k : Nat} (h : hd_bs E n) (hk : n ≤ k) : hd_bs E k := ⟨Nat.le_trans h.1 hk, Nat.lt_of_lt_of_le h.2 hk⟩
theorem hd_bs.free {E : hd_EV} {n q : Nat} (h : hd_bs E n) (hk : n ≤ q) : hd_fA E q := ⟨Nat.le_trans h.1 hk, fun e => Nat.lt_irrefl _ (e ▸ Nat.lt_of_lt_of_le h.2 hk)⟩
abbrev hd_PE : Type := Nat × Nat × (Nat → Int32)
abbrev hd_St : Type := (Nat → Nat → Int32) × (Nat → Nat → Int64) × (Nat → Nat → Option Nat) × (Nat × Nat) × List Nat × (Nat → hd_PE)
def hd_I (S : hd_St) : Nat → Nat → Int32 := S.1
def hd_J (S : hd_St) : Nat → Nat → Int64 := S.2.1
def hd_R (S : hd_St) : Nat → Nat → Option Nat := S.2.2.1
def hd_NN (S : hd_St) : Nat × Nat := S.2.2.2.1
def hd_N (S : hd_St) : Nat := S.2.2.2.1.1
def hd_M (S : hd_St) : Nat := S.2.2.2.1.2
def hd_L (S : hd_St) : List Nat := S.2.2.2.2.1
def hd_P (S : hd_St) : Nat → hd_PE := S.2.2.2.2.2
def hd_wI (S : hd_St) (a : Nat) (g : Nat → Int32) : hd_St := (fun x => if x = a then g else hd_I S x, S.2)
def hd_wJ (S : hd_St) (a : Nat) (g : Nat → Int64) : hd_St := (S.1, fun x => if x = a then g else hd_J S x, S.2.2)
def hd_wR (S : hd_St) (a : Nat) (g : Nat → Option Nat) : hd_St := (S.1, S.2.1, fun x => if x = a then g else hd_R S x, S.2.2.2)
def hd_sN (S : hd_St) (n : Nat) : hd_St := (S.1, S.2.1, S.2.2.1, (n, S.2.2.2.1.2), S.2.2.2.2)
def hd_sM (S : hd_St) (n : Nat) : hd_St := (S.1, S.2.1, S.2.2.1, (S.2.2.2.1.1, n), S.2.2.2.2)
def hd_sP (S : hd_St) (a : Nat) (x : hd_PE) : hd_St := (S.1, S.2.1, S.2.2.1, S.2.2.2.1, S.2.2.2.2.1, va_up S.2.2.2.2.2 a x)
def hd_push (S : hd_St) (a : Nat) (x : hd_PE) : hd_St := (S.1, S.2.1, S.2.2.1, S.2.2.2.1, S.2.2.2.2.1 ++ [a], va_up S.2.2.2.2.2 a x)
def hd_sI (S : hd_St) (a k : Nat) (v : Int32) : hd_St := hd_wI S a (upd (hd_I S a) k v)
def hd_sJ (S : hd_St) (a k : Nat) (v : Int64) : hd_St := hd_wJ S a (vp_updL (hd_J S a) k v)
def hd_sR (S : hd_St) (a k : Nat) (v : Option Nat) : hd_St := hd_wR S a (va_up (hd_R S a) k v)
section HDS
variable {S : hd_St} {a x n : Nat} {g : Nat → Int32} {gj : Nat → Int64} {gr : Nat → Option Nat} {p : hd_PE}
theorem hd_I_wI : hd_I (hd_wI S a g) x = if x = a then g else hd_I S x := rfl
theorem hd_J_wI : hd_J (hd_wI S a g) = hd_J S := rfl
theorem hd_R_wI : hd_R (hd_wI S a g) = hd_R S := rfl
theorem hd_N_wI : hd_N (hd_wI S a g) = hd_N S := rfl
theorem hd_M_wI : hd_M (hd_wI S a g) = hd_M S := rfl
theorem hd_NN_wI : hd_NN (hd_wI S a g) = hd_NN S := rfl
theorem hd_L_wI : hd_L (hd_wI S a g) = hd_L S := rfl
theorem hd_P_wI : hd_P (hd_wI S a g) = hd_P S := rfl
theorem hd_I_wJ : hd_I (hd_wJ S a gj) = hd_I S := rfl
theorem hd_J_wJ : hd_J (hd_wJ S a gj) x = if x = a then gj else hd_J S x := rfl
theorem hd_R_wJ : hd_R (hd_wJ S a gj) = hd_R S := rfl
theorem hd_N_wJ : hd_N (hd_wJ S a gj) = hd_N S := rfl
theorem hd_M_wJ : hd_M (hd_wJ S a gj) = hd_M S := rfl
theorem hd_NN_wJ : hd_NN (hd_wJ S a gj) = hd_NN S := rfl
theorem hd_L_wJ : hd_L (hd_wJ S a gj) = hd_L S := rfl
theorem hd_P_wJ : hd_P (hd_wJ S a gj) = hd_P S := rfl
theorem hd_I_wR : hd_I (hd_wR S a gr) = hd_I S := rfl
theorem hd_J_wR : hd_J (hd_wR S a gr) = hd_J S := rfl
theorem hd_R_wR : hd_R (hd_wR S a gr) x = if x = a then gr else hd_R S x := rfl
theorem hd_N_wR : hd_N (hd_wR S a gr) = hd_N S := rfl
theorem hd_M_wR : hd_M (hd_wR S a gr) = hd_M S := rfl
theorem hd_NN_wR : hd_NN (hd_wR S a gr) = hd_NN S := rfl
theorem hd_L_wR : hd_L (hd_wR S a gr) = hd_L S := rfl
theorem hd_P_wR : hd_P (hd_wR S a gr) = hd_P S := rfl
theorem hd_I_sN : hd_I (hd_sN S n) = hd_I S := rfl
theorem hd_J_sN : hd_J (hd_sN S n) = hd_J S := rfl
theorem hd_R_sN : hd_R (hd_sN S n) = hd_R S := rfl
theorem hd_N_sN : hd_N (hd_sN S n) = n := rfl
theorem hd_M_sN : hd_M (hd_sN S n) = hd_M S := rfl
theorem hd_N_sM : hd_N (hd_sM S n) = hd_N S := rfl
theorem hd_M_sM : hd_M (hd_sM S n) = n := rfl
theorem hd_I_sM : hd_I (hd_sM S n) = hd_I S := rfl
theorem hd_J_sM : hd_J (hd_sM S n) = hd_J S := rfl
theorem hd_R_sM : hd_R (hd_sM S n) = hd_R S := rfl
theorem hd_L_sM : hd_L (hd_sM S n) = hd_L S := rfl
theorem hd_P_sM : hd_P (hd_sM S n) = hd_P S := rfl
theorem hd_L_sN : hd_L (hd_sN S n) = hd_L S := rfl
theorem hd_P_sN : hd_P (hd_sN S n) = hd_P S := rfl
theorem hd_I_sP : hd_I (hd_sP S a p) = hd_I S := rfl
theorem hd_J_sP : hd_J (hd_sP S a p) = hd_J S := rfl
theorem hd_R_sP : hd_R (hd_sP S a p) = hd_R S := rfl
theorem hd_N_sP : hd_N (hd_sP S a p) = hd_N S := rfl
theorem hd_M_sP : hd_M (hd_sP S a p) = hd_M S := rfl
theorem hd_L_sP : hd_L (hd_sP S a p) = hd_L S := rfl
theorem hd_P_sP : hd_P (hd_sP S a p) x = if x = a then p else hd_P S x := rfl
theorem hd_I_push : hd_I (hd_push S a p) = hd_I S := rfl
theorem hd_J_push : hd_J (hd_push S a p) = hd_J S := rfl
theorem hd_R_push : hd_R (hd_push S a p) = hd_R S := rfl
theorem hd_N_push : hd_N (hd_push S a p) = hd_N S := rfl
theorem hd_M_push : hd_M (hd_push S a p) = hd_M S := rfl
theorem hd_L_push : hd_L (hd_push S a p) = hd_L S ++ [a] := rfl
theorem hd_P_push : hd_P (hd_push S a p) x = if x = a then p else hd_P S x := rfl
end HDS
def hd_ctc (E : hd_EV) (I : Nat → Int32) (J : Nat → Int64) (R : Nat → Option Nat) (N : Nat × Nat) (i : Nat) : va_E :=
  if i = 0 then .inr (0, [.ref (hd_ad E 1), .ref (hd_ad E 2), .ref (hd_ad E 3), .int (I 3), .ref (hd_ad E 25), .ref (hd_ad E 26), .ref (hd_ad E N.1), .ref (hd_ad E N.2), .int (I 8), .int (I 9), .ref (hd_ad E 29)])
  else if i < 4 then .inr (1, [.ref (hd_ad E (3 + i)), .ref (hd_ad E (6 + i)), .ref (hd_ad E (9 + i)), .ref (hd_ad E (12 + i)), .ref (hd_ad E (15 + i)), .ref (hd_ad E (18 + i)), .ref (hd_ad E (21 + i)), .int (I 7), .int (I 8), .int (I 9), .int (I 10)])
  else if i < 16 then .inl (hd_cA E 0, 6, .inl I)
  else if i < 22 then .inl (hd_cA E 0, 4, .inl I)
  else if i < 25 then .inl (hd_cA E 4, 6, .inr (.inr (.inr (.inr R))))
  else if i < 26 then .inl (hd_cA E 5, 100, .inr (.inr (.inr (.inr R))))
  else if i < 27 then .inl (hd_cA E 0, 3, .inl I)
  else if i < 29 then .inl (hd_cA E 3, 13, .inr (.inl J))
  else if i < 30 then .inl (hd_cA E 6, 8, .inr (.inr (.inr (.inr (fun k => if k < 8 then some (hd_ad E (30 + k)) else none)))))
  else if i < 38 then .inr (2, [va_rf (R 0)])
  else if i < 39 then .inr (3, [.ref (hd_ad E 39), .ref (hd_ad E 40), .ref (hd_ad E 41), .int (I 3), .int (I 4), .int (I 5), .int (I 6), .int (I 7), .ref (hd_ad E 42), .int (I 9), .int (I 10), .int (I 11), .ref (hd_ad E 43), .ref (hd_ad E 44), .int (I 14), .ref (hd_ad E 45), .ref (hd_ad E 46), .ref (hd_ad E 47), .ref (hd_ad E 48), .ref (hd_ad E 49), .ref (hd_ad E 50), .int (I 21)])
  else if i < 42 then .inl (hd_cA E 0, 47, .inl I)
  else if i < 43 then .inl (hd_cA E 0, 5, .inl I)
  else if i < 45 then .inl (hd_cA E 3, 13, .inr (.inl J))
  else if i < 50 then .inl (hd_cA E 0, 8, .inl I)
  else if i < 51 then .inl (hd_cA E 0, 800, .inl I)
  else .inl (hd_cA E 3, 1, .inr (.inl J))
def hd_ct (E : hd_EV) (S : hd_St) (i : Nat) : va_E := hd_ctc E (hd_I S i) (hd_J S i) (hd_R S i) (hd_NN S) i
def hd_pE (E : hd_EV) (x : hd_PE) : va_E :=
  if x.1 < 8 then .inr (8 + x.1, [.int (x.2.2 0)])
  else if x.1 < 9 then .inl (hd_cA E 1, x.2.1, .inl x.2.2)
  else if x.1 < 10 then .inl (hd_cA E 2, x.2.1, .inl x.2.2)
  else if x.1 < 11 then .inl (hd_cA E 0, x.2.1, .inl x.2.2)
  else if x.1 < 12 then .inr (5, [.int (x.2.2 0), .int (x.2.2 1), .ref x.2.1, .int (x.2.2 2)])
  else if x.1 < 13 then .inr (4, [.ref x.2.1, .int (x.2.2 0)])
  else if x.1 < 14 then .inr (6, [.int (x.2.2 0)])
  else if x.1 < 15 then .inr (7, [.int (x.2.2 0)])
  else if x.1 < 16 then .inr (5, [.int (x.2.2 0), .int (x.2.2 1), .null, .int (x.2.2 2)])
  else .inr (4, [.null, .int (x.2.2 0)])
def hd_fix (E : hd_EV) (S : hd_St) : va_W := (List.range 52).map (fun i => (hd_ad E i, hd_ct E S i))
def hd_wl (E : hd_EV) (S : hd_St) : va_W := hd_fix E S ++ va_pl (hd_L S) (fun a => hd_pE E (hd_P S a))
def hd_T7 : u_T := fun _ => (RX7, "code", "I", true)
def hd_T16 : u_T := fun _ => (RX16, "n", "I", true)
def hd_cl : List vw_C := [(RX1, TX1, 11), (RX2, TX2, 11), (RX3, TX3, 1), (RX4, TX4, 22), (RX5, TX5, 2), (RX6, TX6, 4), (RX7, hd_T7, 1), (RX16, hd_T16, 1), (RX8, TX8, 1), (RX9, TX9, 1), (RX10, TX10, 1), (RX11, TX11, 1), (RX12, TX12, 1), (RX13, TX13, 1), (RX14, TX14, 1), (RX15, TX15, 1)]
def hd_ty (E : hd_EV) : List (ClassId × FieldType) := [(hd_cA E 0, .int), (hd_cA E 1, .byte), (hd_cA E 2, .short), (hd_cA E 3, .long), (hd_cA E 4, .object RX8), (hd_cA E 5, .object RX6), (hd_cA E 6, .object RX3)]
/-- what a state must be for the rows of bytes and of shorts -/
def hd_ok (S : hd_St) : Prop := ((hd_N S = 27 ∨ hd_N S = 28) ∧ (hd_M S = 27 ∨ hd_M S = 28)) ∧ ∀ a ∈ hd_L S, ((hd_P S a).1 = 8 → ∀ j : Nat, fits .byte (.int ((hd_P S a).2.2 j)) = true) ∧ ((hd_P S a).1 = 9 → ∀ j : Nat, fits .short (.int ((hd_P S a).2.2 j)) = true)
def hd_WH (E : hd_EV) (S : hd_St) (H : Heap) : Prop := va_P (hd_D E) hd_cl (hd_wl E S) H ∧ va_D (hd_fA E) (hd_wl E S) ∧ hd_ok S
theorem hd_fix_len (E : hd_EV) (S : hd_St) : (hd_fix E S).length = 52 := by simp [hd_fix]
theorem hd_fix_at (E : hd_EV) (S : hd_St) {i : Nat} (hi : i < 52) : (hd_fix E S)[i]? = some (hd_ad E i, hd_ct E S i) := by
  simp [hd_fix, List.getElem?_map, List.getElem?_range hi]
theorem hd_at (E : hd_EV) (S : hd_St) {i : Nat} (hi : i < 52) : (hd_wl E S)[i]? = some (hd_ad E i, hd_ct E S i) := by
  unfold hd_wl
  rw [List.getElem?_append_left (by rw [hd_fix_len]; exact hi)]
  exact hd_fix_at E S hi
theorem hd_set {E : hd_EV} {S S' : hd_St} {i : Nat} {e : va_E} (hi : i < 52) (he : hd_ct E S' i = e) (ho : ∀ k : Nat, k < 52 → k ≠ i → hd_ct E S' k = hd_ct E S k) (hL : hd_L S' = hd_L S) (hP : hd_P S' = hd_P S) : (hd_wl E S).set i (hd_ad E i, e) = hd_wl E S' := by
  unfold hd_wl
  rw [hL, hP, List.set_append_left i _ (by rw [hd_fix_len]; exact hi)]
  congr 1
  apply List.ext_getElem?
  intro k
  by_cases hk : k = i
  · subst hk
    rw [List.getElem?_set_self (by rw [hd_fix_len]; exact hi), hd_fix_at E S' hi, he]
  · rw [List.getElem?_set_ne (Ne.symm hk)]
    by_cases hk2 : k < 52
    · rw [hd_fix_at E S hk2, hd_fix_at E S' hk2, ho k hk2 hk]
    · rw [List.getElem?_eq_none (by rw [hd_fix_len]; omega), List.getElem?_eq_none (by rw [hd_fix_len]; omega)]
theorem hd_ct_wI {E : hd_EV} {S : hd_St} {i k : Nat} {g : Nat → Int32} (h : k ≠ i) : hd_ct E (hd_wI S i g) k = hd_ct E S k := by
  unfold hd_ct
  rw [hd_I_wI, if_neg h, hd_J_wI, hd_R_wI, hd_NN_wI]
theorem hd_ct_wJ {E : hd_EV} {S : hd_St} {i k : Nat} {g : Nat → Int64} (h : k ≠ i) : hd_ct E (hd_wJ S i g) k = hd_ct E S k := by
  unfold hd_ct
  rw [hd_J_wJ, if_neg h, hd_I_wJ, hd_R_wJ, hd_NN_wJ]
theorem hd_ct_wR {E : hd_EV} {S : hd_St} {i k : Nat} {g : Nat → Option Nat} (h : k ≠ i) : hd_ct E (hd_wR S i g) k = hd_ct E S k := by
  unfold hd_ct
  rw [hd_R_wR, if_neg h, hd_I_wR, hd_J_wR, hd_NN_wR]
theorem hd_set_I {E : hd_EV} {S : hd_St} {i : Nat} {g : Nat → Int32} {e : va_E} (hi : i < 52) (he : hd_ct E (hd_wI S i g) i = e) : (hd_wl E S).set i (hd_ad E i, e) = hd_wl E (hd_wI S i g) := hd_set hi he (fun _ _ h => hd_ct_wI h) rfl rfl
theorem hd_set_J {E : hd_EV} {S : hd_St} {i : Nat} {g : Nat → Int64} {e : va_E} (hi : i < 52) (he : hd_ct E (hd_wJ S i g) i = e) : (hd_wl E S).set i (hd_ad E i, e) = hd_wl E (hd_wJ S i g) := hd_set hi he (fun _ _ h => hd_ct_wJ h) rfl rfl
theorem hd_set_R {E : hd_EV} {S : hd_St} {i : Nat} {g : Nat → Option Nat} {e : va_E} (hi : i < 52) (he : hd_ct E (hd_wR S i g) i = e) : (hd_wl E S).set i (hd_ad E i, e) = hd_wl E (hd_wR S i g) := hd_set hi he (fun _ _ h => hd_ct_wR h) rfl rfl
/-- arrays of ints: which cell, how long -/
def hd_ia (i n : Nat) : Prop := i < 52 ∧ ∀ (E : hd_EV) (I : Nat → Int32) (J : Nat → Int64) (R : Nat → Option Nat) (N : Nat × Nat), hd_ctc E I J R N i = .inl (hd_cA E 0, n, .inl I)
def hd_la (i n : Nat) : Prop := i < 52 ∧ ∀ (E : hd_EV) (I : Nat → Int32) (J : Nat → Int64) (R : Nat → Option Nat) (N : Nat × Nat), hd_ctc E I J R N i = .inl (hd_cA E 3, n, .inr (.inl J))
def hd_qa (i n t : Nat) : Prop := i < 52 ∧ ∀ (E : hd_EV) (I : Nat → Int32) (J : Nat → Int64) (R : Nat → Option Nat) (N : Nat × Nat), hd_ctc E I J R N i = .inl (hd_cA E t, n, .inr (.inr (.inr (.inr R))))
theorem hd_ia6 {i : Nat} (h : 4 ≤ i ∧ i < 16) : hd_ia i 6 := ⟨by omega, fun E I J R N => by unfold hd_ctc; rw [if_neg (by omega), if_neg (by omega), if_pos (by omega)]⟩
theorem hd_ia4 {i : Nat} (h : 16 ≤ i ∧ i < 22) : hd_ia i 4 := ⟨by omega, fun E I J R N => by unfold hd_ctc; rw [if_neg (by omega), if_neg (by omega), if_neg (by omega), if_pos (by omega)]⟩
theorem hd_qa6 {i : Nat} (h : 22 ≤ i ∧ i < 25) : hd_qa i 6 4 := ⟨by omega, fun E I J R N => by unfold hd_ctc; rw [if_neg (by omega), if_neg (by omega), if_neg (by omega), if_neg (by omega), if_pos (by omega)]⟩
theorem hd_ia26 : hd_ia 26 3 := ⟨by decide, fun _ _ _ _ _ => rfl⟩
theorem hd_ia39 : hd_ia 39 47 := ⟨by decide, fun _ _ _ _ _ => rfl⟩
theorem hd_ia40 : hd_ia 40 47 := ⟨by decide, fun _ _ _ _ _ => rfl⟩
theorem hd_ia41 : hd_ia 41 47 := ⟨by decide, fun _ _ _ _ _ => rfl⟩
theorem hd_ia42 : hd_ia 42 5 := ⟨by decide, fun _ _ _ _ _ => rfl⟩
theorem hd_ia45 : hd_ia 45 8 := ⟨by decide, fun _ _ _ _ _ => rfl⟩
theorem hd_ia46 : hd_ia 46 8 := ⟨by decide, fun _ _ _ _ _ => rfl⟩
theorem hd_ia47 : hd_ia 47 8 := ⟨by decide, fun _ _ _ _ _ => rfl⟩
theorem hd_ia48 : hd_ia 48 8 := ⟨by decide, fun _ _ _ _ _ => rfl⟩
theorem hd_ia49 : hd_ia 49 8 := ⟨by decide, fun _ _ _ _ _ => rfl⟩
theorem hd_ia50 : hd_ia 50 800 := ⟨by decide, fun _ _ _ _ _ => rfl⟩
theorem hd_la43 : hd_la 43 13 := ⟨by decide, fun _ _ _ _ _ => rfl⟩
theorem hd_la44 : hd_la 44 13 := ⟨by decide, fun _ _ _ _ _ => rfl⟩
theorem hd_la51 : hd_la 51 1 := ⟨by decide, fun _ _ _ _ _ => rfl⟩
theorem hd_la13 {i : Nat} (h : i = 27 ∨ i = 28) : hd_la i 13 := by
  rcases h with rfl | rfl
  · exact ⟨by decide, fun _ _ _ _ _ => rfl⟩
  · exact ⟨by decide, fun _ _ _ _ _ => rfl⟩
theorem hd_qa25 : hd_qa 25 100 5 := ⟨by decide, fun _ _ _ _ _ => rfl⟩
/-- an index in its range, as a test -/
def hd_ck (i : Int32) (n : Nat) : Bool := decide (¬ (i < 0 ∨ n ≤ i.toNatClampNeg))
theorem hd_ck_in {i : Int32} {n : Nat} (h : hd_ck i n = true) : vp_in i n := by
  have h2 := of_decide_eq_true h
  exact h2
theorem hd_ck_of {i : Int32} {n : Nat} (h : vp_in i n) : hd_ck i n = true := by
  have h2 : ¬ (i < 0 ∨ n ≤ i.toNatClampNeg) := h
  exact decide_eq_true h2
def hd_bI (b : Bool) : Int32 := if b = true then 1 else 0
def hd_nm {α β : Sort _} (x : α) (k : α → β) : β := k x
theorem hd_if {c : Prop} [Decidable c] {α : Type} {r : α} {o : Option α} (h : (if c then o else none) = some r) : c ∧ o = some r := by
  by_cases q : c
  · rw [if_pos q] at h; exact ⟨q, h⟩
  · rw [if_neg q] at h; cases h
theorem hd_pos {c : Prop} [Decidable c] {α : Sort _} {a b r : α} (h : (if c then a else b) = r) (q : c) : a = r := by rw [if_pos q] at h; exact h
theorem hd_neg {c : Prop} [Decidable c] {α : Sort _} {a b r : α} (h : (if c then a else b) = r) (q : ¬ c) : b = r := by rw [if_neg q] at h; exact h
theorem hd_bind {α β : Type} {o : Option α} {f : α → Option β} {r : β} (h : o.bind f = some r) : ∃ a, o = some a ∧ f a = some r := by
  cases o with
  | none => cases h
  | some a => exact ⟨a, rfl, h⟩
/-- casts that fail, by names -/
def hd_ncl : List (String × String) := [("BladeBetweenThumbs", "BladeBetweenThumbs$Blow"), ("BladeBetweenThumbs", "BladeBetweenThumbs$Broken"), ("BladeBetweenThumbs", "BladeBetweenThumbs$Shelf"), ("BladeBetweenThumbs", "BladeBetweenThumbs$Told"), ("BladeBetweenThumbs", "BladeBetweenThumbs$Tossed"), ("BladeBetweenThumbs", "[B"), ("BladeBetweenThumbs", "[I"), ("BladeBetweenThumbs", "[S"), ("BladeBetweenThumbs", "java/lang/ArithmeticException"), ("BladeBetweenThumbs", "java/lang/ArrayIndexOutOfBoundsException"), ("BladeBetweenThumbs", "java/lang/ClassCastException"), ("BladeBetweenThumbs", "java/lang/IllegalArgumentException"), ("BladeBetweenThumbs", "java/lang/IllegalStateException"), ("BladeBetweenThumbs", "java/lang/IndexOutOfBoundsException"), ("BladeBetweenThumbs", "java/lang/NegativeArraySizeException"), ("BladeBetweenThumbs", "java/lang/NullPointerException"), ("BladeBetweenThumbs$Blow", "BladeBetweenThumbs$Broken"), ("BladeBetweenThumbs$Blow", "BladeBetweenThumbs$Shelf"), ("BladeBetweenThumbs$Blow", "BladeBetweenThumbs$Told"), ("BladeBetweenThumbs$Blow", "BladeBetweenThumbs$Tossed"), ("BladeBetweenThumbs$Blow", "[B"), ("BladeBetweenThumbs$Blow", "[I"), ("BladeBetweenThumbs$Blow", "[S"), ("BladeBetweenThumbs$Blow", "java/lang/ArithmeticException"), ("BladeBetweenThumbs$Blow", "java/lang/ArrayIndexOutOfBoundsException"), ("BladeBetweenThumbs$Blow", "java/lang/ClassCastException"), ("BladeBetweenThumbs$Blow", "java/lang/IllegalArgumentException"), ("BladeBetweenThumbs$Blow", "java/lang/IllegalStateException"), ("BladeBetweenThumbs$Blow", "java/lang/IndexOutOfBoundsException"), ("BladeBetweenThumbs$Blow", "java/lang/NegativeArraySizeException"), ("BladeBetweenThumbs$Blow", "java/lang/NullPointerException"), ("BladeBetweenThumbs$Broken", "BladeBetweenThumbs$Blow"), ("BladeBetweenThumbs$Broken", "BladeBetweenThumbs$Shelf"), ("BladeBetweenThumbs$Broken", "BladeBetweenThumbs$Told"), ("BladeBetweenThumbs$Broken", "BladeBetweenThumbs$Tossed"), ("BladeBetweenThumbs$Broken", "[B"), ("BladeBetweenThumbs$Broken", "[I"), ("BladeBetweenThumbs$Broken", "[S"), ("BladeBetweenThumbs$Broken", "java/lang/ArithmeticException"), ("BladeBetweenThumbs$Broken", "java/lang/ArrayIndexOutOfBoundsException"), ("BladeBetweenThumbs$Broken", "java/lang/ClassCastException"), ("BladeBetweenThumbs$Broken", "java/lang/IllegalArgumentException"), ("BladeBetweenThumbs$Broken", "java/lang/IllegalStateException"), ("BladeBetweenThumbs$Broken", "java/lang/IndexOutOfBoundsException"), ("BladeBetweenThumbs$Broken", "java/lang/NegativeArraySizeException"), ("BladeBetweenThumbs$Broken", "java/lang/NullPointerException"), ("BladeBetweenThumbs$Cupped", "BladeBetweenThumbs$Broken"), ("BladeBetweenThumbs$Cupped", "BladeBetweenThumbs$Shelf"), ("BladeBetweenThumbs$Cupped", "BladeBetweenThumbs$Told"), ("BladeBetweenThumbs$Cupped", "BladeBetweenThumbs$Tossed"), ("BladeBetweenThumbs$Cupped", "[B"), ("BladeBetweenThumbs$Cupped", "[I"), ("BladeBetweenThumbs$Cupped", "[S"), ("BladeBetweenThumbs$Cupped", "java/lang/ArithmeticException"), ("BladeBetweenThumbs$Cupped", "java/lang/ArrayIndexOutOfBoundsException"), ("BladeBetweenThumbs$Cupped", "java/lang/ClassCastException"), ("BladeBetweenThumbs$Cupped", "java/lang/IllegalArgumentException"), ("BladeBetweenThumbs$Cupped", "java/lang/IllegalStateException"), ("BladeBetweenThumbs$Cupped", "java/lang/IndexOutOfBoundsException"), ("BladeBetweenThumbs$Cupped", "java/lang/NegativeArraySizeException"), ("BladeBetweenThumbs$Cupped", "java/lang/NullPointerException"), ("BladeBetweenThumbs$Empty", "BladeBetweenThumbs$Broken"), ("BladeBetweenThumbs$Empty", "BladeBetweenThumbs$Shelf"), ("BladeBetweenThumbs$Empty", "BladeBetweenThumbs$Told"), ("BladeBetweenThumbs$Empty", "BladeBetweenThumbs$Tossed"), ("BladeBetweenThumbs$Empty", "[B"), ("BladeBetweenThumbs$Empty", "[I"), ("BladeBetweenThumbs$Empty", "[S"), ("BladeBetweenThumbs$Empty", "java/lang/ArithmeticException"), ("BladeBetweenThumbs$Empty", "java/lang/ArrayIndexOutOfBoundsException"), ("BladeBetweenThumbs$Empty", "java/lang/ClassCastException"), ("BladeBetweenThumbs$Empty", "java/lang/IllegalArgumentException"), ("BladeBetweenThumbs$Empty", "java/lang/IllegalStateException"), ("BladeBetweenThumbs$Empty", "java/lang/IndexOutOfBoundsException"), ("BladeBetweenThumbs$Empty", "java/lang/NegativeArraySizeException"), ("BladeBetweenThumbs$Empty", "java/lang/NullPointerException"), ("BladeBetweenThumbs$Hedge", "BladeBetweenThumbs$Blow"), ("BladeBetweenThumbs$Hedge", "BladeBetweenThumbs$Broken"), ("BladeBetweenThumbs$Hedge", "BladeBetweenThumbs$Shelf"), ("BladeBetweenThumbs$Hedge", "BladeBetweenThumbs$Told"), ("BladeBetweenThumbs$Hedge", "BladeBetweenThumbs$Tossed"), ("BladeBetweenThumbs$Hedge", "[B"), ("BladeBetweenThumbs$Hedge", "[I"), ("BladeBetweenThumbs$Hedge", "[S"), ("BladeBetweenThumbs$Hedge", "java/lang/ArithmeticException"), ("BladeBetweenThumbs$Hedge", "java/lang/ArrayIndexOutOfBoundsException"), ("BladeBetweenThumbs$Hedge", "java/lang/ClassCastException"), ("BladeBetweenThumbs$Hedge", "java/lang/IllegalArgumentException"), ("BladeBetweenThumbs$Hedge", "java/lang/IllegalStateException"), ("BladeBetweenThumbs$Hedge", "java/lang/IndexOutOfBoundsException"), ("BladeBetweenThumbs$Hedge", "java/lang/NegativeArraySizeException"), ("BladeBetweenThumbs$Hedge", "java/lang/NullPointerException"), ("BladeBetweenThumbs$HedgeReader", "BladeBetweenThumbs$Blow"), ("BladeBetweenThumbs$HedgeReader", "BladeBetweenThumbs$Broken"), ("BladeBetweenThumbs$HedgeReader", "BladeBetweenThumbs$Shelf"), ("BladeBetweenThumbs$HedgeReader", "BladeBetweenThumbs$Told"), ("BladeBetweenThumbs$HedgeReader", "BladeBetweenThumbs$Tossed"), ("BladeBetweenThumbs$HedgeReader", "[B"), ("BladeBetweenThumbs$HedgeReader", "[I"), ("BladeBetweenThumbs$HedgeReader", "[S"), ("BladeBetweenThumbs$HedgeReader", "java/lang/ArithmeticException"), ("BladeBetweenThumbs$HedgeReader", "java/lang/ArrayIndexOutOfBoundsException"), ("BladeBetweenThumbs$HedgeReader", "java/lang/ClassCastException"), ("BladeBetweenThumbs$HedgeReader", "java/lang/IllegalArgumentException"), ("BladeBetweenThumbs$HedgeReader", "java/lang/IllegalStateException"), ("BladeBetweenThumbs$HedgeReader", "java/lang/IndexOutOfBoundsException"), ("BladeBetweenThumbs$HedgeReader", "java/lang/NegativeArraySizeException"), ("BladeBetweenThumbs$HedgeReader", "java/lang/NullPointerException"), ("BladeBetweenThumbs$Shelf", "BladeBetweenThumbs$Blow"), ("BladeBetweenThumbs$Shelf", "BladeBetweenThumbs$Broken"), ("BladeBetweenThumbs$Shelf", "BladeBetweenThumbs$Told"), ("BladeBetweenThumbs$Shelf", "BladeBetweenThumbs$Tossed"), ("BladeBetweenThumbs$Shelf", "[B"), ("BladeBetweenThumbs$Shelf", "[I"), ("BladeBetweenThumbs$Shelf", "[S"), ("BladeBetweenThumbs$Shelf", "java/lang/ArithmeticException"), ("BladeBetweenThumbs$Shelf", "java/lang/ArrayIndexOutOfBoundsException"), ("BladeBetweenThumbs$Shelf", "java/lang/ClassCastException"), ("BladeBetweenThumbs$Shelf", "java/lang/IllegalArgumentException"), ("BladeBetweenThumbs$Shelf", "java/lang/IllegalStateException"), ("BladeBetweenThumbs$Shelf", "java/lang/IndexOutOfBoundsException"), ("BladeBetweenThumbs$Shelf", "java/lang/NegativeArraySizeException"), ("BladeBetweenThumbs$Shelf", "java/lang/NullPointerException"), ("BladeBetweenThumbs$Shrieking", "BladeBetweenThumbs$Broken"), ("BladeBetweenThumbs$Shrieking", "BladeBetweenThumbs$Shelf"), ("BladeBetweenThumbs$Shrieking", "BladeBetweenThumbs$Told"), ("BladeBetweenThumbs$Shrieking", "BladeBetweenThumbs$Tossed"), ("BladeBetweenThumbs$Shrieking", "[B"), ("BladeBetweenThumbs$Shrieking", "[I"), ("BladeBetweenThumbs$Shrieking", "[S"), ("BladeBetweenThumbs$Shrieking", "java/lang/ArithmeticException"), ("BladeBetweenThumbs$Shrieking", "java/lang/ArrayIndexOutOfBoundsException"), ("BladeBetweenThumbs$Shrieking", "java/lang/ClassCastException"), ("BladeBetweenThumbs$Shrieking", "java/lang/IllegalArgumentException"), ("BladeBetweenThumbs$Shrieking", "java/lang/IllegalStateException"), ("BladeBetweenThumbs$Shrieking", "java/lang/IndexOutOfBoundsException"), ("BladeBetweenThumbs$Shrieking", "java/lang/NegativeArraySizeException"), ("BladeBetweenThumbs$Shrieking", "java/lang/NullPointerException"), ("BladeBetweenThumbs$Slipped", "BladeBetweenThumbs$Broken"), ("BladeBetweenThumbs$Slipped", "BladeBetweenThumbs$Shelf"), ("BladeBetweenThumbs$Slipped", "BladeBetweenThumbs$Told"), ("BladeBetweenThumbs$Slipped", "BladeBetweenThumbs$Tossed"), ("BladeBetweenThumbs$Slipped", "[B"), ("BladeBetweenThumbs$Slipped", "[I"), ("BladeBetweenThumbs$Slipped", "[S"), ("BladeBetweenThumbs$Slipped", "java/lang/ArithmeticException"), ("BladeBetweenThumbs$Slipped", "java/lang/ArrayIndexOutOfBoundsException"), ("BladeBetweenThumbs$Slipped", "java/lang/ClassCastException"), ("BladeBetweenThumbs$Slipped", "java/lang/IllegalArgumentException"), ("BladeBetweenThumbs$Slipped", "java/lang/IllegalStateException"), ("BladeBetweenThumbs$Slipped", "java/lang/IndexOutOfBoundsException"), ("BladeBetweenThumbs$Slipped", "java/lang/NegativeArraySizeException"), ("BladeBetweenThumbs$Slipped", "java/lang/NullPointerException"), ("BladeBetweenThumbs$Soft", "BladeBetweenThumbs$Broken"), ("BladeBetweenThumbs$Soft", "BladeBetweenThumbs$Shelf"), ("BladeBetweenThumbs$Soft", "BladeBetweenThumbs$Told"), ("BladeBetweenThumbs$Soft", "BladeBetweenThumbs$Tossed"), ("BladeBetweenThumbs$Soft", "[B"), ("BladeBetweenThumbs$Soft", "[I"), ("BladeBetweenThumbs$Soft", "[S"), ("BladeBetweenThumbs$Soft", "java/lang/ArithmeticException"), ("BladeBetweenThumbs$Soft", "java/lang/ArrayIndexOutOfBoundsException"), ("BladeBetweenThumbs$Soft", "java/lang/ClassCastException"), ("BladeBetweenThumbs$Soft", "java/lang/IllegalArgumentException"), ("BladeBetweenThumbs$Soft", "java/lang/IllegalStateException"), ("BladeBetweenThumbs$Soft", "java/lang/IndexOutOfBoundsException"), ("BladeBetweenThumbs$Soft", "java/lang/NegativeArraySizeException"), ("BladeBetweenThumbs$Soft", "java/lang/NullPointerException"), ("BladeBetweenThumbs$Sounding", "BladeBetweenThumbs$Broken"), ("BladeBetweenThumbs$Sounding", "BladeBetweenThumbs$Shelf"), ("BladeBetweenThumbs$Sounding", "BladeBetweenThumbs$Told"), ("BladeBetweenThumbs$Sounding", "BladeBetweenThumbs$Tossed"), ("BladeBetweenThumbs$Sounding", "[B"), ("BladeBetweenThumbs$Sounding", "[I"), ("BladeBetweenThumbs$Sounding", "[S"), ("BladeBetweenThumbs$Sounding", "java/lang/ArithmeticException"), ("BladeBetweenThumbs$Sounding", "java/lang/ArrayIndexOutOfBoundsException"), ("BladeBetweenThumbs$Sounding", "java/lang/ClassCastException"), ("BladeBetweenThumbs$Sounding", "java/lang/IllegalArgumentException"), ("BladeBetweenThumbs$Sounding", "java/lang/IllegalStateException"), ("BladeBetweenThumbs$Sounding", "java/lang/IndexOutOfBoundsException"), ("BladeBetweenThumbs$Sounding", "java/lang/NegativeArraySizeException"), ("BladeBetweenThumbs$Sounding", "java/lang/NullPointerException"), ("BladeBetweenThumbs$Splitting", "BladeBetweenThumbs$Broken"), ("BladeBetweenThumbs$Splitting", "BladeBetweenThumbs$Shelf"), ("BladeBetweenThumbs$Splitting", "BladeBetweenThumbs$Told"), ("BladeBetweenThumbs$Splitting", "BladeBetweenThumbs$Tossed"), ("BladeBetweenThumbs$Splitting", "[B"), ("BladeBetweenThumbs$Splitting", "[I"), ("BladeBetweenThumbs$Splitting", "[S"), ("BladeBetweenThumbs$Splitting", "java/lang/ArithmeticException"), ("BladeBetweenThumbs$Splitting", "java/lang/ArrayIndexOutOfBoundsException"), ("BladeBetweenThumbs$Splitting", "java/lang/ClassCastException"), ("BladeBetweenThumbs$Splitting", "java/lang/IllegalArgumentException"), ("BladeBetweenThumbs$Splitting", "java/lang/IllegalStateException"), ("BladeBetweenThumbs$Splitting", "java/lang/IndexOutOfBoundsException"), ("BladeBetweenThumbs$Splitting", "java/lang/NegativeArraySizeException"), ("BladeBetweenThumbs$Splitting", "java/lang/NullPointerException"), ("BladeBetweenThumbs$Told", "BladeBetweenThumbs$Blow"), ("BladeBetweenThumbs$Told", "BladeBetweenThumbs$Broken"), ("BladeBetweenThumbs$Told", "BladeBetweenThumbs$Shelf"), ("BladeBetweenThumbs$Told", "BladeBetweenThumbs$Tossed"), ("BladeBetweenThumbs$Told", "[B"), ("BladeBetweenThumbs$Told", "[I"), ("BladeBetweenThumbs$Told", "[S"), ("BladeBetweenThumbs$Told", "java/lang/ArithmeticException"), ("BladeBetweenThumbs$Told", "java/lang/ArrayIndexOutOfBoundsException"), ("BladeBetweenThumbs$Told", "java/lang/ClassCastException"), ("BladeBetweenThumbs$Told", "java/lang/IllegalArgumentException"), ("BladeBetweenThumbs$Told", "java/lang/IllegalStateException"), ("BladeBetweenThumbs$Told", "java/lang/IndexOutOfBoundsException"), ("BladeBetweenThumbs$Told", "java/lang/NegativeArraySizeException"), ("BladeBetweenThumbs$Told", "java/lang/NullPointerException"), ("BladeBetweenThumbs$Tossed", "BladeBetweenThumbs$Blow"), ("BladeBetweenThumbs$Tossed", "BladeBetweenThumbs$Broken"), ("BladeBetweenThumbs$Tossed", "BladeBetweenThumbs$Shelf"), ("BladeBetweenThumbs$Tossed", "BladeBetweenThumbs$Told"), ("BladeBetweenThumbs$Tossed", "[B"), ("BladeBetweenThumbs$Tossed", "[I"), ("BladeBetweenThumbs$Tossed", "[S"), ("BladeBetweenThumbs$Tossed", "java/lang/ArithmeticException"), ("BladeBetweenThumbs$Tossed", "java/lang/ArrayIndexOutOfBoundsException"), ("BladeBetweenThumbs$Tossed", "java/lang/ClassCastException"), ("BladeBetweenThumbs$Tossed", "java/lang/IllegalArgumentException"), ("BladeBetweenThumbs$Tossed", "java/lang/IllegalStateException"), ("BladeBetweenThumbs$Tossed", "java/lang/IndexOutOfBoundsException"), ("BladeBetweenThumbs$Tossed", "java/lang/NegativeArraySizeException"), ("BladeBetweenThumbs$Tossed", "java/lang/NullPointerException"), ("BladeBetweenThumbsModel", "BladeBetweenThumbs$Blow"), ("BladeBetweenThumbsModel", "BladeBetweenThumbs$Broken"), ("BladeBetweenThumbsModel", "BladeBetweenThumbs$Shelf"), ("BladeBetweenThumbsModel", "BladeBetweenThumbs$Told"), ("BladeBetweenThumbsModel", "BladeBetweenThumbs$Tossed"), ("BladeBetweenThumbsModel", "[B"), ("BladeBetweenThumbsModel", "[I"), ("BladeBetweenThumbsModel", "[S"), ("BladeBetweenThumbsModel", "java/lang/ArithmeticException"), ("BladeBetweenThumbsModel", "java/lang/ArrayIndexOutOfBoundsException"), ("BladeBetweenThumbsModel", "java/lang/ClassCastException"), ("BladeBetweenThumbsModel", "java/lang/IllegalArgumentException"), ("BladeBetweenThumbsModel", "java/lang/IllegalStateException"), ("BladeBetweenThumbsModel", "java/lang/IndexOutOfBoundsException"), ("BladeBetweenThumbsModel", "java/lang/NegativeArraySizeException"), ("BladeBetweenThumbsModel", "java/lang/NullPointerException"), ("[B", "BladeBetweenThumbs$Blow"), ("[B", "[I"), ("[B", "[S"), ("[I", "BladeBetweenThumbs$Blow"), ("[I", "[B"), ("[I", "[S"), ("[J", "BladeBetweenThumbs$Blow"), ("[J", "[B"), ("[J", "[I"), ("[J", "[S"), ("[LBladeBetweenThumbs$Blow;", "BladeBetweenThumbs$Blow"), ("[LBladeBetweenThumbs$Blow;", "[B"), ("[LBladeBetweenThumbs$Blow;", "[I"), ("[LBladeBetweenThumbs$Blow;", "[S"), ("[LBladeBetweenThumbs$Shelf;", "BladeBetweenThumbs$Blow"), ("[LBladeBetweenThumbs$Shelf;", "[B"), ("[LBladeBetweenThumbs$Shelf;", "[I"), ("[LBladeBetweenThumbs$Shelf;", "[S"), ("[LBladeBetweenThumbs$Told;", "BladeBetweenThumbs$Blow"), ("[LBladeBetweenThumbs$Told;", "[B"), ("[LBladeBetweenThumbs$Told;", "[I"), ("[LBladeBetweenThumbs$Told;", "[S"), ("[S", "BladeBetweenThumbs$Blow"), ("[S", "[B"), ("[S", "[I"), ("java/lang/ArithmeticException", "BladeBetweenThumbs$Blow"), ("java/lang/ArithmeticException", "BladeBetweenThumbs$Broken"), ("java/lang/ArithmeticException", "BladeBetweenThumbs$Shelf"), ("java/lang/ArithmeticException", "BladeBetweenThumbs$Told"), ("java/lang/ArithmeticException", "BladeBetweenThumbs$Tossed"), ("java/lang/ArithmeticException", "[B"), ("java/lang/ArithmeticException", "[I"), ("java/lang/ArithmeticException", "[S"), ("java/lang/ArithmeticException", "java/lang/ArrayIndexOutOfBoundsException"), ("java/lang/ArithmeticException", "java/lang/ClassCastException"), ("java/lang/ArithmeticException", "java/lang/IllegalArgumentException"), ("java/lang/ArithmeticException", "java/lang/IllegalStateException"), ("java/lang/ArithmeticException", "java/lang/IndexOutOfBoundsException"), ("java/lang/ArithmeticException", "java/lang/NegativeArraySizeException"), ("java/lang/ArithmeticException", "java/lang/NullPointerException"), ("java/lang/ArrayIndexOutOfBoundsException", "BladeBetweenThumbs$Blow"), ("java/lang/ArrayIndexOutOfBoundsException", "BladeBetweenThumbs$Broken"), ("java/lang/ArrayIndexOutOfBoundsException", "BladeBetweenThumbs$Shelf"), ("java/lang/ArrayIndexOutOfBoundsException", "BladeBetweenThumbs$Told"), ("java/lang/ArrayIndexOutOfBoundsException", "BladeBetweenThumbs$Tossed"), ("java/lang/ArrayIndexOutOfBoundsException", "[B"), ("java/lang/ArrayIndexOutOfBoundsException", "[I"), ("java/lang/ArrayIndexOutOfBoundsException", "[S"), ("java/lang/ArrayIndexOutOfBoundsException", "java/lang/ArithmeticException"), ("java/lang/ArrayIndexOutOfBoundsException", "java/lang/ClassCastException"), ("java/lang/ArrayIndexOutOfBoundsException", "java/lang/IllegalArgumentException"), ("java/lang/ArrayIndexOutOfBoundsException", "java/lang/IllegalStateException"), ("java/lang/ArrayIndexOutOfBoundsException", "java/lang/NegativeArraySizeException"), ("java/lang/ArrayIndexOutOfBoundsException", "java/lang/NullPointerException"), ("java/lang/ClassCastException", "BladeBetweenThumbs$Blow"), ("java/lang/ClassCastException", "BladeBetweenThumbs$Broken"), ("java/lang/ClassCastException", "BladeBetweenThumbs$Shelf"), ("java/lang/ClassCastException", "BladeBetweenThumbs$Told"), ("java/lang/ClassCastException", "BladeBetweenThumbs$Tossed"), ("java/lang/ClassCastException", "[B"), ("java/lang/ClassCastException", "[I"), ("java/lang/ClassCastException", "[S"), ("java/lang/ClassCastException", "java/lang/ArithmeticException"), ("java/lang/ClassCastException", "java/lang/ArrayIndexOutOfBoundsException"), ("java/lang/ClassCastException", "java/lang/IllegalArgumentException"), ("java/lang/ClassCastException", "java/lang/IllegalStateException"), ("java/lang/ClassCastException", "java/lang/IndexOutOfBoundsException"), ("java/lang/ClassCastException", "java/lang/NegativeArraySizeException"), ("java/lang/ClassCastException", "java/lang/NullPointerException"), ("java/lang/IllegalArgumentException", "BladeBetweenThumbs$Blow"), ("java/lang/IllegalArgumentException", "BladeBetweenThumbs$Broken"), ("java/lang/IllegalArgumentException", "BladeBetweenThumbs$Shelf"), ("java/lang/IllegalArgumentException", "BladeBetweenThumbs$Told"), ("java/lang/IllegalArgumentException", "BladeBetweenThumbs$Tossed"), ("java/lang/IllegalArgumentException", "[B"), ("java/lang/IllegalArgumentException", "[I"), ("java/lang/IllegalArgumentException", "[S"), ("java/lang/IllegalArgumentException", "java/lang/ArithmeticException"), ("java/lang/IllegalArgumentException", "java/lang/ArrayIndexOutOfBoundsException"), ("java/lang/IllegalArgumentException", "java/lang/ClassCastException"), ("java/lang/IllegalArgumentException", "java/lang/IllegalStateException"), ("java/lang/IllegalArgumentException", "java/lang/IndexOutOfBoundsException"), ("java/lang/IllegalArgumentException", "java/lang/NegativeArraySizeException"), ("java/lang/IllegalArgumentException", "java/lang/NullPointerException"), ("java/lang/IllegalStateException", "BladeBetweenThumbs$Blow"), ("java/lang/IllegalStateException", "BladeBetweenThumbs$Broken"), ("java/lang/IllegalStateException", "BladeBetweenThumbs$Shelf"), ("java/lang/IllegalStateException", "BladeBetweenThumbs$Told"), ("java/lang/IllegalStateException", "BladeBetweenThumbs$Tossed"), ("java/lang/IllegalStateException", "[B"), ("java/lang/IllegalStateException", "[I"), ("java/lang/IllegalStateException", "[S"), ("java/lang/IllegalStateException", "java/lang/ArithmeticException"), ("java/lang/IllegalStateException", "java/lang/ArrayIndexOutOfBoundsException"), ("java/lang/IllegalStateException", "java/lang/ClassCastException"), ("java/lang/IllegalStateException", "java/lang/IllegalArgumentException"), ("java/lang/IllegalStateException", "java/lang/IndexOutOfBoundsException"), ("java/lang/IllegalStateException", "java/lang/NegativeArraySizeException"), ("java/lang/IllegalStateException", "java/lang/NullPointerException"), ("java/lang/NegativeArraySizeException", "BladeBetweenThumbs$Blow"), ("java/lang/NegativeArraySizeException", "BladeBetweenThumbs$Broken"), ("java/lang/NegativeArraySizeException", "BladeBetweenThumbs$Shelf"), ("java/lang/NegativeArraySizeException", "BladeBetweenThumbs$Told"), ("java/lang/NegativeArraySizeException", "BladeBetweenThumbs$Tossed"), ("java/lang/NegativeArraySizeException", "[B"), ("java/lang/NegativeArraySizeException", "[I"), ("java/lang/NegativeArraySizeException", "[S"), ("java/lang/NegativeArraySizeException", "java/lang/ArithmeticException"), ("java/lang/NegativeArraySizeException", "java/lang/ArrayIndexOutOfBoundsException"), ("java/lang/NegativeArraySizeException", "java/lang/ClassCastException"), ("java/lang/NegativeArraySizeException", "java/lang/IllegalArgumentException"), ("java/lang/NegativeArraySizeException", "java/lang/IllegalStateException"), ("java/lang/NegativeArraySizeException", "java/lang/IndexOutOfBoundsException"), ("java/lang/NegativeArraySizeException", "java/lang/NullPointerException"), ("java/lang/NullPointerException", "BladeBetweenThumbs$Blow"), ("java/lang/NullPointerException", "BladeBetweenThumbs$Broken"), ("java/lang/NullPointerException", "BladeBetweenThumbs$Shelf"), ("java/lang/NullPointerException", "BladeBetweenThumbs$Told"), ("java/lang/NullPointerException", "BladeBetweenThumbs$Tossed"), ("java/lang/NullPointerException", "[B"), ("java/lang/NullPointerException", "[I"), ("java/lang/NullPointerException", "[S"), ("java/lang/NullPointerException", "java/lang/ArithmeticException"), ("java/lang/NullPointerException", "java/lang/ArrayIndexOutOfBoundsException"), ("java/lang/NullPointerException", "java/lang/ClassCastException"), ("java/lang/NullPointerException", "java/lang/IllegalArgumentException"), ("java/lang/NullPointerException", "java/lang/IllegalStateException"), ("java/lang/NullPointerException", "java/lang/IndexOutOfBoundsException"), ("java/lang/NullPointerException", "java/lang/NegativeArraySizeException"), ("java/lang/String", "BladeBetweenThumbs$Blow"), ("java/lang/String", "BladeBetweenThumbs$Shelf"), ("java/lang/String", "BladeBetweenThumbs$Told"), ("java/lang/String", "[B"), ("java/lang/String", "[I"), ("java/lang/String", "[S"), ("java/lang/Throwable", "BladeBetweenThumbs$Blow"), ("java/lang/Throwable", "BladeBetweenThumbs$Shelf"), ("java/lang/Throwable", "BladeBetweenThumbs$Told"), ("java/lang/Throwable", "[B"), ("java/lang/Throwable", "[I"), ("java/lang/Throwable", "[S")]
/-- calls that land in an interface: class of the object, method named, method run -/
def hd_lil : List (String × MethodName × MethodName) := [("BladeBetweenThumbs$Blow", ⟨"BladeBetweenThumbs$Blow", "above", "(I)I"⟩, ⟨"BladeBetweenThumbs$Stretches", "above", "(I)I"⟩), ("BladeBetweenThumbs$Blow", ⟨"BladeBetweenThumbs$Blow", "over", "()I"⟩, ⟨"BladeBetweenThumbs$Blows", "over", "()I"⟩), ("BladeBetweenThumbs$Blow", ⟨"BladeBetweenThumbs$Blow", "pitch", "(III)I"⟩, ⟨"BladeBetweenThumbs$Sounds", "pitch", "(III)I"⟩), ("BladeBetweenThumbs$Blow", ⟨"BladeBetweenThumbs$Blow", "wears", "(I)I"⟩, ⟨"BladeBetweenThumbs$Wears", "wears", "(I)I"⟩), ("BladeBetweenThumbs$Cupped", ⟨"BladeBetweenThumbs$Blow", "above", "(I)I"⟩, ⟨"BladeBetweenThumbs$Stretches", "above", "(I)I"⟩), ("BladeBetweenThumbs$Cupped", ⟨"BladeBetweenThumbs$Blow", "over", "()I"⟩, ⟨"BladeBetweenThumbs$Blows", "over", "()I"⟩), ("BladeBetweenThumbs$Cupped", ⟨"BladeBetweenThumbs$Cupped", "over", "()I"⟩, ⟨"BladeBetweenThumbs$Blows", "over", "()I"⟩), ("BladeBetweenThumbs$Empty", ⟨"BladeBetweenThumbs$Blow", "above", "(I)I"⟩, ⟨"BladeBetweenThumbs$Stretches", "above", "(I)I"⟩), ("BladeBetweenThumbs$Empty", ⟨"BladeBetweenThumbs$Blow", "over", "()I"⟩, ⟨"BladeBetweenThumbs$Blows", "over", "()I"⟩), ("BladeBetweenThumbs$Empty", ⟨"BladeBetweenThumbs$Blow", "pitch", "(III)I"⟩, ⟨"BladeBetweenThumbs$Sounds", "pitch", "(III)I"⟩), ("BladeBetweenThumbs$Empty", ⟨"BladeBetweenThumbs$Blow", "wears", "(I)I"⟩, ⟨"BladeBetweenThumbs$Wears", "wears", "(I)I"⟩), ("BladeBetweenThumbs$Empty", ⟨"BladeBetweenThumbs$Empty", "wears", "(I)I"⟩, ⟨"BladeBetweenThumbs$Wears", "wears", "(I)I"⟩), ("BladeBetweenThumbs$Shrieking", ⟨"BladeBetweenThumbs$Blow", "over", "()I"⟩, ⟨"BladeBetweenThumbs$Blows", "over", "()I"⟩), ("BladeBetweenThumbs$Slipped", ⟨"BladeBetweenThumbs$Blow", "above", "(I)I"⟩, ⟨"BladeBetweenThumbs$Stretches", "above", "(I)I"⟩), ("BladeBetweenThumbs$Slipped", ⟨"BladeBetweenThumbs$Blow", "over", "()I"⟩, ⟨"BladeBetweenThumbs$Blows", "over", "()I"⟩), ("BladeBetweenThumbs$Slipped", ⟨"BladeBetweenThumbs$Blow", "pitch", "(III)I"⟩, ⟨"BladeBetweenThumbs$Sounds", "pitch", "(III)I"⟩), ("BladeBetweenThumbs$Soft", ⟨"BladeBetweenThumbs$Blow", "above", "(I)I"⟩, ⟨"BladeBetweenThumbs$Stretches", "above", "(I)I"⟩), ("BladeBetweenThumbs$Sounding", ⟨"BladeBetweenThumbs$Blow", "above", "(I)I"⟩, ⟨"BladeBetweenThumbs$Stretches", "above", "(I)I"⟩), ("BladeBetweenThumbs$Sounding", ⟨"BladeBetweenThumbs$Blow", "over", "()I"⟩, ⟨"BladeBetweenThumbs$Blows", "over", "()I"⟩), ("BladeBetweenThumbs$Sounding", ⟨"BladeBetweenThumbs$Blow", "pitch", "(III)I"⟩, ⟨"BladeBetweenThumbs$Sounds", "pitch", "(III)I"⟩), ("BladeBetweenThumbs$Sounding", ⟨"BladeBetweenThumbs$Sounding", "above", "(I)I"⟩, ⟨"BladeBetweenThumbs$Stretches", "above", "(I)I"⟩), ("BladeBetweenThumbs$Sounding", ⟨"BladeBetweenThumbs$Sounding", "pitch", "(III)I"⟩, ⟨"BladeBetweenThumbs$Sounds", "pitch", "(III)I"⟩), ("BladeBetweenThumbs$Splitting", ⟨"BladeBetweenThumbs$Blow", "above", "(I)I"⟩, ⟨"BladeBetweenThumbs$Stretches", "above", "(I)I"⟩)]
