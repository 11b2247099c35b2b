/-! ROWS for what changes: near and then, shelves, blows, rows of numbers -/
set_option maxRecDepth 100000
/-- a blow of the pool -/
def hd_cb (S : hd_St) (a : Nat) : Bool := decide (a ∈ hd_L S ∧ (hd_P S a).1 < 8)
/-- what a shelf may hold -/
def hd_ch (S : hd_St) (a : Nat) : Bool := decide (a ∈ hd_L S ∧ (hd_P S a).1 < 11)
/-- a row of numbers -/
def hd_cr (S : hd_St) (a : Nat) : Bool := decide (a ∈ hd_L S ∧ 8 ≤ (hd_P S a).1 ∧ (hd_P S a).1 < 11)
def hd_cg (S : hd_St) (a t : Nat) : Bool := decide (a ∈ hd_L S ∧ (hd_P S a).1 = t)
def hd_cx (S : hd_St) (a t : Nat) (x : Int32) : Bool := decide ((a ∈ hd_L S ∧ (hd_P S a).1 = t) ∧ ¬ (x < 0 ∨ (hd_P S a).2.1 ≤ x.toNatClampNeg))
/-- a blow array holds blows alone -/
def hd_cbs (S : hd_St) (i : Nat) : Bool := (List.range 6).all (fun k => match hd_R S i k with | none => true | some a => hd_cb S a)
theorem hd_pE_b {E : hd_EV} {x : hd_PE} (h : x.1 < 8) : hd_pE E x = .inr (8 + x.1, [.int (x.2.2 0)]) := by unfold hd_pE; rw [if_pos h]
theorem hd_pE_8 {E : hd_EV} {x : hd_PE} (h : x.1 = 8) : hd_pE E x = .inl (hd_cA E 1, x.2.1, .inl x.2.2) := by unfold hd_pE; rw [if_neg (by omega), if_pos (by omega)]
theorem hd_pE_9 {E : hd_EV} {x : hd_PE} (h : x.1 = 9) : hd_pE E x = .inl (hd_cA E 2, x.2.1, .inl x.2.2) := by unfold hd_pE; rw [if_neg (by omega), if_neg (by omega), if_pos (by omega)]
theorem hd_pE_10 {E : hd_EV} {x : hd_PE} (h : x.1 = 10) : hd_pE E x = .inl (hd_cA E 0, x.2.1, .inl x.2.2) := by unfold hd_pE; rw [if_neg (by omega), if_neg (by omega), if_neg (by omega), if_pos (by omega)]
theorem hd_pE_11 {E : hd_EV} {x : hd_PE} (h : x.1 = 11) : hd_pE E x = .inr (5, [.int (x.2.2 0), .int (x.2.2 1), .ref x.2.1, .int (x.2.2 2)]) := by unfold hd_pE; rw [if_neg (by omega), if_neg (by omega), if_neg (by omega), if_neg (by omega), if_pos (by omega)]
theorem hd_pE_12 {E : hd_EV} {x : hd_PE} (h : x.1 = 12) : hd_pE E x = .inr (4, [.ref x.2.1, .int (x.2.2 0)]) := by unfold hd_pE; rw [if_neg (by omega), if_neg (by omega), if_neg (by omega), if_neg (by omega), if_neg (by omega), if_pos (by omega)]
theorem hd_pE_13 {E : hd_EV} {x : hd_PE} (h : x.1 = 13) : hd_pE E x = .inr (6, [.int (x.2.2 0)]) := by unfold hd_pE; rw [if_neg (by omega), if_neg (by omega), if_neg (by omega), if_neg (by omega), if_neg (by omega), if_neg (by omega), if_pos (by omega)]
theorem hd_pE_14 {E : hd_EV} {x : hd_PE} (h : x.1 = 14) : hd_pE E x = .inr (7, [.int (x.2.2 0)]) := by unfold hd_pE; rw [if_neg (by omega), if_neg (by omega), if_neg (by omega), if_neg (by omega), if_neg (by omega), if_neg (by omega), if_neg (by omega), if_pos (by omega)]
theorem hd_pE_15 {E : hd_EV} {x : hd_PE} (h : x.1 = 15) : hd_pE E x = .inr (5, [.int (x.2.2 0), .int (x.2.2 1), .null, .int (x.2.2 2)]) := by unfold hd_pE; rw [if_neg (by omega), if_neg (by omega), if_neg (by omega), if_neg (by omega), if_neg (by omega), if_neg (by omega), if_neg (by omega), if_neg (by omega), if_pos (by omega)]
theorem hd_pE_16 {E : hd_EV} {x : hd_PE} (h : x.1 = 16) : hd_pE E x = .inr (4, [.null, .int (x.2.2 0)]) := by unfold hd_pE; rw [if_neg (by omega), if_neg (by omega), if_neg (by omega), if_neg (by omega), if_neg (by omega), if_neg (by omega), if_neg (by omega), if_neg (by omega), if_neg (by omega)]
/-- where a cell of the pool stands -/
theorem hd_pool (E : hd_EV) {S : hd_St} {a : Nat} (h : a ∈ hd_L S) : ∃ k : Nat, (hd_wl E S)[k]? = some (a, hd_pE E (hd_P S a)) := va_pl_get (X := hd_fix E S) (f := fun a => hd_pE E (hd_P S a)) h
theorem hd_cl8 : ∀ t, t < 8 → ∃ r : vw_C, hd_cl[8 + t]? = some r ∧ r.2.2 = 1 := by decide
section HDP
variable {κ : hd_VK} {E : hd_EV} {nL cells slots : Nat} {Q : State → Prop} {S : hd_St} {pc : Nat} {lv : List (Nat × Value)} {st : List Value} {cc : ByteArray} {own : String} {R : Room}
theorem hv_okN (k : (hd_N S = 27 ∨ hd_N S = 28) → (hd_M S = 27 ∨ hd_M S = 28) → hd_V κ E nL cells slots Q S pc lv st) : hd_V κ E nL cells slots Q S pc lv st := fun H locs ls hW hS hl => k hW.2.2.1.1 hW.2.2.1.2 H locs ls hW hS hl
theorem hv_ifnonnull (X : hd_Cx κ E cc own nL R) {q : Option Nat} {off : Int} {α : Sort _} {fa fb r : α} (tgt : Nat) (h : (if q.isNone = true then fa else fb) = r) (hd : decode cc pc = .ok (.ifnonnull off, 3)) (ht : (pc : Int) + off = (tgt : Int)) (kt : fb = r → hd_V κ E nL cells slots Q S tgt lv st) (kf : fa = r → hd_V κ E nL cells slots Q S (pc + 3) lv st) : hd_V κ E nL cells slots Q S pc lv (va_rf q :: st) := fun H locs ls hW hS hl => by
  cases q with
  | none => exact lv_ifnonnullN X.1 X.2.1 hd (kf (hd_pos h rfl) H locs ls hW hS hl)
  | some a => exact lv_ifnonnull X.1 X.2.1 hd ht (kt (hd_neg h (by simp)) H locs ls hW hS hl)
theorem hv_ifnull (X : hd_Cx κ E cc own nL R) {q : Option Nat} {off : Int} {α : Sort _} {fa fb r : α} (tgt : Nat) (h : (if q.isNone = true then fa else fb) = r) (hd : decode cc pc = .ok (.ifnull off, 3)) (ht : (pc : Int) + off = (tgt : Int)) (kt : fa = r → hd_V κ E nL cells slots Q S tgt lv st) (kf : fb = r → hd_V κ E nL cells slots Q S (pc + 3) lv st) : hd_V κ E nL cells slots Q S pc lv (va_rf q :: st) := fun H locs ls hW hS hl => by
  cases q with
  | none => exact lv_ifnullN X.1 X.2.1 hd ht (kt (hd_pos h rfl) H locs ls hW hS hl)
  | some a => exact lv_ifnull X.1 X.2.1 hd (kf (hd_neg h (by simp)) H locs ls hW hS hl)
theorem hv_aloadq_n (X : hd_Cx κ E cc own nL R) {k : Fin 4} {x : Option Nat} (hd : decode cc pc = .ok (.aload_n k, 1)) (i : Nat) (hk : lv[i]? = some ((k : Nat), va_rf x)) (kk : hd_V κ E nL cells slots Q S (pc + 1) lv (va_rf x :: st)) : hd_V κ E nL cells slots Q S pc lv st := fun H locs ls hW hS hl => by
  cases x with
  | none => exact lv_aload_nN X.1 X.2.1 hd rfl (lv_at hl i hk) (kk H locs ls hW hS hl)
  | some a => exact lv_aload_n X.1 X.2.1 hd rfl (lv_at hl i hk) (kk H locs ls hW hS hl)
theorem hv_aloadq (X : hd_Cx κ E cc own nL R) {j : Nat} {x : Option Nat} (hd : decode cc pc = .ok (.aload j, 2)) (i : Nat) (hk : lv[i]? = some (j, va_rf x)) (kk : hd_V κ E nL cells slots Q S (pc + 2) lv (va_rf x :: st)) : hd_V κ E nL cells slots Q S pc lv st := fun H locs ls hW hS hl => by
  cases x with
  | none => exact lv_aloadN X.1 X.2.1 hd (lv_at hl i hk) (kk H locs ls hW hS hl)
  | some a => exact lv_aload X.1 X.2.1 hd (lv_at hl i hk) (kk H locs ls hW hS hl)
theorem hv_astoreq_n (X : hd_Cx κ E cc own nL R) {k : Fin 4} {x : Option Nat} (lv2 : List (Nat × Value)) (hd : decode cc pc = .ok (.astore_n k, 1)) (hn : (k : Nat) < nL) (h2 : ((k : Nat), va_rf x) :: lv.filter (fun q => !(q.1 == (k : Nat)) && !(q.1 + 1 == (k : Nat) && q.2.category == 2)) = lv2) (kk : hd_V κ E nL cells slots Q S (pc + 1) lv2 st) : hd_V κ E nL cells slots Q S pc lv (va_rf x :: st) := fun H locs ls hW hS hl => by
  cases x with
  | none => exact lv_astore_nN X.1 X.2.1 hd rfl hl hn h2 (fun ls2 hl2 => kk H locs ls2 hW hS hl2)
  | some a => exact lv_astore_n X.1 X.2.1 hd rfl hl hn h2 (fun ls2 hl2 => kk H locs ls2 hW hS hl2)
theorem hv_astoreq (X : hd_Cx κ E cc own nL R) {j : Nat} {x : Option Nat} (lv2 : List (Nat × Value)) (hd : decode cc pc = .ok (.astore j, 2)) (hn : j < nL) (h2 : (j, va_rf x) :: lv.filter (fun q => !(q.1 == j) && !(q.1 + 1 == j && q.2.category == 2)) = lv2) (kk : hd_V κ E nL cells slots Q S (pc + 2) lv2 st) : hd_V κ E nL cells slots Q S pc lv (va_rf x :: st) := fun H locs ls hW hS hl => by
  cases x with
  | none => exact lv_astoreN X.1 X.2.1 hd hl hn h2 (fun ls2 hl2 => kk H locs ls2 hW hS hl2)
  | some a => exact lv_astore X.1 X.2.1 hd hl hn h2 (fun ls2 hl2 => kk H locs ls2 hW hS hl2)
theorem hv_alenl (X : hd_Cx κ E cc own nL R) {i n : Nat} (ha : hd_la i n) (hd : decode cc pc = .ok (.arraylength, 1)) (k : hd_V κ E nL cells slots Q S (pc + 1) lv (.int (nI n) :: st)) : hd_V κ E nL cells slots Q S pc lv (.ref (hd_ad E i) :: st) := fun H locs ls hW hS hl =>
  va_alen (x := (n, .inr (.inl (hd_J S i)))) X.1 X.2.1 X.K hW.1 i 3 ((hd_at E S ha.1).trans (by rw [show hd_ct E S i = _ from ha.2 E _ _ _ _])) rfl rfl hd (k H locs ls hW hS hl)
/-- which shelf: the array of shelves never changes -/
theorem hv_shald (X : hd_Cx κ E cc own nL R) {x : Int32} {α : Type} {o : Option α} {r : α} (h : (if hd_ck x 8 = true then o else none) = some r) (hd : decode cc pc = .ok (.aaload, 1)) (k : o = some r → x.toNatClampNeg < 8 → hd_V κ E nL cells slots Q S (pc + 1) lv (.ref (hd_ad E (30 + x.toNatClampNeg)) :: st)) : hd_V κ E nL cells slots Q S pc lv (.int x :: .ref (hd_ad E 29) :: st) := fun H locs ls hW hS hl => by
  have h8 : x.toNatClampNeg < 8 := Nat.not_le.mp (fun q => hd_ck_in (hd_if h).1 (Or.inr q))
  have kk := k (hd_if h).2 h8 H locs ls hW hS hl
  refine va_aldq X.1 X.2.1 X.K hW.1 29 6 (n := 8) (f := fun k => if k < 8 then some (hd_ad E (30 + k)) else none) (hd_at E S (by decide)) (C := RX3) rfl (hd_ck_in (hd_if h).1) hd ?_
  rw [if_pos h8]
  exact kk
theorem hd_ctSh {i : Nat} (h : i < 8) : hd_ct E S (30 + i) = .inr (2, [va_rf (hd_R S (30 + i) 0)]) := by
  unfold hd_ct hd_ctc
  rw [if_neg (by omega), if_neg (by omega), if_neg (by omega), if_neg (by omega), if_neg (by omega), if_neg (by omega), if_neg (by omega), if_neg (by omega), if_neg (by omega), if_pos (by omega)]
theorem hg_SH_held (X : hd_Cx κ E cc own nL R) {i : Nat} (hi : i < 8) {index : Nat} (q : Cond.fieldLink own index RX3 "held" "Ljava/lang/Object;" ∈ lw_all) (hd : decode cc pc = .ok (.getfield index, 3)) (kk : hd_V κ E nL cells slots Q S (pc + 3) lv (va_rf (hd_R S (30 + i) 0) :: st)) : hd_V κ E nL cells slots Q S pc lv (.ref (hd_ad E (30 + i)) :: st) := hv_get X (i := 30 + i) (by omega) (hd_ctSh hi) in_X3 rfl 0 (by decide) q rfl rfl hd kk
/-- near, then: which of the two arrays -/
def hd_fs0 (E : hd_EV) (S : hd_St) : List Value := [.ref (hd_ad E 1), .ref (hd_ad E 2), .ref (hd_ad E 3), .int (hd_I S 0 3), .ref (hd_ad E 25), .ref (hd_ad E 26), .ref (hd_ad E (hd_N S)), .ref (hd_ad E (hd_M S)), .int (hd_I S 0 8), .int (hd_I S 0 9), .ref (hd_ad E 29)]
theorem hp_near (X : hd_Cx κ E cc own nL R) {i : Nat} (k : Nat) {n : String} (hk : k < 11) (hT : (TX1 k).2.1 = n) (q0 : (TX1 k).2.2.1 = "[J") (hr : (TX1 k).1 = RX1) (hfin : (TX1 k).2.2.2 = false) {S2 : hd_St} (hc2 : hd_ct E S2 0 = .inr (0, (hd_fs0 E S).set k (.ref (hd_ad E i)))) (ho : ∀ j : Nat, j < 52 → j ≠ 0 → hd_ct E S2 j = hd_ct E S j) (hL : hd_L S2 = hd_L S) (hPP : hd_P S2 = hd_P S) (hok : hd_ok S → hd_ok S2) {index : Nat} (q : Cond.fieldLink own index RX1 n "[J" ∈ lw_all) (hd : decode cc pc = .ok (.putfield index, 3)) (kk : hd_V κ E nL cells slots Q S2 (pc + 3) lv st) : hd_V κ E nL cells slots Q S pc lv (.ref (hd_ad E i) :: .ref (hd_ad E 0) :: st) := fun H locs ls hW hS hl => by
  subst hT
  rw [← q0] at q
  rw [← hr] at q
  refine va_put (D := hd_D E) (ci := 0) (v := .ref (hd_ad E i)) (ty := .array .long) (C := RX1) (T := TX1) (N := 11) X.1 X.2.1 X.ts in_X1 tyX1 tyX1_ok nmX1 X.ow X.K hW.1 hW.2.1 hS 0 (fs := hd_fs0 E S) (hd_at E S (by decide)) rfl k hk (X.ts _ q) (fun _ h9 => h9) hfin (by rw [q0]; decide +kernel) rfl rfl (by show k < 11; exact hk) hd (fun H1 locs1 hP hD hS1 => ?_)
  rw [hd_set (S' := S2) (by decide) hc2 ho hL hPP] at hP hD
  exact kk H1 locs1 ls ⟨hP, hD, hok hW.2.2⟩ hS1 hl
theorem hd_ct_sN {i n : Nat} (h : i ≠ 0) : hd_ct E (hd_sN S n) i = hd_ct E S i := by
  unfold hd_ct hd_ctc
  rw [if_neg h, if_neg h]
  rfl
theorem hd_ct_sM {i n : Nat} (h : i ≠ 0) : hd_ct E (hd_sM S n) i = hd_ct E S i := by
  unfold hd_ct hd_ctc
  rw [if_neg h, if_neg h]
  rfl
theorem hp_C_near (X : hd_Cx κ E cc own nL R) {i : Nat} (h27 : i = 27 ∨ i = 28) {index : Nat} (q : Cond.fieldLink own index RX1 "near" "[J" ∈ lw_all) (hd : decode cc pc = .ok (.putfield index, 3)) (kk : hd_V κ E nL cells slots Q (hd_sN S i) (pc + 3) lv st) : hd_V κ E nL cells slots Q S pc lv (.ref (hd_ad E i) :: .ref (hd_ad E 0) :: st) := hp_near X 6 (by decide) rfl rfl rfl rfl (S2 := hd_sN S i) rfl (fun j _ h => hd_ct_sN h) rfl rfl (fun ok => ⟨⟨h27, ok.1.2⟩, ok.2⟩) q hd kk
theorem hp_C_then (X : hd_Cx κ E cc own nL R) {i : Nat} (h27 : i = 27 ∨ i = 28) {index : Nat} (q : Cond.fieldLink own index RX1 "then" "[J" ∈ lw_all) (hd : decode cc pc = .ok (.putfield index, 3)) (kk : hd_V κ E nL cells slots Q (hd_sM S i) (pc + 3) lv st) : hd_V κ E nL cells slots Q S pc lv (.ref (hd_ad E i) :: .ref (hd_ad E 0) :: st) := hp_near X 7 (by decide) rfl rfl rfl rfl (S2 := hd_sM S i) rfl (fun j _ h => hd_ct_sM h) rfl rfl (fun ok => ⟨⟨ok.1.1, h27⟩, ok.2⟩) q hd kk
/-- a blow's figure -/
theorem hg_B_figure (X : hd_Cx κ E cc own nL R) {a : Nat} {α : Type} {o : Option α} {r : α} (h : (if hd_cb S a = true then o else none) = some r) {index : Nat} (q : Cond.fieldLink own index RX8 "figure" "I" ∈ lw_all) (hd : decode cc pc = .ok (.getfield index, 3)) (k : o = some r → hd_V κ E nL cells slots Q S (pc + 3) lv (.int ((hd_P S a).2.2 0) :: st)) : hd_V κ E nL cells slots Q S pc lv (.ref a :: st) := fun H locs ls hW hS hl => by
  obtain ⟨hc, h⟩ := hd_if h
  obtain ⟨hin, ht⟩ := of_decide_eq_true hc
  obtain ⟨kk, hkk⟩ := hd_pool E hin
  rw [hd_pE_b ht] at hkk
  have hfig := k h H locs ls hW hS hl
  revert hkk
  generalize (hd_P S a).2.2 0 = f at hfig
  generalize (hd_P S a).1 = t at ht
  intro hkk
  have h8 : t = 0 ∨ t = 1 ∨ t = 2 ∨ t = 3 ∨ t = 4 ∨ t = 5 ∨ t = 6 ∨ t = 7 := by omega
  rcases h8 with rfl | rfl | rfl | rfl | rfl | rfl | rfl | rfl
  · exact va_get (D := hd_D E) (ci := 8) (v := .int f) (C := RX8) (T := TX8) (N := 1) X.1 X.2.1 X.ts in_X8 X.ow X.K hW.1 kk hkk rfl 0 (by decide) (X.ts _ q) (fun _ h9 => h9) rfl hd hfig
  · exact va_get (D := hd_D E) (ci := 9) (v := .int f) (C := RX9) (T := TX9) (N := 1) X.1 X.2.1 X.ts in_X9 X.ow X.K hW.1 kk hkk rfl 0 (by decide) (X.ts _ q) (fun _ h9 => h9) rfl hd hfig
  · exact va_get (D := hd_D E) (ci := 10) (v := .int f) (C := RX10) (T := TX10) (N := 1) X.1 X.2.1 X.ts in_X10 X.ow X.K hW.1 kk hkk rfl 0 (by decide) (X.ts _ q) (fun _ h9 => h9) rfl hd hfig
  · exact va_get (D := hd_D E) (ci := 11) (v := .int f) (C := RX11) (T := TX11) (N := 1) X.1 X.2.1 X.ts in_X11 X.ow X.K hW.1 kk hkk rfl 0 (by decide) (X.ts _ q) (fun _ h9 => h9) rfl hd hfig
  · exact va_get (D := hd_D E) (ci := 12) (v := .int f) (C := RX12) (T := TX12) (N := 1) X.1 X.2.1 X.ts in_X12 X.ow X.K hW.1 kk hkk rfl 0 (by decide) (X.ts _ q) (fun _ h9 => h9) rfl hd hfig
  · exact va_get (D := hd_D E) (ci := 13) (v := .int f) (C := RX13) (T := TX13) (N := 1) X.1 X.2.1 X.ts in_X13 X.ow X.K hW.1 kk hkk rfl 0 (by decide) (X.ts _ q) (fun _ h9 => h9) rfl hd hfig
  · exact va_get (D := hd_D E) (ci := 14) (v := .int f) (C := RX14) (T := TX14) (N := 1) X.1 X.2.1 X.ts in_X14 X.ow X.K hW.1 kk hkk rfl 0 (by decide) (X.ts _ q) (fun _ h9 => h9) rfl hd hfig
  · exact va_get (D := hd_D E) (ci := 15) (v := .int f) (C := RX15) (T := TX15) (N := 1) X.1 X.2.1 X.ts in_X15 X.ow X.K hW.1 kk hkk rfl 0 (by decide) (X.ts _ q) (fun _ h9 => h9) rfl hd hfig
/-- any blow is castable to the class of blows -/
theorem hd_anyB (X : hd_Cx κ E cc own nL R) {H : Heap} {a : Nat} (hW : hd_WH E S H) (hc : hd_cb S a = true) : va_Any RX8 (hd_kS κ) H a := by
  obtain ⟨hin, ht⟩ := of_decide_eq_true hc
  obtain ⟨kk, hkk⟩ := hd_pool E hin
  rw [hd_pE_b ht] at hkk
  generalize (hd_P S a).1 = t at ht hkk
  have key : ∀ (C : String) (T : u_T), hd_cl[8 + t]? = some (C, T, 1) → (C = RX8 ∨ (Cond.castable C RX8 ∈ lw_tbl)) → va_Any RX8 (hd_kS κ) H a := by
    intro C T hcl hca
    refine va_rAny X.K hW.1 hkk hcl (fun comp c0 h1 h2 => ?_)
    rcases hca with rfl | hca
    · cases h1.symm.trans h2
      exact va_asg _ _
    · obtain ⟨c1, t1, f1, f2, f3⟩ := Cond.castable_spec (va_Nw.use (A := #[]) rfl (X.nw hca rfl))
      cases f1.symm.trans h2
      cases f2.symm.trans h1
      exact f3
  have h8 : t = 0 ∨ t = 1 ∨ t = 2 ∨ t = 3 ∨ t = 4 ∨ t = 5 ∨ t = 6 ∨ t = 7 := by omega
  rcases h8 with rfl | rfl | rfl | rfl | rfl | rfl | rfl | rfl
  · exact key _ _ rfl (Or.inl rfl)
  · exact key _ _ rfl (Or.inr q1731)
  · exact key _ _ rfl (Or.inr q1735)
  · exact key _ _ rfl (Or.inr q1732)
  · exact key _ _ rfl (Or.inr q1736)
  · exact key _ _ rfl (Or.inr q1730)
  · exact key _ _ rfl (Or.inr q1734)
  · exact key _ _ rfl (Or.inr q1733)
theorem hv_bast (X : hd_Cx κ E cc own nL R) {i a : Nat} {x : Int32} {α : Type} {o : Option α} {r : α} (h : (if hd_ck x 6 = true then (if hd_cb S a = true then o else none) else none) = some r) (ha : hd_qa i 6 4) (hd : decode cc pc = .ok (.aastore, 1)) (k : o = some r → hd_V κ E nL cells slots Q (hd_sR S i x.toNatClampNeg (some a)) (pc + 1) lv st) : hd_V κ E nL cells slots Q S pc lv (.ref a :: .int x :: .ref (hd_ad E i) :: st) := fun H locs ls hW hS hl => by
  obtain ⟨h1, h⟩ := hd_if h
  obtain ⟨h2, h⟩ := hd_if h
  refine va_astqM X.1 X.2.1 X.K hW.1 hW.2.1 hS i 4 (E := RX8) ((hd_at E S ha.1).trans (by rw [show hd_ct E S i = _ from ha.2 E _ _ _ _])) rfl (hd_anyB X hW h2) (hd_ck_in h1) hd (fun H1 locs1 hP hD hS1 => ?_)
  rw [hd_set_R (g := va_up (hd_R S i) x.toNatClampNeg (some a)) ha.1 (by show hd_ctc E _ _ _ _ i = _; rw [ha.2, hd_R_wR, if_pos rfl])] at hP hD
  exact k h H1 locs1 ls ⟨hP, hD, hW.2.2⟩ hS1 hl
theorem hv_copyB (X : hd_Cx κ E cc own nL R) {i j : Nat} {α : Type} {o : Option α} {r : α} (h : (if hd_cbs S i = true then o else none) = some r) (ha : hd_qa i 6 4) (hb : hd_qa j 6 4) {index : Nat} (q : Cond.methodLink own index arraycopyName ∈ lw_all) (hd : decode cc pc = .ok (.invokestatic index, 3)) (hf : 1 ≤ R.frames) (hlo : (st.map fun v => v.category).sum + (nativeFrameWords "java/lang/System" "arraycopy" 5 + 11) ≤ R.locals) (k : o = some r → hd_V κ E nL cells slots Q (hd_wR S j (va_cpy (hd_R S i) (hd_R S j) 0 0 6)) (pc + 3) lv st) : hd_V κ E nL cells slots Q S pc lv (.int 6 :: .int 0 :: .ref (hd_ad E j) :: .int 0 :: .ref (hd_ad E i) :: st) := fun H locs ls hW hS hl => by
  obtain ⟨h1, h⟩ := hd_if h
  have hel : ∀ z : Nat, z < 6 → ∀ y : Nat, hd_R S i z = some y → va_Any RX8 (hd_kS κ) H y := by
    intro z hz y hy
    have := List.all_eq_true.mp h1 z (List.mem_range.mpr hz)
    rw [hy] at this
    exact hd_anyB X hW this
  refine va_copyM X.1 X.2.1 (X.2.2.1.trans hl.1.symm) X.ow (X.ts _ q) (X.ts _ q308) (X.ts _ q307) (X.ts _ q82) X.K hW.1 hW.2.1 hS i j 4 4 (E0 := RX8) (E1 := RX8) (n0 := 6) (n1 := 6) (f := hd_R S i) (g := hd_R S j) ((hd_at E S ha.1).trans (by rw [show hd_ct E S i = _ from ha.2 E _ _ _ _])) ((hd_at E S hb.1).trans (by rw [show hd_ct E S j = _ from hb.2 E _ _ _ _])) rfl rfl (by decide) (by decide) (by decide) (by decide) (by decide) (fun z hz y hy => hel z (by simpa using hz) y (by simpa using hy)) (by rw [X.S0]; exact hf) (by rw [X.S0]; exact hlo) hd (fun H1 locs1 hP hD hS1 => ?_)
  rw [hd_set_R (g := va_cpy (hd_R S i) (hd_R S j) 0 0 6) hb.1 (by show hd_ctc E _ _ _ _ j = _; rw [hb.2, hd_R_wR, if_pos rfl]; rfl)] at hP hD
  exact k h H1 locs1 ls ⟨hP, hD, hW.2.2⟩ hS1 hl
theorem hv_copyI (X : hd_Cx κ E cc own nL R) {i j n : Nat} (hn : n < 2 ^ 31) (ha : hd_ia i n) (hb : hd_ia j n) {index : Nat} (q : Cond.methodLink own index arraycopyName ∈ lw_all) (hd : decode cc pc = .ok (.invokestatic index, 3)) (hf : 1 ≤ R.frames) (hlo : (st.map fun v => v.category).sum + (nativeFrameWords "java/lang/System" "arraycopy" 5 + 11) ≤ R.locals) (k : hd_V κ E nL cells slots Q (hd_wI S j (va_cpy (hd_I S i) (hd_I S j) 0 0 n)) (pc + 3) lv st) : hd_V κ E nL cells slots Q S pc lv (.int (nI n) :: .int 0 :: .ref (hd_ad E j) :: .int 0 :: .ref (hd_ad E i) :: st) := fun H locs ls hW hS hl => by
  have hcl := nI_clamp hn
  have h0 : (0 : Int32).toNatClampNeg = 0 := by decide
  refine va_copyi X.1 X.2.1 (X.2.2.1.trans hl.1.symm) X.ow (X.ts _ q) (X.ts _ q308) (X.ts _ q307) (X.ts _ q82) X.K hW.1 hW.2.1 hS i j 0 0 (n0 := n) (n1 := n) (f := hd_I S i) (g := hd_I S j) ((hd_at E S ha.1).trans (by rw [show hd_ct E S i = _ from ha.2 E _ _ _ _])) ((hd_at E S hb.1).trans (by rw [show hd_ct E S j = _ from hb.2 E _ _ _ _])) rfl rfl rfl (by decide) (by decide) (nI_pos hn) (by rw [h0, hcl]; omega) (by rw [h0, hcl]; omega) (fun _ _ => rfl) (by rw [X.S0]; exact hf) (by rw [X.S0]; exact hlo) hd (fun H1 locs1 hP hD hS1 => ?_)
  rw [h0, hcl] at hP hD
  rw [hd_set_I (g := va_cpy (hd_I S i) (hd_I S j) 0 0 n) hb.1 (by show hd_ctc E _ _ _ _ j = _; rw [hb.2, hd_I_wI, if_pos rfl])] at hP hD
  exact k H1 locs1 ls ⟨hP, hD, hW.2.2⟩ hS1 hl
theorem hv_cN {n c k : Nat} (X : hd_Cx κ E cc own nL (hd_Rm n c k)) {y : MethodName} {cy : ByteArray} {nY na m index : Nat} {host : String} {ret : Option FieldType} {av rest st0 st1 : List Value} {rv : Option Value} {S1 : hd_St} (pk : hd_PkS y cy nY ret na) (hM : hd_Mt (hd_kL κ) E y cy nY ret (hd_Rm m 0 0) av S rv S1) (q : Cond.methodLinkNest own index y host ∈ lw_tbl) (hq : hd_nw (Cond.methodLinkNest own index y host) = true) (hd : decode cc pc = .ok (.invokestatic index, 3)) (hmn : m < n) (hnY : nY ≤ 41) (hcc : cells ≤ c) (hss : slots ≤ k) (hn : av.length = na) (hst : st0 = av.reverse ++ rest) (hrm : (rest.map fun v => v.category).sum ≤ 8) (h1 : rv.toList ++ rest = st1) (kk : hd_V κ E nL cells slots Q S1 (pc + 3) lv st1) : hd_V κ E nL cells slots Q S pc lv st0 := by
  refine hv_ran X (mc := 0) (ms := 0) (fun H locs ls hW hS hl => ⟨_, va_runSN (y := y) (host := host) (bytes := cy) (maxL := nY) (ret := ret) (Ts := lw_all) ⟨X.1, X.2.1, X.2.2.1, X.ow, X.ts⟩ hM ⟨va_cnB na X.ts (lw_meth pk.2.2.1) rfl rfl rfl (X.nw q hq) (X.ts _ pk.2.1) ⟨pk.2.2.2.1, pk.2.2.2.2.1, pk.2.2.2.2.2⟩ (by rw [X.S0]; exact ⟨by show m + 1 ≤ n; omega, by show 8 + (nY + 11) + 60 * m ≤ 60 * n; omega⟩), X.ts _ pk.1, trivial⟩ ⟨hd_Pc_blind E S av, hd_pre X hW hS⟩ rfl hn hl.1 hst (lv_room hrm) hd (by rw [X.S0]; exact ⟨hcc, hss⟩)⟩) h1 kk
theorem hv_pald8 (X : hd_Cx κ E cc own nL R) {a : Nat} {x : Int32} {α : Type} {o : Option α} {r : α} (h : (if hd_cx S a 8 x = true then o else none) = some r) (hd : decode cc pc = .ok (.baload, 1)) (k : o = some r → hd_V κ E nL cells slots Q S (pc + 1) lv (.int ((hd_P S a).2.2 x.toNatClampNeg) :: st)) : hd_V κ E nL cells slots Q S pc lv (.int x :: .ref a :: st) := fun H locs ls hW hS hl => by
  obtain ⟨hc, h⟩ := hd_if h
  obtain ⟨⟨hin, ht⟩, hx⟩ := of_decide_eq_true hc
  obtain ⟨kk, hkk⟩ := hd_pool E hin
  rw [hd_pE_8 ht] at hkk
  exact va_bald X.1 X.2.1 X.K hW.1 kk 1 hkk rfl hx hd (k h H locs ls hW hS hl)
theorem hv_cast8 (X : hd_Cx κ E cc own nL R) {a : Nat} {α : Type} {o : Option α} {r : α} (h : (if hd_cg S a 8 = true then o else none) = some r) {index : Nat} (q : Cond.classLink own index "[B" ∈ lw_all) (hd : decode cc pc = .ok (.checkcast index, 3)) (k : o = some r → hd_V κ E nL cells slots Q S (pc + 3) lv (.ref a :: st)) : hd_V κ E nL cells slots Q S pc lv (.ref a :: st) := fun H locs ls hW hS hl => by
  obtain ⟨hc, h⟩ := hd_if h
  obtain ⟨hin, ht⟩ := of_decide_eq_true hc
  obtain ⟨kk, hkk⟩ := hd_pool E hin
  rw [hd_pE_8 ht] at hkk
  exact va_castA X.1 X.2.1 X.ow (X.ts _ q) hW.1 kk hkk (X.K.2 1 _ rfl).2 hd (k h H locs ls hW hS hl)
theorem hv_pald9 (X : hd_Cx κ E cc own nL R) {a : Nat} {x : Int32} {α : Type} {o : Option α} {r : α} (h : (if hd_cx S a 9 x = true then o else none) = some r) (hd : decode cc pc = .ok (.saload, 1)) (k : o = some r → hd_V κ E nL cells slots Q S (pc + 1) lv (.int ((hd_P S a).2.2 x.toNatClampNeg) :: st)) : hd_V κ E nL cells slots Q S pc lv (.int x :: .ref a :: st) := fun H locs ls hW hS hl => by
  obtain ⟨hc, h⟩ := hd_if h
  obtain ⟨⟨hin, ht⟩, hx⟩ := of_decide_eq_true hc
  obtain ⟨kk, hkk⟩ := hd_pool E hin
  rw [hd_pE_9 ht] at hkk
  exact va_sald X.1 X.2.1 X.K hW.1 kk 2 hkk rfl hx hd (k h H locs ls hW hS hl)
theorem hv_cast9 (X : hd_Cx κ E cc own nL R) {a : Nat} {α : Type} {o : Option α} {r : α} (h : (if hd_cg S a 9 = true then o else none) = some r) {index : Nat} (q : Cond.classLink own index "[S" ∈ lw_all) (hd : decode cc pc = .ok (.checkcast index, 3)) (k : o = some r → hd_V κ E nL cells slots Q S (pc + 3) lv (.ref a :: st)) : hd_V κ E nL cells slots Q S pc lv (.ref a :: st) := fun H locs ls hW hS hl => by
  obtain ⟨hc, h⟩ := hd_if h
  obtain ⟨hin, ht⟩ := of_decide_eq_true hc
  obtain ⟨kk, hkk⟩ := hd_pool E hin
  rw [hd_pE_9 ht] at hkk
  exact va_castA X.1 X.2.1 X.ow (X.ts _ q) hW.1 kk hkk (X.K.2 2 _ rfl).2 hd (k h H locs ls hW hS hl)
theorem hv_pald10 (X : hd_Cx κ E cc own nL R) {a : Nat} {x : Int32} {α : Type} {o : Option α} {r : α} (h : (if hd_cx S a 10 x = true then o else none) = some r) (hd : decode cc pc = .ok (.iaload, 1)) (k : o = some r → hd_V κ E nL cells slots Q S (pc + 1) lv (.int ((hd_P S a).2.2 x.toNatClampNeg) :: st)) : hd_V κ E nL cells slots Q S pc lv (.int x :: .ref a :: st) := fun H locs ls hW hS hl => by
  obtain ⟨hc, h⟩ := hd_if h
  obtain ⟨⟨hin, ht⟩, hx⟩ := of_decide_eq_true hc
  obtain ⟨kk, hkk⟩ := hd_pool E hin
  rw [hd_pE_10 ht] at hkk
  exact va_iald X.1 X.2.1 X.K hW.1 kk 0 hkk rfl hx hd (k h H locs ls hW hS hl)
theorem hv_cast10 (X : hd_Cx κ E cc own nL R) {a : Nat} {α : Type} {o : Option α} {r : α} (h : (if hd_cg S a 10 = true then o else none) = some r) {index : Nat} (q : Cond.classLink own index "[I" ∈ lw_all) (hd : decode cc pc = .ok (.checkcast index, 3)) (k : o = some r → hd_V κ E nL cells slots Q S (pc + 3) lv (.ref a :: st)) : hd_V κ E nL cells slots Q S pc lv (.ref a :: st) := fun H locs ls hW hS hl => by
  obtain ⟨hc, h⟩ := hd_if h
  obtain ⟨hin, ht⟩ := of_decide_eq_true hc
  obtain ⟨kk, hkk⟩ := hd_pool E hin
  rw [hd_pE_10 ht] at hkk
  exact va_castA X.1 X.2.1 X.ow (X.ts _ q) hW.1 kk hkk (X.K.2 0 _ rfl).2 hd (k h H locs ls hW hS hl)
theorem hv_plen (X : hd_Cx κ E cc own nL R) {a : Nat} {α : Type} {o : Option α} {r : α} (h : (if hd_cr S a = true then o else none) = some r) (hd : decode cc pc = .ok (.arraylength, 1)) (k : o = some r → hd_V κ E nL cells slots Q S (pc + 1) lv (.int (nI (hd_P S a).2.1) :: st)) : hd_V κ E nL cells slots Q S pc lv (.ref a :: st) := fun H locs ls hW hS hl => by
  obtain ⟨hc, h⟩ := hd_if h
  obtain ⟨hin, h8, h11⟩ := of_decide_eq_true hc
  obtain ⟨kk, hkk⟩ := hd_pool E hin
  have ht : (hd_P S a).1 = 8 ∨ (hd_P S a).1 = 9 ∨ (hd_P S a).1 = 10 := by omega
  rcases ht with ht | ht | ht
  · rw [hd_pE_8 ht] at hkk
    exact va_alen X.1 X.2.1 X.K hW.1 kk 1 hkk rfl rfl hd (k h H locs ls hW hS hl)
  · rw [hd_pE_9 ht] at hkk
    exact va_alen X.1 X.2.1 X.K hW.1 kk 2 hkk rfl rfl hd (k h H locs ls hW hS hl)
  · rw [hd_pE_10 ht] at hkk
    exact va_alen X.1 X.2.1 X.K hW.1 kk 0 hkk rfl rfl hd (k h H locs ls hW hS hl)
end HDP
