set_option maxRecDepth 100000
theorem pk_H_copies : hd_PkS yX2_copies cX2_copies 2 none 2 := ⟨q304, q71, q305, by decide +kernel, by decide +kernel, by decide +kernel⟩
theorem hw_H_copies (l : Launch) (E : hd_EV) (i j : Nat) {n : Nat} (hi : hd_ia i n) (hj : hd_ia j n) (hn : n < 2 ^ 31) (S : hd_St) : hd_Mt l E yX2_copies cX2_copies 2 none (hd_Rm 2 0 0) [.ref (hd_ad E i), .ref (hd_ad E j)] S none (hd_wI S j (va_cpy (hd_I S i) (hd_I S j) 0 0 n)) := by
  refine hd_Mt.start [(0, .ref (hd_ad E i)), (1, .ref (hd_ad E j))] hd_pnX2 rfl (Nat.le_of_ble_eq_true rfl) (fun κ X hl hr hn2 => ?_)
  have X : hd_Cx κ E cX2_copies RX2 2 (hd_Rm 2 0 0) := X
  refine hv_aload_n X dX2_copies_0 0 rfl ?_
  refine hv_iconst X (v := 0) dX2_copies_1 (by decide) ?_
  refine hv_aload_n X dX2_copies_2 1 rfl ?_
  refine hv_iconst X (v := 0) dX2_copies_3 (by decide) ?_
  refine hv_aload_n X dX2_copies_4 1 rfl ?_
  refine hv_alen X hj dX2_copies_5 ?_
  refine hv_copyI X hn hi hj q306 dX2_copies_6 (by decide) (by decide) ?_
  exact hv_vret X hr dX2_copies_9 (Nat.zero_le _) (Nat.zero_le _)
set_option maxRecDepth 100000
/-- the class of what a shelf holds, by its tag -/
def hd_cnm (t : Nat) : String := match t with
  | 0 => "BladeBetweenThumbs$Blow"
  | 1 => "BladeBetweenThumbs$Empty"
  | 2 => "BladeBetweenThumbs$Sounding"
  | 3 => "BladeBetweenThumbs$Shrieking"
  | 4 => "BladeBetweenThumbs$Splitting"
  | 5 => "BladeBetweenThumbs$Cupped"
  | 6 => "BladeBetweenThumbs$Soft"
  | 7 => "BladeBetweenThumbs$Slipped"
  | 8 => "[B"
  | 9 => "[S"
  | 10 => "[I"
  | _ => ""
theorem hd_castself {s : State} {n : String} {c : ClassId} (h : s.vm.findClass n = some c) : va_Nw (.castable n n) s := by
  show (Cond.castable n n).before #[] s = true
  simp [Cond.before, Cond.holds, Cond.value, h, va_asg]
section HDI
variable {κ : hd_VK} {E : hd_EV} {nL cells slots : Nat} {Q : State → Prop} {S : hd_St} {pc : Nat} {lv : List (Nat × Value)} {st : List Value} {cc : ByteArray} {own : String} {R : Room}
theorem hd_recvH (X : hd_Cx κ E cc own nL R) {H : Heap} {a : Nat} (hW : hd_WH E S H) (hc : hd_ch S a = true) : ∃ cell : Cell, H[a]? = some cell ∧ cell.vm.isStatics = false ∧ (hd_kS κ).vm.findClass (hd_cnm (hd_P S a).1) = some cell.cls := by
  obtain ⟨hin, ht⟩ := of_decide_eq_true hc
  obtain ⟨k2, hkk⟩ := hd_pool E hin
  have h11 : (hd_P S a).1 < 8 ∨ (hd_P S a).1 = 8 ∨ (hd_P S a).1 = 9 ∨ (hd_P S a).1 = 10 := by omega
  rcases h11 with h8 | h8 | h8 | h8
  · rw [hd_pE_b h8] at hkk
    generalize (hd_P S a).1 = t at h8 hkk ⊢
    have h8 : t = 0 ∨ t = 1 ∨ t = 2 ∨ t = 3 ∨ t = 4 ∨ t = 5 ∨ t = 6 ∨ t = 7 := by omega
    rcases h8 with rfl | rfl | rfl | rfl | rfl | rfl | rfl | rfl
    · exact va_recv X.K hW.1 (ci := 8) rfl hkk
    · exact va_recv X.K hW.1 (ci := 9) rfl hkk
    · exact va_recv X.K hW.1 (ci := 10) rfl hkk
    · exact va_recv X.K hW.1 (ci := 11) rfl hkk
    · exact va_recv X.K hW.1 (ci := 12) rfl hkk
    · exact va_recv X.K hW.1 (ci := 13) rfl hkk
    · exact va_recv X.K hW.1 (ci := 14) rfl hkk
    · exact va_recv X.K hW.1 (ci := 15) rfl hkk
  · rw [hd_pE_8 h8] at hkk
    rw [h8]
    exact ⟨_, hW.1 k2 _ hkk, rfl, (X.K.2 1 _ rfl).2⟩
  · rw [hd_pE_9 h8] at hkk
    rw [h8]
    exact ⟨_, hW.1 k2 _ hkk, rfl, (X.K.2 2 _ rfl).2⟩
  · rw [hd_pE_10 h8] at hkk
    rw [h8]
    exact ⟨_, hW.1 k2 _ hkk, rfl, (X.K.2 0 _ rfl).2⟩
theorem hv_inst8 (X : hd_Cx κ E cc own nL R) {a : Nat} {α : Type} {o : Option α} {r : α} (h : (if hd_ch S a = true then o else none) = some r) {index : Nat} (q : Cond.classLink own index "[B" ∈ lw_all) (hd : decode cc pc = .ok (.instanceof index, 3)) (k : o = some r → hd_V κ E nL cells slots Q S (pc + 3) lv (.int (hd_bI (decide ((hd_P S a).1 = 8))) :: st)) : hd_V κ E nL cells slots Q S pc lv (.ref a :: st) := fun H locs ls hW hS hl => by
  obtain ⟨hc, h⟩ := hd_if h
  have hrc := hd_recvH X hW hc
  obtain ⟨hin, ht⟩ := of_decide_eq_true hc
  have kk := k h H locs ls hW hS hl
  generalize (hd_P S a).1 = t at ht hrc kk
  have h11 : t = 0 ∨ t = 1 ∨ t = 2 ∨ t = 3 ∨ t = 4 ∨ t = 5 ∨ t = 6 ∨ t = 7 ∨ t = 8 ∨ t = 9 ∨ t = 10 := by omega
  rcases h11 with rfl | rfl | rfl | rfl | rfl | rfl | rfl | rfl | rfl | rfl | rfl
  · exact va_instNo X.1 X.2.1 X.ow (X.ts _ q) (X.nc (q := ("BladeBetweenThumbs$Blow", "[B")) (List.mem_of_getElem? (i := 20) rfl)) hrc hd kk
  · exact va_instNo X.1 X.2.1 X.ow (X.ts _ q) (X.nc (q := ("BladeBetweenThumbs$Empty", "[B")) (List.mem_of_getElem? (i := 65) rfl)) hrc hd kk
  · exact va_instNo X.1 X.2.1 X.ow (X.ts _ q) (X.nc (q := ("BladeBetweenThumbs$Sounding", "[B")) (List.mem_of_getElem? (i := 172) rfl)) hrc hd kk
  · exact va_instNo X.1 X.2.1 X.ow (X.ts _ q) (X.nc (q := ("BladeBetweenThumbs$Shrieking", "[B")) (List.mem_of_getElem? (i := 127) rfl)) hrc hd kk
  · exact va_instNo X.1 X.2.1 X.ow (X.ts _ q) (X.nc (q := ("BladeBetweenThumbs$Splitting", "[B")) (List.mem_of_getElem? (i := 187) rfl)) hrc hd kk
  · exact va_instNo X.1 X.2.1 X.ow (X.ts _ q) (X.nc (q := ("BladeBetweenThumbs$Cupped", "[B")) (List.mem_of_getElem? (i := 50) rfl)) hrc hd kk
  · exact va_instNo X.1 X.2.1 X.ow (X.ts _ q) (X.nc (q := ("BladeBetweenThumbs$Soft", "[B")) (List.mem_of_getElem? (i := 157) rfl)) hrc hd kk
  · exact va_instNo X.1 X.2.1 X.ow (X.ts _ q) (X.nc (q := ("BladeBetweenThumbs$Slipped", "[B")) (List.mem_of_getElem? (i := 142) rfl)) hrc hd kk
  · exact va_instY X.1 X.2.1 X.ow (X.ts _ q) (hd_castself (X.K.2 1 _ rfl).2) hrc hd kk
  · exact va_instNo X.1 X.2.1 X.ow (X.ts _ q) (X.nc (q := ("[S", "[B")) (List.mem_of_getElem? (i := 267) rfl)) hrc hd kk
  · exact va_instNo X.1 X.2.1 X.ow (X.ts _ q) (X.nc (q := ("[I", "[B")) (List.mem_of_getElem? (i := 248) rfl)) hrc hd kk
theorem hv_inst9 (X : hd_Cx κ E cc own nL R) {a : Nat} {α : Type} {o : Option α} {r : α} (h : (if hd_ch S a = true then o else none) = some r) {index : Nat} (q : Cond.classLink own index "[S" ∈ lw_all) (hd : decode cc pc = .ok (.instanceof index, 3)) (k : o = some r → hd_V κ E nL cells slots Q S (pc + 3) lv (.int (hd_bI (decide ((hd_P S a).1 = 9))) :: st)) : hd_V κ E nL cells slots Q S pc lv (.ref a :: st) := fun H locs ls hW hS hl => by
  obtain ⟨hc, h⟩ := hd_if h
  have hrc := hd_recvH X hW hc
  obtain ⟨hin, ht⟩ := of_decide_eq_true hc
  have kk := k h H locs ls hW hS hl
  generalize (hd_P S a).1 = t at ht hrc kk
  have h11 : t = 0 ∨ t = 1 ∨ t = 2 ∨ t = 3 ∨ t = 4 ∨ t = 5 ∨ t = 6 ∨ t = 7 ∨ t = 8 ∨ t = 9 ∨ t = 10 := by omega
  rcases h11 with rfl | rfl | rfl | rfl | rfl | rfl | rfl | rfl | rfl | rfl | rfl
  · exact va_instNo X.1 X.2.1 X.ow (X.ts _ q) (X.nc (q := ("BladeBetweenThumbs$Blow", "[S")) (List.mem_of_getElem? (i := 22) rfl)) hrc hd kk
  · exact va_instNo X.1 X.2.1 X.ow (X.ts _ q) (X.nc (q := ("BladeBetweenThumbs$Empty", "[S")) (List.mem_of_getElem? (i := 67) rfl)) hrc hd kk
  · exact va_instNo X.1 X.2.1 X.ow (X.ts _ q) (X.nc (q := ("BladeBetweenThumbs$Sounding", "[S")) (List.mem_of_getElem? (i := 174) rfl)) hrc hd kk
  · exact va_instNo X.1 X.2.1 X.ow (X.ts _ q) (X.nc (q := ("BladeBetweenThumbs$Shrieking", "[S")) (List.mem_of_getElem? (i := 129) rfl)) hrc hd kk
  · exact va_instNo X.1 X.2.1 X.ow (X.ts _ q) (X.nc (q := ("BladeBetweenThumbs$Splitting", "[S")) (List.mem_of_getElem? (i := 189) rfl)) hrc hd kk
  · exact va_instNo X.1 X.2.1 X.ow (X.ts _ q) (X.nc (q := ("BladeBetweenThumbs$Cupped", "[S")) (List.mem_of_getElem? (i := 52) rfl)) hrc hd kk
  · exact va_instNo X.1 X.2.1 X.ow (X.ts _ q) (X.nc (q := ("BladeBetweenThumbs$Soft", "[S")) (List.mem_of_getElem? (i := 159) rfl)) hrc hd kk
  · exact va_instNo X.1 X.2.1 X.ow (X.ts _ q) (X.nc (q := ("BladeBetweenThumbs$Slipped", "[S")) (List.mem_of_getElem? (i := 144) rfl)) hrc hd kk
  · exact va_instNo X.1 X.2.1 X.ow (X.ts _ q) (X.nc (q := ("[B", "[S")) (List.mem_of_getElem? (i := 246) rfl)) hrc hd kk
  · exact va_instY X.1 X.2.1 X.ow (X.ts _ q) (hd_castself (X.K.2 2 _ rfl).2) hrc hd kk
  · exact va_instNo X.1 X.2.1 X.ow (X.ts _ q) (X.nc (q := ("[I", "[S")) (List.mem_of_getElem? (i := 249) rfl)) hrc hd kk
theorem hv_inst10 (X : hd_Cx κ E cc own nL R) {a : Nat} {α : Type} {o : Option α} {r : α} (h : (if hd_ch S a = true then o else none) = some r) {index : Nat} (q : Cond.classLink own index "[I" ∈ lw_all) (hd : decode cc pc = .ok (.instanceof index, 3)) (k : o = some r → hd_V κ E nL cells slots Q S (pc + 3) lv (.int (hd_bI (decide ((hd_P S a).1 = 10))) :: st)) : hd_V κ E nL cells slots Q S pc lv (.ref a :: st) := fun H locs ls hW hS hl => by
  obtain ⟨hc, h⟩ := hd_if h
  have hrc := hd_recvH X hW hc
  obtain ⟨hin, ht⟩ := of_decide_eq_true hc
  have kk := k h H locs ls hW hS hl
  generalize (hd_P S a).1 = t at ht hrc kk
  have h11 : t = 0 ∨ t = 1 ∨ t = 2 ∨ t = 3 ∨ t = 4 ∨ t = 5 ∨ t = 6 ∨ t = 7 ∨ t = 8 ∨ t = 9 ∨ t = 10 := by omega
  rcases h11 with rfl | rfl | rfl | rfl | rfl | rfl | rfl | rfl | rfl | rfl | rfl
  · exact va_instNo X.1 X.2.1 X.ow (X.ts _ q) (X.nc (q := ("BladeBetweenThumbs$Blow", "[I")) (List.mem_of_getElem? (i := 21) rfl)) hrc hd kk
  · exact va_instNo X.1 X.2.1 X.ow (X.ts _ q) (X.nc (q := ("BladeBetweenThumbs$Empty", "[I")) (List.mem_of_getElem? (i := 66) rfl)) hrc hd kk
  · exact va_instNo X.1 X.2.1 X.ow (X.ts _ q) (X.nc (q := ("BladeBetweenThumbs$Sounding", "[I")) (List.mem_of_getElem? (i := 173) rfl)) hrc hd kk
  · exact va_instNo X.1 X.2.1 X.ow (X.ts _ q) (X.nc (q := ("BladeBetweenThumbs$Shrieking", "[I")) (List.mem_of_getElem? (i := 128) rfl)) hrc hd kk
  · exact va_instNo X.1 X.2.1 X.ow (X.ts _ q) (X.nc (q := ("BladeBetweenThumbs$Splitting", "[I")) (List.mem_of_getElem? (i := 188) rfl)) hrc hd kk
  · exact va_instNo X.1 X.2.1 X.ow (X.ts _ q) (X.nc (q := ("BladeBetweenThumbs$Cupped", "[I")) (List.mem_of_getElem? (i := 51) rfl)) hrc hd kk
  · exact va_instNo X.1 X.2.1 X.ow (X.ts _ q) (X.nc (q := ("BladeBetweenThumbs$Soft", "[I")) (List.mem_of_getElem? (i := 158) rfl)) hrc hd kk
  · exact va_instNo X.1 X.2.1 X.ow (X.ts _ q) (X.nc (q := ("BladeBetweenThumbs$Slipped", "[I")) (List.mem_of_getElem? (i := 143) rfl)) hrc hd kk
  · exact va_instNo X.1 X.2.1 X.ow (X.ts _ q) (X.nc (q := ("[B", "[I")) (List.mem_of_getElem? (i := 245) rfl)) hrc hd kk
  · exact va_instNo X.1 X.2.1 X.ow (X.ts _ q) (X.nc (q := ("[S", "[I")) (List.mem_of_getElem? (i := 268) rfl)) hrc hd kk
  · exact va_instY X.1 X.2.1 X.ow (X.ts _ q) (hd_castself (X.K.2 0 _ rfl).2) hrc hd kk
end HDI
