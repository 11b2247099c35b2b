/-! METHODS THAT MAKE THINGS OR THROW: contracts by what they must bring about (hd_Mx), a thrown object over a frame (hd_VX), and the machine's own exceptions -/
set_option maxRecDepth 100000
abbrev hd_Re : Type := Option Value ⊕ (String × Nat)
def hd_Qr (E : hd_EV) (P : hd_Re → hd_St → Prop) : Array Value → State → Outcome → State → Prop := fun _ st o t => (∃ (rv : Option Value) (S : hd_St), o = .returned rv ∧ P (.inl rv) S ∧ hd_WH E S t.heap) ∧ va_F (hd_fA E) st t
def hd_Xr (E : hd_EV) (P : hd_Re → hd_St → Prop) : String → Addr → State → State → Prop := fun C q st t => (∃ S : hd_St, P (.inr (C, q)) S ∧ hd_WH E S t.heap) ∧ va_F (hd_fA E) st t
def hd_Mx (l : Launch) (E : hd_EV) (ws : List Cond) (y : MethodName) (R : Room) (av : List Value) (S : hd_St) (P : hd_Re → hd_St → Prop) : Prop := hx_Met l y ws R (hd_Pc E S av) (hd_Qr E P) (hd_Xr E P) R.cells R.slots (hd_fA E)
def hd_Qx (κ : hd_VK) (E : hd_EV) (P : hd_Re → hd_St → Prop) : State → Prop := hx_MQ (hd_kB κ) (hd_Qr E P) (hd_Xr E P) (hd_kA κ) (hd_kS κ) (hd_kR κ).cells (hd_kR κ).slots (hd_fA E)
/-- q, of class C, thrown over the frame -/
def hd_VX (κ : hd_VK) (E : hd_EV) (nL cells slots : Nat) (Q : State → Prop) (S : hd_St) (pc : Nat) (lv : List (Nat × Value)) (C : String) (q : Nat) : Prop :=
  ∀ (H : Heap) (locs : List Loc) (ls : Array Slot) (ce : Cell) (rest : List Value), hd_WH E S H → va_S (hd_fA E) (hd_kS κ).heap H locs → lv_has ls nL lv → H[q]? = some ce → ce.vm = .none → (hd_kS κ).vm.findClass C = some ce.cls →
    vx_W (hd_kP κ) (hd_kL κ) (hd_kE κ) (hd_kR κ) (hd_kS κ) (hd_kM κ) (hd_kA κ) (hd_kB κ) (hd_kQ κ) (hd_kC κ) H locs cells slots Q (F0 (hd_kM κ) pc ls rest) q
/-- the context, and the method's table of handlers -/
def hd_Tb (κ : hd_VK) (t : List ExceptionTableEntry) : Prop := (hd_kC κ).exceptionTable.toList = t
theorem hd_Mx.start {l : Launch} {E : hd_EV} {y : MethodName} {cc : ByteArray} {nL : Nat} {ret : Option FieldType} {R : Room} {av : List Value} {S : hd_St} {P : hd_Re → hd_St → Prop} (lv : List (Nat × Value)) (hy : plainName y.cls = true) (hlv : lv_args 0 av = lv) (hn : (lg_sl av).length ≤ nL)
    (body : ∀ κ : hd_VK, hd_Cx κ E cc y.cls nL R → hd_kL κ = l → (hd_kQ κ).sig.returnType = ret → hd_Tb κ [] → (hd_kQ κ).name = y.name → hd_V κ E nL 0 0 (hd_Qx κ E P) S 0 lv []) : hd_Mx l E (ws_ y cc nL ret) y R av S P := by
  subst hlv
  refine hx_ofW (cc := cc) (maxL := nL) (ret := ret) hy rfl ?_
  intro p e s m args below meth c s₁ B hml htb hv
  obtain ⟨rfl, hK, hZ, hbase, hWH⟩ := hv
  have hts := atoms_spec (ws := ws_ y cc nL ret) B.pre
  have hts : ∀ w ∈ lw_all, w.before av.toArray s = true := fun w h => hts w (List.mem_cons_of_mem _ h)
  have hl := lv_entry av (n := nL) hn
  rw [lg_entry_eq]
  exact body (p, l, e, (headSpec (ws_ y cc nL ret) R).room, s, m, av.toArray, below, meth, c) ⟨B.exec, B.bytes, hml, findClass_of_methodNamed B.named, hts, rfl, hK, hZ, hbase, B.notSynchronized⟩ rfl B.returns (List.eq_nil_iff_forall_not_mem.mpr htb) (name_of_methodNamed B.named B.method).1 s.heap [] _ hWH va_S.rf hl
theorem hd_Mx.startH {l : Launch} {E : hd_EV} {y : MethodName} {cc : ByteArray} {nL : Nat} {ret : Option FieldType} {hh : List (Nat × Nat × Nat × Nat)} {R : Room} {av : List Value} {S : hd_St} {P : hd_Re → hd_St → Prop} (lv : List (Nat × Value)) (hy : plainName y.cls = true) (hlv : lv_args 0 av = lv) (hn : (lg_sl av).length ≤ nL)
    (body : ∀ κ : hd_VK, hd_Cx κ E cc y.cls nL R → hd_kL κ = l → (hd_kQ κ).sig.returnType = ret → hd_Tb κ (tableOf hh) → hd_V κ E nL 0 0 (hd_Qx κ E P) S 0 lv []) : hd_Mx l E (wsW_ y cc nL ret hh) y R av S P := by
  subst hlv
  refine hx_ofWH (cc := cc) (maxL := nL) (ret := ret) (hh := hh) hy rfl ?_
  intro p e s m args below meth c s₁ B hml hv
  obtain ⟨rfl, hK, hZ, hbase, hWH⟩ := hv
  have hts := atoms_spec (ws := wsW_ y cc nL ret hh) B.pre
  have htb : c.exceptionTable.toList = tableOf hh := vx_table (x := y) B (hts _ List.mem_cons_self)
  have hts : ∀ w ∈ lw_all, w.before av.toArray s = true := fun w h => hts w (List.mem_cons_of_mem _ h)
  have hl := lv_entry av (n := nL) hn
  rw [lg_entry_eq]
  exact body (p, l, e, (headSpec (wsW_ y cc nL ret hh) R).room, s, m, av.toArray, below, meth, c) ⟨B.exec, B.bytes, hml, findClass_of_methodNamed B.named, hts, rfl, hK, hZ, hbase, B.notSynchronized⟩ rfl B.returns htb s.heap [] _ hWH va_S.rf hl
theorem hd_WH.kept {E : hd_EV} {S : hd_St} {H H1 : Heap} (h : hd_WH E S H) (hk : ∀ q : Nat, q < H.size → H1[q]? = H[q]?) : hd_WH E S H1 := ⟨h.1.kept (fun k x hx => hk x.1 (vx_lt h.1 hx)), h.2.1, h.2.2⟩
section HDX
variable {κ : hd_VK} {E : hd_EV} {nL cells slots : Nat} {Q : State → Prop} {S : hd_St} {pc : Nat} {lv : List (Nat × Value)} {st : List Value} {cc : ByteArray} {own : String} {R : Room} {P : hd_Re → hd_St → Prop}
theorem hd_Cx.at (X : hd_Cx κ E cc own nL R) {ws : List Cond} (ps : List Nat) (hp : ws = ps.filterMap (fun i => lw_tbl[i]?)) (hg : ws.all (fun w => goodWord w || (hd_nw w && w.onTables)) = true) : ∀ w ∈ ws, w.before (hd_kA κ) (hd_kS κ) = true := by
  intro w hw
  have ht : w ∈ lw_tbl := by
    rw [hp] at hw
    obtain ⟨i, -, hi⟩ := List.mem_filterMap.mp hw
    exact List.mem_of_getElem? hi
  have h := List.all_eq_true.mp hg w hw
  rw [Bool.or_eq_true] at h
  rcases h with h | h
  · exact X.ts w (lw_g ht h)
  · rw [Bool.and_eq_true] at h
    exact va_Nw.use (A := hd_kA κ) h.2 (X.nw ht h.1)
theorem hx_iret (X : hd_Cx κ E cc own nL R) {r : Int32} (h : P (.inl (some (.int r))) S) (hr : (hd_kQ κ).sig.returnType = some .int) (hd : decode cc pc = .ok (.ireturn, 1)) (hc : cells ≤ R.cells) (hs : slots ≤ R.slots) : hd_V κ E nL cells slots (hd_Qx κ E P) S pc lv [.int r] := fun H locs ls hW hS hl => by
  have hlk := X.locks
  refine W.widen (k := (hd_kR κ).cells) (n := (hd_kR κ).slots) (by rw [X.S0]; exact hc) (by rw [X.S0]; exact hs) ?_
  exact hx_ret (W.iret (v := r) X.1 X.2.1 hr (fun t ht hW2 => ⟨⟨_, S, rfl, h, by rw [ht]; exact hW⟩, hS.F ht⟩) hS.2.2 hd)
theorem hx_lret (X : hd_Cx κ E cc own nL R) {r : Int64} (h : P (.inl (some (.long r))) S) (hr : (hd_kQ κ).sig.returnType = some .long) (hd : decode cc pc = .ok (.lreturn, 1)) (hc : cells ≤ R.cells) (hs : slots ≤ R.slots) : hd_V κ E nL cells slots (hd_Qx κ E P) S pc lv [.long r] := fun H locs ls hW hS hl => by
  have hlk := X.locks
  refine W.widen (k := (hd_kR κ).cells) (n := (hd_kR κ).slots) (by rw [X.S0]; exact hc) (by rw [X.S0]; exact hs) ?_
  exact hx_ret (W.lret (v := r) X.1 X.2.1 hr (fun t ht hW2 => ⟨⟨_, S, rfl, h, by rw [ht]; exact hW⟩, hS.F ht⟩) hS.2.2 hd)
theorem hx_zret (X : hd_Cx κ E cc own nL R) {x : Int32} {b : Bool} (h : P (.inl (some (.int (hd_bI b)))) S) (hr : (hd_kQ κ).sig.returnType = some .boolean) (hx : x = hd_bI b) (hd : decode cc pc = .ok (.ireturn, 1)) (hc : cells ≤ R.cells) (hs : slots ≤ R.slots) : hd_V κ E nL cells slots (hd_Qx κ E P) S pc lv [.int x] := fun H locs ls hW hS hl => by
  have hlk := X.locks
  subst hx
  refine W.widen (k := (hd_kR κ).cells) (n := (hd_kR κ).slots) (by rw [X.S0]; exact hc) (by rw [X.S0]; exact hs) ?_
  exact hx_ret (W.zret (v := hd_bI b) X.1 X.2.1 hr (by cases b <;> rfl) (fun t ht hW2 => ⟨⟨_, S, rfl, h, by rw [ht]; exact hW⟩, hS.F ht⟩) hS.2.2 hd)
theorem hx_vret (X : hd_Cx κ E cc own nL R) (h : P (.inl none) S) (hr : (hd_kQ κ).sig.returnType = none) (hd : decode cc pc = .ok (.return_, 1)) (hc : cells ≤ R.cells) (hs : slots ≤ R.slots) : hd_V κ E nL cells slots (hd_Qx κ E P) S pc lv [] := fun H locs ls hW hS hl => by
  have hlk := X.locks
  refine W.widen (k := (hd_kR κ).cells) (n := (hd_kR κ).slots) (by rw [X.S0]; exact hc) (by rw [X.S0]; exact hs) ?_
  exact hx_ret (W.vret X.1 X.2.1 hr (fun t ht hW2 => ⟨⟨_, S, rfl, h, by rw [ht]; exact hW⟩, hS.F ht⟩) hS.2.2 hd)
theorem hx_aret (X : hd_Cx κ E cc own nL R) {q : Option Nat} {C : String} (h : P (.inl (some (va_rf q))) S) (hr : (hd_kQ κ).sig.returnType = some (.object C)) (hd : decode cc pc = .ok (.areturn, 1)) (hc : cells ≤ R.cells) (hs : slots ≤ R.slots) : hd_V κ E nL cells slots (hd_Qx κ E P) S pc lv [va_rf q] := fun H locs ls hW hS hl => by
  have hlk := X.locks
  refine W.widen (k := (hd_kR κ).cells) (n := (hd_kR κ).slots) (by rw [X.S0]; exact hc) (by rw [X.S0]; exact hs) ?_
  have hv : va_rf q = .null ∨ ∃ a, va_rf q = .ref a := by
    cases q with
    | none => exact Or.inl rfl
    | some a => exact Or.inr ⟨a, rfl⟩
  exact hx_ret (W.aret (v := va_rf q) X.1 X.2.1 hr (Or.inl ⟨_, rfl⟩) hv (fun t ht hW2 => ⟨⟨_, S, rfl, h, by rw [ht]; exact hW⟩, hS.F ht⟩) hS.2.2 hd)
/-- not caught here -/
theorem hx_outR (X : hd_Cx κ E cc own nL R) {t : List ExceptionTableEntry} {C : String} {q : Nat} (htb : hd_Tb κ t) (hpass : ∀ z ∈ t, covers z pc = false ∨ (z.catchType ≠ 0 ∧ ∃ nm : String, Cond.classLink own z.catchType nm ∈ lw_all ∧ (C, nm) ∈ hd_ncl)) (h : P (.inr (C, q)) S) (hc : cells ≤ R.cells) (hs : slots ≤ R.slots) : hd_VX κ E nL cells slots (hd_Qx κ E P) S pc lv C q := fun H locs ls ce rest hW hS hl h1 h2 h3 => by
  refine hx_outP X.ow X.locks (fun z hz => ?_) h1 h2 h3 (fun t ht _ => ⟨⟨S, h, by rw [ht]; exact hW⟩, hS.F ht⟩) hS.2.2 (by rw [X.S0]; exact hc) (by rw [X.S0]; exact hs)
  rcases hpass z (by rw [show t = _ from htb.symm]; exact hz) with g | ⟨g1, nm, g2, g3⟩
  · exact Or.inl g
  · exact Or.inr ⟨g1, nm, X.ts _ g2, X.nc g3⟩
/-- caught here -/
theorem hx_catch (X : hd_Cx κ E cc own nL R) {t : List ExceptionTableEntry} {C nm : String} {q : Nat} (htb : hd_Tb κ t) (pre : List ExceptionTableEntry) (x : ExceptionTableEntry) (suf : List ExceptionTableEntry) (hsplit : t = pre ++ x :: suf) (hpass : ∀ z ∈ pre, covers z pc = false ∨ (z.catchType ≠ 0 ∧ ∃ nm : String, Cond.classLink own z.catchType nm ∈ lw_all ∧ (C, nm) ∈ hd_ncl)) (hx : covers x pc = true) (h0 : x.catchType ≠ 0)
    (hlink : Cond.classLink own x.catchType nm ∈ lw_all) (hcast : Cond.castable C nm ∈ lw_tbl) (k : hd_V κ E nL cells slots Q S x.handlerPc lv [.ref q]) : hd_VX κ E nL cells slots Q S pc lv C q := fun H locs ls ce rest hW hS hl h1 h2 h3 => by
  refine vx_catch X.ow pre x suf (htb.trans hsplit) (fun z hz => ?_) hx h0 (X.ts _ hlink) (va_Nw.use (A := hd_kA κ) rfl (X.nw hcast rfl)) h1 h2 h3 (k H locs ls hW hS hl)
  rcases hpass z hz with g | ⟨g1, nm, g2, g3⟩
  · exact Or.inl g
  · exact Or.inr ⟨g1, nm, X.ts _ g2, X.nc g3⟩
/-- athrow of an object of the world -/
theorem hx_athrow (X : hd_Cx κ E cc own nL R) {C : String} {q : Nat} (hrc : ∃ (k ci : Nat) (fs : List Value) (r : vw_C), (hd_wl E S)[k]? = some (q, .inr (ci, fs)) ∧ hd_cl[ci]? = some r ∧ r.1 = C) (hd : decode cc pc = .ok (.athrow, 1)) (k : hd_VX κ E nL cells slots Q S pc lv C q) : hd_V κ E nL cells slots Q S pc lv (.ref q :: st) := fun H locs ls hW hS hl => by
  obtain ⟨k1, ci, fs, r, h1, h2, rfl⟩ := hrc
  obtain ⟨q', g0, cell, g1, g2, g3, -⟩ := hW.1 k1 _ h1
  exact vx_athrow X.1 X.2.1 hd (k H locs ls cell st hW hS hl g1 g3 (by rw [g2]; exact (X.K.1 ci r h2).2.1))
/-- a call that returns or throws -/
theorem hx_ran {mc ms : Nat} {rest st0 : List Value} {P1 : hd_Re → hd_St → Prop} (hr : ∀ (H : Heap) (locs : List Loc) (ls : Array Slot), hd_WH E S H → va_S (hd_fA E) (hd_kS κ).heap H locs → lv_has ls nL lv → ∃ a : Array Value, hx_Run (hd_kP κ) (hd_kL κ) (hd_kE κ) (hd_kR κ) (hd_kS κ) (hd_kM κ) (hd_kA κ) (hd_kB κ) (hd_kQ κ) (hd_kC κ) H locs cells slots mc ms (F0 (hd_kM κ) pc ls st0) rest (hd_Qr E P1 a) (hd_Xr E P1) (hd_fA E))
    (kx : ∀ (C : String) (q : Nat) (S1 : hd_St), P1 (.inr (C, q)) S1 → hd_VX κ E nL (cells + mc) (slots + ms) Q S1 pc lv C q)
    (k : ∀ (rv : Option Value) (S1 : hd_St), P1 (.inl rv) S1 → hd_V κ E nL (cells + mc) (slots + ms) Q S1 (pc + 3) lv (rv.toList ++ rest)) : hd_V κ E nL cells slots Q S pc lv st0 := by
  intro H locs ls hW hS hl T hT X1
  obtain ⟨a, hr⟩ := hr H locs ls hW hS hl
  rcases hr T hT X1 with ⟨v, st₀, t, T', L, h0, X', hL, e1, e2, ⟨⟨rv, S1, hv, hp, hw⟩, hz, hk⟩, stp⟩ | ⟨q, st₀, t, T', L, C, ce, h0, X', hL, e1, e2, ⟨⟨S1, hp, hw⟩, hz, hk⟩, hce, hcv, hcl, stp⟩
  · cases hv
    rw [h0] at hz hk
    obtain ⟨t2, a1, b1⟩ := k _ S1 hp T'.heap (locs ++ L) ls (by rw [e1]; exact hw) ⟨Nat.le_trans hS.1 (by rw [e1]; exact hz), fun q h1 h2 => by rw [e1, hk q (Nat.lt_of_lt_of_le h1 hS.1) h2]; exact hS.2.1 q h1 h2, fun q hq => by
        rcases List.mem_append.mp hq with h | h
        · exact hS.2.2 q h
        · exact hL q h⟩ hl T' rfl X'
    exact ⟨t2, stp t2 a1, b1⟩
  · rw [h0] at hz hk
    obtain ⟨t2, a1, b1⟩ := kx C q S1 hp T'.heap (locs ++ L) ls ce rest (by rw [e1]; exact hw) ⟨Nat.le_trans hS.1 (by rw [e1]; exact hz), fun q h1 h2 => by rw [e1, hk q (Nat.lt_of_lt_of_le h1 hS.1) h2]; exact hS.2.1 q h1 h2, fun q hq => by
        rcases List.mem_append.mp hq with h | h
        · exact hS.2.2 q h
        · exact hL q h⟩ hl (by rw [e1]; exact hce) hcv hcl T' rfl X'
    exact ⟨t2, stp.trans a1, b1⟩
end HDX
section HDXC
variable {κ : hd_VK} {E : hd_EV} {nL cells slots n c k : Nat} {Q : State → Prop} {S : hd_St} {pc : Nat} {lv : List (Nat × Value)} {st : List Value} {cc : ByteArray} {own : String}
theorem hx_cV (X : hd_Cx κ E cc own nL (hd_Rm n c k)) {C : String} {y : MethodName} {cy : ByteArray} {nY na m mc ms index b : Nat} {ret : Option FieldType} {av rest st0 : List Value} {P1 : hd_Re → hd_St → Prop} (pk : hd_PkV C y cy nY ret na) (hrc : hd_rc κ E S b C) (hM : hd_Mx (hd_kL κ) E (ws_ y cy nY ret) y (hd_Rm m mc ms) (.ref b :: av) S P1) (q : Cond.methodLink own index y ∈ lw_all) (hd : decode cc pc = .ok (.invokevirtual index, 3)) (hmn : m < n) (hnY : nY ≤ 41) (hcc : cells + mc ≤ c) (hss : slots + ms ≤ k) (hn : av.length = na) (hst : st0 = av.reverse ++ .ref b :: rest) (hrm : (rest.map fun v => v.category).sum ≤ 8)
    (kx : ∀ (C : String) (q : Nat) (S1 : hd_St), P1 (.inr (C, q)) S1 → hd_VX κ E nL (cells + mc) (slots + ms) Q S1 pc lv C q)
    (kk : ∀ (rv : Option Value) (S1 : hd_St), P1 (.inl rv) S1 → hd_V κ E nL (cells + mc) (slots + ms) Q S1 (pc + 3) lv (rv.toList ++ rest)) : hd_V κ E nL cells slots Q S pc lv st0 :=
  hx_ran (fun H locs ls hW hS hl => ⟨_, hx_runV (y := y) (C := C) (bytes := cy) (maxL := nY) (ret := ret) ⟨X.1, X.2.1, X.2.2.1, X.ow, X.ts⟩ hM (cwV na X.ts (lw_V q pk.1 pk.2.1 pk.2.2.1 pk.2.2.2.1) rfl rfl rfl ⟨pk.2.2.2.2.1, pk.2.2.2.2.2.1, pk.2.2.2.2.2.2.1, pk.2.2.2.2.2.2.2⟩ (by rw [X.S0]; exact ⟨by show m + 1 ≤ n; omega, by show 8 + (nY + 11) + 60 * m ≤ 60 * n; omega⟩)) ⟨hd_Pc_blind E S _, hd_recv X hW hrc, hd_pre X hW hS⟩ rfl hn hl.1 hst (lv_room hrm) hd (by rw [X.S0]; exact ⟨hcc, hss⟩)⟩) kx kk
theorem hx_cS (X : hd_Cx κ E cc own nL (hd_Rm n c k)) {y : MethodName} {cy : ByteArray} {nY na m mc ms index : Nat} {ret : Option FieldType} {av rest st0 : List Value} {P1 : hd_Re → hd_St → Prop} (pk : hd_PkS y cy nY ret na) (hM : hd_Mx (hd_kL κ) E (ws_ y cy nY ret) y (hd_Rm m mc ms) av S P1) (q : Cond.methodLink own index y ∈ lw_all) (hd : decode cc pc = .ok (.invokestatic index, 3)) (hmn : m < n) (hnY : nY ≤ 41) (hcc : cells + mc ≤ c) (hss : slots + ms ≤ k) (hn : av.length = na) (hst : st0 = av.reverse ++ rest) (hrm : (rest.map fun v => v.category).sum ≤ 8)
    (kx : ∀ (C : String) (q : Nat) (S1 : hd_St), P1 (.inr (C, q)) S1 → hd_VX κ E nL (cells + mc) (slots + ms) Q S1 pc lv C q)
    (kk : ∀ (rv : Option Value) (S1 : hd_St), P1 (.inl rv) S1 → hd_V κ E nL (cells + mc) (slots + ms) Q S1 (pc + 3) lv (rv.toList ++ rest)) : hd_V κ E nL cells slots Q S pc lv st0 :=
  hx_ran (fun H locs ls hW hS hl => ⟨_, hx_runS (y := y) (bytes := cy) (maxL := nY) (ret := ret) ⟨X.1, X.2.1, X.2.2.1, X.ow, X.ts⟩ hM (va_cwS na X.ts (lw_S q pk.1 pk.2.1 pk.2.2.1) rfl rfl rfl ⟨pk.2.2.2.1, pk.2.2.2.2.1, pk.2.2.2.2.2⟩ (by rw [X.S0]; exact ⟨by show m + 1 ≤ n; omega, by show 8 + (nY + 11) + 60 * m ≤ 60 * n; omega⟩)) ⟨hd_Pc_blind E S av, hd_pre X hW hS⟩ rfl hn hl.1 hst (lv_room hrm) hd (by rw [X.S0]; exact ⟨hcc, hss⟩)⟩) kx kk
/-- what a callee's name and words are, with a table of handlers -/
def hd_PkVH (C : String) (y : MethodName) (cy : ByteArray) (nY : Nat) (ret : Option FieldType) (hh : List (Nat × Nat × Nat × Nat)) (n : Nat) : Prop := Cond.instanceMethod y ∈ lw_all ∧ Cond.selects C y y ∈ lw_all ∧ Cond.initialized C ∈ lw_all ∧ Cond.codeWith y cy nY ret hh ∈ lw_all ∧ y.cls = C ∧ y.cls ≠ "java/lang/invoke/MethodHandle" ∧ y.cls ≠ "java/lang/invoke/VarHandle" ∧ (parseMethodDescriptor y.desc).map (fun d => d.parameters.length) = some n
theorem hx_cVH (X : hd_Cx κ E cc own nL (hd_Rm n c k)) {C : String} {y : MethodName} {cy : ByteArray} {nY na m mc ms index b : Nat} {ret : Option FieldType} {hh : List (Nat × Nat × Nat × Nat)} {av rest st0 : List Value} {P1 : hd_Re → hd_St → Prop} (pk : hd_PkVH C y cy nY ret hh na) (hrc : hd_rc κ E S b C) (hM : hd_Mx (hd_kL κ) E (wsW_ y cy nY ret hh) y (hd_Rm m mc ms) (.ref b :: av) S P1) (q : Cond.methodLink own index y ∈ lw_all) (hd : decode cc pc = .ok (.invokevirtual index, 3)) (hmn : m < n) (hnY : nY ≤ 41) (hcc : cells + mc ≤ c) (hss : slots + ms ≤ k) (hn : av.length = na) (hst : st0 = av.reverse ++ .ref b :: rest) (hrm : (rest.map fun v => v.category).sum ≤ 8)
    (kx : ∀ (C : String) (q : Nat) (S1 : hd_St), P1 (.inr (C, q)) S1 → hd_VX κ E nL (cells + mc) (slots + ms) Q S1 pc lv C q)
    (kk : ∀ (rv : Option Value) (S1 : hd_St), P1 (.inl rv) S1 → hd_V κ E nL (cells + mc) (slots + ms) Q S1 (pc + 3) lv (rv.toList ++ rest)) : hd_V κ E nL cells slots Q S pc lv st0 :=
  hx_ran (fun H locs ls hW hS hl => ⟨_, hx_runVX (y := y) (C := C) (bytes := cy) (maxL := nY) (ret := ret) (hh := hh) ⟨X.1, X.2.1, X.2.2.1, X.ow, X.ts⟩ hM (vx_cwVW na X.ts (lw_VW q pk.1 pk.2.1 pk.2.2.1 pk.2.2.2.1) rfl rfl rfl ⟨pk.2.2.2.2.1, pk.2.2.2.2.2.1, pk.2.2.2.2.2.2.1, pk.2.2.2.2.2.2.2⟩ (by rw [X.S0]; exact ⟨by show m + 1 ≤ n; omega, by show 8 + (nY + 11) + 60 * m ≤ 60 * n; omega⟩)) ⟨hd_Pc_blind E S _, hd_recv X hW hrc, hd_pre X hW hS⟩ rfl hn hl.1 hst (lv_room hrm) hd (by rw [X.S0]; exact ⟨hcc, hss⟩)⟩) kx kk
/-- the machine's own exception, from its note -/
theorem hx_note (X : hd_Cx κ E cc own nL (hd_Rm n c k)) (htr : (hd_kL κ).stackTraces = false) {cls text : String} {names : List String} {nb : Nat} (hcls : Bundle.fit cls = true) (hnames : ∀ n ∈ names, Bundle.fit n = true) (hsoe : (cls == "java/lang/StackOverflowError") = false) (hoom : (cls == "java/lang/OutOfMemoryError") = false) (hat : ∀ w ∈ vx_atM cls names, w.before (hd_kA κ) (hd_kS κ) = true) (hgood : ∀ w ∈ vx_atM cls names, vx_ot w = true)
    (htext : (text == notModelled) = false) (hnb : (stringBytes (stringToUtf16 text)).size ≤ nb) (hnb1 : nb ≤ 1000) (hn : 180 ≤ n) (hnl : names.length ≤ 5) (hcc : cells + 3 ≤ c) (hss : slots + (nb + 10) ≤ k) {rest : List Value} (hrm : (rest.map fun v => v.category).sum ≤ 100)
    (kk : ∀ q, hd_VX κ E nL (cells + 3) (slots + (nb + 10)) Q S pc lv cls q) {H : Heap} {locs : List Loc} {ls : Array Slot} (hW : hd_WH E S H) (hS : va_S (hd_fA E) (hd_kS κ).heap H locs) (hl : lv_has ls nL lv) :
    vx_Note (hd_kP κ) (hd_kL κ) (hd_kE κ) (hd_kR κ) (hd_kS κ) (hd_kM κ) (hd_kA κ) (hd_kB κ) (hd_kQ κ) (hd_kC κ) H locs cells slots Q (F0 (hd_kM κ) pc ls rest) cls text := by
  obtain ⟨z1, z2⟩ := X.2.2.2.2.2.2.2.1
  refine vx_vm X.1 htr hcls hnames hsoe hoom hat hgood z1 z2 hS (hl.1.trans X.2.2.1.symm) htext hnb hnb1 ?_ ?_ ?_ ?_ ?_ X.locks (fun H1 q9 ce h1 h2 h3 h4 h5 h6 => kk q9 H1 locs ls ce rest (hW.kept h2) h3 hl h4 h5 h6)
  · rw [X.S0]; show names.length + 4 < n; omega
  · rw [X.S0]; show _ + 10240 ≤ 60 * n; omega
  · omega
  · rw [X.S0]; exact hcc
  · rw [X.S0]; exact hss
theorem hx_noteN (X : hd_Cx κ E cc own nL (hd_Rm n c k)) (htr : (hd_kL κ).stackTraces = false) (hat : ∀ w ∈ vx_atN 8, w.before (hd_kA κ) (hd_kS κ) = true) (hgood : ∀ w ∈ vx_atN 8, vx_ot w = true)
    (hn : 180 ≤ n) (hcc : cells + 1 ≤ c) (hss : slots + 8 ≤ k) {rest : List Value} (hrm : (rest.map fun v => v.category).sum ≤ 100)
    (kk : ∀ q, hd_VX κ E nL (cells + 1) (slots + 8) Q S pc lv "java/lang/NullPointerException" q) {H : Heap} {locs : List Loc} {ls : Array Slot} (hW : hd_WH E S H) (hS : va_S (hd_fA E) (hd_kS κ).heap H locs) (hl : lv_has ls nL lv) :
    vx_NoteN (hd_kP κ) (hd_kL κ) (hd_kE κ) (hd_kR κ) (hd_kS κ) (hd_kM κ) (hd_kA κ) (hd_kB κ) (hd_kQ κ) (hd_kC κ) H locs cells slots Q (F0 (hd_kM κ) pc ls rest) := by
  obtain ⟨z1, z2⟩ := X.2.2.2.2.2.2.2.1
  refine vx_npe X.1 htr hat hgood z1 z2 hS (hl.1.trans X.2.2.1.symm) ?_ ?_ ?_ ?_ X.locks (fun H1 q9 ce h1 h2 h3 h4 h5 h6 => kk q9 H1 locs ls ce rest (hW.kept h2) h3 hl h4 h5 h6)
  · rw [X.S0]; show 7 < n; omega
  · rw [X.S0]; show _ + 10240 ≤ 60 * n; omega
  · rw [X.S0]; exact hcc
  · rw [X.S0]; exact hss
end HDXC
theorem hd_pAI : (vx_atM "java/lang/ArrayIndexOutOfBoundsException" ["java/lang/IndexOutOfBoundsException", "java/lang/RuntimeException", "java/lang/Exception"]) = ([74, 188, 126, 150, 153, 155, 189, 190, 119, 120, 118, 125, 151, 158, 182, 159, 183, 160, 184, 121, 123, 185, 116, 117, 157, 185, 864, 865, 866, 867, 879, 867, 868, 869, 110, 176, 110, 111, 112, 113, 178, 113, 114, 115, 116, 180, 78, 191, 192, 193, 195, 194, 196, 94, 863, 877, 880, 131, 872, 873, 875, 871, 156, 186, 870] : List Nat).filterMap (fun i => lw_tbl[i]?) := by decide +kernel
theorem hd_gAI : (vx_atM "java/lang/ArrayIndexOutOfBoundsException" ["java/lang/IndexOutOfBoundsException", "java/lang/RuntimeException", "java/lang/Exception"]).all (fun w => goodWord w || (hd_nw w && w.onTables)) = true := by decide +kernel
theorem hd_oAI : ∀ w ∈ (vx_atM "java/lang/ArrayIndexOutOfBoundsException" ["java/lang/IndexOutOfBoundsException", "java/lang/RuntimeException", "java/lang/Exception"]), vx_ot w = true := by decide +kernel
theorem hd_pAE : (vx_atM "java/lang/ArithmeticException" ["java/lang/RuntimeException", "java/lang/Exception"]) = ([74, 188, 126, 150, 153, 155, 189, 190, 119, 120, 118, 125, 151, 158, 182, 159, 183, 160, 184, 121, 123, 185, 116, 117, 157, 185, 883, 884, 885, 110, 176, 110, 111, 112, 113, 178, 113, 114, 115, 116, 180, 78, 191, 192, 193, 195, 194, 196, 95, 882, 893, 894, 130, 888, 889, 891, 887, 156, 186, 886] : List Nat).filterMap (fun i => lw_tbl[i]?) := by decide +kernel
theorem hd_gAE : (vx_atM "java/lang/ArithmeticException" ["java/lang/RuntimeException", "java/lang/Exception"]).all (fun w => goodWord w || (hd_nw w && w.onTables)) = true := by decide +kernel
theorem hd_oAE : ∀ w ∈ (vx_atM "java/lang/ArithmeticException" ["java/lang/RuntimeException", "java/lang/Exception"]), vx_ot w = true := by decide +kernel
theorem hd_pNS : (vx_atM "java/lang/NegativeArraySizeException" ["java/lang/RuntimeException", "java/lang/Exception"]) = ([74, 188, 126, 150, 153, 155, 189, 190, 119, 120, 118, 125, 151, 158, 182, 159, 183, 160, 184, 121, 123, 185, 116, 117, 157, 185, 1064, 1065, 1066, 110, 176, 110, 111, 112, 113, 178, 113, 114, 115, 116, 180, 78, 191, 192, 193, 195, 194, 196, 96, 1063, 1074, 1075, 135, 1069, 1070, 1072, 1068, 156, 186, 1067] : List Nat).filterMap (fun i => lw_tbl[i]?) := by decide +kernel
theorem hd_gNS : (vx_atM "java/lang/NegativeArraySizeException" ["java/lang/RuntimeException", "java/lang/Exception"]).all (fun w => goodWord w || (hd_nw w && w.onTables)) = true := by decide +kernel
theorem hd_oNS : ∀ w ∈ (vx_atM "java/lang/NegativeArraySizeException" ["java/lang/RuntimeException", "java/lang/Exception"]), vx_ot w = true := by decide +kernel
theorem hd_pCC : (vx_atM "java/lang/ClassCastException" ["java/lang/RuntimeException", "java/lang/Exception"]) = ([74, 188, 126, 150, 153, 155, 189, 190, 119, 120, 118, 125, 151, 158, 182, 159, 183, 160, 184, 121, 123, 185, 116, 117, 157, 185, 107, 108, 109, 110, 176, 110, 111, 112, 113, 178, 113, 114, 115, 116, 180, 78, 191, 192, 193, 195, 194, 196, 77, 106, 174, 181, 132, 165, 167, 171, 163, 156, 186, 161] : List Nat).filterMap (fun i => lw_tbl[i]?) := by decide +kernel
theorem hd_gCC : (vx_atM "java/lang/ClassCastException" ["java/lang/RuntimeException", "java/lang/Exception"]).all (fun w => goodWord w || (hd_nw w && w.onTables)) = true := by decide +kernel
theorem hd_oCC : ∀ w ∈ (vx_atM "java/lang/ClassCastException" ["java/lang/RuntimeException", "java/lang/Exception"]), vx_ot w = true := by decide +kernel
theorem hd_pNP : (vx_atN 8) = ([74, 188, 126, 150, 153, 155, 189, 190, 119, 120, 118, 125, 151, 158, 182, 159, 183, 160, 184, 121, 123, 185, 147, 137, 138, 1098, 1100, 144, 145, 1112, 1092, 1093, 1094, 1095, 175, 1095, 1096, 1097, 286, 177, 286, 287, 288, 189, 179, 97, 142, 1110, 1111, 136, 1106, 1107, 1109, 156, 186, 1104] : List Nat).filterMap (fun i => lw_tbl[i]?) := by decide +kernel
theorem hd_gNP : (vx_atN 8).all (fun w => goodWord w || (hd_nw w && w.onTables)) = true := by decide +kernel
theorem hd_oNP : ∀ w ∈ (vx_atN 8), vx_ot w = true := by decide +kernel
