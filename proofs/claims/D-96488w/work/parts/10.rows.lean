/-! THE JUDGEMENT: hd_V, a state of the machine at an instruction, with the world as a value S -/
set_option maxRecDepth 100000
abbrev hd_VK : Type := Program × Launch × Env × Room × State × MethodId × Array Value × List Frame × Method × Code
abbrev hd_kP (κ : hd_VK) : Program := κ.1
abbrev hd_kL (κ : hd_VK) : Launch := κ.2.1
abbrev hd_kE (κ : hd_VK) : Env := κ.2.2.1
abbrev hd_kR (κ : hd_VK) : Room := κ.2.2.2.1
abbrev hd_kS (κ : hd_VK) : State := κ.2.2.2.2.1
abbrev hd_kM (κ : hd_VK) : MethodId := κ.2.2.2.2.2.1
abbrev hd_kA (κ : hd_VK) : Array Value := κ.2.2.2.2.2.2.1
abbrev hd_kB (κ : hd_VK) : List Frame := κ.2.2.2.2.2.2.2.1
abbrev hd_kQ (κ : hd_VK) : Method := κ.2.2.2.2.2.2.2.2.1
abbrev hd_kC (κ : hd_VK) : Code := κ.2.2.2.2.2.2.2.2.2
abbrev hd_W (κ : hd_VK) (H : Heap) (locs : List Loc) (cells slots : Nat) (Q : State → Prop) (g : JFrame) : Prop := W (hd_kP κ) (hd_kL κ) (hd_kE κ) (hd_kR κ) (hd_kS κ) (hd_kM κ) (hd_kA κ) (hd_kB κ) (hd_kQ κ) (hd_kC κ) H locs cells slots Q g
/-- words of the tables that ride at a contract's start -/
def hd_nw (w : Cond) : Bool := match w with
  | .methodLinkNest .. => true
  | .castable .. => true
  | .declares .. => true
  | .arrayOver (.object _) => true
  | _ => false
def hd_nwh (w : Cond) (U : State) : Prop := w.before #[] U = true
theorem hd_nw_warm {w : Cond} {s U : State} (hW : s.WarmedH U.vm) (hn : hd_nw w = true) (h : hd_nwh w s) : hd_nwh w U := by
  unfold hd_nw at hn
  split at hn
  · exact va_Nw.warmM hW h
  · exact va_Nw.warmC hW h
  · exact va_Nw.warmD hW h
  · exact va_AO.moved hW.alike h
  · cases hn
theorem hd_nw_same {w : Cond} {u U : State} (hvm : u.vm = U.vm) (hn : hd_nw w = true) (h : hd_nwh w u) : hd_nwh w U := by
  unfold hd_nw at hn
  split at hn
  · exact va_Nw.same rfl hvm h
  · exact va_Nw.same rfl hvm h
  · exact va_Nw.same rfl hvm h
  · exact va_AO.moved (by rw [hvm]; exact Vm.Alike.refl _) h
  · cases hn
/-- what is known of the tables all through: classes, array classes, riding words, casts that fail -/
def hd_KX (E : hd_EV) (U : State) : Prop := va_K (hd_D E) hd_cl (hd_ty E) U ∧ (∀ w ∈ lw_tbl, hd_nw w = true → hd_nwh w U) ∧ (∀ q ∈ hd_ncl, va_Nc q.1 q.2 U) ∧ (∀ w ∈ defaultWords_1, hd_nwh w U) ∧ (∀ q ∈ hd_lil, (Cond.landsInDefault q.1 q.2.1 q.2.2).before #[] U = true) ∧ modulesRight_1 U = true
theorem hd_dw_ok : ∀ w ∈ defaultWords_1, (w.onTables && w.keeps) = true := by decide +kernel
theorem hd_li_warm {C : String} {x y : MethodName} {s U : State} (hW : s.WarmedH U.vm) (h : (Cond.landsInDefault C x y).before #[] s = true) : (Cond.landsInDefault C x y).before #[] U = true := by
  have h1 : (Cond.landsInDefault C x y).before #[] (s.setVm U.vm) = true := (Cond.landsInDefault_setVm hW.alike (State.methodFound?_setVm hW.alike _ _ _)).trans h
  exact h1
theorem hd_li_same {C : String} {x y : MethodName} {u U : State} {A A2 : Array Value} (hvm : u.vm = U.vm) (h : (Cond.landsInDefault C x y).before A u = true) : (Cond.landsInDefault C x y).before A2 U = true := by
  have h1 : (Cond.landsInDefault C x y).before A2 (u.setVm U.vm) = true := by rw [← hvm]; exact h
  exact h1
theorem hd_mr_alike {s U : State} (h : s.vm.Alike U.vm) (hm : modulesRight_1 s = true) : modulesRight_1 U = true := by
  have e : U.vm.modules = s.vm.modules := by rw [h.1]
  unfold modulesRight_1 at *
  rw [e]
  exact hm
theorem hd_KX.warm {E : hd_EV} {s U : State} (hW : s.WarmedH U.vm) (h : hd_KX E s) : hd_KX E U := ⟨va_K.moved hW.alike h.1, fun w hw hn => hd_nw_warm hW hn (h.2.1 w hw hn), fun q hq => (h.2.2.1 q hq).moved hW.alike, fun w hw => word_at hW (Or.inl (hd_dw_ok w hw)) (h.2.2.2.1 w hw), fun q hq => hd_li_warm hW (h.2.2.2.2.1 q hq), hd_mr_alike hW.alike h.2.2.2.2.2⟩
theorem hd_KX.same {E : hd_EV} {u U : State} (hvm : u.vm = U.vm) (h : hd_KX E u) : hd_KX E U := ⟨va_K.moved (by rw [hvm]; exact Vm.Alike.refl _) h.1, fun w hw hn => hd_nw_same hvm hn (h.2.1 w hw hn), fun q hq => (h.2.2.1 q hq).moved (by rw [hvm]; exact Vm.Alike.refl _), fun w hw => va_tabs (by have := hd_dw_ok w hw; rw [Bool.and_eq_true] at this; exact this.1) hvm (h.2.2.2.1 w hw), fun q hq => hd_li_same hvm (h.2.2.2.2.1 q hq), hd_mr_alike (by rw [hvm]; exact Vm.Alike.refl _) h.2.2.2.2.2⟩
/-- the two statics that a new exception reads -/
def hd_ZZ (E : hd_EV) (U : State) (H : Heap) : Prop := vx_Zq Bundle.tN "UNASSIGNED_STACK" Bundle.steD (hd_fA E) U H ∧ vx_Zq Bundle.tN "SUPPRESSED_SENTINEL" Bundle.listD (hd_fA E) U H
/-- the context of a walk -/
def hd_Cx (κ : hd_VK) (E : hd_EV) (cc : ByteArray) (own : String) (nL : Nat) (R : Room) : Prop :=
  (hd_kP κ).tables.exec = Jvm.exec ∧ (hd_kC κ).code = cc ∧ (hd_kC κ).maxLocals = nL ∧ (hd_kS κ).vm.findClass own = some (hd_kM κ).cls ∧ (∀ w ∈ lw_all, w.before (hd_kA κ) (hd_kS κ) = true) ∧ hd_kR κ = R ∧ hd_KX E (hd_kS κ) ∧ hd_ZZ E (hd_kS κ) (hd_kS κ).heap ∧ hd_bs E (hd_kS κ).heap.size ∧ (hd_kQ κ).locks = false
def hd_V (κ : hd_VK) (E : hd_EV) (nL cells slots : Nat) (Q : State → Prop) (S : hd_St) (pc : Nat) (lv : List (Nat × Value)) (st : List Value) : Prop :=
  ∀ (H : Heap) (locs : List Loc) (ls : Array Slot), hd_WH E S H → va_S (hd_fA E) (hd_kS κ).heap H locs → lv_has ls nL lv → hd_W κ H locs cells slots Q (F0 (hd_kM κ) pc ls st)
/-- a contract's start and end -/
def hd_Pc (E : hd_EV) (S : hd_St) (av : List Value) : Array Value → State → Prop := va_Pc av (fun U => hd_KX E U ∧ hd_ZZ E U U.heap ∧ hd_bs E U.heap.size ∧ hd_WH E S U.heap)
def hd_Qc (E : hd_EV) (rv : Option Value) (S : hd_St) : Array Value → State → Outcome → State → Prop := fun _ st o t => (o = .returned rv ∧ hd_WH E S t.heap) ∧ va_F (hd_fA E) st t
def hd_Mt (l : Launch) (E : hd_EV) (y : MethodName) (cc : ByteArray) (nL : Nat) (ret : Option FieldType) (R : Room) (av : List Value) (S : hd_St) (rv : Option Value) (S' : hd_St) : Prop :=
  Met l y (ws_ y cc nL ret) R (hd_Pc E S av) (hd_Qc E rv S') R.cells R.slots (hd_fA E)
/-- rooms by levels -/
abbrev hd_Rm (n c k : Nat) : Room := { frames := n, cells := c, slots := k, locals := 60 * n }
def hd_Qf (κ : hd_VK) (E : hd_EV) (rv : Option Value) (S : hd_St) : State → Prop := MQ (hd_kB κ) (hd_Qc E rv S) (hd_kA κ) (hd_kS κ) (hd_kR κ).cells (hd_kR κ).slots (hd_fA E)
theorem hd_Pc_blind (E : hd_EV) (S : hd_St) (av : List Value) : FrameBlind (hd_Pc E S av) := by
  intro a U g mk ⟨q0, q1, q2, q3, q4⟩
  exact ⟨q0, hd_KX.same (u := U) (U := U.calling g mk a) rfl q1, ⟨vx_Zq.moved (u := U) (U := U.calling g mk a) (Vm.Alike.refl U.vm) q2.1, vx_Zq.moved (u := U) (U := U.calling g mk a) (Vm.Alike.refl U.vm) q2.2⟩, q3, q4⟩
/-- a contract, by a walk of the judgement -/
theorem hd_Mt.start {l : Launch} {E : hd_EV} {y : MethodName} {cc : ByteArray} {nL : Nat} {ret : Option FieldType} {R : Room} {av : List Value} {S S' : hd_St} {rv : Option Value} (lv : List (Nat × Value)) (hy : plainName y.cls = true) (hlv : lv_args 0 av = lv) (hn : (lg_sl av).length ≤ nL)
    (body : ∀ κ : hd_VK, hd_Cx κ E cc y.cls nL R → hd_kL κ = l → (hd_kQ κ).sig.returnType = ret → (hd_kQ κ).name = y.name → hd_V κ E nL 0 0 (hd_Qf κ E rv S') S 0 lv []) : hd_Mt l E y cc nL ret R av S rv S' := by
  subst hlv
  refine Met.ofW (cc := cc) (maxL := nL) (ret := ret) hy rfl ?_
  intro p e s m args below meth c s₁ B hml hv
  obtain ⟨rfl, hK, hZ, hbase, hWH⟩ := hv
  have hts := atoms_spec (ws := ws_ y cc nL ret) B.pre
  have hts : ∀ w ∈ lw_all, w.before av.toArray s = true := fun w h => hts w (List.mem_cons_of_mem _ h)
  have hl := lv_entry av (n := nL) hn
  rw [lg_entry_eq]
  exact body (p, l, e, (headSpec (ws_ y cc nL ret) R).room, s, m, av.toArray, below, meth, c) ⟨B.exec, B.bytes, hml, findClass_of_methodNamed B.named, hts, rfl, hK, hZ, hbase, B.notSynchronized⟩ rfl B.returns (name_of_methodNamed B.named B.method).1 s.heap [] _ hWH va_S.rf hl
section HDR
variable {κ : hd_VK} {E : hd_EV} {nL cells slots : Nat} {Q : State → Prop} {S : hd_St} {pc : Nat} {lv : List (Nat × Value)} {st : List Value} {cc : ByteArray} {own : String} {R : Room}
theorem hd_Cx.S0 (X : hd_Cx κ E cc own nL R) : hd_kR κ = R := X.2.2.2.2.2.1
theorem hd_Cx.KX (X : hd_Cx κ E cc own nL R) : hd_KX E (hd_kS κ) := X.2.2.2.2.2.2.1
theorem hd_Cx.K (X : hd_Cx κ E cc own nL R) : va_K (hd_D E) hd_cl (hd_ty E) (hd_kS κ) := X.2.2.2.2.2.2.1.1
theorem hd_Cx.ts (X : hd_Cx κ E cc own nL R) : ∀ w ∈ lw_all, w.before (hd_kA κ) (hd_kS κ) = true := X.2.2.2.2.1
theorem hd_Cx.ow (X : hd_Cx κ E cc own nL R) : (hd_kS κ).vm.findClass own = some (hd_kM κ).cls := X.2.2.2.1
theorem hd_Cx.nw (X : hd_Cx κ E cc own nL R) {w : Cond} (h : w ∈ lw_tbl) (hn : hd_nw w = true) : va_Nw w (hd_kS κ) := X.2.2.2.2.2.2.1.2.1 w h hn
theorem hd_Cx.nc (X : hd_Cx κ E cc own nL R) {q : String × String} (h : q ∈ hd_ncl) : va_Nc q.1 q.2 (hd_kS κ) := X.2.2.2.2.2.2.1.2.2.1 q h
theorem hd_Cx.dw (X : hd_Cx κ E cc own nL R) {w : Cond} (h : w ∈ defaultWords_1) : w.before (hd_kA κ) (hd_kS κ) = true := va_tabs (by have := hd_dw_ok w h; rw [Bool.and_eq_true] at this; exact this.1) rfl (X.2.2.2.2.2.2.1.2.2.2.1 w h)
theorem hd_Cx.li (X : hd_Cx κ E cc own nL R) {C : String} {x y : MethodName} (h : (C, x, y) ∈ hd_lil) : (Cond.landsInDefault C x y).before (hd_kA κ) (hd_kS κ) = true := hd_li_same rfl (X.2.2.2.2.2.2.1.2.2.2.2.1 _ h)
theorem hd_Cx.mr (X : hd_Cx κ E cc own nL R) : modulesRight_1 (hd_kS κ) = true := X.2.2.2.2.2.2.1.2.2.2.2.2
theorem hd_Cx.base (X : hd_Cx κ E cc own nL R) : hd_bs E (hd_kS κ).heap.size := X.2.2.2.2.2.2.2.2.1
theorem hd_Cx.locks (X : hd_Cx κ E cc own nL R) : (hd_kQ κ).locks = false := X.2.2.2.2.2.2.2.2.2
theorem hd_Cx.fresh (X : hd_Cx κ E cc own nL R) : ∀ q, (hd_kS κ).heap.size ≤ q → hd_fA E q := fun _ h => X.base.free h
theorem hv_sub (lv' : List (Nat × Value)) (ks : List Nat) (hl : lv_pick lv ks = lv') (k : hd_V κ E nL cells slots Q S pc lv' st) : hd_V κ E nL cells slots Q S pc lv st := fun H locs ls hW hS h => k H locs ls hW hS (lv_sub h ks hl)
theorem hv_widen {c2 s2 : Nat} (h1 : cells ≤ c2) (h2 : slots ≤ s2) (k : hd_V κ E nL c2 s2 Q S pc lv st) : hd_V κ E nL cells slots Q S pc lv st := fun H locs ls hW hS h => W.widen h1 h2 (k H locs ls hW hS h)
theorem hv_eqS {S2 : hd_St} (h : S = S2) (k : hd_V κ E nL cells slots Q S2 pc lv st) : hd_V κ E nL cells slots Q S pc lv st := h ▸ k

theorem hv_iconst (X : hd_Cx κ E cc own nL R) {n : Int} {v : Int32} (hd : decode cc pc = .ok (.iconst n, 1)) (hv : Int32.ofInt n = v) (k : hd_V κ E nL cells slots Q S (pc + 1) lv (.int v :: st)) : hd_V κ E nL cells slots Q S pc lv st := fun H locs ls hW hS hl => lv_iconst X.1 X.2.1 hd hv (k H locs ls hW hS hl)
theorem hv_bipush (X : hd_Cx κ E cc own nL R) {n : Int} {v : Int32} (hd : decode cc pc = .ok (.bipush n, 2)) (hv : (Int8.ofInt n).toInt32 = v) (k : hd_V κ E nL cells slots Q S (pc + 2) lv (.int v :: st)) : hd_V κ E nL cells slots Q S pc lv st := fun H locs ls hW hS hl => lv_bipush X.1 X.2.1 hd hv (k H locs ls hW hS hl)
theorem hv_sipush (X : hd_Cx κ E cc own nL R) {n : Int} {v : Int32} (hd : decode cc pc = .ok (.sipush n, 3)) (hv : (Int16.ofInt n).toInt32 = v) (k : hd_V κ E nL cells slots Q S (pc + 3) lv (.int v :: st)) : hd_V κ E nL cells slots Q S pc lv st := fun H locs ls hW hS hl => lv_sipush X.1 X.2.1 hd hv (k H locs ls hW hS hl)
theorem hv_lconst (X : hd_Cx κ E cc own nL R) {n : Fin 2} {v : Int64} (hd : decode cc pc = .ok (.lconst n, 1)) (hv : Int64.ofNat (n : Nat) = v) (k : hd_V κ E nL cells slots Q S (pc + 1) lv (.long v :: st)) : hd_V κ E nL cells slots Q S pc lv st := fun H locs ls hW hS hl => lv_lconst X.1 X.2.1 hd hv (k H locs ls hW hS hl)
theorem hv_iload_n (X : hd_Cx κ E cc own nL R) {k : Fin 4} {x : Int32} (hd : decode cc pc = .ok (.iload_n k, 1)) (i : Nat) (hk : lv[i]? = some ((k : Nat), .int x)) (kk : hd_V κ E nL cells slots Q S (pc + 1) lv (.int x :: st)) : hd_V κ E nL cells slots Q S pc lv st := fun H locs ls hW hS hl => lv_iload_n X.1 X.2.1 hd rfl (lv_at hl i hk) (kk H locs ls hW hS hl)
theorem hv_iload (X : hd_Cx κ E cc own nL R) {j : Nat} {x : Int32} (hd : decode cc pc = .ok (.iload j, 2)) (i : Nat) (hk : lv[i]? = some (j, .int x)) (kk : hd_V κ E nL cells slots Q S (pc + 2) lv (.int x :: st)) : hd_V κ E nL cells slots Q S pc lv st := fun H locs ls hW hS hl => lv_iload X.1 X.2.1 hd (lv_at hl i hk) (kk H locs ls hW hS hl)
theorem hv_lload_n (X : hd_Cx κ E cc own nL R) {k : Fin 4} {x : Int64} (hd : decode cc pc = .ok (.lload_n k, 1)) (i : Nat) (hk : lv[i]? = some ((k : Nat), .long x)) (kk : hd_V κ E nL cells slots Q S (pc + 1) lv (.long x :: st)) : hd_V κ E nL cells slots Q S pc lv st := fun H locs ls hW hS hl => lv_lload_n X.1 X.2.1 hd rfl (lv_at hl i hk) (kk H locs ls hW hS hl)
theorem hv_lload (X : hd_Cx κ E cc own nL R) {j : Nat} {x : Int64} (hd : decode cc pc = .ok (.lload j, 2)) (i : Nat) (hk : lv[i]? = some (j, .long x)) (kk : hd_V κ E nL cells slots Q S (pc + 2) lv (.long x :: st)) : hd_V κ E nL cells slots Q S pc lv st := fun H locs ls hW hS hl => lv_lload X.1 X.2.1 hd (lv_at hl i hk) (kk H locs ls hW hS hl)
theorem hv_aload_n (X : hd_Cx κ E cc own nL R) {k : Fin 4} {x : Nat} (hd : decode cc pc = .ok (.aload_n k, 1)) (i : Nat) (hk : lv[i]? = some ((k : Nat), .ref x)) (kk : hd_V κ E nL cells slots Q S (pc + 1) lv (.ref x :: st)) : hd_V κ E nL cells slots Q S pc lv st := fun H locs ls hW hS hl => lv_aload_n X.1 X.2.1 hd rfl (lv_at hl i hk) (kk H locs ls hW hS hl)
theorem hv_aload (X : hd_Cx κ E cc own nL R) {j : Nat} {x : Nat} (hd : decode cc pc = .ok (.aload j, 2)) (i : Nat) (hk : lv[i]? = some (j, .ref x)) (kk : hd_V κ E nL cells slots Q S (pc + 2) lv (.ref x :: st)) : hd_V κ E nL cells slots Q S pc lv st := fun H locs ls hW hS hl => lv_aload X.1 X.2.1 hd (lv_at hl i hk) (kk H locs ls hW hS hl)
theorem hv_istore_n (X : hd_Cx κ E cc own nL R) {k : Fin 4} {x : Int32} (lv2 : List (Nat × Value)) (hd : decode cc pc = .ok (.istore_n k, 1)) (hn : (k : Nat) < nL) (h2 : ((k : Nat), Value.int x) :: lv.filter (fun q => !(q.1 == (k : Nat)) && !(q.1 + 1 == (k : Nat) && q.2.category == 2)) = lv2) (kk : hd_V κ E nL cells slots Q S (pc + 1) lv2 st) : hd_V κ E nL cells slots Q S pc lv (.int x :: st) := fun H locs ls hW hS hl => lv_istore_n X.1 X.2.1 hd rfl hl hn h2 (fun ls2 hl2 => kk H locs ls2 hW hS hl2)
theorem hv_istore (X : hd_Cx κ E cc own nL R) {j : Nat} {x : Int32} (lv2 : List (Nat × Value)) (hd : decode cc pc = .ok (.istore j, 2)) (hn : j < nL) (h2 : (j, Value.int x) :: lv.filter (fun q => !(q.1 == j) && !(q.1 + 1 == j && q.2.category == 2)) = lv2) (kk : hd_V κ E nL cells slots Q S (pc + 2) lv2 st) : hd_V κ E nL cells slots Q S pc lv (.int x :: st) := fun H locs ls hW hS hl => lv_istore X.1 X.2.1 hd hl hn h2 (fun ls2 hl2 => kk H locs ls2 hW hS hl2)
theorem hv_astore_n (X : hd_Cx κ E cc own nL R) {k : Fin 4} {x : Nat} (lv2 : List (Nat × Value)) (hd : decode cc pc = .ok (.astore_n k, 1)) (hn : (k : Nat) < nL) (h2 : ((k : Nat), Value.ref x) :: lv.filter (fun q => !(q.1 == (k : Nat)) && !(q.1 + 1 == (k : Nat) && q.2.category == 2)) = lv2) (kk : hd_V κ E nL cells slots Q S (pc + 1) lv2 st) : hd_V κ E nL cells slots Q S pc lv (.ref x :: st) := fun H locs ls hW hS hl => lv_astore_n X.1 X.2.1 hd rfl hl hn h2 (fun ls2 hl2 => kk H locs ls2 hW hS hl2)
theorem hv_astore (X : hd_Cx κ E cc own nL R) {j : Nat} {x : Nat} (lv2 : List (Nat × Value)) (hd : decode cc pc = .ok (.astore j, 2)) (hn : j < nL) (h2 : (j, Value.ref x) :: lv.filter (fun q => !(q.1 == j) && !(q.1 + 1 == j && q.2.category == 2)) = lv2) (kk : hd_V κ E nL cells slots Q S (pc + 2) lv2 st) : hd_V κ E nL cells slots Q S pc lv (.ref x :: st) := fun H locs ls hW hS hl => lv_astore X.1 X.2.1 hd hl hn h2 (fun ls2 hl2 => kk H locs ls2 hW hS hl2)
theorem hv_lstore_n (X : hd_Cx κ E cc own nL R) {k : Fin 4} {x : Int64} (lv2 : List (Nat × Value)) (hd : decode cc pc = .ok (.lstore_n k, 1)) (hn : (k : Nat) + 1 < nL) (h2 : ((k : Nat), Value.long x) :: lv.filter (fun q => !(q.1 == (k : Nat)) && (!(q.1 == (k : Nat) + 1) && !(q.1 + 1 == (k : Nat) && q.2.category == 2))) = lv2) (kk : hd_V κ E nL cells slots Q S (pc + 1) lv2 st) : hd_V κ E nL cells slots Q S pc lv (.long x :: st) := fun H locs ls hW hS hl => lv_lstore_n X.1 X.2.1 hd rfl hl hn h2 (fun ls2 hl2 => kk H locs ls2 hW hS hl2)
theorem hv_lstore (X : hd_Cx κ E cc own nL R) {j : Nat} {x : Int64} (lv2 : List (Nat × Value)) (hd : decode cc pc = .ok (.lstore j, 2)) (hn : j + 1 < nL) (h2 : (j, Value.long x) :: lv.filter (fun q => !(q.1 == j) && (!(q.1 == j + 1) && !(q.1 + 1 == j && q.2.category == 2))) = lv2) (kk : hd_V κ E nL cells slots Q S (pc + 2) lv2 st) : hd_V κ E nL cells slots Q S pc lv (.long x :: st) := fun H locs ls hW hS hl => lv_lstore X.1 X.2.1 hd hl hn h2 (fun ls2 hl2 => kk H locs ls2 hW hS hl2)
theorem hv_iinc (X : hd_Cx κ E cc own nL R) {j : Nat} {n : Int} {x v : Int32} (lv2 : List (Nat × Value)) (hd : decode cc pc = .ok (.iinc j n, 3)) (i : Nat) (hk : lv[i]? = some (j, .int x)) (hv : Int32.ofInt n = v) (hn : j < nL) (h2 : (j, Value.int (x + v)) :: lv.filter (fun q => !(q.1 == j) && !(q.1 + 1 == j && q.2.category == 2)) = lv2) (kk : hd_V κ E nL cells slots Q S (pc + 3) lv2 st) : hd_V κ E nL cells slots Q S pc lv st := fun H locs ls hW hS hl => lv_iinc X.1 X.2.1 hd hl hk (congrArg (x + ·) hv) hn h2 (fun ls2 hl2 => kk H locs ls2 hW hS hl2)
theorem hv_iadd (X : hd_Cx κ E cc own nL R) {x y : Int32} (hd : decode cc pc = .ok (.iadd, 1))  (k : hd_V κ E nL cells slots Q S (pc + 1) lv (.int (x + y) :: st)) : hd_V κ E nL cells slots Q S pc lv (.int y :: .int x :: st) := fun H locs ls hW hS hl => lv_iadd X.1 X.2.1 hd  (k H locs ls hW hS hl)
theorem hv_isub (X : hd_Cx κ E cc own nL R) {x y : Int32} (hd : decode cc pc = .ok (.isub, 1))  (k : hd_V κ E nL cells slots Q S (pc + 1) lv (.int (x - y) :: st)) : hd_V κ E nL cells slots Q S pc lv (.int y :: .int x :: st) := fun H locs ls hW hS hl => lv_isub X.1 X.2.1 hd  (k H locs ls hW hS hl)
theorem hv_imul (X : hd_Cx κ E cc own nL R) {x y : Int32} (hd : decode cc pc = .ok (.imul, 1))  (k : hd_V κ E nL cells slots Q S (pc + 1) lv (.int (x * y) :: st)) : hd_V κ E nL cells slots Q S pc lv (.int y :: .int x :: st) := fun H locs ls hW hS hl => lv_imul X.1 X.2.1 hd  (k H locs ls hW hS hl)
theorem hv_iand (X : hd_Cx κ E cc own nL R) {x y : Int32} (hd : decode cc pc = .ok (.iand, 1))  (k : hd_V κ E nL cells slots Q S (pc + 1) lv (.int (x &&& y) :: st)) : hd_V κ E nL cells slots Q S pc lv (.int y :: .int x :: st) := fun H locs ls hW hS hl => lv_iand X.1 X.2.1 hd  (k H locs ls hW hS hl)
theorem hv_ior (X : hd_Cx κ E cc own nL R) {x y : Int32} (hd : decode cc pc = .ok (.ior, 1))  (k : hd_V κ E nL cells slots Q S (pc + 1) lv (.int (x ||| y) :: st)) : hd_V κ E nL cells slots Q S pc lv (.int y :: .int x :: st) := fun H locs ls hW hS hl => lv_ior X.1 X.2.1 hd  (k H locs ls hW hS hl)
theorem hv_ixor (X : hd_Cx κ E cc own nL R) {x y : Int32} (hd : decode cc pc = .ok (.ixor, 1))  (k : hd_V κ E nL cells slots Q S (pc + 1) lv (.int (x ^^^ y) :: st)) : hd_V κ E nL cells slots Q S pc lv (.int y :: .int x :: st) := fun H locs ls hW hS hl => lv_ixor X.1 X.2.1 hd  (k H locs ls hW hS hl)
theorem hv_ishl (X : hd_Cx κ E cc own nL R) {x y : Int32} (hd : decode cc pc = .ok (.ishl, 1))  (k : hd_V κ E nL cells slots Q S (pc + 1) lv (.int (x <<< (y &&& 31)) :: st)) : hd_V κ E nL cells slots Q S pc lv (.int y :: .int x :: st) := fun H locs ls hW hS hl => lv_ishl X.1 X.2.1 hd  (k H locs ls hW hS hl)
theorem hv_ishr (X : hd_Cx κ E cc own nL R) {x y : Int32} (hd : decode cc pc = .ok (.ishr, 1))  (k : hd_V κ E nL cells slots Q S (pc + 1) lv (.int (x >>> (y &&& 31)) :: st)) : hd_V κ E nL cells slots Q S pc lv (.int y :: .int x :: st) := fun H locs ls hW hS hl => lv_ishr X.1 X.2.1 hd  (k H locs ls hW hS hl)
theorem hv_ladd (X : hd_Cx κ E cc own nL R) {x y : Int64} (hd : decode cc pc = .ok (.ladd, 1))  (k : hd_V κ E nL cells slots Q S (pc + 1) lv (.long (x + y) :: st)) : hd_V κ E nL cells slots Q S pc lv (.long y :: .long x :: st) := fun H locs ls hW hS hl => lv_ladd X.1 X.2.1 hd  (k H locs ls hW hS hl)
theorem hv_lsub (X : hd_Cx κ E cc own nL R) {x y : Int64} (hd : decode cc pc = .ok (.lsub, 1))  (k : hd_V κ E nL cells slots Q S (pc + 1) lv (.long (x - y) :: st)) : hd_V κ E nL cells slots Q S pc lv (.long y :: .long x :: st) := fun H locs ls hW hS hl => lv_lsub X.1 X.2.1 hd  (k H locs ls hW hS hl)
theorem hv_lmul (X : hd_Cx κ E cc own nL R) {x y : Int64} (hd : decode cc pc = .ok (.lmul, 1))  (k : hd_V κ E nL cells slots Q S (pc + 1) lv (.long (x * y) :: st)) : hd_V κ E nL cells slots Q S pc lv (.long y :: .long x :: st) := fun H locs ls hW hS hl => lv_lmul X.1 X.2.1 hd  (k H locs ls hW hS hl)
theorem hv_lcmp (X : hd_Cx κ E cc own nL R) {x y : Int64} (hd : decode cc pc = .ok (.lcmp, 1))  (k : hd_V κ E nL cells slots Q S (pc + 1) lv (.int (lg_cmp x y) :: st)) : hd_V κ E nL cells slots Q S pc lv (.long y :: .long x :: st) := fun H locs ls hW hS hl => W.lcmp X.1 X.2.1 hd  (k H locs ls hW hS hl)
theorem hv_ineg (X : hd_Cx κ E cc own nL R) {x : Int32} (hd : decode cc pc = .ok (.ineg, 1))  (k : hd_V κ E nL cells slots Q S (pc + 1) lv (.int (-x) :: st)) : hd_V κ E nL cells slots Q S pc lv (.int x :: st) := fun H locs ls hW hS hl => lv_ineg X.1 X.2.1 hd  (k H locs ls hW hS hl)
theorem hv_i2l (X : hd_Cx κ E cc own nL R) {x : Int32} (hd : decode cc pc = .ok (.i2l, 1))  (k : hd_V κ E nL cells slots Q S (pc + 1) lv (.long x.toInt64 :: st)) : hd_V κ E nL cells slots Q S pc lv (.int x :: st) := fun H locs ls hW hS hl => lv_i2l X.1 X.2.1 hd rfl (k H locs ls hW hS hl)
theorem hv_l2i (X : hd_Cx κ E cc own nL R) {x : Int64} (hd : decode cc pc = .ok (.l2i, 1))  (k : hd_V κ E nL cells slots Q S (pc + 1) lv (.int x.toInt32 :: st)) : hd_V κ E nL cells slots Q S pc lv (.long x :: st) := fun H locs ls hW hS hl => lv_l2i X.1 X.2.1 hd rfl (k H locs ls hW hS hl)
theorem hv_i2b (X : hd_Cx κ E cc own nL R) {x : Int32} (hd : decode cc pc = .ok (.i2b, 1))  (k : hd_V κ E nL cells slots Q S (pc + 1) lv (.int x.toInt8.toInt32 :: st)) : hd_V κ E nL cells slots Q S pc lv (.int x :: st) := fun H locs ls hW hS hl => lv_i2b X.1 X.2.1 hd rfl (k H locs ls hW hS hl)
theorem hv_i2s (X : hd_Cx κ E cc own nL R) {x : Int32} (hd : decode cc pc = .ok (.i2s, 1))  (k : hd_V κ E nL cells slots Q S (pc + 1) lv (.int x.toInt16.toInt32 :: st)) : hd_V κ E nL cells slots Q S pc lv (.int x :: st) := fun H locs ls hW hS hl => lv_i2s X.1 X.2.1 hd rfl (k H locs ls hW hS hl)
theorem hv_dup (X : hd_Cx κ E cc own nL R) {va : Value} (hd : decode cc pc = .ok (.dup, 1)) (hc : va.category = 1) (k : hd_V κ E nL cells slots Q S (pc + 1) lv (va :: va :: st)) : hd_V κ E nL cells slots Q S pc lv (va :: st) := fun H locs ls hW hS hl => lv_dup X.1 X.2.1 hd hc (k H locs ls hW hS hl)
theorem hv_pop (X : hd_Cx κ E cc own nL R) {va : Value} (hd : decode cc pc = .ok (.pop, 1)) (hc : va.category = 1) (k : hd_V κ E nL cells slots Q S (pc + 1) lv st) : hd_V κ E nL cells slots Q S pc lv (va :: st) := fun H locs ls hW hS hl => lv_pop X.1 X.2.1 hd hc (k H locs ls hW hS hl)
theorem hv_dup2 (X : hd_Cx κ E cc own nL R) {va vb : Value} (hd : decode cc pc = .ok (.dup2, 1)) (hc : va.category = 1) (hc2 : vb.category = 1) (k : hd_V κ E nL cells slots Q S (pc + 1) lv (va :: vb :: va :: vb :: st)) : hd_V κ E nL cells slots Q S pc lv (va :: vb :: st) := fun H locs ls hW hS hl => lv_dup2_11 X.1 X.2.1 hd hc hc2 (k H locs ls hW hS hl)
theorem hv_dup2l (X : hd_Cx κ E cc own nL R) {va : Value} (hd : decode cc pc = .ok (.dup2, 1)) (hc : va.category = 2) (k : hd_V κ E nL cells slots Q S (pc + 1) lv (va :: va :: st)) : hd_V κ E nL cells slots Q S pc lv (va :: st) := fun H locs ls hW hS hl => lv_dup2_2 X.1 X.2.1 hd hc (k H locs ls hW hS hl)
theorem hv_null (X : hd_Cx κ E cc own nL R)  (hd : decode cc pc = .ok (.aconst_null, 1))  (k : hd_V κ E nL cells slots Q S (pc + 1) lv (.null :: st)) : hd_V κ E nL cells slots Q S pc lv st := fun H locs ls hW hS hl => lv_null X.1 X.2.1 hd  (k H locs ls hW hS hl)
theorem hv_idiv (X : hd_Cx κ E cc own nL R) {x y : Int32} {α : Type} {o : Option α} {r : α} (h : (if y = 0 then none else o) = some r) (hd : decode cc pc = .ok (.idiv, 1)) (k : o = some r → hd_V κ E nL cells slots Q S (pc + 1) lv (.int (x / y) :: st)) : hd_V κ E nL cells slots Q S pc lv (.int y :: .int x :: st) := fun H locs ls hW hS hl => by
  by_cases hy : y = 0
  · rw [if_pos hy] at h; cases h
  · rw [if_neg hy] at h; exact lv_idiv X.1 X.2.1 hd hy (k h H locs ls hW hS hl)
theorem hv_idivc (X : hd_Cx κ E cc own nL R) {x y : Int32} (hy : ¬ y = 0) (hd : decode cc pc = .ok (.idiv, 1)) (k : hd_V κ E nL cells slots Q S (pc + 1) lv (.int (x / y) :: st)) : hd_V κ E nL cells slots Q S pc lv (.int y :: .int x :: st) := fun H locs ls hW hS hl => lv_idiv X.1 X.2.1 hd hy (k H locs ls hW hS hl)
theorem hv_irem (X : hd_Cx κ E cc own nL R) {x y : Int32} {α : Type} {o : Option α} {r : α} (h : (if y = 0 then none else o) = some r) (hd : decode cc pc = .ok (.irem, 1)) (k : o = some r → hd_V κ E nL cells slots Q S (pc + 1) lv (.int (x - x / y * y) :: st)) : hd_V κ E nL cells slots Q S pc lv (.int y :: .int x :: st) := fun H locs ls hW hS hl => by
  by_cases hy : y = 0
  · rw [if_pos hy] at h; cases h
  · rw [if_neg hy] at h; exact lv_irem X.1 X.2.1 hd hy (k h H locs ls hW hS hl)
theorem hv_iremc (X : hd_Cx κ E cc own nL R) {x y : Int32} (hy : ¬ y = 0) (hd : decode cc pc = .ok (.irem, 1)) (k : hd_V κ E nL cells slots Q S (pc + 1) lv (.int (x - x / y * y) :: st)) : hd_V κ E nL cells slots Q S pc lv (.int y :: .int x :: st) := fun H locs ls hW hS hl => lv_irem X.1 X.2.1 hd hy (k H locs ls hW hS hl)
theorem hv_ldiv (X : hd_Cx κ E cc own nL R) {x y : Int64} {α : Type} {o : Option α} {r : α} (h : (if y = 0 then none else o) = some r) (hd : decode cc pc = .ok (.ldiv, 1)) (k : o = some r → hd_V κ E nL cells slots Q S (pc + 1) lv (.long (x / y) :: st)) : hd_V κ E nL cells slots Q S pc lv (.long y :: .long x :: st) := fun H locs ls hW hS hl => by
  by_cases hy : y = 0
  · rw [if_pos hy] at h; cases h
  · rw [if_neg hy] at h; exact lv_ldiv X.1 X.2.1 hd hy (k h H locs ls hW hS hl)
theorem hv_ldivc (X : hd_Cx κ E cc own nL R) {x y : Int64} (hy : ¬ y = 0) (hd : decode cc pc = .ok (.ldiv, 1)) (k : hd_V κ E nL cells slots Q S (pc + 1) lv (.long (x / y) :: st)) : hd_V κ E nL cells slots Q S pc lv (.long y :: .long x :: st) := fun H locs ls hW hS hl => lv_ldiv X.1 X.2.1 hd hy (k H locs ls hW hS hl)
theorem hv_lrem (X : hd_Cx κ E cc own nL R) {x y : Int64} {α : Type} {o : Option α} {r : α} (h : (if y = 0 then none else o) = some r) (hd : decode cc pc = .ok (.lrem, 1)) (k : o = some r → hd_V κ E nL cells slots Q S (pc + 1) lv (.long (x - x / y * y) :: st)) : hd_V κ E nL cells slots Q S pc lv (.long y :: .long x :: st) := fun H locs ls hW hS hl => by
  by_cases hy : y = 0
  · rw [if_pos hy] at h; cases h
  · rw [if_neg hy] at h; exact lv_lrem X.1 X.2.1 hd hy (k h H locs ls hW hS hl)
theorem hv_lremc (X : hd_Cx κ E cc own nL R) {x y : Int64} (hy : ¬ y = 0) (hd : decode cc pc = .ok (.lrem, 1)) (k : hd_V κ E nL cells slots Q S (pc + 1) lv (.long (x - x / y * y) :: st)) : hd_V κ E nL cells slots Q S pc lv (.long y :: .long x :: st) := fun H locs ls hW hS hl => lv_lrem X.1 X.2.1 hd hy (k H locs ls hW hS hl)
theorem hv_if_eq (X : hd_Cx κ E cc own nL R) {x : Int32} {off : Int} {α : Sort _} {fa fb r : α} (tgt : Nat) (h : (if x = 0 then fa else fb) = r) (hd : decode cc pc = .ok (.ifCond .eq off, 3)) (ht : (pc : Int) + off = (tgt : Int)) (kt : fa = r → hd_V κ E nL cells slots Q S tgt lv st) (kf : fb = r → hd_V κ E nL cells slots Q S (pc + 3) lv st) : hd_V κ E nL cells slots Q S pc lv (.int x :: st) := fun H locs ls hW hS hl => lv_if_eq X.1 X.2.1 hd ht (fun c => kt (hd_pos h c) H locs ls hW hS hl) (fun c => kf (hd_neg h c) H locs ls hW hS hl)
theorem hv_icmp_eq (X : hd_Cx κ E cc own nL R) {x y : Int32} {off : Int} {α : Sort _} {fa fb r : α} (tgt : Nat) (h : (if x = y then fa else fb) = r) (hd : decode cc pc = .ok (.if_icmp .eq off, 3)) (ht : (pc : Int) + off = (tgt : Int)) (kt : fa = r → hd_V κ E nL cells slots Q S tgt lv st) (kf : fb = r → hd_V κ E nL cells slots Q S (pc + 3) lv st) : hd_V κ E nL cells slots Q S pc lv (.int y :: .int x :: st) := fun H locs ls hW hS hl => lv_icmp_eq X.1 X.2.1 hd ht (fun c => kt (hd_pos h c) H locs ls hW hS hl) (fun c => kf (hd_neg h c) H locs ls hW hS hl)
theorem hv_if_ne (X : hd_Cx κ E cc own nL R) {x : Int32} {off : Int} {α : Sort _} {fa fb r : α} (tgt : Nat) (h : (if x = 0 then fa else fb) = r) (hd : decode cc pc = .ok (.ifCond .ne off, 3)) (ht : (pc : Int) + off = (tgt : Int)) (kt : fb = r → hd_V κ E nL cells slots Q S tgt lv st) (kf : fa = r → hd_V κ E nL cells slots Q S (pc + 3) lv st) : hd_V κ E nL cells slots Q S pc lv (.int x :: st) := fun H locs ls hW hS hl => lv_if_ne X.1 X.2.1 hd ht (fun c => kt (hd_neg h (fun q => c q)) H locs ls hW hS hl) (fun c => kf (hd_pos h c) H locs ls hW hS hl)
theorem hv_icmp_ne (X : hd_Cx κ E cc own nL R) {x y : Int32} {off : Int} {α : Sort _} {fa fb r : α} (tgt : Nat) (h : (if x = y then fa else fb) = r) (hd : decode cc pc = .ok (.if_icmp .ne off, 3)) (ht : (pc : Int) + off = (tgt : Int)) (kt : fb = r → hd_V κ E nL cells slots Q S tgt lv st) (kf : fa = r → hd_V κ E nL cells slots Q S (pc + 3) lv st) : hd_V κ E nL cells slots Q S pc lv (.int y :: .int x :: st) := fun H locs ls hW hS hl => lv_icmp_ne X.1 X.2.1 hd ht (fun c => kt (hd_neg h (fun q => c q)) H locs ls hW hS hl) (fun c => kf (hd_pos h c) H locs ls hW hS hl)
theorem hv_if_lt (X : hd_Cx κ E cc own nL R) {x : Int32} {off : Int} {α : Sort _} {fa fb r : α} (tgt : Nat) (h : (if x < 0 then fa else fb) = r) (hd : decode cc pc = .ok (.ifCond .lt off, 3)) (ht : (pc : Int) + off = (tgt : Int)) (kt : fa = r → hd_V κ E nL cells slots Q S tgt lv st) (kf : fb = r → hd_V κ E nL cells slots Q S (pc + 3) lv st) : hd_V κ E nL cells slots Q S pc lv (.int x :: st) := fun H locs ls hW hS hl => lv_if_lt X.1 X.2.1 hd ht (fun c => kt (hd_pos h c) H locs ls hW hS hl) (fun c => kf (hd_neg h c) H locs ls hW hS hl)
theorem hv_icmp_lt (X : hd_Cx κ E cc own nL R) {x y : Int32} {off : Int} {α : Sort _} {fa fb r : α} (tgt : Nat) (h : (if x < y then fa else fb) = r) (hd : decode cc pc = .ok (.if_icmp .lt off, 3)) (ht : (pc : Int) + off = (tgt : Int)) (kt : fa = r → hd_V κ E nL cells slots Q S tgt lv st) (kf : fb = r → hd_V κ E nL cells slots Q S (pc + 3) lv st) : hd_V κ E nL cells slots Q S pc lv (.int y :: .int x :: st) := fun H locs ls hW hS hl => lv_icmp_lt X.1 X.2.1 hd ht (fun c => kt (hd_pos h c) H locs ls hW hS hl) (fun c => kf (hd_neg h c) H locs ls hW hS hl)
theorem hv_if_ge (X : hd_Cx κ E cc own nL R) {x : Int32} {off : Int} {α : Sort _} {fa fb r : α} (tgt : Nat) (h : (if 0 ≤ x then fa else fb) = r) (hd : decode cc pc = .ok (.ifCond .ge off, 3)) (ht : (pc : Int) + off = (tgt : Int)) (kt : fa = r → hd_V κ E nL cells slots Q S tgt lv st) (kf : fb = r → hd_V κ E nL cells slots Q S (pc + 3) lv st) : hd_V κ E nL cells slots Q S pc lv (.int x :: st) := fun H locs ls hW hS hl => lv_if_ge X.1 X.2.1 hd ht (fun c => kt (hd_pos h c) H locs ls hW hS hl) (fun c => kf (hd_neg h c) H locs ls hW hS hl)
theorem hv_icmp_ge (X : hd_Cx κ E cc own nL R) {x y : Int32} {off : Int} {α : Sort _} {fa fb r : α} (tgt : Nat) (h : (if y ≤ x then fa else fb) = r) (hd : decode cc pc = .ok (.if_icmp .ge off, 3)) (ht : (pc : Int) + off = (tgt : Int)) (kt : fa = r → hd_V κ E nL cells slots Q S tgt lv st) (kf : fb = r → hd_V κ E nL cells slots Q S (pc + 3) lv st) : hd_V κ E nL cells slots Q S pc lv (.int y :: .int x :: st) := fun H locs ls hW hS hl => lv_icmp_ge X.1 X.2.1 hd ht (fun c => kt (hd_pos h c) H locs ls hW hS hl) (fun c => kf (hd_neg h c) H locs ls hW hS hl)
theorem hv_if_gt (X : hd_Cx κ E cc own nL R) {x : Int32} {off : Int} {α : Sort _} {fa fb r : α} (tgt : Nat) (h : (if 0 < x then fa else fb) = r) (hd : decode cc pc = .ok (.ifCond .gt off, 3)) (ht : (pc : Int) + off = (tgt : Int)) (kt : fa = r → hd_V κ E nL cells slots Q S tgt lv st) (kf : fb = r → hd_V κ E nL cells slots Q S (pc + 3) lv st) : hd_V κ E nL cells slots Q S pc lv (.int x :: st) := fun H locs ls hW hS hl => lv_if_gt X.1 X.2.1 hd ht (fun c => kt (hd_pos h c) H locs ls hW hS hl) (fun c => kf (hd_neg h c) H locs ls hW hS hl)
theorem hv_icmp_gt (X : hd_Cx κ E cc own nL R) {x y : Int32} {off : Int} {α : Sort _} {fa fb r : α} (tgt : Nat) (h : (if y < x then fa else fb) = r) (hd : decode cc pc = .ok (.if_icmp .gt off, 3)) (ht : (pc : Int) + off = (tgt : Int)) (kt : fa = r → hd_V κ E nL cells slots Q S tgt lv st) (kf : fb = r → hd_V κ E nL cells slots Q S (pc + 3) lv st) : hd_V κ E nL cells slots Q S pc lv (.int y :: .int x :: st) := fun H locs ls hW hS hl => lv_icmp_gt X.1 X.2.1 hd ht (fun c => kt (hd_pos h c) H locs ls hW hS hl) (fun c => kf (hd_neg h c) H locs ls hW hS hl)
theorem hv_if_le (X : hd_Cx κ E cc own nL R) {x : Int32} {off : Int} {α : Sort _} {fa fb r : α} (tgt : Nat) (h : (if x ≤ 0 then fa else fb) = r) (hd : decode cc pc = .ok (.ifCond .le off, 3)) (ht : (pc : Int) + off = (tgt : Int)) (kt : fa = r → hd_V κ E nL cells slots Q S tgt lv st) (kf : fb = r → hd_V κ E nL cells slots Q S (pc + 3) lv st) : hd_V κ E nL cells slots Q S pc lv (.int x :: st) := fun H locs ls hW hS hl => lv_if_le X.1 X.2.1 hd ht (fun c => kt (hd_pos h c) H locs ls hW hS hl) (fun c => kf (hd_neg h c) H locs ls hW hS hl)
theorem hv_icmp_le (X : hd_Cx κ E cc own nL R) {x y : Int32} {off : Int} {α : Sort _} {fa fb r : α} (tgt : Nat) (h : (if x ≤ y then fa else fb) = r) (hd : decode cc pc = .ok (.if_icmp .le off, 3)) (ht : (pc : Int) + off = (tgt : Int)) (kt : fa = r → hd_V κ E nL cells slots Q S tgt lv st) (kf : fb = r → hd_V κ E nL cells slots Q S (pc + 3) lv st) : hd_V κ E nL cells slots Q S pc lv (.int y :: .int x :: st) := fun H locs ls hW hS hl => lv_icmp_le X.1 X.2.1 hd ht (fun c => kt (hd_pos h c) H locs ls hW hS hl) (fun c => kf (hd_neg h c) H locs ls hW hS hl)
theorem hv_ifb_eq (X : hd_Cx κ E cc own nL R) {b : Bool} {off : Int} {α : Sort _} {fa fb r : α} (tgt : Nat) (h : (if b = true then fa else fb) = r) (hd : decode cc pc = .ok (.ifCond .eq off, 3)) (ht : (pc : Int) + off = (tgt : Int)) (kt : fb = r → hd_V κ E nL cells slots Q S tgt lv st) (kf : fa = r → hd_V κ E nL cells slots Q S (pc + 3) lv st) : hd_V κ E nL cells slots Q S pc lv (.int (hd_bI b) :: st) := fun H locs ls hW hS hl => by
  cases b
  · exact lv_if_eq X.1 X.2.1 hd ht (fun _ => kt (hd_neg h (by decide)) H locs ls hW hS hl) (fun c => absurd rfl c)
  · exact lv_if_eq X.1 X.2.1 hd ht (fun c => absurd c (by decide)) (fun _ => kf (hd_pos h rfl) H locs ls hW hS hl)
theorem hv_ifb_ne (X : hd_Cx κ E cc own nL R) {b : Bool} {off : Int} {α : Sort _} {fa fb r : α} (tgt : Nat) (h : (if b = true then fa else fb) = r) (hd : decode cc pc = .ok (.ifCond .ne off, 3)) (ht : (pc : Int) + off = (tgt : Int)) (kt : fa = r → hd_V κ E nL cells slots Q S tgt lv st) (kf : fb = r → hd_V κ E nL cells slots Q S (pc + 3) lv st) : hd_V κ E nL cells slots Q S pc lv (.int (hd_bI b) :: st) := fun H locs ls hW hS hl => by
  cases b
  · exact lv_if_ne X.1 X.2.1 hd ht (fun c => absurd rfl c) (fun _ => kf (hd_neg h (by decide)) H locs ls hW hS hl)
  · exact lv_if_ne X.1 X.2.1 hd ht (fun _ => kt (hd_pos h rfl) H locs ls hW hS hl) (fun c => absurd c (by decide))
theorem hv_goto (X : hd_Cx κ E cc own nL R) {off : Int} (tgt : Nat) (hd : decode cc pc = .ok (.goto off, 3)) (ht : (pc : Int) + off = (tgt : Int)) (k : hd_V κ E nL cells slots Q S tgt lv st) : hd_V κ E nL cells slots Q S pc lv st := fun H locs ls hW hS hl => lv_goto X.1 X.2.1 hd ht (k H locs ls hW hS hl)
theorem hv_ldc (X : hd_Cx κ E cc own nL R) {index : Nat} {v : Int32} (q : Cond.constant own index v ∈ lw_all) (hd : decode cc pc = .ok (.ldc index, 2)) (k : hd_V κ E nL cells slots Q S (pc + 2) lv (.int v :: st)) : hd_V κ E nL cells slots Q S pc lv st := fun H locs ls hW hS hl => lv_ldc X.1 X.2.1 X.ow (X.ts _ q) hd (k H locs ls hW hS hl)
theorem hv_ldcw (X : hd_Cx κ E cc own nL R) {index : Nat} {v : Int32} (q : Cond.constant own index v ∈ lw_all) (hd : decode cc pc = .ok (.ldc_w index, 3)) (k : hd_V κ E nL cells slots Q S (pc + 3) lv (.int v :: st)) : hd_V κ E nL cells slots Q S pc lv st := fun H locs ls hW hS hl => lv_ldcw X.1 X.2.1 X.ow (X.ts _ q) hd (k H locs ls hW hS hl)
theorem hv_ldc2 (X : hd_Cx κ E cc own nL R) {index : Nat} {v : Int64} (q : Cond.constantLong own index v ∈ lw_all) (hd : decode cc pc = .ok (.ldc2_w index, 3)) (k : hd_V κ E nL cells slots Q S (pc + 3) lv (.long v :: st)) : hd_V κ E nL cells slots Q S pc lv st := fun H locs ls hW hS hl => lv_ldc2 X.1 X.2.1 X.ow (X.ts _ q) hd (k H locs ls hW hS hl)
theorem hv_nm {α β : Sort _} {e : α} {f : α → β} {r : β} {P : α → Prop} (h : hd_nm e f = r) (k : ∀ v, f v = r → P v) : P e := k e h
theorem hv_iald (X : hd_Cx κ E cc own nL R) {i n : Nat} {x : Int32} {α : Type} {o : Option α} {r : α} (h : (if hd_ck x n = true then o else none) = some r) (ha : hd_ia i n) (hd : decode cc pc = .ok (.iaload, 1)) (k : o = some r → hd_V κ E nL cells slots Q S (pc + 1) lv (.int (hd_I S i x.toNatClampNeg) :: st)) : hd_V κ E nL cells slots Q S pc lv (.int x :: .ref (hd_ad E i) :: st) := fun H locs ls hW hS hl =>
  va_iald X.1 X.2.1 X.K hW.1 i 0 ((hd_at E S ha.1).trans (by rw [show hd_ct E S i = _ from ha.2 E _ _ _ _])) rfl (hd_ck_in (hd_if h).1) hd (k (hd_if h).2 H locs ls hW hS hl)
theorem hv_iast (X : hd_Cx κ E cc own nL R) {i n : Nat} {x v : Int32} {α : Type} {o : Option α} {r : α} (h : (if hd_ck x n = true then o else none) = some r) (ha : hd_ia i n) (hd : decode cc pc = .ok (.iastore, 1)) (k : o = some r → hd_V κ E nL cells slots Q (hd_sI S i x.toNatClampNeg v) (pc + 1) lv st) : hd_V κ E nL cells slots Q S pc lv (.int v :: .int x :: .ref (hd_ad E i) :: st) := fun H locs ls hW hS hl =>
  va_iast X.1 X.2.1 X.K hW.1 hW.2.1 hS i 0 ((hd_at E S ha.1).trans (by rw [show hd_ct E S i = _ from ha.2 E _ _ _ _])) rfl (hd_ck_in (hd_if h).1) hd (fun H1 locs1 hP hD hS1 => by
    rw [hd_set_I (g := upd (hd_I S i) x.toNatClampNeg v) ha.1 (by show hd_ctc E _ _ _ _ i = _; rw [ha.2, hd_I_wI, if_pos rfl])] at hP hD
    exact k (hd_if h).2 H1 locs1 ls ⟨hP, hD, hW.2.2⟩ hS1 hl)
theorem hv_lald (X : hd_Cx κ E cc own nL R) {i n : Nat} {x : Int32} {α : Type} {o : Option α} {r : α} (h : (if hd_ck x n = true then o else none) = some r) (ha : hd_la i n) (hd : decode cc pc = .ok (.laload, 1)) (k : o = some r → hd_V κ E nL cells slots Q S (pc + 1) lv (.long (hd_J S i x.toNatClampNeg) :: st)) : hd_V κ E nL cells slots Q S pc lv (.int x :: .ref (hd_ad E i) :: st) := fun H locs ls hW hS hl =>
  va_lald X.1 X.2.1 X.K hW.1 i 3 ((hd_at E S ha.1).trans (by rw [show hd_ct E S i = _ from ha.2 E _ _ _ _])) rfl (hd_ck_in (hd_if h).1) hd (k (hd_if h).2 H locs ls hW hS hl)
theorem hv_last (X : hd_Cx κ E cc own nL R) {i n : Nat} {x : Int32} {v : Int64} {α : Type} {o : Option α} {r : α} (h : (if hd_ck x n = true then o else none) = some r) (ha : hd_la i n) (hd : decode cc pc = .ok (.lastore, 1)) (k : o = some r → hd_V κ E nL cells slots Q (hd_sJ S i x.toNatClampNeg v) (pc + 1) lv st) : hd_V κ E nL cells slots Q S pc lv (.long v :: .int x :: .ref (hd_ad E i) :: st) := fun H locs ls hW hS hl =>
  va_last X.1 X.2.1 X.K hW.1 hW.2.1 hS i 3 ((hd_at E S ha.1).trans (by rw [show hd_ct E S i = _ from ha.2 E _ _ _ _])) rfl (hd_ck_in (hd_if h).1) hd (fun H1 locs1 hP hD hS1 => by
    rw [hd_set_J (g := vp_updL (hd_J S i) x.toNatClampNeg v) ha.1 (by show hd_ctc E _ _ _ _ i = _; rw [ha.2, hd_J_wJ, if_pos rfl])] at hP hD
    exact k (hd_if h).2 H1 locs1 ls ⟨hP, hD, hW.2.2⟩ hS1 hl)
theorem hv_qald (X : hd_Cx κ E cc own nL R) {i n t : Nat} {C : String} {x : Int32} {α : Type} {o : Option α} {r : α} (h : (if hd_ck x n = true then o else none) = some r) (ha : hd_qa i n t) (ht : (hd_ty E)[t]? = some (hd_cA E t, .object C)) (hd : decode cc pc = .ok (.aaload, 1)) (k : o = some r → hd_V κ E nL cells slots Q S (pc + 1) lv (va_rf (hd_R S i x.toNatClampNeg) :: st)) : hd_V κ E nL cells slots Q S pc lv (.int x :: .ref (hd_ad E i) :: st) := fun H locs ls hW hS hl =>
  va_aldq X.1 X.2.1 X.K hW.1 i t ((hd_at E S ha.1).trans (by rw [show hd_ct E S i = _ from ha.2 E _ _ _ _])) ht (hd_ck_in (hd_if h).1) hd (k (hd_if h).2 H locs ls hW hS hl)
theorem hv_alen (X : hd_Cx κ E cc own nL R) {i n : Nat} (ha : hd_ia i n) (hd : decode cc pc = .ok (.arraylength, 1)) (k : hd_V κ E nL cells slots Q S (pc + 1) lv (.int (nI n) :: st)) : hd_V κ E nL cells slots Q S pc lv (.ref (hd_ad E i) :: st) := fun H locs ls hW hS hl =>
  va_alen (x := (n, .inl (hd_I S i))) X.1 X.2.1 X.K hW.1 i 0 ((hd_at E S ha.1).trans (by rw [show hd_ct E S i = _ from ha.2 E _ _ _ _])) rfl rfl hd (k H locs ls hW hS hl)
/-- a reference out of an array that must be one -/
theorem hv_some {q : Option Nat} {α : Type} {f : Nat → Option α} {r : α} (h : q.bind f = some r) (k : ∀ a, q = some a → f a = some r → hd_V κ E nL cells slots Q S pc lv (.ref a :: st)) : hd_V κ E nL cells slots Q S pc lv (va_rf q :: st) := by
  obtain ⟨a, rfl, h⟩ := hd_bind h
  exact k a rfl h
/-- a field of a fixed object -/
theorem hv_get (X : hd_Cx κ E cc own nL R) {i index ci N : Nat} {ref C : String} {T : u_T} {fs : List Value} {v : Value} (hi : i < 52) (hc : hd_ct E S i = .inr (ci, fs)) (hin : ∀ w ∈ u_ws C T N, w ∈ lw_all) (hcl : hd_cl[ci]? = some (C, T, N)) (k : Nat) (hk : k < N) (q : Cond.fieldLink own index ref (T k).2.1 (T k).2.2.1 ∈ lw_all) (hr : (T k).1 = ref) (hv : fs[k]? = some v) (hd : decode cc pc = .ok (.getfield index, 3)) (kk : hd_V κ E nL cells slots Q S (pc + 3) lv (v :: st)) : hd_V κ E nL cells slots Q S pc lv (.ref (hd_ad E i) :: st) := fun H locs ls hW hS hl =>
  va_get (D := hd_D E) (ci := ci) (v := v) (C := C) (T := T) (N := N) X.1 X.2.1 X.ts hin X.ow X.K hW.1 i ((hd_at E S hi).trans (by rw [hc])) hcl k hk (X.ts _ q) (fun _ h9 => by rw [← hr]; exact h9) hv hd (kk H locs ls hW hS hl)
/-- an int field of a fixed object is written -/
theorem hv_put (X : hd_Cx κ E cc own nL R) {i index ci N : Nat} {ref C : String} {T : u_T} {fs : List Value} {v : Int32} {ty : FieldType} (hi : i < 52) (hc : hd_ct E S i = .inr (ci, fs)) (hin : ∀ w ∈ u_ws C T N, w ∈ lw_all) (tyX : Nat → FieldType) (tyok : ∀ k, k < N → parseFieldDescriptor (T k).2.2.1 = some (tyX k)) (nmX : ∀ a, a < N → ∀ b, b < N → a ≠ b → (T a).2.1 ≠ (T b).2.1) (hcl : hd_cl[ci]? = some (C, T, N)) (k : Nat) (hk : k < N) (q : Cond.fieldLink own index ref (T k).2.1 (T k).2.2.1 ∈ lw_all) (hr : (T k).1 = ref) (hfin : (T k).2.2.2 = false) (hty : tyX k = ty) (hnar : narrow ty (.int v) = .int v) (hfit : fits ty (.int v) = true) (hlen : k < fs.length) (hc2 : hd_ct E (hd_sI S i k v) i = .inr (ci, fs.set k (.int v))) (hd : decode cc pc = .ok (.putfield index, 3)) (kk : hd_V κ E nL cells slots Q (hd_sI S i k v) (pc + 3) lv st) : hd_V κ E nL cells slots Q S pc lv (.int v :: .ref (hd_ad E i) :: st) := fun H locs ls hW hS hl =>
  va_put (D := hd_D E) (ci := ci) (v := .int v) (ty := ty) (C := C) (T := T) (N := N) X.1 X.2.1 X.ts hin tyX tyok nmX X.ow X.K hW.1 hW.2.1 hS i ((hd_at E S hi).trans (by rw [hc])) hcl k hk (X.ts _ q) (fun _ h9 => by rw [← hr]; exact h9) hfin (by rw [← hty]; exact tyok k hk) hnar hfit hlen hd (fun H1 locs1 hP hD hS1 => by
    rw [hd_set_I (g := upd (hd_I S i) k v) hi hc2] at hP hD
    exact kk H1 locs1 ls ⟨hP, hD, hW.2.2⟩ hS1 hl)
theorem hv_iret (X : hd_Cx κ E cc own nL R) {r : Int32} (hr : (hd_kQ κ).sig.returnType = some .int) (hd : decode cc pc = .ok (.ireturn, 1)) (hc : cells ≤ R.cells) (hs : slots ≤ R.slots) : hd_V κ E nL cells slots (hd_Qf κ E (some (.int r)) S) S pc lv [.int r] := fun H locs ls hW hS hl => by
  have hlk := X.locks
  refine W.widen (k := (hd_kR κ).cells) (n := (hd_kR κ).slots) (by rw [X.S0]; exact hc) (by rw [X.S0]; exact hs) ?_
  exact W.iret (v := r) X.1 X.2.1 hr (fun t ht hW2 => ⟨⟨rfl, by rw [ht]; exact hW⟩, hS.F ht⟩) hS.2.2 hd
theorem hv_lret (X : hd_Cx κ E cc own nL R) {r : Int64} (hr : (hd_kQ κ).sig.returnType = some .long) (hd : decode cc pc = .ok (.lreturn, 1)) (hc : cells ≤ R.cells) (hs : slots ≤ R.slots) : hd_V κ E nL cells slots (hd_Qf κ E (some (.long r)) S) S pc lv [.long r] := fun H locs ls hW hS hl => by
  have hlk := X.locks
  refine W.widen (k := (hd_kR κ).cells) (n := (hd_kR κ).slots) (by rw [X.S0]; exact hc) (by rw [X.S0]; exact hs) ?_
  exact W.lret (v := r) X.1 X.2.1 hr (fun t ht hW2 => ⟨⟨rfl, by rw [ht]; exact hW⟩, hS.F ht⟩) hS.2.2 hd
theorem hv_zret (X : hd_Cx κ E cc own nL R) {x : Int32} {b : Bool} (hr : (hd_kQ κ).sig.returnType = some .boolean) (hx : x = hd_bI b) (hd : decode cc pc = .ok (.ireturn, 1)) (hc : cells ≤ R.cells) (hs : slots ≤ R.slots) : hd_V κ E nL cells slots (hd_Qf κ E (some (.int (hd_bI b))) S) S pc lv [.int x] := fun H locs ls hW hS hl => by
  have hlk := X.locks
  subst hx
  refine W.widen (k := (hd_kR κ).cells) (n := (hd_kR κ).slots) (by rw [X.S0]; exact hc) (by rw [X.S0]; exact hs) ?_
  exact W.zret (v := hd_bI b) X.1 X.2.1 hr (by cases b <;> rfl) (fun t ht hW2 => ⟨⟨rfl, by rw [ht]; exact hW⟩, hS.F ht⟩) hS.2.2 hd
theorem hv_vret (X : hd_Cx κ E cc own nL R) (hr : (hd_kQ κ).sig.returnType = none) (hd : decode cc pc = .ok (.return_, 1)) (hc : cells ≤ R.cells) (hs : slots ≤ R.slots) : hd_V κ E nL cells slots (hd_Qf κ E none S) S pc lv [] := fun H locs ls hW hS hl => by
  have hlk := X.locks
  refine W.widen (k := (hd_kR κ).cells) (n := (hd_kR κ).slots) (by rw [X.S0]; exact hc) (by rw [X.S0]; exact hs) ?_
  exact W.vret X.1 X.2.1 hr (fun t ht hW2 => ⟨⟨rfl, by rw [ht]; exact hW⟩, hS.F ht⟩) hS.2.2 hd
/-- behind a call: the world as the callee left it -/
theorem hv_ran {mc ms : Nat} {rest st0 st1 : List Value} {rv : Option Value} {S1 : hd_St} (X : hd_Cx κ E cc own nL R) (hr : ∀ (H : Heap) (locs : List Loc) (ls : Array Slot), hd_WH E S H → va_S (hd_fA E) (hd_kS κ).heap H locs → lv_has ls nL lv → ∃ a : Array Value, va_Run (hd_kP κ) (hd_kL κ) (hd_kE κ) (hd_kR κ) (hd_kS κ) (hd_kM κ) (hd_kA κ) (hd_kB κ) (hd_kQ κ) (hd_kC κ) H locs cells slots mc ms (F0 (hd_kM κ) pc ls st0) rest (hd_Qc E rv S1 a) (hd_fA E)) (h1 : rv.toList ++ rest = st1) (k : hd_V κ E nL (cells + mc) (slots + ms) Q S1 (pc + 3) lv st1) : hd_V κ E nL cells slots Q S pc lv st0 := by
  subst h1
  intro H locs ls hW hS hl T hT X1
  obtain ⟨a, hr⟩ := hr H locs ls hW hS hl
  obtain ⟨v, st₀, t, T', L, h0, X', hL, e1, e2, ⟨⟨hv, hw⟩, hz, hk⟩, stp⟩ := hr T hT X1
  cases hv
  rw [h0] at hz hk
  obtain ⟨t2, a1, b1⟩ := k T'.heap (locs ++ L) ls (by rw [e1]; exact hw) ⟨Nat.le_trans hS.1 (by rw [e1]; exact hz), fun q h1 h2 => by rw [e1, hk q (Nat.lt_of_lt_of_le h1 hS.1) h2]; exact hS.2.1 q h1 h2, fun q hq => by
      rcases List.mem_append.mp hq with h | h
      · exact hS.2.2 q h
      · exact hL q h⟩ hl T' rfl X'
  exact ⟨t2, stp t2 a1, b1⟩
theorem hd_pre (X : hd_Cx κ E cc own nL R) {H : Heap} {locs : List Loc} {av : List Value} (hW : hd_WH E S H) (hS : va_S (hd_fA E) (hd_kS κ).heap H locs) : ∀ U : State, U.heap = H → (hd_kS κ).WarmedH U.vm → hd_Pc E S av av.toArray U := fun U hU hWm => by
  refine ⟨rfl, X.KX.warm hWm, ?_, by rw [hU]; exact X.base.mono hS.1, by rw [hU]; exact hW⟩
  rw [hU]
  obtain ⟨z1, z2⟩ := X.2.2.2.2.2.2.2.1
  have kp : ∀ a : Nat, a < (hd_kS κ).heap.size → ¬ hd_fA E a → H[a]? = (hd_kS κ).heap[a]? := fun a h1 h2 => hS.2.1 a h1 h2
  exact ⟨(z1.kept kp).moved hWm.alike, (z2.kept kp).moved hWm.alike⟩
/-- what a callee's name and words are: once for each method -/
def hd_PkS (y : MethodName) (cy : ByteArray) (nY : Nat) (ret : Option FieldType) (n : Nat) : Prop := Cond.static y ∈ lw_all ∧ Cond.initialized y.cls ∈ lw_all ∧ Cond.code y cy nY ret ∈ lw_all ∧ y.cls ≠ "java/lang/invoke/MethodHandle" ∧ y.cls ≠ "java/lang/invoke/VarHandle" ∧ (parseMethodDescriptor y.desc).map (fun d => d.parameters.length) = some n
def hd_PkV (C : String) (y : MethodName) (cy : ByteArray) (nY : Nat) (ret : Option FieldType) (n : Nat) : Prop := Cond.instanceMethod y ∈ lw_all ∧ Cond.selects C y y ∈ lw_all ∧ Cond.initialized C ∈ lw_all ∧ Cond.code y cy nY ret ∈ lw_all ∧ y.cls = C ∧ y.cls ≠ "java/lang/invoke/MethodHandle" ∧ y.cls ≠ "java/lang/invoke/VarHandle" ∧ (parseMethodDescriptor y.desc).map (fun d => d.parameters.length) = some n
theorem hv_callS (X : hd_Cx κ E cc own nL R) {y : MethodName} {cy : ByteArray} {nY n index : Nat} {ret : Option FieldType} {RY : Room} {av rest st0 st1 : List Value} {rv : Option Value} {S1 : hd_St} (pk : hd_PkS y cy nY ret n) (hM : hd_Mt (hd_kL κ) E y cy nY ret RY av S rv S1) (q : Cond.methodLink own index y ∈ lw_all) (hd : decode cc pc = .ok (.invokestatic index, 3)) (hR : RY.frames + 1 ≤ R.frames ∧ 8 + (nY + 11) + RY.locals ≤ R.locals) (hC : cells + RY.cells ≤ R.cells ∧ slots + RY.slots ≤ R.slots) (hn : av.length = n) (hst : st0 = av.reverse ++ rest) (hrm : (rest.map fun v => v.category).sum ≤ 8) (h1 : rv.toList ++ rest = st1) (k : hd_V κ E nL (cells + RY.cells) (slots + RY.slots) Q S1 (pc + 3) lv st1) : hd_V κ E nL cells slots Q S pc lv st0 := by
  refine hv_ran X (fun H locs ls hW hS hl => ⟨_, va_runS (y := y) (bytes := cy) (maxL := nY) (ret := ret) ⟨X.1, X.2.1, X.2.2.1, X.ow, X.ts⟩ hM (va_cwS n X.ts (lw_S q pk.1 pk.2.1 pk.2.2.1) rfl rfl rfl ⟨pk.2.2.2.1, pk.2.2.2.2.1, pk.2.2.2.2.2⟩ (by rw [X.S0]; exact hR)) ⟨hd_Pc_blind E S av, hd_pre X hW hS⟩ rfl hn hl.1 hst (lv_room hrm) hd (by rw [X.S0]; exact hC)⟩) h1 k
/-- where the receiver is: a cell of the world, and its class by name -/
def hd_rc (κ : hd_VK) (E : hd_EV) (S : hd_St) (a : Nat) (C : String) : Prop := ∃ (k ci : Nat) (fs : List Value) (r : vw_C), (hd_wl E S)[k]? = some (a, .inr (ci, fs)) ∧ hd_cl[ci]? = some r ∧ r.1 = C
theorem hd_recv (X : hd_Cx κ E cc own nL R) {H : Heap} {a : Nat} {C : String} (hW : hd_WH E S H) (h : hd_rc κ E S a C) : ∃ cell : Cell, H[a]? = some cell ∧ cell.vm.isStatics = false ∧ (hd_kS κ).vm.findClass C = some cell.cls := by
  obtain ⟨k, ci, fs, r, h1, h2, rfl⟩ := h
  exact va_recv X.K hW.1 h2 h1
theorem hv_callV (X : hd_Cx κ E cc own nL R) {C : String} {y : MethodName} {cy : ByteArray} {nY n index b : Nat} {ret : Option FieldType} {RY : Room} {av rest st0 st1 : List Value} {rv : Option Value} {S1 : hd_St} (pk : hd_PkV C y cy nY ret n) (hrc : hd_rc κ E S b C) (hM : hd_Mt (hd_kL κ) E y cy nY ret RY (.ref b :: av) S rv S1) (q : Cond.methodLink own index y ∈ lw_all) (hd : decode cc pc = .ok (.invokevirtual index, 3)) (hR : RY.frames + 1 ≤ R.frames ∧ 8 + (nY + 11) + RY.locals ≤ R.locals) (hC : cells + RY.cells ≤ R.cells ∧ slots + RY.slots ≤ R.slots) (hn : av.length = n) (hst : st0 = av.reverse ++ .ref b :: rest) (hrm : (rest.map fun v => v.category).sum ≤ 8) (h1 : rv.toList ++ rest = st1) (k : hd_V κ E nL (cells + RY.cells) (slots + RY.slots) Q S1 (pc + 3) lv st1) : hd_V κ E nL cells slots Q S pc lv st0 := by
  refine hv_ran X (fun H locs ls hW hS hl => ⟨_, va_runV (y := y) (C := C) (bytes := cy) (maxL := nY) (ret := ret) ⟨X.1, X.2.1, X.2.2.1, X.ow, X.ts⟩ hM (cwV n X.ts (lw_V q pk.1 pk.2.1 pk.2.2.1 pk.2.2.2.1) rfl rfl rfl ⟨pk.2.2.2.2.1, pk.2.2.2.2.2.1, pk.2.2.2.2.2.2.1, pk.2.2.2.2.2.2.2⟩ (by rw [X.S0]; exact hR)) ⟨hd_Pc_blind E S _, hd_recv X hW hrc, hd_pre X hW hS⟩ rfl hn hl.1 hst (lv_room hrm) hd (by rw [X.S0]; exact hC)⟩) h1 k
theorem hv_nmS {α : Sort _} {f : hd_St → α} {r : α} (h : hd_nm S f = r) (k : ∀ S1 : hd_St, f S1 = r → hd_V κ E nL cells slots Q S1 pc lv st) : hd_V κ E nL cells slots Q S pc lv st := k S h
theorem hv_nmI {α : Sort _} {f : Int32 → α} {e : Int32} {r : α} (h : hd_nm e f = r) (k : ∀ v : Int32, f v = r → hd_V κ E nL cells slots Q S pc lv (.int v :: st)) : hd_V κ E nL cells slots Q S pc lv (.int e :: st) := k e h
theorem hv_nmL {α : Sort _} {f : Int64 → α} {e : Int64} {r : α} (h : hd_nm e f = r) (k : ∀ v : Int64, f v = r → hd_V κ E nL cells slots Q S pc lv (.long v :: st)) : hd_V κ E nL cells slots Q S pc lv (.long e :: st) := k e h
theorem hv_case {x v : Int32} {α : Sort _} {fa fb r : α} {P : Prop} (h : (if x = v then fa else fb) = r) (kt : x = v → fa = r → P) (kf : ¬ x = v → fb = r → P) : P := by
  by_cases c : x = v
  · exact kt c (hd_pos h c)
  · exact kf c (hd_neg h c)
theorem hd_ni {x v : Int32} (h : ¬ x = v) {a : Int} (ha : v.toInt = a) : ¬ x.toInt = a := fun q => h (Int32.toInt_inj.mp (q.trans ha.symm))
theorem hv_tswIn (X : hd_Cx κ E cc own nL R) {dflt lo hi : Int} {offs : Array Int} {len : Nat} {x v : Int32} {off : Int} (tgt : Nat) (c : x = v) (hd : decode cc pc = .ok (.tableswitch dflt lo hi offs, len)) (h1 : ¬ v.toInt < lo) (h2 : ¬ hi < v.toInt) (ho : offs[(v.toInt - lo).toNat]? = some off) (ht : (pc : Int) + off = (tgt : Int)) (k : hd_V κ E nL cells slots Q S tgt lv st) : hd_V κ E nL cells slots Q S pc lv (.int x :: st) := fun H locs ls hW hS hl => by
  subst c
  exact lv_tableIn X.1 X.2.1 hd h1 h2 ho ht (k H locs ls hW hS hl)
theorem hv_tswOut (X : hd_Cx κ E cc own nL R) {dflt lo hi : Int} {offs : Array Int} {len : Nat} {x : Int32} (tgt : Nat) (hd : decode cc pc = .ok (.tableswitch dflt lo hi offs, len)) (h : x.toInt < lo ∨ hi < x.toInt) (ht : (pc : Int) + dflt = (tgt : Int)) (k : hd_V κ E nL cells slots Q S tgt lv st) : hd_V κ E nL cells slots Q S pc lv (.int x :: st) := fun H locs ls hW hS hl => lv_tableOut X.1 X.2.1 hd h ht (k H locs ls hW hS hl)
theorem hv_lsw (X : hd_Cx κ E cc own nL R) {dflt : Int} {ps : Array (Int × Int)} {len : Nat} {x : Int32} {off : Int} (tgt : Nat) (hd : decode cc pc = .ok (.lookupswitch dflt ps, len)) (hp : (ps.toList.zip (ps.toList.drop 1)).all (fun (a, next) => a.1 < next.1) = true) (ho : Op.lookupswitch.offset ps.toList dflt x.toInt = off) (ht : (pc : Int) + off = (tgt : Int)) (k : hd_V κ E nL cells slots Q S tgt lv st) : hd_V κ E nL cells slots Q S pc lv (.int x :: st) := fun H locs ls hW hS hl => lv_lookup X.1 X.2.1 hd hp ho ht (k H locs ls hW hS hl)
theorem hv_max (X : hd_Cx κ E cc own nL R) {index : Nat} {x y : Int32} (hlink : Cond.methodLink own index Lib.Math.max.name ∈ lw_all) (hstat : Cond.static Lib.Math.max.name ∈ lw_all) (hini : Cond.initialized "java/lang/Math" ∈ lw_all) (hcode : Cond.code Lib.Math.max.name Lib.Math.max.code 2 (some .int) ∈ lw_all) (hf : 1 ≤ R.frames) (hrl : (st.map fun v => v.category).sum + 13 ≤ R.locals) (hcc : cells ≤ R.cells) (hss : slots ≤ R.slots) (hd : decode cc pc = .ok (.invokestatic index, 3)) (k : hd_V κ E nL cells slots Q S (pc + 3) lv (.int (if x < y then y else x) :: st)) : hd_V κ E nL cells slots Q S pc lv (.int y :: .int x :: st) := fun H locs ls hW hS hl => va_mmax X.1 X.2.1 (X.2.2.1.trans hl.1.symm) X.ow (X.ts _ hlink) (X.ts _ hstat) (X.ts _ hini) (X.ts _ hcode) (by rw [X.S0]; exact hf) (by rw [X.S0]; exact hrl) (by rw [X.S0]; exact hcc) (by rw [X.S0]; exact hss) hd (k H locs ls hW hS hl)
theorem hv_min (X : hd_Cx κ E cc own nL R) {index : Nat} {x y : Int32} (hlink : Cond.methodLink own index Lib.Math.min.name ∈ lw_all) (hstat : Cond.static Lib.Math.min.name ∈ lw_all) (hini : Cond.initialized "java/lang/Math" ∈ lw_all) (hcode : Cond.code Lib.Math.min.name Lib.Math.min.code 2 (some .int) ∈ lw_all) (hf : 1 ≤ R.frames) (hrl : (st.map fun v => v.category).sum + 13 ≤ R.locals) (hcc : cells ≤ R.cells) (hss : slots ≤ R.slots) (hd : decode cc pc = .ok (.invokestatic index, 3)) (k : hd_V κ E nL cells slots Q S (pc + 3) lv (.int (if y < x then y else x) :: st)) : hd_V κ E nL cells slots Q S pc lv (.int y :: .int x :: st) := fun H locs ls hW hS hl => va_mmin X.1 X.2.1 (X.2.2.1.trans hl.1.symm) X.ow (X.ts _ hlink) (X.ts _ hstat) (X.ts _ hini) (X.ts _ hcode) (by rw [X.S0]; exact hf) (by rw [X.S0]; exact hrl) (by rw [X.S0]; exact hcc) (by rw [X.S0]; exact hss) hd (k H locs ls hW hS hl)
theorem hv_abs (X : hd_Cx κ E cc own nL R) {index : Nat} {x : Int32} (hlink : Cond.methodLink own index Lib.Math.abs.name ∈ lw_all) (hstat : Cond.static Lib.Math.abs.name ∈ lw_all) (hini : Cond.initialized "java/lang/Math" ∈ lw_all) (hcode : Cond.code Lib.Math.abs.name Lib.Math.abs.code 1 (some .int) ∈ lw_all) (hf : 1 ≤ R.frames) (hrl : (st.map fun v => v.category).sum + 13 ≤ R.locals) (hcc : cells ≤ R.cells) (hss : slots ≤ R.slots) (hd : decode cc pc = .ok (.invokestatic index, 3)) (k : hd_V κ E nL cells slots Q S (pc + 3) lv (.int (if 0 ≤ x then x else 0 - x) :: st)) : hd_V κ E nL cells slots Q S pc lv (.int x :: st) := fun H locs ls hW hS hl => va_mabs X.1 X.2.1 (X.2.2.1.trans hl.1.symm) X.ow (X.ts _ hlink) (X.ts _ hstat) (X.ts _ hini) (X.ts _ hcode) (by rw [X.S0]; exact hf) (by rw [X.S0]; exact hrl) (by rw [X.S0]; exact hcc) (by rw [X.S0]; exact hss) hd (k H locs ls hW hS hl)
end HDR
section HDC
variable {κ : hd_VK} {E : hd_EV} {nL cells slots n c k : Nat} {Q : State → Prop} {S : hd_St} {pc : Nat} {lv : List (Nat × Value)} {st : List Value} {cc : ByteArray} {own : String}
theorem hv_cS (X : hd_Cx κ E cc own nL (hd_Rm n c k)) {y : MethodName} {cy : ByteArray} {nY na m index : Nat} {ret : Option FieldType} {av rest st0 st1 : List Value} {rv : Option Value} {S1 : hd_St} (pk : hd_PkS y cy nY ret na) (hM : hd_Mt (hd_kL κ) E y cy nY ret (hd_Rm m 0 0) av S rv S1) (q : Cond.methodLink own index y ∈ lw_all) (hd : decode cc pc = .ok (.invokestatic index, 3)) (hmn : m < n) (hnY : nY ≤ 41) (hcc : cells ≤ c) (hss : slots ≤ k) (hn : av.length = na) (hst : st0 = av.reverse ++ rest) (hrm : (rest.map fun v => v.category).sum ≤ 8) (h1 : rv.toList ++ rest = st1) (kk : hd_V κ E nL cells slots Q S1 (pc + 3) lv st1) : hd_V κ E nL cells slots Q S pc lv st0 :=
  hv_callS X pk hM q hd ⟨by show m + 1 ≤ n; omega, by show 8 + (nY + 11) + 60 * m ≤ 60 * n; omega⟩ ⟨hcc, hss⟩ hn hst hrm h1 kk
theorem hv_cV (X : hd_Cx κ E cc own nL (hd_Rm n c k)) {C : String} {y : MethodName} {cy : ByteArray} {nY na m index b : Nat} {ret : Option FieldType} {av rest st0 st1 : List Value} {rv : Option Value} {S1 : hd_St} (pk : hd_PkV C y cy nY ret na) (hrc : hd_rc κ E S b C) (hM : hd_Mt (hd_kL κ) E y cy nY ret (hd_Rm m 0 0) (.ref b :: av) S rv S1) (q : Cond.methodLink own index y ∈ lw_all) (hd : decode cc pc = .ok (.invokevirtual index, 3)) (hmn : m < n) (hnY : nY ≤ 41) (hcc : cells ≤ c) (hss : slots ≤ k) (hn : av.length = na) (hst : st0 = av.reverse ++ .ref b :: rest) (hrm : (rest.map fun v => v.category).sum ≤ 8) (h1 : rv.toList ++ rest = st1) (kk : hd_V κ E nL cells slots Q S1 (pc + 3) lv st1) : hd_V κ E nL cells slots Q S pc lv st0 :=
  hv_callV X pk hrc hM q hd ⟨by show m + 1 ≤ n; omega, by show 8 + (nY + 11) + 60 * m ≤ 60 * n; omega⟩ ⟨hcc, hss⟩ hn hst hrm h1 kk
theorem hd_rcM : hd_rc κ E S (hd_ad E 38) RX4 := ⟨38, 3, _, _, (hd_at E S (by decide)).trans rfl, rfl, rfl⟩
theorem hd_rcC : hd_rc κ E S (hd_ad E 0) RX1 := ⟨0, 0, _, _, (hd_at E S (by decide)).trans rfl, rfl, rfl⟩
theorem hd_ctH {i : Nat} (hi : 0 < i ∧ i < 4) : hd_ct E S i = .inr (1, [.ref (hd_ad E (3 + i)), .ref (hd_ad E (6 + i)), .ref (hd_ad E (9 + i)), .ref (hd_ad E (12 + i)), .ref (hd_ad E (15 + i)), .ref (hd_ad E (18 + i)), .ref (hd_ad E (21 + i)), .int (hd_I S i 7), .int (hd_I S i 8), .int (hd_I S i 9), .int (hd_I S i 10)]) := by
  unfold hd_ct hd_ctc
  rw [if_neg (by omega), if_pos (by omega)]
theorem hd_rcH {i : Nat} (hi : 0 < i ∧ i < 4) : hd_rc κ E S (hd_ad E i) RX2 := ⟨i, 1, _, _, (hd_at E S (by omega)).trans (by rw [hd_ctH hi]), rfl, rfl⟩
end HDC
