/-! CALLS that land in an interface's default, and super calls, raw -/
set_option maxRecDepth 100000
theorem hd_pigeon : ∀ (n : Nat) (f : Nat → Nat), (∀ k, k ≤ n → f k < n) → ∃ i j, i < j ∧ j ≤ n ∧ f i = f j := by
  intro n
  induction n with
  | zero => intro f h; exact absurd (h 0 (Nat.le_refl 0)) (by omega)
  | succ n ih =>
    intro f h
    by_cases hv : ∃ i, i ≤ n ∧ f i = f (n + 1)
    · obtain ⟨i, hi, e⟩ := hv
      exact ⟨i, n + 1, by omega, Nat.le_refl _, e⟩
    · have hg : ∀ k, k ≤ n → (if f k = n then f (n + 1) else f k) < n := by
        intro k hk
        have h1 := h k (by omega)
        have h2 := h (n + 1) (by omega)
        by_cases e : f k = n
        · rw [if_pos e]
          have : f k ≠ f (n + 1) := fun q => hv ⟨k, hk, q⟩
          omega
        · rw [if_neg e]; omega
      obtain ⟨i, j, hij, hj, e⟩ := ih (fun k => if f k = n then f (n + 1) else f k) hg
      refine ⟨i, j, hij, by omega, ?_⟩
      by_cases ei : f i = n <;> by_cases ej : f j = n <;> simp only [ei, ej, if_true, if_false] at e
      · rw [ei, ej]
      · exact absurd ⟨j, hj, e.symm⟩ hv
      · exact absurd ⟨i, by omega, e⟩ hv
      · exact e
/-- the k-th class above -/
def hd_up (vm : Vm) : Nat → ClassId → Option ClassId
  | 0, c => some c
  | k + 1, c => (hd_up vm k c).bind fun z => vm.classes[z]?.bind (·.super)
theorem hd_up_add (vm : Vm) (i : Nat) : ∀ (k : Nat) (c z : ClassId), hd_up vm k c = some z → hd_up vm (k + i) c = hd_up vm i z := by
  induction i with
  | zero => intro k c z h; exact h
  | succ i ih => intro k c z h; rw [← Nat.add_assoc]; show (hd_up vm (k + i) c).bind _ = (hd_up vm i z).bind _; rw [ih k c z h]
theorem hd_up_succ (vm : Vm) {c q : ClassId} {k : Class} (hk : vm.classes[c]? = some k) (hs : k.super = some q) (i : Nat) : hd_up vm (i + 1) c = hd_up vm i q := by
  rw [Nat.add_comm]
  exact hd_up_add vm i 1 c q (by simp [hd_up, hk, hs])
theorem hd_up_none (vm : Vm) (name desc : String) : ∀ (n : Nat) (c : ClassId), lookupInSuperclasses vm name desc n c = none → ∀ k, k < n → ∀ z, hd_up vm k c = some z → ownMethod vm name desc z = none := by
  intro n
  induction n with
  | zero => intro c _ k hk; omega
  | succ n ih =>
    intro c h k hk z hz
    unfold lookupInSuperclasses at h
    cases hc : vm.classes[c]? with
    | none =>
      cases k with
      | zero => cases hz; simp [ownMethod, hc]
      | succ k =>
        exfalso
        have e := hd_up_add vm (k + 1) 0 c c rfl
        have e2 : hd_up vm (k + 1) c = none := by
          have : ∀ j, hd_up vm (j + 1) c = none := by
            intro j
            induction j with
            | zero => simp [hd_up, hc]
            | succ j ij => show (hd_up vm (j + 1) c).bind _ = none; rw [ij]; rfl
          exact this k
        rw [e2] at hz; cases hz
    | some kc =>
      simp only [hc, Option.bind_eq_bind, Option.bind_some] at h
      cases hf : kc.findMethod name desc with
      | some i => simp [hf] at h
      | none =>
        simp only [hf] at h
        cases k with
        | zero => cases hz; simp [ownMethod, hc, hf]
        | succ k =>
          cases hs : kc.super with
          | none =>
            exfalso
            have : ∀ j, hd_up vm (j + 1) c = none := by
              intro j
              induction j with
              | zero => simp [hd_up, hc, hs]
              | succ j ij => show (hd_up vm (j + 1) c).bind _ = none; rw [ij]; rfl
            rw [this k] at hz; cases hz
          | some q =>
            rw [hs] at h
            rw [hd_up_succ vm hc hs] at hz
            exact ih q h k (by omega) z hz
theorem hd_up_aux (vm : Vm) : ∀ (n : Nat) (c z : ClassId), z ∈ vm.superclassesAux n c → ∃ k, k ≤ n ∧ hd_up vm k c = some z := by
  intro n
  induction n with
  | zero => intro c z h; simp [Vm.superclassesAux] at h
  | succ n ih =>
    intro c z h
    unfold Vm.superclassesAux at h
    cases hc : vm.classes[c]? with
    | none => simp [hc] at h
    | some kc =>
      cases hs : kc.super with
      | none => simp [hc, hs] at h
      | some q =>
        simp only [hc, hs, Option.bind_some, List.mem_cons] at h
        rcases h with rfl | h
        · exact ⟨1, by omega, by simp [hd_up, hc, hs]⟩
        · obtain ⟨k, hk, e⟩ := ih q z h
          exact ⟨k + 1, by omega, by rw [hd_up_succ vm hc hs]; exact e⟩
theorem hd_up_lt (vm : Vm) {k : Nat} {c z : ClassId} (h : hd_up vm (k + 1) c = some z) : ∀ i, i ≤ k → ∃ y, hd_up vm i c = some y ∧ y < vm.classes.size := by
  have key : ∀ j z, hd_up vm (j + 1) c = some z → ∃ y, hd_up vm j c = some y ∧ y < vm.classes.size := by
    intro j z h
    change (hd_up vm j c).bind _ = some z at h
    cases hy : hd_up vm j c with
    | none => rw [hy] at h; cases h
    | some y =>
      rw [hy] at h
      simp only [Option.bind_some] at h
      cases hc : vm.classes[y]? with
      | none => rw [hc] at h; cases h
      | some ky => exact ⟨y, rfl, (Array.getElem?_eq_some_iff.mp hc).1⟩
  intro i hi
  obtain ⟨d, rfl⟩ : ∃ d, k = i + d := ⟨k - i, by omega⟩
  clear hi
  induction d generalizing z with
  | zero => exact key i z h
  | succ d ih =>
    obtain ⟨y, hy, -⟩ := key _ z h
    exact ih hy
theorem hd_super_none {vm : Vm} {c : ClassId} {name desc : String} (hL : lookupInSuperclasses vm name desc (vm.classes.size + 1) c = none) : ∀ z, z ∈ vm.superclasses c → ownMethod vm name desc z = none := by
  intro z hz
  obtain ⟨k, hk, e⟩ := hd_up_aux vm _ c z hz
  by_cases hk2 : k < vm.classes.size + 1
  · exact hd_up_none vm name desc _ c hL k hk2 z e
  · have hk3 : k = vm.classes.size + 1 := by omega
    subst hk3
    have hlt := hd_up_lt vm e
    obtain ⟨i, j, hij, hj, hf⟩ := hd_pigeon vm.classes.size (fun i => (hd_up vm i c).getD 0) (fun i hi => by
      obtain ⟨y, hy, hl⟩ := hlt i hi
      show (hd_up vm i c).getD 0 < _
      rw [hy]; exact hl)
    obtain ⟨yi, hyi, -⟩ := hlt i (by omega)
    obtain ⟨yj, hyj, -⟩ := hlt j hj
    have hf : (hd_up vm i c).getD 0 = (hd_up vm j c).getD 0 := hf
    rw [hyi, hyj] at hf
    have hf : yi = yj := hf
    subst hf
    have e1 := hd_up_add vm (vm.classes.size + 1 - j) j c yi hyj
    have e2 := hd_up_add vm (vm.classes.size + 1 - j) i c yi hyi
    rw [show j + (vm.classes.size + 1 - j) = vm.classes.size + 1 by omega] at e1
    exact hd_up_none vm name desc _ c hL (i + (vm.classes.size + 1 - j)) (by omega) z (by rw [e2, ← e1]; exact e)
theorem hd_select_none {vm : Vm} {mR : MethodId} {name desc : String} : ∀ (n : Nat) (c : ClassId), lookupInSuperclasses vm name desc n c = none → selectInSuperclasses vm mR name desc n c = none := by
  intro n
  induction n with
  | zero => intro c _; rfl
  | succ n ih =>
    intro c h
    unfold lookupInSuperclasses at h
    unfold selectInSuperclasses
    cases hc : vm.classes[c]? with
    | none => rfl
    | some kc =>
      simp only [hc, Option.bind_eq_bind, Option.bind_some] at h ⊢
      cases hf : kc.findMethod name desc with
      | some i => simp [hf] at h
      | none =>
        simp only [hf] at h
        cases hs : kc.super with
        | none => simp
        | some q =>
          rw [hs] at h
          simpa using ih q h
/-- a super call that lands in a default: the lookup -/
theorem hd_lookupD {vm : Vm} {cn : ClassId} {ck : Class} {name desc : String} {r0 : MethodId} {r : Method} (hck : vm.classes[cn]? = some ck) (hni : ck.isInterface = false) (hup : vm.lookupUp cn name desc = some r0) (hrm : vm.method? r0 = some r) (hst : r.isStatic = false) (hnm : r.name = name ∧ r.desc = desc) (hp : r.isPrivate = false) (hsel : selectMethod {} vm cn r0 = .method r0) : lookupSpecial vm cn name desc = .method r0 := by
  cases hL : lookupInSuperclasses vm name desc (vm.classes.size + 1) cn with
  | some z =>
    have : z = r0 := by simpa [Vm.lookupUp, hL] using hup
    subst this
    exact lookupSpecial_of_superclasses hck hni hL hrm hst
  | none =>
    obtain ⟨rfl, rfl⟩ := hnm
    have h1 : (vm.classes[cn]?.bind (·.findMethod r.name r.desc)).map (fun i => (⟨cn, i⟩ : MethodId)) = none := hd_up_none vm _ _ _ cn hL 0 (by omega) cn rfl
    have h2 : superclassMethods vm cn r.name r.desc = [] := by
      unfold superclassMethods
      rw [List.filterMap_eq_nil_iff]
      intro z hz
      exact hd_super_none hL z hz
    have h3 := hd_select_none (mR := r0) _ cn hL
    unfold selectMethod at hsel
    simp only [hrm, hp, Bool.false_eq_true, if_false, refusedOverriding, h1, h2, Option.toList_none, List.nil_append, List.filter_nil, List.tail_nil, List.zip_nil_left, List.any_nil, Bool.false_and, h3] at hsel
    unfold lookupSpecial
    simp only [h1, h2, Option.toList_none, List.filter_nil, List.nil_append, List.find?_nil]
    exact hsel
section HDU
variable {p : Program} {l : Launch} {e : Env} {R : Room} {s : State} {m : MethodId} {args : Array Value} {below : List Frame} {meth : Method} {c : Code} {T : State} {locs : List Loc} {cells slots : Nat}
/-- a super call, the lookup told -/
theorem hd_special (X : Stand p l e R s m args below meth c T locs cells slots) (hexec : p.tables.exec = Jvm.exec)
    {own owner : String} {index : Nat} {x : MethodName} (hown : s.vm.findClass own = some m.cls) (hlink : (Cond.methodLink own index x).before args s = true)
    (hsame : (Cond.sameMethod x.cls owner x.name x.desc).before args s = true)
    {r0 : MethodId} {r : Method} (hn : s.methodNamed? ⟨owner, x.name, x.desc⟩ = some r0) (hrm : s.vm.method? r0 = some r) (hstatic : r.isStatic = false) (habs : r.isAbstract = false) (hnoinit : x.name ≠ "<init>")
    {dk : Class} {cn : ClassId} (hd : s.vm.classes[m.cls]? = some dk) (hnid : dk.isInterface = false) (hcn : s.vm.findClass x.cls = some cn) (hsuper : dk.super = some cn) (hfound : lookupSpecial s.vm cn x.name x.desc = .method r0)
    {a : Addr} {cell : Cell} {kcell : Class} (hcell : T.heap[a]? = some cell) (hobj : ∀ c, cell.vm ≠ .statics c) (hkcell : s.vm.classes[cell.cls]? = some kcell)
    {g : JFrame} (hg : g.method = m) {argsL rest : List Value} (hlen : argsL.length = r.sig.parameters.length) (hstack : g.stack = argsL.reverse ++ .ref a :: rest)
    (hdg : decode c.code g.pc = .ok (.invokespecial index, 3)) :
    ∃ vm', Stand p l e R s m args below meth c (T.setVm vm') locs cells slots ∧
      ∀ target, Steps p.tables e below (doInvoke e ((T.setVm vm').setTop { g with stack := rest }) [] r0 (.ref a :: argsL).toArray).1 target → Steps p.tables e below (T.setTop g) target := by
  have hpl : e.platform.magicAccessors = ({} : Platform).magicAccessors := by rw [X.admits.platform]
  obtain ⟨cn', ck, r1, hcn', hck, hni, hf, hn1⟩ := Cond.sameMethod_found hsame
  cases hn.symm.trans hn1
  cases hcn.symm.trans hcn'
  obtain ⟨ci, hl, hright⟩ := Cond.methodLink_specUp hown hcn hck hni hf hlink e.platform hpl (by rw [X.admits.platform])
  obtain ⟨kr, hkr, -⟩ := className_of_methodNamed hn
  obtain ⟨hrn, hrd⟩ := name_of_methodNamed hn hrm
  obtain ⟨dk₀, cfile, nt, _, _, ck₀, _, _, hd₀, hcf, hcp, -, -, -, hc₀, -, hpoly, -⟩ := hl.here
  cases hd.symm.trans hd₀
  subst hg
  obtain ⟨vm', hW', st⟩ := Steps.invokeSuperColdArgs (tb := p.tables) (e := e) (s₀ := s) (U := T) (f := g) (args := argsL) (rest := rest) (a := a) (cell := cell) (m := r0) X.here hexec hdg X.warmed hl hright hd hcf hcp hrm hck
    (by rw [hrn]; simp [hnoinit]) hstatic (by rw [hrn, hrd, hsuper]; simpa using hfound) hnid hkr habs hlen hstack hcell hobj hkcell
  exact ⟨vm', X.noted hW', st⟩
end HDU
