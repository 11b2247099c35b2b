/-! CALLS that land in an interface's default, super calls: rows of the judgement -/
set_option maxRecDepth 100000
section HDX
variable {p : Program} {l : Launch} {e : Env} {R : Room} {s : State} {m : MethodId} {args : Array Value} {below : List Frame} {meth : Method} {c : Code} {H : Heap} {locs : List Loc} {cells slots : Nat}
theorem hd_runSpecial {x y : MethodName} {bytes cc : ByteArray} {maxL nL mc ms n index : Nat} {ret : Option FieldType} {ws : List Cond} {rm : Room} {Pc : Array Value → State → Prop} {Qc : Array Value → State → Outcome → State → Prop} {free : Addr → Prop} {Ts : List Cond} {own C owner : String} {cC : ClassId} {b : Addr} {As rest : List Value} {g : JFrame}
    (hat : ClassAt s C cC) (S : CallFix p m c cc nL s args Ts own) (hM : Met l y ws rm Pc Qc mc ms free)
    (hrc : rm.cells = mc) (hrs : rm.slots = ms) (hfr : rm.frames + 1 ≤ R.frames) (hlo : 8 + (maxL + 11) + rm.locals ≤ R.locals) (hws : ∀ w ∈ ws, ∀ (a' : Array Value) (U : State), s.WarmedH U.vm → w.before a' U = true) (hcw : Cond.code y bytes maxL ret ∈ ws)
    (hlink : (Cond.methodLink own index x).before args s = true) (hsame : (Cond.sameMethod x.cls owner x.name x.desc).before args s = true) (hsup : (Cond.superclass own x.cls).before args s = true) (hyx : y = ⟨owner, x.name, x.desc⟩) (hin : (Cond.instanceMethod y).before args s = true) (hini : (Cond.initialized y.cls).before args s = true) (hcode : (Cond.code y bytes maxL ret).before args s = true) (hno : x.name ≠ "<init>") (hlen : ∀ sig, parseMethodDescriptor y.desc = some sig → n = sig.parameters.length)
    (hfound : ∀ cn mk, s.vm.findClass x.cls = some cn → s.methodNamed? y = some mk → lookupSpecial s.vm cn x.name x.desc = .method mk)
    (hp : PreV s H C b Pc As)
    (hg : g.method = m) (hn : As.length = n) (hsize : g.locals.size = nL) (hstack : g.stack = As.reverse ++ .ref b :: rest) (hW : 2 * g.monitorRoom + (rest.map fun v => v.category).sum ≤ 8) (hdg : decode cc g.pc = .ok (.invokespecial index, 3)) (hf : cells + mc ≤ R.cells ∧ slots + ms ≤ R.slots) :
    va_Run p l e R s m args below meth c H locs cells slots mc ms g rest (Qc (Value.ref b :: As).toArray) (free) := by
  have hK : Back l R p e below s args y 3 8 (PreOf R mc ms Pc) (PostOf Qc mc ms free) := back_of (bytes := bytes) (maxL := maxL) (ret := ret) hM hp.1 hrc hrs hfr hlo hws hcw (fun a' U hW => word_at hW (Or.inl (by first | rfl | simp [Cond.onTables, Cond.keeps, Cond.steady])) hini)
  obtain ⟨hx, hb, hml, ho, -⟩ := S
  obtain ⟨-, ⟨cellB, hcB, hoB, hclB⟩, hPc⟩ := hp
  obtain ⟨hfc, kB, hkB, -⟩ := hat
  cases hfc.symm.trans hclB
  obtain ⟨mk, methM, hnamed, hmethM, hstM, habM⟩ := Cond.instanceMethod_spec hin
  obtain ⟨methM', cM, hmethM', -, -, -, -, -, -, hsigM⟩ := Cond.code_spec hnamed hcode
  cases hmethM.symm.trans hmethM'
  obtain ⟨ps, dk, kp, hps, hdk, hkp, hsuper, -, -, hnid⟩ := Cond.superclass_spec ho hsup
  have hfd := hfound ps mk hps hnamed
  have hnamed2 : s.methodNamed? ⟨owner, x.name, x.desc⟩ = some mk := by rw [← hyx]; exact hnamed
  intro T hT X
  obtain ⟨vm₁, X₁, hstep₁⟩ := hd_special X hx ho hlink hsame hnamed2 hmethM hstM habM hno hdk hnid hps hsuper hfd (a := b) (cell := cellB) (by rw [hT]; exact hcB)
    (fun z h => by rw [h] at hoB; cases hoB) hkB (g := g) hg (argsL := As) (rest := rest) (hn.trans (hlen _ hsigM)) hstack (by rw [hb]; exact hdg)
  obtain ⟨v, B, X', hpost, hsteps⟩ := hK m meth c ⟨T.setVm vm₁, locs, cells, slots⟩ { g with stack := rest } (.invokespecial index) mk (Value.ref b :: As).toArray X₁ hg (hsize.trans hml.symm) (by rw [hb]; exact hdg) hW (X₁.named hnamed) ⟨hf.1, hf.2, hPc (T.setVm vm₁) hT X₁.warmed⟩
  obtain ⟨U', l2, c2, s2⟩ := B
  obtain ⟨g', mk2, t, L, e1, e2, hq, h1, hL, h2, h3⟩ := hpost
  dsimp only [Pt.U, Pt.locs, Pt.cells, Pt.slots] at X' e1 e2 h1 h2 h3 hsteps
  subst h1; subst h2; subst h3
  exact ⟨v, (T.setVm vm₁).calling g' mk2 (Value.ref b :: As).toArray, t, U', L, hT, X', hL, e1, e2, hq, fun target h => hstep₁ _ (by rw [doInvoke_state]; exact hsteps.trans h)⟩
/-- what a call through a class selects, raw -/
def hd_Sel (s : State) (C owner : String) (x y : MethodName) : Prop := ∃ (r0 mk : MethodId) (cB : ClassId) (r mm : Method) (kM : Class), s.vm.findClass C = some cB ∧ s.methodNamed? ⟨owner, x.name, x.desc⟩ = some r0 ∧ s.vm.method? r0 = some r ∧ r.isStatic = false ∧ parseMethodDescriptor x.desc = some r.sig ∧ s.methodNamed? y = some mk ∧ s.vm.method? mk = some mm ∧ mm.isAbstract = false ∧ selectMethod {} s.vm cB r0 = .method mk ∧ s.vm.classes[mk.cls]? = some kM ∧ (kM.isInterface = false ∨ (kM.isInterface = true ∧ NearOk s.vm cB r.name r.desc mk))
theorem hd_Sel.ofS {s : State} {C owner : String} {x y : MethodName} (hd : va_Decl s ⟨owner, x.name, x.desc⟩) (ho : owner ≠ "java/lang/invoke/MethodHandle" ∧ owner ≠ "java/lang/invoke/VarHandle") (hs : (Cond.selects C ⟨owner, x.name, x.desc⟩ y).before args s = true) (hin : (Cond.instanceMethod y).before args s = true) : hd_Sel s C owner x y := by
  obtain ⟨r0, r, hn, hrm, hstR, hsigR⟩ := hd
  obtain ⟨mk, methM, hnamed, hmethM, -, habM⟩ := Cond.instanceMethod_spec hin
  obtain ⟨c2, r2, m2, q1, q2, q3, q4, kP, hkP, hkPi⟩ := Cond.selects_spec hs
  cases hnamed.symm.trans q3
  cases (State.methodFound?_of_named hn ho).symm.trans q2
  exact ⟨r0, mk, c2, r, methM, kP, q1, hn, hrm, hstR, hsigR, hnamed, hmethM, habM, q4, hkP, Or.inl hkPi⟩
theorem hd_Sel.ofD {s : State} {C owner : String} {x y : MethodName} (hd : va_Decl s ⟨owner, x.name, x.desc⟩) (hsame : (Cond.sameMethod x.cls owner x.name x.desc).before args s = true) (hs : (Cond.landsInDefault C x y).before args s = true) (hin : (Cond.instanceMethod y).before args s = true) : hd_Sel s C owner x y := by
  obtain ⟨r0, r, hn, hrm, hstR, hsigR⟩ := hd
  obtain ⟨cn, ck, r1, hcn, hck, hni, hf, hn1⟩ := Cond.sameMethod_found hsame
  cases hn.symm.trans hn1
  obtain ⟨mk, methM, hnamed, hmethM, -, habM⟩ := Cond.instanceMethod_spec hin
  obtain ⟨c2, r2, m2, rm, q1, q2, q3, q4, q5, ⟨kP, hkP, hkPi⟩, -, hnear⟩ := Cond.landsInDefault_spec hs
  cases hnamed.symm.trans q3
  cases hf.symm.trans q2
  cases hrm.symm.trans q4
  exact ⟨r0, mk, c2, r, methM, kP, q1, hn, hrm, hstR, hsigR, hnamed, hmethM, habM, q5, hkP, Or.inr ⟨hkPi, hnear⟩⟩
theorem hd_runVirt {x y : MethodName} {bytes cc : ByteArray} {maxL nL mc ms n index : Nat} {ret : Option FieldType} {ws : List Cond} {rm : Room} {Pc : Array Value → State → Prop} {Qc : Array Value → State → Outcome → State → Prop} {free : Addr → Prop} {Ts : List Cond} {own C owner : String} {b : Addr} {As rest : List Value} {g : JFrame}
    (S : CallFix p m c cc nL s args Ts own) (hM : Met l y ws rm Pc Qc mc ms free)
    (hrc : rm.cells = mc) (hrs : rm.slots = ms) (hfr : rm.frames + 1 ≤ R.frames) (hlo : 8 + (maxL + 11) + rm.locals ≤ R.locals) (hws : ∀ w ∈ ws, ∀ (a' : Array Value) (U : State), s.WarmedH U.vm → w.before a' U = true) (hcw : Cond.code y bytes maxL ret ∈ ws) (hini : (Cond.initialized y.cls).before args s = true)
    (hlink : (Cond.methodLink own index x).before args s = true) (hsame : (Cond.sameMethod x.cls owner x.name x.desc).before args s = true) (ho2 : owner ≠ "java/lang/invoke/MethodHandle" ∧ owner ≠ "java/lang/invoke/VarHandle") (hsel : hd_Sel s C owner x y) (hlen : ∀ sig, parseMethodDescriptor x.desc = some sig → n = sig.parameters.length)
    (hp : PreV s H C b Pc As)
    (hg : g.method = m) (hn : As.length = n) (hsize : g.locals.size = nL) (hstack : g.stack = As.reverse ++ .ref b :: rest) (hW : 2 * g.monitorRoom + (rest.map fun v => v.category).sum ≤ 8) (hdg : decode cc g.pc = .ok (.invokevirtual index, 3)) (hf : cells + mc ≤ R.cells ∧ slots + ms ≤ R.slots) :
    va_Run p l e R s m args below meth c H locs cells slots mc ms g rest (Qc (Value.ref b :: As).toArray) (free) := by
  have hK : Back l R p e below s args y 3 8 (PreOf R mc ms Pc) (PostOf Qc mc ms free) := back_of (bytes := bytes) (maxL := maxL) (ret := ret) hM hp.1 hrc hrs hfr hlo hws hcw (fun a' U hW => word_at hW (Or.inl (by first | rfl | simp [Cond.onTables, Cond.keeps, Cond.steady])) hini)
  obtain ⟨hx, hb, hml, ho, -⟩ := S
  obtain ⟨-, ⟨cellB, hcB, hoB, hclB⟩, hPc⟩ := hp
  obtain ⟨r0, mk, cB, r, mm, kM, w1, w2, w3, w4, w5, w6, w7, w8, w9, w10, w11⟩ := hsel
  cases w1.symm.trans hclB
  intro T hT X
  have hselP : selectMethod e.platform s.vm cellB.cls r0 = .method mk := by rw [Launch.admits_selectMethod X.admits]; exact w9
  have key : ∃ vm', Stand p l e R s m args below meth c (T.setVm vm') locs cells slots ∧
      ∀ target, (∀ acts, Steps p.tables e below (doInvoke e ((T.setVm vm').setTop { g with stack := rest }) acts mk (.ref b :: As).toArray).1 target) → Steps p.tables e below (T.setTop g) target := by
    rcases w11 with w | ⟨w, wn⟩
    · exact X.invokevirtualUp hx ho hlink hsame ho2 w2 w3 w4 (a := b) (cell := cellB) (by rw [hT]; exact hcB) (fun z h => by rw [h] at hoB; cases hoB) hselP w7 w8 w10 w (g := g) hg (argsL := As) (rest := rest) (hn.trans (hlen _ w5)) hstack (by rw [hb]; exact hdg)
    · exact X.invokevirtualUpD hx ho hlink hsame ho2 w2 w3 w4 (a := b) (cell := cellB) (by rw [hT]; exact hcB) (fun z h => by rw [h] at hoB; cases hoB) hselP w7 w8 w10 w wn (g := g) hg (argsL := As) (rest := rest) (hn.trans (hlen _ w5)) hstack (by rw [hb]; exact hdg)
  obtain ⟨vm₁, X₁, hstep₁⟩ := key
  obtain ⟨v, B, X', hpost, hsteps⟩ := hK m meth c ⟨T.setVm vm₁, locs, cells, slots⟩ { g with stack := rest } (.invokevirtual index) mk (Value.ref b :: As).toArray X₁ hg (hsize.trans hml.symm) (by rw [hb]; exact hdg) hW (X₁.named w6) ⟨hf.1, hf.2, hPc (T.setVm vm₁) hT X₁.warmed⟩
  obtain ⟨U', l2, c2, s2⟩ := B
  obtain ⟨g', mk2, t, L, e1, e2, hq, h1, hL, h2, h3⟩ := hpost
  dsimp only [Pt.U, Pt.locs, Pt.cells, Pt.slots] at X' e1 e2 h1 h2 h3 hsteps
  subst h1; subst h2; subst h3
  exact ⟨v, (T.setVm vm₁).calling g' mk2 (Value.ref b :: As).toArray, t, U', L, hT, X', hL, e1, e2, hq, fun target h => hstep₁ _ fun acts => by rw [doInvoke_state]; exact hsteps.trans h⟩
end HDX
section HDB
variable {κ : hd_VK} {E : hd_EV} {nL cells slots n c k : Nat} {Q : State → Prop} {S : hd_St} {pc : Nat} {lv : List (Nat × Value)} {st : List Value} {cc : ByteArray} {own : String}
/-- a super call on a blow -/
theorem hv_super (X : hd_Cx κ E cc own nL (hd_Rm n c k)) {x y : MethodName} {owner : String} {cy : ByteArray} {nY na m index b : Nat} {ret : Option FieldType} {av rest st0 st1 : List Value} {rv : Option Value} {S1 : hd_St} (hc : hd_cb S b = true) (hM : hd_Mt (hd_kL κ) E y cy nY ret (hd_Rm m 0 0) (.ref b :: av) S rv S1)
    (hlink : (Cond.methodLink own index x).before (hd_kA κ) (hd_kS κ) = true) (hsame : (Cond.sameMethod x.cls owner x.name x.desc).before (hd_kA κ) (hd_kS κ) = true) (hsup : Cond.superclass own x.cls ∈ lw_all) (hyx : y = ⟨owner, x.name, x.desc⟩) (hin : Cond.instanceMethod y ∈ lw_all) (hini : Cond.initialized y.cls ∈ lw_all) (hcode : Cond.code y cy nY ret ∈ lw_all) (hno : x.name ≠ "<init>") (hpar : (parseMethodDescriptor y.desc).map (fun d => d.parameters.length) = some na)
    (hfound : ∀ cn mk, (hd_kS κ).vm.findClass x.cls = some cn → (hd_kS κ).methodNamed? y = some mk → lookupSpecial (hd_kS κ).vm cn x.name x.desc = .method mk)
    (hd : decode cc pc = .ok (.invokespecial index, 3)) (hmn : m < n) (hnY : nY ≤ 41) (hcc : cells ≤ c) (hss : slots ≤ k) (hn : av.length = na) (hst : st0 = av.reverse ++ .ref b :: rest) (hrm : (rest.map fun v => v.category).sum ≤ 8) (h1 : rv.toList ++ rest = st1) (kk : hd_V κ E nL cells slots Q S1 (pc + 3) lv st1) : hd_V κ E nL cells slots Q S pc lv st0 := by
  refine hv_ran X (mc := 0) (ms := 0) (fun H locs ls hW hS hl => ⟨(Value.ref b :: av).toArray, ?_⟩) h1 kk
  obtain ⟨hin2, ht⟩ := of_decide_eq_true hc
  obtain ⟨kk2, hkk⟩ := hd_pool E hin2
  rw [hd_pE_b ht] at hkk
  obtain ⟨r, hr, -⟩ := hd_cl8 _ ht
  refine hd_runSpecial (C := r.1) (x := x) (y := y) (owner := owner) (bytes := cy) (maxL := nY) (ret := ret) (n := na) (Ts := lw_all) (X.K.1 _ _ hr).2 ⟨X.1, X.2.1, X.2.2.1, X.ow, X.ts⟩ hM rfl rfl (by rw [X.S0]; show m + 1 ≤ n; omega) (by rw [X.S0]; show 8 + (nY + 11) + 60 * m ≤ 60 * n; omega) (pay_in X.ts (lw_meth hcode)) List.mem_cons_self hlink hsame (X.ts _ hsup) hyx (X.ts _ hin) (X.ts _ hini) (X.ts _ hcode) hno (fun sig h => by rw [h] at hpar; exact (Option.some.inj hpar).symm) hfound ⟨hd_Pc_blind E S _, va_recv X.K hW.1 hr hkk, hd_pre X hW hS⟩ rfl hn hl.1 hst (lv_room hrm) hd (by rw [X.S0]; exact ⟨hcc, hss⟩)
theorem hd_cname {vm : Vm} {n : String} {c : ClassId} {k : Class} (h : vm.findClass n = some c) (hk : vm.classes[c]? = some k) : k.name = n := by
  obtain ⟨k2, h2, h3⟩ := Vm.findClass_spec h
  cases hk.symm.trans h2
  first | exact h3 | exact h3.1
theorem hd_li_priv {args : Array Value} {s : State} {cls : String} {x y : MethodName} (h : (Cond.landsInDefault cls x y).before args s = true) {r : MethodId} {rm : Method} (hr : s.methodFound? x.cls x.name x.desc = some r) (hrm : s.vm.method? r = some rm) : rm.isPrivate = false := by
  simp only [Cond.before, Cond.holds, Cond.value] at h
  cases hc : s.vm.findClass cls with
  | none => simp [hc] at h
  | some c =>
  cases hm : s.methodNamed? y with
  | none => simp [hc, hr, hm] at h
  | some m =>
  simp only [hc, hr, hm, hrm, Option.map_some, beq_iff_eq, Option.some.injEq] at h
  split at h
  · simp only [Bool.and_eq_true, Bool.not_eq_true'] at h
    exact h.1.1.2
  · cases h
/-- a super call into a default: the lookup out of the words -/
theorem hd_foundD (X : hd_Cx κ E cc own nL (hd_Rm n c k)) {x y : MethodName} {owner : String} (hxc : x.cls ≠ "java/lang/invoke/MethodHandle" ∧ x.cls ≠ "java/lang/invoke/VarHandle") (hsame : (Cond.sameMethod x.cls owner x.name x.desc).before (hd_kA κ) (hd_kS κ) = true) (hyx : y = ⟨owner, x.name, x.desc⟩) (hin : Cond.instanceMethod y ∈ lw_all) (hli : (x.cls, x, y) ∈ hd_lil) : ∀ cn mk, (hd_kS κ).vm.findClass x.cls = some cn → (hd_kS κ).methodNamed? y = some mk → lookupSpecial (hd_kS κ).vm cn x.name x.desc = .method mk := by
  intro cn mk hcn hmk
  obtain ⟨cn2, ck, r1, hcn2, hck, hni, hf, hn1⟩ := Cond.sameMethod_found hsame
  cases hcn.symm.trans hcn2
  rw [← hyx] at hn1
  cases hmk.symm.trans hn1
  obtain ⟨mk2, methM, hnamed, hmethM, hstM, habM⟩ := Cond.instanceMethod_spec (X.ts _ hin)
  cases hmk.symm.trans hnamed
  obtain ⟨c2, r2, m2, rm, q1, q2, q3, q4, q5, ⟨kP, hkP, hkPi⟩, hway, -⟩ := Cond.landsInDefault_spec (X.li hli)
  cases hcn.symm.trans q1
  cases hmk.symm.trans q3
  cases hf.symm.trans q2
  have hnm := name_of_methodNamed hmk hmethM
  have hup : (hd_kS κ).vm.lookupUp cn x.name x.desc = some mk := ((State.methodFound?_class hcn hck hni (signaturePolymorphic_of_name (by rw [hd_cname hcn hck]; exact hxc)) mk).mp hf).1
  exact hd_lookupD hck hni hup hmethM hstM (by rw [hyx] at hnm; exact hnm) (hd_li_priv (X.li hli) hf hmethM) q5
/-- a super call into a class above: the lookup out of the words -/
theorem hd_foundC (X : hd_Cx κ E cc own nL (hd_Rm n c k)) {x y : MethodName} {owner : String} (hxc : x.cls ≠ "java/lang/invoke/MethodHandle" ∧ x.cls ≠ "java/lang/invoke/VarHandle") (hsame : (Cond.sameMethod x.cls owner x.name x.desc).before (hd_kA κ) (hd_kS κ) = true) (hyx : y = ⟨owner, x.name, x.desc⟩) (hin : Cond.instanceMethod y ∈ lw_all) (hsub : ∀ cn co, (hd_kS κ).vm.findClass x.cls = some cn → (hd_kS κ).vm.findClass owner = some co → (hd_kS κ).vm.isSubclass cn co = true) : ∀ cn mk, (hd_kS κ).vm.findClass x.cls = some cn → (hd_kS κ).methodNamed? y = some mk → lookupSpecial (hd_kS κ).vm cn x.name x.desc = .method mk := by
  intro cn mk hcn hmk
  obtain ⟨cn2, ck, r1, hcn2, hck, hni, hf, hn1⟩ := Cond.sameMethod_found hsame
  cases hcn.symm.trans hcn2
  rw [← hyx] at hn1
  cases hmk.symm.trans hn1
  obtain ⟨mk2, methM, hnamed, hmethM, hstM, habM⟩ := Cond.instanceMethod_spec (X.ts _ hin)
  cases hmk.symm.trans hnamed
  have hco := findClass_of_methodNamed hmk
  obtain ⟨kr, hkr, -⟩ := className_of_methodNamed hmk
  have hup : (hd_kS κ).vm.lookupUp cn x.name x.desc = some mk := ((State.methodFound?_class hcn hck hni (signaturePolymorphic_of_name (by rw [hd_cname hcn hck]; exact hxc)) mk).mp hf).1
  have hdecl : kr.findMethod x.name x.desc = some mk.idx := by
    subst hyx
    have h' := hmk
    simp only [State.methodNamed?, hco, hkr, Option.bind_eq_bind, Option.bind_some, Option.bind_eq_some_iff, Option.pure_def, Option.some.injEq] at h'
    obtain ⟨i, hi, hmi⟩ := h'
    rw [← hmi]; exact hi
  exact lookupSpecial_of_declared hck hni hup hkr hdecl (hsub cn mk.cls hcn (by rw [hyx] at hco; exact hco)) hmethM hstM
/-- a call through a class, on a receiver of the class C -/
theorem hv_virt (X : hd_Cx κ E cc own nL (hd_Rm n c k)) {C owner : String} {x y : MethodName} {cy : ByteArray} {nY na m index b : Nat} {ret : Option FieldType} {av rest st0 st1 : List Value} {rv : Option Value} {S1 : hd_St} (hrc : hd_rc κ E S b C) (hM : hd_Mt (hd_kL κ) E y cy nY ret (hd_Rm m 0 0) (.ref b :: av) S rv S1)
    (hlink : (Cond.methodLink own index x).before (hd_kA κ) (hd_kS κ) = true) (hsame : (Cond.sameMethod x.cls owner x.name x.desc).before (hd_kA κ) (hd_kS κ) = true) (ho2 : owner ≠ "java/lang/invoke/MethodHandle" ∧ owner ≠ "java/lang/invoke/VarHandle") (hsel : hd_Sel (hd_kS κ) C owner x y) (hini : Cond.initialized y.cls ∈ lw_all) (hcode : Cond.code y cy nY ret ∈ lw_all) (hpar : (parseMethodDescriptor x.desc).map (fun d => d.parameters.length) = some na)
    (hd : decode cc pc = .ok (.invokevirtual index, 3)) (hmn : m < n) (hnY : nY ≤ 41) (hcc : cells ≤ c) (hss : slots ≤ k) (hn : av.length = na) (hst : st0 = av.reverse ++ .ref b :: rest) (hrm : (rest.map fun v => v.category).sum ≤ 8) (h1 : rv.toList ++ rest = st1) (kk : hd_V κ E nL cells slots Q S1 (pc + 3) lv st1) : hd_V κ E nL cells slots Q S pc lv st0 := by
  refine hv_ran X (mc := 0) (ms := 0) (fun H locs ls hW hS hl => ⟨(Value.ref b :: av).toArray, ?_⟩) h1 kk
  exact hd_runVirt (C := C) (x := x) (y := y) (owner := owner) (bytes := cy) (maxL := nY) (ret := ret) (n := na) (Ts := lw_all) ⟨X.1, X.2.1, X.2.2.1, X.ow, X.ts⟩ hM rfl rfl (by rw [X.S0]; show m + 1 ≤ n; omega) (by rw [X.S0]; show 8 + (nY + 11) + 60 * m ≤ 60 * n; omega) (pay_in X.ts (lw_meth hcode)) List.mem_cons_self (X.ts _ hini) hlink hsame ho2 hsel (fun sig h => by rw [h] at hpar; exact (Option.some.inj hpar).symm) ⟨hd_Pc_blind E S _, hd_recv X hW hrc, hd_pre X hW hS⟩ rfl hn hl.1 hst (lv_room hrm) hd (by rw [X.S0]; exact ⟨hcc, hss⟩)
theorem hd_sub0 {vm : Vm} {cn co : ClassId} {A : String} (h1 : vm.findClass A = some cn) (h2 : vm.findClass A = some co) : vm.isSubclass cn co = true := by
  cases h1.symm.trans h2
  simp [Vm.isSubclass, Vm.isSubclassAux]
theorem hd_subA {vm : Vm} {c q t : ClassId} {k : Class} (hk : vm.classes[c]? = some k) (hs : k.super = some q) (n : Nat) (h : vm.isSubclassAux n q t = true) : vm.isSubclassAux (n + 1) c t = true := by
  unfold Vm.isSubclassAux
  simp [hk, hs, h]
theorem hd_sub1 {s : State} {args : Array Value} {cn co : ClassId} {A B : String} (hs : (Cond.superclass A B).before args s = true) (h1 : s.vm.findClass A = some cn) (h2 : s.vm.findClass B = some co) : s.vm.isSubclass cn co = true := by
  obtain ⟨p, k, kp, e1, e2, e3, e4, -⟩ := Cond.superclass_spec h1 hs
  cases e1.symm.trans h2
  have hlt := (Array.getElem?_eq_some_iff.mp e2).1
  obtain ⟨n, hn⟩ : ∃ n, s.vm.classes.size = n + 1 := ⟨s.vm.classes.size - 1, by omega⟩
  unfold Vm.isSubclass
  rw [hn]
  exact hd_subA e2 e4 (n + 1) (by simp [Vm.isSubclassAux])
theorem hd_sub2 {s : State} {args : Array Value} {cn co : ClassId} {A B C : String} (hne : A ≠ B) (hs : (Cond.superclass A B).before args s = true) (hs2 : (Cond.superclass B C).before args s = true) (h1 : s.vm.findClass A = some cn) (h2 : s.vm.findClass C = some co) : s.vm.isSubclass cn co = true := by
  obtain ⟨p, k, kp, e1, e2, e3, e4, -⟩ := Cond.superclass_spec h1 hs
  obtain ⟨p2, k2, kp2, f1, f2, f3, f4, -⟩ := Cond.superclass_spec e1 hs2
  cases f1.symm.trans h2
  have hlt := (Array.getElem?_eq_some_iff.mp e2).1
  have hlt2 := (Array.getElem?_eq_some_iff.mp f2).1
  have hne2 : ¬ ((cn : Nat) = (p : Nat)) := by
    intro q
    subst q
    have a1 := hd_cname h1 e2
    have a2 := hd_cname e1 e2
    exact hne (a1.symm.trans a2)
  obtain ⟨n, hn⟩ : ∃ n, s.vm.classes.size = n + 2 := ⟨s.vm.classes.size - 2, by have hz := Nat.lt_or_gt_of_ne hne2; omega⟩
  unfold Vm.isSubclass
  rw [hn]
  exact hd_subA e2 e4 (n + 2) (hd_subA f2 f4 (n + 1) (by simp [Vm.isSubclassAux]))
/-- a blow's figure, where it is known to be a blow -/
theorem hg_B_fig {R : Room} (X : hd_Cx κ E cc own nL R) {a : Nat} (hc : hd_cb S a = true) {index : Nat} {ref : String} (hsm : ∀ y, (hd_kS κ).fieldFound? RX8 "figure" "I" = some y → (hd_kS κ).fieldFound? ref "figure" "I" = some y) (q : Cond.fieldLink own index ref "figure" "I" ∈ lw_all) (hd : decode cc pc = .ok (.getfield index, 3)) (kk : hd_V κ E nL cells slots Q S (pc + 3) lv (.int ((hd_P S a).2.2 0) :: st)) : hd_V κ E nL cells slots Q S pc lv (.ref a :: st) := fun H locs ls hW hS hl => by
  obtain ⟨hin, ht⟩ := of_decide_eq_true hc
  obtain ⟨k2, hkk⟩ := hd_pool E hin
  rw [hd_pE_b ht] at hkk
  have hfig := kk H locs ls hW hS hl
  revert hkk
  generalize (hd_P S a).2.2 0 = f at hfig
  generalize (hd_P S a).1 = t at ht
  intro hkk
  have h8 : t = 0 ∨ t = 1 ∨ t = 2 ∨ t = 3 ∨ t = 4 ∨ t = 5 ∨ t = 6 ∨ t = 7 := by omega
  rcases h8 with rfl | rfl | rfl | rfl | rfl | rfl | rfl | rfl
  · exact va_get (D := hd_D E) (ci := 8) (v := .int f) (C := RX8) (T := TX8) (N := 1) X.1 X.2.1 X.ts in_X8 X.ow X.K hW.1 k2 hkk rfl 0 (by decide) (X.ts _ q) hsm rfl hd hfig
  · exact va_get (D := hd_D E) (ci := 9) (v := .int f) (C := RX9) (T := TX9) (N := 1) X.1 X.2.1 X.ts in_X9 X.ow X.K hW.1 k2 hkk rfl 0 (by decide) (X.ts _ q) hsm rfl hd hfig
  · exact va_get (D := hd_D E) (ci := 10) (v := .int f) (C := RX10) (T := TX10) (N := 1) X.1 X.2.1 X.ts in_X10 X.ow X.K hW.1 k2 hkk rfl 0 (by decide) (X.ts _ q) hsm rfl hd hfig
  · exact va_get (D := hd_D E) (ci := 11) (v := .int f) (C := RX11) (T := TX11) (N := 1) X.1 X.2.1 X.ts in_X11 X.ow X.K hW.1 k2 hkk rfl 0 (by decide) (X.ts _ q) hsm rfl hd hfig
  · exact va_get (D := hd_D E) (ci := 12) (v := .int f) (C := RX12) (T := TX12) (N := 1) X.1 X.2.1 X.ts in_X12 X.ow X.K hW.1 k2 hkk rfl 0 (by decide) (X.ts _ q) hsm rfl hd hfig
  · exact va_get (D := hd_D E) (ci := 13) (v := .int f) (C := RX13) (T := TX13) (N := 1) X.1 X.2.1 X.ts in_X13 X.ow X.K hW.1 k2 hkk rfl 0 (by decide) (X.ts _ q) hsm rfl hd hfig
  · exact va_get (D := hd_D E) (ci := 14) (v := .int f) (C := RX14) (T := TX14) (N := 1) X.1 X.2.1 X.ts in_X14 X.ow X.K hW.1 k2 hkk rfl 0 (by decide) (X.ts _ q) hsm rfl hd hfig
  · exact va_get (D := hd_D E) (ci := 15) (v := .int f) (C := RX15) (T := TX15) (N := 1) X.1 X.2.1 X.ts in_X15 X.ow X.K hW.1 k2 hkk rfl 0 (by decide) (X.ts _ q) hsm rfl hd hfig
end HDB
