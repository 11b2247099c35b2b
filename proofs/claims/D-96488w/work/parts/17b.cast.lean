/-! A CAST THAT FAILS: the machine's ClassCastException, its text bounded by the start's table of modules -/
set_option maxRecDepth 100000
def hd_home (b : Bool) : String := (if b then "module java.base" else "unnamed module") ++ " of loader " ++ "'bootstrap'"
def hd_ct1 (C T : String) (b : Bool) : String := toString "class " ++ toString (dotted C) ++ toString " cannot be cast to class " ++ toString (dotted T) ++ toString " (" ++ toString (toString (dotted C) ++ toString " and " ++ toString (dotted T) ++ toString " are in " ++ toString (hd_home b)) ++ toString ")"
def hd_ct2 (C T : String) (b b2 : Bool) : String := toString "class " ++ toString (dotted C) ++ toString " cannot be cast to class " ++ toString (dotted T) ++ toString " (" ++ toString (toString (dotted C) ++ toString " is in " ++ toString (hd_home b) ++ toString "; " ++ toString (dotted T) ++ toString " is in " ++ toString (hd_home b2)) ++ toString ")"
def hd_gt (tx : String) : Prop := (tx == notModelled) = false ∧ (stringBytes (stringToUtf16 tx)).size ≤ 1000
theorem hd_gt_of {tx : String} (h : tx.toList.head? = some 'c') (hl : tx.toList.length ≤ 250) : hd_gt tx := by
  refine ⟨?_, ?_⟩
  · rw [beq_eq_false_iff_ne]
    intro e
    have h4 : notModelled.toList.head? = some '\u0000' := by decide
    rw [e, h4] at h
    exact absurd (Option.some.inj h) (by decide)
  · have b1 := stringBytes_size_le (stringToUtf16 tx)
    have b2 := utf16_size_le tx
    omega
theorem hd_hh {x : String} (y : String) {ch : Char} (h : x.toList.head? = some ch) : (x ++ y).toList.head? = some ch := by
  rw [String.toList_append, List.head?_append, h]
  rfl
theorem hd_home_len (b : Bool) : (hd_home b).toList.length ≤ 40 := by cases b <;> decide +kernel
theorem hd_gt1 {C T : String} (b : Bool) (hC : (dotted C).toList.length ≤ 30) (hT : (dotted T).toList.length ≤ 30) : hd_gt (hd_ct1 C T b) := by
  have hb := hd_home_len b
  unfold hd_ct1
  refine hd_gt_of (hd_hh _ (hd_hh _ (hd_hh _ (hd_hh _ (hd_hh _ (hd_hh _ (show ("class " : String).toList.head? = some 'c' by decide))))))) ?_
  · skip
    simp only [String.toList_append, List.length_append]
    have a1 : (toString "class ").toList.length = 6 := by decide
    have a2 : (toString " cannot be cast to class ").toList.length = 25 := by decide
    have a3 : (toString " (").toList.length = 2 := by decide
    have a4 : (toString " and ").toList.length = 5 := by decide
    have a5 : (toString " are in ").toList.length = 8 := by decide
    have a6 : (toString ")").toList.length = 1 := by decide
    have a7 : (toString (dotted C)).toList.length = (dotted C).toList.length := rfl
    have a8 : (toString (dotted T)).toList.length = (dotted T).toList.length := rfl
    have a9 : (toString (hd_home b)).toList.length = (hd_home b).toList.length := rfl
    have a0 : ∀ z : String, (toString z).toList.length = z.toList.length := fun _ => rfl
    rw [a0 (_ ++ _)]
    simp only [String.toList_append, List.length_append]
    omega
theorem hd_gt2 {C T : String} (b b2 : Bool) (hC : (dotted C).toList.length ≤ 30) (hT : (dotted T).toList.length ≤ 30) : hd_gt (hd_ct2 C T b b2) := by
  have hb := hd_home_len b
  have hb2 := hd_home_len b2
  unfold hd_ct2
  refine hd_gt_of (hd_hh _ (hd_hh _ (hd_hh _ (hd_hh _ (hd_hh _ (hd_hh _ (show ("class " : String).toList.head? = some 'c' by decide))))))) ?_
  · skip
    simp only [String.toList_append, List.length_append]
    have a1 : (toString "class ").toList.length = 6 := by decide
    have a2 : (toString " cannot be cast to class ").toList.length = 25 := by decide
    have a3 : (toString " (").toList.length = 2 := by decide
    have a4 : (toString " is in ").toList.length = 7 := by decide
    have a5 : (toString "; ").toList.length = 2 := by decide
    have a6 : (toString ")").toList.length = 1 := by decide
    have a7 : (toString (dotted C)).toList.length = (dotted C).toList.length := rfl
    have a8 : (toString (dotted T)).toList.length = (dotted T).toList.length := rfl
    have a9 : (toString (hd_home b)).toList.length = (hd_home b).toList.length := rfl
    have a10 : (toString (hd_home b2)).toList.length = (hd_home b2).toList.length := rfl
    have a0 : ∀ z : String, (toString z).toList.length = z.toList.length := fun _ => rfl
    rw [a0 (_ ++ _)]
    simp only [String.toList_append, List.length_append]
    omega
/-- the pairs at which a cast of this program fails -/
def hd_ccl : List (String × String) := ([RX8, RX9, RX10, RX11, RX12, RX13, RX14, RX15, "[S", "[I"].map fun C => (C, "[B")) ++ (["[B", "[S", "[I"].map fun C => (C, RX8)) ++ ([RX8, RX9, RX10, RX11, RX12, RX13, RX14, RX15].map fun C => (C, "[I"))
theorem hd_cc_ok : ∀ q ∈ hd_ccl, ((beforeLast '/' (withoutBrackets q.1) ∈ castPackages_1 ∧ ¬ "L".toList <+: (withoutBrackets q.1).toList) ∧ (beforeLast '/' (withoutBrackets q.2) ∈ castPackages_1 ∧ ¬ "L".toList <+: (withoutBrackets q.2).toList)) ∧ ((dotted q.1).toList.length ≤ 30 ∧ (dotted q.2).toList.length ≤ 30) := by decide +kernel
theorem hd_cc_nc : ∀ q ∈ hd_ccl, q ∈ hd_ncl := by decide +kernel
theorem hd_pkg {name : String} (h : beforeLast '/' (withoutBrackets name) ∈ castPackages_1 ∧ ¬ "L".toList <+: (withoutBrackets name).toList) : packageOf name ∈ castPackages_1 := by
  have h2 : (withoutBrackets name).startsWith "L" = false := String.startsWith_string_eq_false_iff.mpr h.2
  unfold packageOf
  simp only [h2, Bool.and_false, Bool.false_eq_true, if_false]
  exact h.1
theorem hd_found {vm : Vm} {name : String} {c : ClassId} (h : vm.findClass name = some c) : ∃ k, vm.classes[c]? = some k ∧ k.name = name ∧ k.hidden = none ∧ k.loader = none := by
  obtain ⟨hlt, hp, -⟩ := Array.findIdx?_eq_some_iff_getElem.mp h
  simp only [Bool.and_eq_true, beq_iff_eq, Option.isNone_iff_eq_none] at hp
  exact ⟨vm.classes[c], by simp [hlt], hp.1.1.1, hp.1.1.2, hp.2⟩
theorem hd_homeOf {s : State} {name : String} {k : Class} (hm : modulesRight_1 s = true) (h1 : k.name = name) (h2 : k.loader = none) (hp : packageOf name ∈ castPackages_1) : ∃ b, s.vm.home k = hd_home b := by
  unfold Vm.home
  rw [h2]
  have key : ∀ m, s.vm.moduleOf k = some m → m.name = "java.base" := by
    intro m hq
    unfold Vm.moduleOf at hq
    split at hq
    · have := List.find?_some hq
      simpa using this
    · have h3 := List.find?_some hq
      have h4 := List.mem_of_find?_eq_some hq
      simp only [Bool.and_eq_true, beq_iff_eq] at h3
      unfold modulesRight_1 at hm
      have h5 := (List.all_eq_true.mp hm) m h4
      simp only [Bool.or_eq_true, beq_iff_eq, Bool.not_eq_true'] at h5
      rcases h5 with (h5 | h5) | h5
      · rw [h3.1, h2] at h5
        cases h5
      · exact h5
      · rw [← h1] at hp
        have h6 : (castPackages_1.any fun p => m.packages.contains p) = true := List.any_eq_true.mpr ⟨_, hp, h3.2⟩
        rw [h6] at h5
        cases h5
  cases hq : s.vm.moduleOf k with
  | none => exact ⟨false, rfl⟩
  | some m =>
    refine ⟨true, ?_⟩
    show ("module " ++ m.name) ++ " of loader " ++ _ = _
    rw [key m hq]
    rfl
theorem hd_ccText {s U : State} {C T : String} {c t : ClassId} {kc kt : Class} (hA : s.vm.Alike U.vm) (hm : modulesRight_1 s = true) (hq : (C, T) ∈ hd_ccl) (h1 : s.vm.findClass C = some c) (h2 : s.vm.findClass T = some t) (h3 : U.vm.classes[c]? = some kc) (h4 : U.vm.classes[t]? = some kt) : hd_gt (Op.checkcast.message U.vm kc kt) := by
  have hm := hd_mr_alike hA hm
  rw [← hA.findClass] at h1 h2
  obtain ⟨k1, a1, a2, a3, a4⟩ := hd_found h1
  obtain ⟨k2, b1, b2, b3, b4⟩ := hd_found h2
  cases Option.some.inj (a1.symm.trans h3)
  cases Option.some.inj (b1.symm.trans h4)
  obtain ⟨⟨p1, p2⟩, l1, l2⟩ := hd_cc_ok _ hq
  obtain ⟨b, hb⟩ := hd_homeOf hm a2 a4 (hd_pkg p1)
  obtain ⟨b9, hb9⟩ := hd_homeOf hm b2 b4 (hd_pkg p2)
  have e1 : kc.shown = dotted C := by unfold Class.shown; rw [a3, a2]
  have e2 : kt.shown = dotted T := by unfold Class.shown; rw [b3, b2]
  unfold Op.checkcast.message Vm.homes
  rw [e1, e2, hb, hb9]
  split
  · exact hd_gt1 b l1 l2
  · exact hd_gt2 b b9 l1 l2
section
variable {p : Program} {l : Launch} {e : Env} {R : Room} {s : State} {m : MethodId} {args : Array Value} {below : List Frame} {meth : Method} {c : Code} {H : Heap} {locs : List Loc} {cells slots : Nat} {Q : State → Prop} {cc : ByteArray} {pc : Nat} {ls : Array Slot} {rest : List Value}
/-- a cast that fails, from the words -/
theorem hd_castZ (hexec : p.tables.exec = Jvm.exec) (hb : c.code = cc) {own C nm : String} {index a : Nat} (hown : s.vm.findClass own = some m.cls) (hlink : (Cond.classLink own index nm).before args s = true) (hc : va_Nc C nm s) (hm : modulesRight_1 s = true) (hq : (C, nm) ∈ hd_ccl)
    (hr : ∃ cell : Cell, H[a]? = some cell ∧ cell.vm.isStatics = false ∧ s.vm.findClass C = some cell.cls) (hdg : decode cc pc = .ok (.checkcast index, 3))
    (k : ∀ tx : String, hd_gt tx → vx_Note p l e R s m args below meth c H locs cells slots Q (F0 m pc ls (.ref a :: rest)) "java/lang/ClassCastException" tx) : W p l e R s m args below meth c H locs cells slots Q (F0 m pc ls (.ref a :: rest)) := by
  obtain ⟨cell, h1, h2, h3⟩ := hr
  obtain ⟨c0, t0, f1, f2, f3⟩ := hc
  cases h3.symm.trans f1
  obtain ⟨ks, hks, -⟩ := Vm.findClass_spec h3
  intro T hT X
  have hpl : e.platform.magicAccessors = ({} : Platform).magicAccessors := by rw [X.admits.platform]
  obtain ⟨c', hc', hcl⟩ := Cond.classLink_spec hown hlink e.platform hpl
  cases f2.symm.trans hc'
  obtain ⟨dk, _, _, kt, hd, _, _, _, _, hkt, _, hopen⟩ := hcl.here
  have hcl₀ := X.warmed.classLinks hcl
  have hW' : s.WarmedH (T.vm.noted m.cls index (.cls t0)) := X.warmed.noted hd hopen (State.rightAt_cls hcl)
  obtain ⟨ks', hks', -⟩ := hW'.alike.2.2 _ _ hks
  obtain ⟨kt', hkt', -⟩ := hW'.alike.2.2 _ _ hkt
  have X1 := X.noted hW'
  have hg : hd_gt (Op.checkcast.message (T.vm.noted m.cls index (.cls t0)) ks' kt') := hd_ccText (U := T.setVm (T.vm.noted m.cls index (.cls t0))) hW'.alike hm hq h3 f2 hks' hkt'
  obtain ⟨t, st, q⟩ := k _ hg (T.setVm (T.vm.noted m.cls index (.cls t0))) hT X1
  refine ⟨t, ?_, q⟩
  have hdg' : decode c.code (F0 m pc ls (.ref a :: rest)).pc = .ok (.checkcast index, 3) := by rw [hb]; exact hdg
  jvm_step X.here [hexec, hdg', checkcast.wp_cold (e := e) (s := T) (f := F0 m pc ls (.ref a :: rest)) X.here.top rfl (resolveClass_links e.toSetting hcl₀) hcl₀.ready,
    checkcast.wp_ready (e := e) (s := T.setVm (T.vm.noted m.cls index (.cls t0))) (f := F0 m pc ls (.ref a :: rest)) X.here.top hcl₀.ready rfl]
  refine ⟨cell, by show T.heap[a]? = _; rw [hT]; exact h1, VmData.noStatics_of h2, ks', hks', kt', hkt', ?_⟩
  rw [if_neg (by rw [hW'.alike.assignable, f3]; decide)]
  exact st
end
