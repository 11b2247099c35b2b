/-! System.arraycopy out of range: the native throws, no traces kept -/
set_option maxRecDepth 100000
section
set_option maxHeartbeats 1000000 in
theorem hd_vmAtN {p : Program} {l : Launch} {e : Env} {R : Room} {s : State} {m₀ : MethodId} {args : Array Value} {below : List Frame} {meth : Method} {c : Code} {W : State} {locs : List Loc} {cells slots : Nat}
    (X : Stand p l e R s m₀ args below meth c W locs cells slots) (hexec : p.tables.exec = Jvm.exec) (htr : e.platform.stackTraces = false) {cls : String} {names : List String} {text : String}
    (hcls : Bundle.fit cls = true) (hnames : ∀ n ∈ names, Bundle.fit n = true) (hsoe : (cls == "java/lang/StackOverflowError") = false) (hoom : (cls == "java/lang/OutOfMemoryError") = false)
    (h : ∀ a ∈ Bundle.messageArmAtoms cls names, a.before args s = true)
    (hlocs : ∀ x ∈ locs, ∀ cell, s.heap[x.base]? = some cell → cell.vm.isStatics = false)
    (htext : (text == notModelled) = false) (hlimit : ¬ (stringBytes (stringToUtf16 text)).size > e.platform.arrayLengthLimit) (hheap : ¬ (stringBytes (stringToUtf16 text)).size * componentBytes .byte > e.platform.maxHeapBytes)
    {g : JFrame} (hsize : g.locals.size = c.maxLocals) {nf : NFrame} (hnf : nf.words = 0)
    (hRframes : names.length + 5 < R.frames) (hRlocals : 2 * g.monitorRoom + (g.stack.map fun v => v.category).sum + 10240 ≤ R.locals) (hshort : 13 * names.length + 55 ≤ 10240)
    (hRcells : cells + 3 ≤ R.cells) (hRslots : slots + ((stringBytes (stringToUtf16 text)).size + 4 + 6) ≤ R.slots) (hlocks : meth.locks = false) :
    ∃ (S : State) (q : Addr) (ce : Cell), (∀ target, Steps p.tables e below (S.setFrames (.throwing q :: .native nf :: .java g :: below)) target → Steps p.tables e below (W.setFrames (.throwNew cls (some text) none :: .native nf :: .java g :: below)) target) ∧
      Stand p l e R s m₀ args below meth c S locs (cells + 3) (slots + ((stringBytes (stringToUtf16 text)).size + 4 + 6)) ∧ S.heap[q]? = some ce ∧ s.vm.findClass cls = some ce.cls ∧ ce.vm = .none := by
  have howns : e.platform.frameOwnsMonitors = true := by rw [X.admits.platform]
  have hfin : e.platform.finalization = false := by rw [X.admits.platform]
  have hpl : e.platform.magicAccessors = ({} : Platform).magicAccessors := by rw [X.admits.platform]
  have a : ∀ x, x ∈ Bundle.messageArmAtoms cls names → x.holds args s none s [] = true := fun x hx => h x hx
  obtain ⟨T, Z0, L, -, Y⟩ := ThrowableC.of_atoms (args := args) howns hfin hpl (fun x hx => h x (by simp [Bundle.messageArmAtoms, hx]))
  obtain ⟨Z, M, LZ, LM, hnZ⟩ := Init0T.ofS_atoms (args := args) hpl L Y (fun x hx => h x (by simp [Bundle.messageArmAtoms, hx]))
  obtain ⟨P1, Ps, hlen, L1, hL, hP1m, hlink1, hlink⟩ := Bundle.chainS (args := args) hpl hnZ names cls hcls hnames (fun x hx => h x (by simp [Bundle.messageArmAtoms, hx]))
  obtain ⟨Zs, LZs, hn4, hfitv, hfitc⟩ := StringT.of_atoms (args := args) (fun x hx => h x (by simp [Bundle.messageArmAtoms, hx]))
  have hfound : s.vm.findClass cls = some P1.m.cls := findClass_of_methodNamed hP1m
  obtain ⟨c1, kX, hc1, hk, hord, -, -, hn6⟩ := Cond.instantiable_spec (a (.instantiable cls 6) (by simp [Bundle.messageArmAtoms]))
  cases Option.some.inj (hc1.symm.trans hfound)
  have hinit := Cond.initialized_spec hfound hk (a (.initialized cls) (by simp [Bundle.messageArmAtoms]))
  have hctor : kX.findMethod "<init>" "(Ljava/lang/String;)V" = some P1.m.idx := findMethod_of_methodNamed hP1m hk
  have hsel0 : selectMethod e.platform s.vm P1.m.cls T.fill0 = .method T.fill0 := by
    obtain ⟨c2, r2, m2, q1, q2, q3, q4, -⟩ := Cond.selects_spec (a (.selects cls Bundle.tFill0 Bundle.tFill0) (by simp [Bundle.messageArmAtoms]))
    cases Option.some.inj (q1.symm.trans hfound)
    cases Option.some.inj (q2.symm.trans (State.methodFound?_of_named Y.fill0 (by decide)))
    cases Option.some.inj (q3.symm.trans Y.fill0)
    rw [Launch.admits_selectMethod X.admits]; exact q4
  have hselF : selectMethod e.platform s.vm P1.m.cls T.fill = .method T.fill := by
    obtain ⟨c2, r2, m2, q1, q2, q3, q4, -⟩ := Cond.selects_spec (a (.selects cls Bundle.tFill Bundle.tFill) (by simp [Bundle.messageArmAtoms]))
    cases Option.some.inj (q1.symm.trans hfound)
    cases Option.some.inj (q2.symm.trans (State.methodFound?_of_named Y.fill (by decide)))
    cases Option.some.inj (q3.symm.trans Y.fill)
    rw [Launch.admits_selectMethod X.admits]; exact q4
  obtain ⟨cellS0, hcS0, hiss⟩ := Y.statics
  obtain ⟨u0, hu0⟩ := Cond.staticRefV Y.unassigned L.unassignedStatic L.statics hcS0 hiss (a (.isRef (.static Bundle.tN "UNASSIGNED_STACK" Bundle.steD)) (by simp [Bundle.messageArmAtoms]))
  obtain ⟨sen, hsen⟩ := Cond.staticRefV Y.sentinel L.sentinelStatic L.statics hcS0 hiss (a (.isRef (.static Bundle.tN "SUPPRESSED_SENTINEL" Bundle.listD)) (by simp [Bundle.messageArmAtoms]))
  obtain ⟨ci198, i198, fB, hk198, hg198, ha198, hsB, -, hnB, htB, hffB⟩ := Cond.ownField (t := .object "java/lang/Object") Y.found L.cls (by decide +kernel) (a (.fieldLink Bundle.tN 198 Bundle.tN "backtrace" "Ljava/lang/Object;") (by simp [Bundle.messageArmAtoms])) (a (.lays Bundle.tN Bundle.tN "backtrace" "Ljava/lang/Object;") (by simp [Bundle.messageArmAtoms])) e.platform hpl
  obtain ⟨cellS, hcS', heS, -, hkeep⟩ := X.same.2.2.2.2.2 T.aS cellS0 hcS0
  have hcellS : W.heap[T.aS]? = some cellS := hcS'
  have hout' : ∀ i, (⟨T.aS, i⟩ : Loc) ∉ locs := fun i hmem => by
    have := hlocs _ hmem cellS0 hcS0
    rw [hiss] at this; cases this
  have hknownS : cellS.vm ≠ .unknown := by
    rw [heS]; intro hu
    rw [show cellS0.vm = .unknown from hu] at hiss
    cases hiss
  have hvU : cellS.slots[T.fUnassigned.slot]? = some u0.v := by rw [hkeep _ (hout' _)]; exact hu0
  have hvSen : cellS.slots[T.fSentinel.slot]? = some sen.v := by rw [hkeep _ (hout' _)]; exact hsen
  obtain ⟨iM, hffM⟩ := Y.msg
  obtain ⟨tyC, dC, hdC, hdnC⟩ := Cond.laysAt hfound hk Y.cause (a (.lays cls Bundle.tN "cause" "Ljava/lang/Throwable;") (by simp [Bundle.messageArmAtoms]))
  obtain ⟨tyS, dS, hdS, hdnS⟩ := Cond.laysAt hfound hk Y.stack (a (.lays cls Bundle.tN "stackTrace" Bundle.steD) (by simp [Bundle.messageArmAtoms]))
  obtain ⟨tyP, dP, hdP, hdnP⟩ := Cond.laysAt hfound hk Y.supp (a (.lays cls Bundle.tN "suppressedExceptions" Bundle.listD) (by simp [Bundle.messageArmAtoms]))
  obtain ⟨tyM, dM, hdM, hdnM⟩ := Cond.laysAt hfound hk hffM (a (.lays cls Bundle.tN "detailMessage" "Ljava/lang/String;") (by simp [Bundle.messageArmAtoms]))
  obtain ⟨tyB, dB, hdB, hdnB⟩ := Cond.laysAt hfound hk hffB (a (.lays cls Bundle.tN "backtrace" "Ljava/lang/Object;") (by simp [Bundle.messageArmAtoms]))
  have bC := Cond.laysApart hdB hdC hdnB hdnC (by rw [hnB, Y.causeName]; decide)
  have bS := Cond.laysApart hdB hdS hdnB hdnS (by rw [hnB, Y.stackName]; decide)
  have bP := Cond.laysApart hdB hdP hdnB hdnP (by rw [hnB, Y.suppName]; decide)
  have hbk : ((preparedCellV T.toThrowableT (freshCell P1.m.cls kX) (W.heap.size + 2) u0 sen).withEntry W.cur).slots[fB.slot]? = some .null := by
    have := fresh_default (c := P1.m.cls) tyB
    rw [htB] at this
    simpa [preparedCellV, Cell.setSlot, Cell.withEntry, Array.getElem?_setIfInBounds, bC, bS, bP, bC.symm, bS.symm, bP.symm, defaultValue] using this
  have tkC := Takes.of_laid (v := .ref (W.heap.size + 2)) hk hord tyC (by rw [Y.causeType]; rfl)
  have tkS := Takes.of_laid (v := u0.v) hk hord tyS (by rw [Y.stackType]; exact fits_refV_array _ u0)
  have tkP := Takes.of_laid (v := sen.v) hk hord tyP (by rw [Y.suppType]; exact fits_refV_object _ sen)
  have tkM := Takes.of_laid (v := .ref (W.heap.size + 1)) hk hord tyM (by rw [Y.msgType]; rfl)
  have hskip : SkipFacts T e.platform s (fun u => u) u0 ((preparedCellV T.toThrowableT (freshCell P1.m.cls kX) (W.heap.size + 2) u0 sen).withEntry W.cur) := ⟨{ ci198 := ci198, i198 := i198, fBack := fB }, ⟨hk198, hg198, ha198, hsB⟩, hbk, fun _ _ => rfl⟩
  have h0 := X.overNative g nf
  obtain ⟨hbeyond, hfreeW⟩ := X.vmMayThrowNative hsize hnf (.throwNew cls (some text) none) (fun f hf => by cases hf) rfl hRlocals
  have hfr' : (Frame.native nf :: .java g :: below).length + Ps.length + 4 < (e.platform.stackLimits W.me).1 := by have := X.framesAboveNative g nf (n := Ps.length + 4) (by omega); omega
  have hwd' : (stackUse (.native nf :: .java g :: below)).2 + 13 * Ps.length + 55 ≤ (e.platform.stackLimits W.me).2 := by have := X.stackAboveNative hsize hnf (K := 13 * Ps.length + 55) (by omega); omega
  have hslots : W.slotsUsed + (stringBytes (stringToUtf16 text)).size + Zs.kS.instanceTypes.size + kX.instanceTypes.size ≤ e.platform.maxSlots := by
    have := X.slotsAbove hRslots
    rw [hn4, hn6]
    omega
  obtain ⟨vm', hW', st⟩ := Steps.vmThrowsMessageColdByFOver p (s₀ := s) (S := W) h0 hexec T L Z LZ M LM X.warmed (t := W.cur) rfl Zs LZs P1 L1 Ps hL hlink1 hlink hsoe hoom hfound hk hinit hord hctor
    (Launch.admits_hotImplicitExceptions X.admits) hbeyond hfreeW htext hlimit hheap (X.cellsAbove hRcells) hslots (hfitv _) (hfitc _)
    (Nn := fun u => u) heapOnly_id (fun _ _ => rfl) (fun _ => rfl) (fun u x y => setCell_twice _ _ _ _) (fun _ => Nat.le_refl _) (cN := ((preparedCellV T.toThrowableT (freshCell P1.m.cls kX) (W.heap.size + 2) u0 sen).withEntry W.cur))
    hsel0 hcellS hknownS hvU tkS (fun _ hu => hu) (fun _ hu => hu) rfl rfl rfl (by simp [preparedCellV, Cell.setSlot, Cell.withEntry]) hskip (fun _ _ hA hW _ _ _ _ hroom _ hrest => L.nativeOff p htr hA hW hroom hrest) hselF hvSen tkC tkP tkM Y.objLocals rfl rfl rfl rfl hfr' hwd'
  rw [plainBareV_eq T.toThrowableT (W.heap.size + 2) u0 sen (.ref (W.heap.size + 1)) W.cur rfl rfl] at st
  obtain ⟨-, -, w3, w4, -, -, -⟩ := withThrown_facts e.platform W Zs text P1.m.cls kX
  have X3 := ((X.pushed (bytesOf Zs.cB (stringToUtf16 text))).pushed (stringAt Zs.cS Zs.kS Zs.fv Zs.fc (stringToUtf16 text) W.heap.size)).pushed (freshCell P1.m.cls kX)
  rw [← withString_eq] at X3
  have X4 := X3.noted hW'
  have ha : (W.heap.size + 2) < ((withThrown W Zs text P1.m.cls kX).setVm vm').heap.size := by show _ < (withThrown W Zs text P1.m.cls kX).heap.size; rw [w3]; omega
  have hcell : ((withThrown W Zs text P1.m.cls kX).setVm vm').heap[(W.heap.size + 2)]? = some (freshCell P1.m.cls kX) := w4
  have X5 := ((((X4.stored hcell T.fCause.slot (.ref (W.heap.size + 2))).storedAgain ha T.fStack.slot u0.v).storedAgain ha T.fSupp.slot sen.v).storedAgain ha T.fStack.slot u0.v).storedAgain ha T.fMsg.slot (.ref (W.heap.size + 1))
  have b1 : (bytesOf Zs.cB (stringToUtf16 text)).slots.size = (stringBytes (stringToUtf16 text)).size := by
    rw [(Cell.writeAll_facts _ _).2.2]; simp [bytes0]
  have b2 : (stringAt Zs.cS Zs.kS Zs.fv Zs.fc (stringToUtf16 text) W.heap.size).slots.size = 4 := by simp [string0, Cell.setSlot, hn4]
  have b3 : (freshCell P1.m.cls kX).slots.size = 6 := by simp [hn6]
  rw [b1, b2, b3] at X5
  have e9 : slots + (stringBytes (stringToUtf16 text)).size + 4 + 6 = slots + ((stringBytes (stringToUtf16 text)).size + 4 + 6) := by omega
  rw [e9] at X5
  simp only [List.append_assoc, List.cons_append, List.nil_append] at X5
  refine ⟨((withThrown W Zs text P1.m.cls kX).setVm vm').setCell (W.heap.size + 2) (plainBareV T.toThrowableT (freshCell P1.m.cls kX) (W.heap.size + 2) u0 sen (.ref (W.heap.size + 1))), W.heap.size + 2, _, fun target ht => st _ ht,
    X5.forget (fun y hy => ?_), heapAt_setCell_self _ ha, hfound, rfl⟩
  simp only [List.mem_cons, List.not_mem_nil, or_false] at hy
  have hge : s.heap.size ≤ W.heap.size := X.same.2.1
  rcases hy with rfl | rfl | rfl | rfl | rfl <;> exact Nat.le_trans hge (Nat.le_add_right _ 2)
end
section
def hd_gu (tx : String) : Prop := (tx == notModelled) = false ∧ (stringBytes (stringToUtf16 tx)).size ≤ 400
theorem hd_gu_of {tx : String} (h : tx.toList.head? = some 'a') (hl : tx.toList.length ≤ 100) : hd_gu tx := by
  refine ⟨?_, ?_⟩
  · rw [beq_eq_false_iff_ne]
    intro e
    have h4 : notModelled.toList.head? = some '\u0000' := by decide
    rw [e, h4] at h
    exact absurd (Option.some.inj h) (by decide)
  · have b1 := stringBytes_size_le (stringToUtf16 tx)
    have b2 := utf16_size_le tx
    omega
theorem hd_ip {z : Int} (h0 : 0 ≤ z) (h : z < 10 ^ 10) : (toString z).toList.length ≤ 10 := by
  obtain ⟨m, rfl⟩ := Int.eq_ofNat_of_zero_le h0
  show (toString m).toList.length ≤ 10
  exact nat_print (by omega)
theorem hd_arrText {ty : FieldType} {n0 : Nat} (hk : (Native.java_lang_System.arraycopy.kindName ty).toList.length ≤ 12) (h0 : n0 < 2 ^ 31) : (toString (Native.java_lang_System.arraycopy.kindName ty) ++ toString "[" ++ toString n0 ++ toString "]").toList.length ≤ 24 := by
  simp only [String.toList_append, List.length_append]
  have a1 : (toString "[").toList.length = 1 := by decide
  have a2 : (toString "]").toList.length = 1 := by decide
  have a3 : (toString (Native.java_lang_System.arraycopy.kindName ty)).toList.length = (Native.java_lang_System.arraycopy.kindName ty).toList.length := rfl
  have a4 := nat_print (n := n0) (by omega)
  omega
theorem hd_w1 {a b c d : String} {k : Nat} (h : a.toList.length + b.toList.length + c.toList.length + d.toList.length ≤ k) : (a ++ b ++ c ++ d).toList.length ≤ k := by
  simp only [String.toList_append, List.length_append]
  exact h
theorem hd_w0 {a b c : String} {k : Nat} (h : a.toList.length + b.toList.length + c.toList.length ≤ k) : (a ++ b ++ c).toList.length ≤ k := by
  simp only [String.toList_append, List.length_append]
  exact h
theorem hd_copyText {ty : FieldType} {n0 n1 : Nat} {sp dp n : Int32} {what : String} (hk : (Native.java_lang_System.arraycopy.kindName ty).toList.length ≤ 12) (h0 : n0 < 2 ^ 31) (h1 : n1 < 2 ^ 31) (h : copyFault ty ty n0 n1 sp dp n = some what) : hd_gu ("arraycopy: " ++ what) := by
  have k0 := hd_arrText hk h0
  have k1 := hd_arrText hk h1
  have key : what.toList.length ≤ 89 := by
    have p1 := int32_print sp
    have p2 := int32_print dp
    have p3 := int32_print n
    have l1 := Int32.toInt_lt sp
    have l2 := Int32.toInt_lt dp
    have l3 := Int32.toInt_lt n
    have a1 : (toString "source index ").toList.length = 13 := by decide
    have a2 : (toString " out of bounds for ").toList.length = 19 := by decide
    have a3 : (toString "destination index ").toList.length = 18 := by decide
    have a4 : (toString "length ").toList.length = 7 := by decide
    have a5 : (toString " is negative").toList.length = 12 := by decide
    have a6 : (toString "last source index ").toList.length = 18 := by decide
    have a7 : (toString "last destination index ").toList.length = 23 := by decide
    unfold copyFault at h
    split at h
    · cases h
      refine hd_w1 ?_
      rw [show (toString (toString (Native.java_lang_System.arraycopy.kindName ty) ++ toString "[" ++ toString n0 ++ toString "]")).toList.length = (toString (Native.java_lang_System.arraycopy.kindName ty) ++ toString "[" ++ toString n0 ++ toString "]").toList.length from rfl]
      omega
    split at h
    · cases h
      refine hd_w1 ?_
      rw [show (toString (toString (Native.java_lang_System.arraycopy.kindName ty) ++ toString "[" ++ toString n1 ++ toString "]")).toList.length = (toString (Native.java_lang_System.arraycopy.kindName ty) ++ toString "[" ++ toString n1 ++ toString "]").toList.length from rfl]
      omega
    split at h
    · cases h
      refine hd_w0 ?_
      omega
    split at h
    · rename_i c1 c2 c3 c4
      cases h
      have p4 := hd_ip (z := sp.toInt + n.toInt) (by omega) (by omega)
      refine hd_w1 ?_
      rw [show (toString (toString (Native.java_lang_System.arraycopy.kindName ty) ++ toString "[" ++ toString n0 ++ toString "]")).toList.length = (toString (Native.java_lang_System.arraycopy.kindName ty) ++ toString "[" ++ toString n0 ++ toString "]").toList.length from rfl]
      omega
    split at h
    · rename_i c1 c2 c3 c4 c5
      cases h
      have p4 := hd_ip (z := dp.toInt + n.toInt) (by omega) (by omega)
      refine hd_w1 ?_
      rw [show (toString (toString (Native.java_lang_System.arraycopy.kindName ty) ++ toString "[" ++ toString n1 ++ toString "]")).toList.length = (toString (Native.java_lang_System.arraycopy.kindName ty) ++ toString "[" ++ toString n1 ++ toString "]").toList.length from rfl]
      omega
    · cases h
  refine hd_gu_of (hd_hh _ (show ("arraycopy: " : String).toList.head? = some 'a' by decide)) ?_
  rw [String.toList_append, List.length_append]
  have a1 : ("arraycopy: " : String).toList.length = 11 := by decide
  omega
end
section
variable {p : Program} {l : Launch} {e : Env} {R : Room} {s : State} {m : MethodId} {args : Array Value} {below : List Frame} {meth : Method} {c : Code} {H : Heap} {locs : List Loc} {cells slots : Nat} {Q : State → Prop} {cc : ByteArray} {pc : Nat} {ls : Array Slot} {rest : List Value} {D : va_G} {cl : List vw_C} {ws : va_W} {tys : List (ClassId × FieldType)} {A : Nat → Prop}
/-- System.arraycopy between two int, short or byte arrays of one kind, out of range -/
theorem hd_copyZ (hexec : p.tables.exec = Jvm.exec) (hl : l.stackTraces = false) (hb : c.code = cc) {own : String} {index : Nat} {names : List String} (hown : s.vm.findClass own = some m.cls) (hlink : (Cond.methodLink own index arraycopyName).before args s = true) (hnat : (Cond.native arraycopyName).before args s = true) (hstat : (Cond.static arraycopyName).before args s = true) (hini : (Cond.initialized "java/lang/System").before args s = true)
    (hK : va_K D cl tys s) (hP : va_P D cl ws H) {q0 q1 t0 a0 a n0 n1 : Nat} {c0 : ClassId} {ty : FieldType} {f g : Nat → Int32} (ha0 : ws[q0]? = some (a0, .inl (c0, n0, .inl f))) (ha1 : ws[q1]? = some (a, .inl (c0, n1, .inl g))) (ht0 : tys[t0]? = some (c0, ty)) (hty : ty = .int ∨ ty = .byte ∨ ty = .short)
    {sp dp n : Int32} {what : String} (hf : copyFault ty ty n0 n1 sp dp n = some what) (h0 : n0 < 2 ^ 31) (h1 : n1 < 2 ^ 31)
    (hnames : ∀ n ∈ names, Bundle.fit n = true)
    (hat : ∀ w ∈ vx_atM "java/lang/ArrayIndexOutOfBoundsException" names, w.before args s = true) (hgood : ∀ w ∈ vx_atM "java/lang/ArrayIndexOutOfBoundsException" names, vx_ot w = true)
    (hU : vx_Zq Bundle.tN "UNASSIGNED_STACK" Bundle.steD A s s.heap) (hN : vx_Zq Bundle.tN "SUPPRESSED_SENTINEL" Bundle.listD A s s.heap) (hS : va_S A s.heap H locs) (hsize : ls.size = c.maxLocals)
    (hRframes : names.length + 5 < R.frames) (hRlocals : (rest.map fun v => v.category).sum + 10240 ≤ R.locals) (hshort : 13 * names.length + 55 ≤ 10240) (hRcells : cells + 3 ≤ R.cells) (hRslots : slots + 410 ≤ R.slots) (hlocks : meth.locks = false)
    (hdg : decode cc pc = .ok (.invokestatic index, 3))
    (k : ∀ (H1 : Heap) (q9 : Addr) (ce : Cell), H.size ≤ H1.size → (∀ q : Nat, q < H.size → H1[q]? = H[q]?) → va_S A s.heap H1 locs → H1[q9]? = some ce → ce.vm = .none → s.vm.findClass "java/lang/ArrayIndexOutOfBoundsException" = some ce.cls → vx_W p l e R s m args below meth c H1 locs (cells + 3) (slots + 410) Q (F0 m pc ls rest) q9) :
    W p l e R s m args below meth c H locs cells slots Q (F0 m pc ls (.int n :: .int dp :: .ref a :: .int sp :: .ref a0 :: rest)) := by
  have hkn : (Native.java_lang_System.arraycopy.kindName ty).toList.length ≤ 12 := by rcases hty with rfl | rfl | rfl <;> decide
  obtain ⟨htext, hnb⟩ := hd_copyText hkn h0 h1 hf
  intro T0 hT0 X0
  have hc0 : H[a0]? = some (vp_cell c0 (n0, .inl f)) := hP q0 _ ha0
  have hc1 : H[a]? = some (vp_cell c0 (n1, .inl g)) := hP q1 _ ha1
  obtain ⟨-, k0, hk0, cm0, hkk0⟩ := (hK.2 t0 _ ht0).1 n0 (fun j => .int (f j))
  obtain ⟨r, kS, methS, hnS, hmS, hkS, Nn⟩ := NativeOf.of_static hnat hstat (ps := [.object "java/lang/Object", .int, .object "java/lang/Object", .int, .int]) (ret := none) (by decide +kernel)
  have hinitS : kS.init = .initialized := Cond.initialized_spec (findClass_of_methodNamed hnS) hkS hini
  obtain ⟨vm', X, step⟩ := X0.invokestatic hexec hown hlink hnS hmS Nn.static hkS hinitS (by decide) (g := F0 m pc ls (.int n :: .int dp :: .ref a :: .int sp :: .ref a0 :: rest)) rfl (argsL := [.ref a0, .int sp, .ref a, .int dp, .int n]) (rest := rest) (by rw [Nn.sig]; rfl) rfl (by rw [hb]; exact hdg)
  have hA' : s.vm.Alike vm' := X.warmed.alike
  have hT : (T0.setVm vm').heap = H := hT0
  generalize hTT : T0.setVm vm' = T at X step hT
  obtain ⟨kS', N'⟩ := Nn.alike hA'
  have hvmT : T.vm = vm' := by rw [← hTT]; rfl
  rw [← hvmT] at N'
  obtain ⟨k0', hk0', he0⟩ := hA'.2.2 _ _ hk0
  have htr : e.platform.stackTraces = false := (show e.platform.stackTraces = l.stackTraces by rw [X.admits.platform]).trans hl
  have Y := vx_rebase X (R' := { frames := R.frames, locals := R.locals, cells := 3, slots := 410 }) (Nat.le_refl _) (Nat.le_refl _) hRcells hRslots
  have hhp : ((T.setVm s.vm).setFrames (.invoking m args :: below)).heap = H := hT
  have hW0 : s.WarmedH ((T.setVm s.vm).setFrames (.invoking m args :: below)).vm := State.WarmedH.refl s
  have hat' : ∀ w ∈ vx_atM "java/lang/ArrayIndexOutOfBoundsException" names, w.before args ((T.setVm s.vm).setFrames (.invoking m args :: below)) = true := fun w hw => vx_ot_at hW0 rfl (hgood w hw) (hat w hw)
  have hU' : vx_Zq Bundle.tN "UNASSIGNED_STACK" Bundle.steD A ((T.setVm s.vm).setFrames (.invoking m args :: below)) ((T.setVm s.vm).setFrames (.invoking m args :: below)).heap := by rw [hhp]; exact vx_Zq.moved hW0.alike (hU.kept hS.2.1)
  have hN' : vx_Zq Bundle.tN "SUPPRESSED_SENTINEL" Bundle.listD A ((T.setVm s.vm).setFrames (.invoking m args :: below)) ((T.setVm s.vm).setFrames (.invoking m args :: below)).heap := by rw [hhp]; exact vx_Zq.moved hW0.alike (hN.kept hS.2.1)
  obtain ⟨S, q, ce, st, Z, hce, hcl', hv⟩ := hd_vmAtN Y hexec htr (cls := "java/lang/ArrayIndexOutOfBoundsException") (names := names) (text := "arraycopy: " ++ what) (by decide +kernel) hnames (by decide) (by decide) (vx_own hat' (vx_isRefq hU'.1) (vx_isRefq hN'.1) hU'.2.word hN'.2.word) (fun x hx => nomatch hx) htext
    (by rw [Launch.admits_arrayLengthLimit X.admits]; omega) (by rw [Launch.admits_maxHeapBytes X.admits]; simp only [componentBytes]; omega)
    (g := F0 m pc ls rest) hsize (nf := { method := r, args := #[.ref a0, .int sp, .ref a, .int dp, .int n], locked := none }) rfl hRframes (by show 2 * 0 + (rest.map fun v => v.category).sum + 10240 ≤ R.locals; omega) hshort (by show 0 + 3 ≤ 3; omega) (by show 0 + (_ + 4 + 6) ≤ 410; omega) hlocks
  obtain ⟨f1, f2⟩ := vx_frame Z.same
  have f1' : H.size ≤ S.heap.size := by rw [← hT]; exact f1
  have f2' : ∀ q : Nat, q < H.size → S.heap[q]? = H[q]? := fun q hq => by
    rw [← hT]
    exact f2 q (by rw [← hT] at hq; exact hq) (fun z hz => nomatch hz)
  have X5 := vx_back9 X Y Z
  have X6 : Stand p l e R s m args below meth c S locs (cells + 3) (slots + 410) := { X5 with same := X5.same.mono (by omega) (by omega) }
  obtain ⟨t, a1, b1⟩ := k S.heap q ce f1' f2' ⟨Nat.le_trans hS.1 f1', fun q h1 h2 => (f2' q (Nat.lt_of_lt_of_le h1 hS.1)).trans (hS.2.1 q h1 h2), hS.2.2⟩ hce hv hcl' S rfl X6
  refine ⟨t, step _ (fun acts => ?_), b1⟩
  have hseen : seenByNative methS #[.ref a0, .int sp, .ref a, .int dp, .int n] = #[.ref a0, .int sp, .ref a, .int dp, .int n] := by
    simp [seenByNative, N'.static, N'.sig, narrow]
  have hw5 : nativeFrameWords "java/lang/System" "arraycopy" 5 ≤ 1000 := by decide
  have hroom := X.notFull (g := F0 m pc ls rest) hsize (vars := nativeFrameWords "java/lang/System" "arraycopy" 5) (show 1 ≤ R.frames by omega) (show 2 * 0 + (rest.map fun v => v.category).sum + (nativeFrameWords "java/lang/System" "arraycopy" 5 + 11) ≤ R.locals by omega)
  obtain ⟨g₀, hfr⟩ := X.frames_eq
  obtain ⟨g₁, hfrB⟩ := X6.frames_eq
  have hcurT : T.cur < T.threads.size := State.cur_lt_of_frames hfr
  have hUU : (T.setTop (F0 m pc ls rest)).pushFrame (.native { method := r, args := seenByNative methS #[.ref a0, .int sp, .ref a, .int dp, .int n], locked := none }) = T.setFrames (.native { method := r, args := #[.ref a0, .int sp, .ref a, .int dp, .int n], locked := none } :: .java (F0 m pc ls rest) :: below) := by
    rw [hseen, State.pushFrame, State.frames_setTop _ hfr, State.setTop_of_frames _ hfr, State.setFrames_setFrames]
  refine Steps.nativeThrowsNote (g := F0 m pc ls rest) (row := arraycopyRow) (cls := "java/lang/ArrayIndexOutOfBoundsException") (msg := some ("arraycopy: " ++ what)) (T := fun u => u) X.here acts N'.cls N'.meth N'.boot N'.native N'.noCode N'.noLock
    (by rw [N'.className, N'.name, N'.desc]; exact arraycopy_row p)
    (by rw [N'.className, N'.name]; exact hroom) ?_ ?_
  · intro E hE
    rw [hUU] at hE ⊢
    rw [hseen, arraycopyRow_sem]
    exact W.arraycopy_bounds (cs := vp_cell c0 (n0, .inl f)) (cd := vp_cell c0 (n1, .inl g)) (ks := k0') (kd := k0') (sComp := cm0) (dComp := cm0) (sType := ty) (dType := ty)
      (by show T.heap[a0]? = _; rw [hT]; exact hc0) (by show T.heap[a]? = _; rw [hT]; exact hc1) (fun _ h => by cases h) (fun _ h => by cases h)
      (by show T.vm.classes[c0]? = _; rw [← hTT]; exact hk0') (by show T.vm.classes[c0]? = _; rw [← hTT]; exact hk0') (by rw [he0]; exact hkk0) (by rw [he0]; exact hkk0)
      (by rcases hty with rfl | rfl | rfl <;> rfl)
      (by show copyFault ty ty (arrV c0 n0 (fun j => .int (f j))).slots.size (arrV c0 n1 (fun j => .int (g j))).slots.size sp dp n = _; rw [arrV_size, arrV_size]; exact hf) (hE _)
  · show Steps p.tables e below (((T.setTop (F0 m pc ls rest)).pushFrame (.native { method := r, args := seenByNative methS #[.ref a0, .int sp, .ref a, .int dp, .int n], locked := none })).pushFrame (.throwNew "java/lang/ArrayIndexOutOfBoundsException" (some ("arraycopy: " ++ what)) none)) t
    rw [hUU, State.pushFrame, State.frames_setFrames _ hcurT, State.setFrames_setFrames]
    refine st _ ?_
    refine Steps.throwingLeavesNative ⟨X6.here.running, X6.here.runnable, X6.here.alone⟩ (State.cur_lt_of_frames hfrB) ⟨[.java (F0 m pc ls rest)], rfl⟩ rfl rfl ?_
    have hV : (S.setTop (F0 m pc ls rest)).pushFrame (.throwing q) = S.setFrames (.throwing q :: .java (F0 m pc ls rest) :: below) := by
      rw [State.pushFrame, State.frames_setTop _ hfrB, State.setTop_of_frames _ hfrB, State.setFrames_setFrames]
    rw [← hV]
    exact a1
end
