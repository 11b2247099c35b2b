-- ===== PART A: goes FIRST, ahead of the names: the tables' words, and 'selects' of the private methods out of them =====
/-- a private method of a class that the tables say can be made, by its rows of tables_1 -/
def lw_okq (q : MethodName × Nat) : Prop := (q.1.cls ≠ "java/lang/invoke/MethodHandle" ∧ q.1.cls ≠ "java/lang/invoke/VarHandle") ∧ Cond.instantiable q.1.cls q.2 ∈ tables_1 ∧ Cond.privateMethod q.1 ∈ tables_1 ∧ Cond.instanceMethod q.1 ∈ tables_1
set_option maxRecDepth 100000
theorem lw_t1 {w : Cond} (h : w ∈ tables_1_1) : w ∈ tables_1 := List.mem_append_left _ h
theorem lw_t2 {w : Cond} (h : w ∈ tables_1_2) : w ∈ tables_1 := List.mem_append_right _ (List.mem_append_left _ h)
theorem lw_t3 {w : Cond} (h : w ∈ tables_1_3) : w ∈ tables_1 := List.mem_append_right _ (List.mem_append_right _ (List.mem_append_left _ h))
theorem lw_t4 {w : Cond} (h : w ∈ tables_1_4) : w ∈ tables_1 := List.mem_append_right _ (List.mem_append_right _ (List.mem_append_right _ (List.mem_append_left _ h)))
theorem lw_t5 {w : Cond} (h : w ∈ tables_1_5) : w ∈ tables_1 := List.mem_append_right _ (List.mem_append_right _ (List.mem_append_right _ (List.mem_append_right _ (List.mem_append_left _ h))))
theorem lw_t6 {w : Cond} (h : w ∈ tables_1_6) : w ∈ tables_1 := List.mem_append_right _ (List.mem_append_right _ (List.mem_append_right _ (List.mem_append_right _ (List.mem_append_right _ (List.mem_append_left _ h)))))
theorem lw_t7 {w : Cond} (h : w ∈ tables_1_7) : w ∈ tables_1 := List.mem_append_right _ (List.mem_append_right _ (List.mem_append_right _ (List.mem_append_right _ (List.mem_append_right _ (List.mem_append_right _ h)))))
theorem lw_p0 : lw_okq (⟨"java/lang/NullPointerException", "getExtendedNPEMessage", "()Ljava/lang/String;"⟩, 8) := ⟨⟨by decide +kernel, by decide +kernel⟩, lw_t1 (List.mem_of_getElem? (i := 73) rfl), lw_t1 (List.mem_of_getElem? (i := 71) rfl), lw_t1 (List.mem_of_getElem? (i := 72) rfl)⟩
theorem lw_p1 : lw_okq (⟨"java/lang/Throwable", "fillInStackTrace", "(I)Ljava/lang/Throwable;"⟩, 6) := ⟨⟨by decide +kernel, by decide +kernel⟩, lw_t1 (List.mem_of_getElem? (i := 85) rfl), lw_t1 (List.mem_of_getElem? (i := 83) rfl), lw_t1 (List.mem_of_getElem? (i := 84) rfl)⟩
theorem lw_p2 : lw_okq (⟨"BladeBetweenThumbs", "isShelf", "(I)Z"⟩, 11) := ⟨⟨by decide +kernel, by decide +kernel⟩, lw_t1 (List.mem_of_getElem? (i := 132) rfl), lw_t1 (List.mem_of_getElem? (i := 130) rfl), lw_t1 (List.mem_of_getElem? (i := 131) rfl)⟩
theorem lw_p3 : lw_okq (⟨"BladeBetweenThumbs", "reads", "([B)I"⟩, 11) := ⟨⟨by decide +kernel, by decide +kernel⟩, lw_t1 (List.mem_of_getElem? (i := 132) rfl), lw_t1 (List.mem_of_getElem? (i := 139) rfl), lw_t1 (List.mem_of_getElem? (i := 140) rfl)⟩
theorem lw_p4 : lw_okq (⟨"BladeBetweenThumbs$HedgeReader", "statement", "()LBladeBetweenThumbs$Told;"⟩, 2) := ⟨⟨by decide +kernel, by decide +kernel⟩, lw_t1 (List.mem_of_getElem? (i := 143) rfl), lw_t1 (List.mem_of_getElem? (i := 160) rfl), lw_t1 (List.mem_of_getElem? (i := 161) rfl)⟩
theorem lw_p5 : lw_okq (⟨"BladeBetweenThumbs$HedgeReader", "sign", "()I"⟩, 2) := ⟨⟨by decide +kernel, by decide +kernel⟩, lw_t1 (List.mem_of_getElem? (i := 143) rfl), lw_t1 (List.mem_of_getElem? (i := 166) rfl), lw_t1 (List.mem_of_getElem? (i := 167) rfl)⟩
theorem lw_p6 : lw_okq (⟨"BladeBetweenThumbs$HedgeReader", "reads", "(LBladeBetweenThumbs$Told;)V"⟩, 2) := ⟨⟨by decide +kernel, by decide +kernel⟩, lw_t1 (List.mem_of_getElem? (i := 143) rfl), lw_t1 (List.mem_of_getElem? (i := 192) rfl), lw_t1 (List.mem_of_getElem? (i := 193) rfl)⟩
theorem lw_p7 : lw_okq (⟨"BladeBetweenThumbs$HedgeReader", "number", "(I)I"⟩, 2) := ⟨⟨by decide +kernel, by decide +kernel⟩, lw_t1 (List.mem_of_getElem? (i := 143) rfl), lw_t1 (List.mem_of_getElem? (i := 196) rfl), lw_t1 (List.mem_of_getElem? (i := 197) rfl)⟩
theorem lw_p8 : lw_okq (⟨"BladeBetweenThumbs$HedgeReader", "broken", "()LBladeBetweenThumbs$Broken;"⟩, 2) := ⟨⟨by decide +kernel, by decide +kernel⟩, lw_t1 (List.mem_of_getElem? (i := 143) rfl), lw_t1 (List.mem_of_getElem? (i := 201) rfl), lw_t1 (List.mem_of_getElem? (i := 202) rfl)⟩
theorem lw_p9 : lw_okq (⟨"BladeBetweenThumbs", "comes", "(LBladeBetweenThumbs$Told;)Z"⟩, 11) := ⟨⟨by decide +kernel, by decide +kernel⟩, lw_t1 (List.mem_of_getElem? (i := 132) rfl), lw_t2 (List.mem_of_getElem? (i := 1) rfl), lw_t2 (List.mem_of_getElem? (i := 2) rfl)⟩
theorem lw_p10 : lw_okq (⟨"BladeBetweenThumbs", "isTry", "(IIIII)Z"⟩, 11) := ⟨⟨by decide +kernel, by decide +kernel⟩, lw_t1 (List.mem_of_getElem? (i := 132) rfl), lw_t3 (List.mem_of_getElem? (i := 84) rfl), lw_t3 (List.mem_of_getElem? (i := 85) rfl)⟩
theorem lw_p11 : lw_okq (⟨"BladeBetweenThumbs", "canSound", "(I)Z"⟩, 11) := ⟨⟨by decide +kernel, by decide +kernel⟩, lw_t1 (List.mem_of_getElem? (i := 132) rfl), lw_t3 (List.mem_of_getElem? (i := 143) rfl), lw_t3 (List.mem_of_getElem? (i := 144) rfl)⟩
theorem lw_p12 : lw_okq (⟨"BladeBetweenThumbs", "waysOf", "(III)I"⟩, 11) := ⟨⟨by decide +kernel, by decide +kernel⟩, lw_t1 (List.mem_of_getElem? (i := 132) rfl), lw_t3 (List.mem_of_getElem? (i := 181) rfl), lw_t3 (List.mem_of_getElem? (i := 182) rfl)⟩
theorem lw_p13 : lw_okq (⟨"BladeBetweenThumbs", "bladesFor", "(II)I"⟩, 11) := ⟨⟨by decide +kernel, by decide +kernel⟩, lw_t1 (List.mem_of_getElem? (i := 132) rfl), lw_t3 (List.mem_of_getElem? (i := 190) rfl), lw_t3 (List.mem_of_getElem? (i := 191) rfl)⟩
theorem lw_p14 : lw_okq (⟨"BladeBetweenThumbs", "canAll", "(II)Z"⟩, 11) := ⟨⟨by decide +kernel, by decide +kernel⟩, lw_t1 (List.mem_of_getElem? (i := 132) rfl), lw_t3 (List.mem_of_getElem? (i := 194) rfl), lw_t3 (List.mem_of_getElem? (i := 195) rfl)⟩
theorem lw_p15 : lw_okq (⟨"BladeBetweenThumbs", "lastsBy", "(III)I"⟩, 11) := ⟨⟨by decide +kernel, by decide +kernel⟩, lw_t1 (List.mem_of_getElem? (i := 132) rfl), lw_t3 (List.mem_of_getElem? (i := 205) rfl), lw_t3 (List.mem_of_getElem? (i := 206) rfl)⟩
def lw_privs_1 : List (MethodName × Nat) := [(⟨"java/lang/NullPointerException", "getExtendedNPEMessage", "()Ljava/lang/String;"⟩, 8), (⟨"java/lang/Throwable", "fillInStackTrace", "(I)Ljava/lang/Throwable;"⟩, 6), (⟨"BladeBetweenThumbs", "isShelf", "(I)Z"⟩, 11), (⟨"BladeBetweenThumbs", "reads", "([B)I"⟩, 11), (⟨"BladeBetweenThumbs$HedgeReader", "statement", "()LBladeBetweenThumbs$Told;"⟩, 2), (⟨"BladeBetweenThumbs$HedgeReader", "sign", "()I"⟩, 2), (⟨"BladeBetweenThumbs$HedgeReader", "reads", "(LBladeBetweenThumbs$Told;)V"⟩, 2), (⟨"BladeBetweenThumbs$HedgeReader", "number", "(I)I"⟩, 2), (⟨"BladeBetweenThumbs$HedgeReader", "broken", "()LBladeBetweenThumbs$Broken;"⟩, 2), (⟨"BladeBetweenThumbs", "comes", "(LBladeBetweenThumbs$Told;)Z"⟩, 11), (⟨"BladeBetweenThumbs", "isTry", "(IIIII)Z"⟩, 11), (⟨"BladeBetweenThumbs", "canSound", "(I)Z"⟩, 11), (⟨"BladeBetweenThumbs", "waysOf", "(III)I"⟩, 11), (⟨"BladeBetweenThumbs", "bladesFor", "(II)I"⟩, 11), (⟨"BladeBetweenThumbs", "canAll", "(II)Z"⟩, 11), (⟨"BladeBetweenThumbs", "lastsBy", "(III)I"⟩, 11)]
theorem lw_r1 : ∀ q ∈ lw_privs_1, lw_okq q := List.forall_mem_cons.mpr ⟨lw_p0, List.forall_mem_cons.mpr ⟨lw_p1, List.forall_mem_cons.mpr ⟨lw_p2, List.forall_mem_cons.mpr ⟨lw_p3, List.forall_mem_cons.mpr ⟨lw_p4, List.forall_mem_cons.mpr ⟨lw_p5, List.forall_mem_cons.mpr ⟨lw_p6, List.forall_mem_cons.mpr ⟨lw_p7, List.forall_mem_cons.mpr ⟨lw_p8, List.forall_mem_cons.mpr ⟨lw_p9, List.forall_mem_cons.mpr ⟨lw_p10, List.forall_mem_cons.mpr ⟨lw_p11, List.forall_mem_cons.mpr ⟨lw_p12, List.forall_mem_cons.mpr ⟨lw_p13, List.forall_mem_cons.mpr ⟨lw_p14, List.forall_mem_cons.mpr ⟨lw_p15, fun _ h => absurd h List.not_mem_nil⟩⟩⟩⟩⟩⟩⟩⟩⟩⟩⟩⟩⟩⟩⟩⟩
theorem lw_p16 : lw_okq (⟨"BladeBetweenThumbs", "minds", "()V"⟩, 11) := ⟨⟨by decide +kernel, by decide +kernel⟩, lw_t1 (List.mem_of_getElem? (i := 132) rfl), lw_t3 (List.mem_of_getElem? (i := 209) rfl), lw_t3 (List.mem_of_getElem? (i := 210) rfl)⟩
theorem lw_p17 : lw_okq (⟨"BladeBetweenThumbs", "partsAt", "(III)J"⟩, 11) := ⟨⟨by decide +kernel, by decide +kernel⟩, lw_t1 (List.mem_of_getElem? (i := 132) rfl), lw_t3 (List.mem_of_getElem? (i := 233) rfl), lw_t3 (List.mem_of_getElem? (i := 234) rfl)⟩
theorem lw_p18 : lw_okq (⟨"BladeBetweenThumbs", "whereTold", "(IIII)I"⟩, 11) := ⟨⟨by decide +kernel, by decide +kernel⟩, lw_t1 (List.mem_of_getElem? (i := 132) rfl), lw_t4 (List.mem_of_getElem? (i := 23) rfl), lw_t4 (List.mem_of_getElem? (i := 24) rfl)⟩
theorem lw_p19 : lw_okq (⟨"BladeBetweenThumbs", "allTries", "(I)I"⟩, 11) := ⟨⟨by decide +kernel, by decide +kernel⟩, lw_t1 (List.mem_of_getElem? (i := 132) rfl), lw_t4 (List.mem_of_getElem? (i := 31) rfl), lw_t4 (List.mem_of_getElem? (i := 32) rfl)⟩
theorem lw_p20 : lw_okq (⟨"BladeBetweenThumbs", "notRow", "(I)I"⟩, 11) := ⟨⟨by decide +kernel, by decide +kernel⟩, lw_t1 (List.mem_of_getElem? (i := 132) rfl), lw_t4 (List.mem_of_getElem? (i := 43) rfl), lw_t4 (List.mem_of_getElem? (i := 44) rfl)⟩
theorem lw_p21 : lw_okq (⟨"BladeBetweenThumbs", "firstForged", "(Ljava/lang/Object;LBladeBetweenThumbs$Blow;)I"⟩, 11) := ⟨⟨by decide +kernel, by decide +kernel⟩, lw_t1 (List.mem_of_getElem? (i := 132) rfl), lw_t4 (List.mem_of_getElem? (i := 52) rfl), lw_t4 (List.mem_of_getElem? (i := 53) rfl)⟩
theorem lw_p22 : lw_okq (⟨"BladeBetweenThumbs", "forcesOf", "(LBladeBetweenThumbs$Blow;I)I"⟩, 11) := ⟨⟨by decide +kernel, by decide +kernel⟩, lw_t1 (List.mem_of_getElem? (i := 132) rfl), lw_t4 (List.mem_of_getElem? (i := 62) rfl), lw_t4 (List.mem_of_getElem? (i := 63) rfl)⟩
theorem lw_p23 : lw_okq (⟨"BladeBetweenThumbs", "notRows", "(II)I"⟩, 11) := ⟨⟨by decide +kernel, by decide +kernel⟩, lw_t1 (List.mem_of_getElem? (i := 132) rfl), lw_t4 (List.mem_of_getElem? (i := 114) rfl), lw_t4 (List.mem_of_getElem? (i := 115) rfl)⟩
theorem lw_p24 : lw_okq (⟨"BladeBetweenThumbs", "notForces", "(I)I"⟩, 11) := ⟨⟨by decide +kernel, by decide +kernel⟩, lw_t1 (List.mem_of_getElem? (i := 132) rfl), lw_t4 (List.mem_of_getElem? (i := 118) rfl), lw_t4 (List.mem_of_getElem? (i := 119) rfl)⟩
theorem lw_p25 : lw_okq (⟨"BladeBetweenThumbs", "does", "(III)I"⟩, 11) := ⟨⟨by decide +kernel, by decide +kernel⟩, lw_t1 (List.mem_of_getElem? (i := 132) rfl), lw_t4 (List.mem_of_getElem? (i := 122) rfl), lw_t4 (List.mem_of_getElem? (i := 123) rfl)⟩
theorem lw_p26 : lw_okq (⟨"BladeBetweenThumbs", "triesDrawn", "()Z"⟩, 11) := ⟨⟨by decide +kernel, by decide +kernel⟩, lw_t1 (List.mem_of_getElem? (i := 132) rfl), lw_t4 (List.mem_of_getElem? (i := 137) rfl), lw_t4 (List.mem_of_getElem? (i := 138) rfl)⟩
theorem lw_p27 : lw_okq (⟨"BladeBetweenThumbs", "draw", "(I)I"⟩, 11) := ⟨⟨by decide +kernel, by decide +kernel⟩, lw_t1 (List.mem_of_getElem? (i := 132) rfl), lw_t4 (List.mem_of_getElem? (i := 141) rfl), lw_t4 (List.mem_of_getElem? (i := 142) rfl)⟩
theorem lw_p28 : lw_okq (⟨"BladeBetweenThumbsModel", "wrongRow", "(II)I"⟩, 22) := ⟨⟨by decide +kernel, by decide +kernel⟩, lw_t5 (List.mem_of_getElem? (i := 207) rfl), lw_t6 (List.mem_of_getElem? (i := 44) rfl), lw_t6 (List.mem_of_getElem? (i := 45) rfl)⟩
theorem lw_p29 : lw_okq (⟨"BladeBetweenThumbsModel", "readsStatement", "()Z"⟩, 22) := ⟨⟨by decide +kernel, by decide +kernel⟩, lw_t5 (List.mem_of_getElem? (i := 207) rfl), lw_t6 (List.mem_of_getElem? (i := 54) rfl), lw_t6 (List.mem_of_getElem? (i := 55) rfl)⟩
theorem lw_p30 : lw_okq (⟨"BladeBetweenThumbsModel", "here", "()I"⟩, 22) := ⟨⟨by decide +kernel, by decide +kernel⟩, lw_t5 (List.mem_of_getElem? (i := 207) rfl), lw_t6 (List.mem_of_getElem? (i := 58) rfl), lw_t6 (List.mem_of_getElem? (i := 59) rfl)⟩
theorem lw_p31 : lw_okq (⟨"BladeBetweenThumbsModel", "readsNumber", "(II)Z"⟩, 22) := ⟨⟨by decide +kernel, by decide +kernel⟩, lw_t5 (List.mem_of_getElem? (i := 207) rfl), lw_t6 (List.mem_of_getElem? (i := 62) rfl), lw_t6 (List.mem_of_getElem? (i := 63) rfl)⟩
def lw_privs_2 : List (MethodName × Nat) := [(⟨"BladeBetweenThumbs", "minds", "()V"⟩, 11), (⟨"BladeBetweenThumbs", "partsAt", "(III)J"⟩, 11), (⟨"BladeBetweenThumbs", "whereTold", "(IIII)I"⟩, 11), (⟨"BladeBetweenThumbs", "allTries", "(I)I"⟩, 11), (⟨"BladeBetweenThumbs", "notRow", "(I)I"⟩, 11), (⟨"BladeBetweenThumbs", "firstForged", "(Ljava/lang/Object;LBladeBetweenThumbs$Blow;)I"⟩, 11), (⟨"BladeBetweenThumbs", "forcesOf", "(LBladeBetweenThumbs$Blow;I)I"⟩, 11), (⟨"BladeBetweenThumbs", "notRows", "(II)I"⟩, 11), (⟨"BladeBetweenThumbs", "notForces", "(I)I"⟩, 11), (⟨"BladeBetweenThumbs", "does", "(III)I"⟩, 11), (⟨"BladeBetweenThumbs", "triesDrawn", "()Z"⟩, 11), (⟨"BladeBetweenThumbs", "draw", "(I)I"⟩, 11), (⟨"BladeBetweenThumbsModel", "wrongRow", "(II)I"⟩, 22), (⟨"BladeBetweenThumbsModel", "readsStatement", "()Z"⟩, 22), (⟨"BladeBetweenThumbsModel", "here", "()I"⟩, 22), (⟨"BladeBetweenThumbsModel", "readsNumber", "(II)Z"⟩, 22)]
theorem lw_r2 : ∀ q ∈ lw_privs_2, lw_okq q := List.forall_mem_cons.mpr ⟨lw_p16, List.forall_mem_cons.mpr ⟨lw_p17, List.forall_mem_cons.mpr ⟨lw_p18, List.forall_mem_cons.mpr ⟨lw_p19, List.forall_mem_cons.mpr ⟨lw_p20, List.forall_mem_cons.mpr ⟨lw_p21, List.forall_mem_cons.mpr ⟨lw_p22, List.forall_mem_cons.mpr ⟨lw_p23, List.forall_mem_cons.mpr ⟨lw_p24, List.forall_mem_cons.mpr ⟨lw_p25, List.forall_mem_cons.mpr ⟨lw_p26, List.forall_mem_cons.mpr ⟨lw_p27, List.forall_mem_cons.mpr ⟨lw_p28, List.forall_mem_cons.mpr ⟨lw_p29, List.forall_mem_cons.mpr ⟨lw_p30, List.forall_mem_cons.mpr ⟨lw_p31, fun _ h => absurd h List.not_mem_nil⟩⟩⟩⟩⟩⟩⟩⟩⟩⟩⟩⟩⟩⟩⟩⟩
theorem lw_p32 : lw_okq (⟨"BladeBetweenThumbsModel", "isDone", "(I)Z"⟩, 22) := ⟨⟨by decide +kernel, by decide +kernel⟩, lw_t5 (List.mem_of_getElem? (i := 207) rfl), lw_t6 (List.mem_of_getElem? (i := 69) rfl), lw_t6 (List.mem_of_getElem? (i := 70) rfl)⟩
theorem lw_p33 : lw_okq (⟨"BladeBetweenThumbsModel", "addsBlade", "(III)V"⟩, 22) := ⟨⟨by decide +kernel, by decide +kernel⟩, lw_t5 (List.mem_of_getElem? (i := 207) rfl), lw_t6 (List.mem_of_getElem? (i := 76) rfl), lw_t6 (List.mem_of_getElem? (i := 77) rfl)⟩
theorem lw_p34 : lw_okq (⟨"BladeBetweenThumbsModel", "addsThumbs", "(II)V"⟩, 22) := ⟨⟨by decide +kernel, by decide +kernel⟩, lw_t5 (List.mem_of_getElem? (i := 207) rfl), lw_t6 (List.mem_of_getElem? (i := 83) rfl), lw_t6 (List.mem_of_getElem? (i := 84) rfl)⟩
theorem lw_p35 : lw_okq (⟨"BladeBetweenThumbsModel", "addsBlow", "(II)V"⟩, 22) := ⟨⟨by decide +kernel, by decide +kernel⟩, lw_t5 (List.mem_of_getElem? (i := 207) rfl), lw_t6 (List.mem_of_getElem? (i := 90) rfl), lw_t6 (List.mem_of_getElem? (i := 91) rfl)⟩
theorem lw_p36 : lw_okq (⟨"BladeBetweenThumbsModel", "areAll", "(III)Z"⟩, 22) := ⟨⟨by decide +kernel, by decide +kernel⟩, lw_t5 (List.mem_of_getElem? (i := 207) rfl), lw_t6 (List.mem_of_getElem? (i := 97) rfl), lw_t6 (List.mem_of_getElem? (i := 98) rfl)⟩
theorem lw_p37 : lw_okq (⟨"BladeBetweenThumbsModel", "isBlade", "(I)Z"⟩, 22) := ⟨⟨by decide +kernel, by decide +kernel⟩, lw_t5 (List.mem_of_getElem? (i := 207) rfl), lw_t6 (List.mem_of_getElem? (i := 101) rfl), lw_t6 (List.mem_of_getElem? (i := 102) rfl)⟩
theorem lw_p38 : lw_okq (⟨"BladeBetweenThumbsModel", "isThumbs", "(I)Z"⟩, 22) := ⟨⟨by decide +kernel, by decide +kernel⟩, lw_t5 (List.mem_of_getElem? (i := 207) rfl), lw_t6 (List.mem_of_getElem? (i := 105) rfl), lw_t6 (List.mem_of_getElem? (i := 106) rfl)⟩
theorem lw_p39 : lw_okq (⟨"BladeBetweenThumbsModel", "isBlow", "(I)Z"⟩, 22) := ⟨⟨by decide +kernel, by decide +kernel⟩, lw_t5 (List.mem_of_getElem? (i := 207) rfl), lw_t6 (List.mem_of_getElem? (i := 109) rfl), lw_t6 (List.mem_of_getElem? (i := 110) rfl)⟩
theorem lw_p40 : lw_okq (⟨"BladeBetweenThumbsModel", "isSplit", "(I)Z"⟩, 22) := ⟨⟨by decide +kernel, by decide +kernel⟩, lw_t5 (List.mem_of_getElem? (i := 207) rfl), lw_t6 (List.mem_of_getElem? (i := 113) rfl), lw_t6 (List.mem_of_getElem? (i := 114) rfl)⟩
theorem lw_p41 : lw_okq (⟨"BladeBetweenThumbsModel", "bladeOf", "(II)I"⟩, 22) := ⟨⟨by decide +kernel, by decide +kernel⟩, lw_t5 (List.mem_of_getElem? (i := 207) rfl), lw_t6 (List.mem_of_getElem? (i := 117) rfl), lw_t6 (List.mem_of_getElem? (i := 118) rfl)⟩
theorem lw_p42 : lw_okq (⟨"BladeBetweenThumbsModel", "wears", "(II)I"⟩, 22) := ⟨⟨by decide +kernel, by decide +kernel⟩, lw_t5 (List.mem_of_getElem? (i := 207) rfl), lw_t6 (List.mem_of_getElem? (i := 121) rfl), lw_t6 (List.mem_of_getElem? (i := 122) rfl)⟩
theorem lw_p43 : lw_okq (⟨"BladeBetweenThumbsModel", "kind", "(I)I"⟩, 22) := ⟨⟨by decide +kernel, by decide +kernel⟩, lw_t5 (List.mem_of_getElem? (i := 207) rfl), lw_t6 (List.mem_of_getElem? (i := 125) rfl), lw_t6 (List.mem_of_getElem? (i := 126) rfl)⟩
theorem lw_p44 : lw_okq (⟨"BladeBetweenThumbsModel", "figure", "(I)I"⟩, 22) := ⟨⟨by decide +kernel, by decide +kernel⟩, lw_t5 (List.mem_of_getElem? (i := 207) rfl), lw_t6 (List.mem_of_getElem? (i := 129) rfl), lw_t6 (List.mem_of_getElem? (i := 130) rfl)⟩
theorem lw_p45 : lw_okq (⟨"BladeBetweenThumbsModel", "wrongKept", "(I)I"⟩, 22) := ⟨⟨by decide +kernel, by decide +kernel⟩, lw_t5 (List.mem_of_getElem? (i := 207) rfl), lw_t6 (List.mem_of_getElem? (i := 153) rfl), lw_t6 (List.mem_of_getElem? (i := 154) rfl)⟩
theorem lw_p46 : lw_okq (⟨"BladeBetweenThumbsModel", "low", "(III)I"⟩, 22) := ⟨⟨by decide +kernel, by decide +kernel⟩, lw_t5 (List.mem_of_getElem? (i := 207) rfl), lw_t6 (List.mem_of_getElem? (i := 172) rfl), lw_t6 (List.mem_of_getElem? (i := 173) rfl)⟩
theorem lw_p47 : lw_okq (⟨"BladeBetweenThumbsModel", "lowPlain", "(III)I"⟩, 22) := ⟨⟨by decide +kernel, by decide +kernel⟩, lw_t5 (List.mem_of_getElem? (i := 207) rfl), lw_t6 (List.mem_of_getElem? (i := 176) rfl), lw_t6 (List.mem_of_getElem? (i := 177) rfl)⟩
def lw_privs_3 : List (MethodName × Nat) := [(⟨"BladeBetweenThumbsModel", "isDone", "(I)Z"⟩, 22), (⟨"BladeBetweenThumbsModel", "addsBlade", "(III)V"⟩, 22), (⟨"BladeBetweenThumbsModel", "addsThumbs", "(II)V"⟩, 22), (⟨"BladeBetweenThumbsModel", "addsBlow", "(II)V"⟩, 22), (⟨"BladeBetweenThumbsModel", "areAll", "(III)Z"⟩, 22), (⟨"BladeBetweenThumbsModel", "isBlade", "(I)Z"⟩, 22), (⟨"BladeBetweenThumbsModel", "isThumbs", "(I)Z"⟩, 22), (⟨"BladeBetweenThumbsModel", "isBlow", "(I)Z"⟩, 22), (⟨"BladeBetweenThumbsModel", "isSplit", "(I)Z"⟩, 22), (⟨"BladeBetweenThumbsModel", "bladeOf", "(II)I"⟩, 22), (⟨"BladeBetweenThumbsModel", "wears", "(II)I"⟩, 22), (⟨"BladeBetweenThumbsModel", "kind", "(I)I"⟩, 22), (⟨"BladeBetweenThumbsModel", "figure", "(I)I"⟩, 22), (⟨"BladeBetweenThumbsModel", "wrongKept", "(I)I"⟩, 22), (⟨"BladeBetweenThumbsModel", "low", "(III)I"⟩, 22), (⟨"BladeBetweenThumbsModel", "lowPlain", "(III)I"⟩, 22)]
theorem lw_r3 : ∀ q ∈ lw_privs_3, lw_okq q := List.forall_mem_cons.mpr ⟨lw_p32, List.forall_mem_cons.mpr ⟨lw_p33, List.forall_mem_cons.mpr ⟨lw_p34, List.forall_mem_cons.mpr ⟨lw_p35, List.forall_mem_cons.mpr ⟨lw_p36, List.forall_mem_cons.mpr ⟨lw_p37, List.forall_mem_cons.mpr ⟨lw_p38, List.forall_mem_cons.mpr ⟨lw_p39, List.forall_mem_cons.mpr ⟨lw_p40, List.forall_mem_cons.mpr ⟨lw_p41, List.forall_mem_cons.mpr ⟨lw_p42, List.forall_mem_cons.mpr ⟨lw_p43, List.forall_mem_cons.mpr ⟨lw_p44, List.forall_mem_cons.mpr ⟨lw_p45, List.forall_mem_cons.mpr ⟨lw_p46, List.forall_mem_cons.mpr ⟨lw_p47, fun _ h => absurd h List.not_mem_nil⟩⟩⟩⟩⟩⟩⟩⟩⟩⟩⟩⟩⟩⟩⟩⟩
theorem lw_p48 : lw_okq (⟨"BladeBetweenThumbsModel", "slitOf", "(I)I"⟩, 22) := ⟨⟨by decide +kernel, by decide +kernel⟩, lw_t5 (List.mem_of_getElem? (i := 207) rfl), lw_t6 (List.mem_of_getElem? (i := 180) rfl), lw_t6 (List.mem_of_getElem? (i := 181) rfl)⟩
theorem lw_p49 : lw_okq (⟨"BladeBetweenThumbsModel", "high", "(III)I"⟩, 22) := ⟨⟨by decide +kernel, by decide +kernel⟩, lw_t5 (List.mem_of_getElem? (i := 207) rfl), lw_t6 (List.mem_of_getElem? (i := 187) rfl), lw_t6 (List.mem_of_getElem? (i := 188) rfl)⟩
theorem lw_p50 : lw_okq (⟨"BladeBetweenThumbsModel", "softest", "(II)I"⟩, 22) := ⟨⟨by decide +kernel, by decide +kernel⟩, lw_t5 (List.mem_of_getElem? (i := 207) rfl), lw_t6 (List.mem_of_getElem? (i := 191) rfl), lw_t6 (List.mem_of_getElem? (i := 192) rfl)⟩
theorem lw_p51 : lw_okq (⟨"BladeBetweenThumbsModel", "hardest", "(II)I"⟩, 22) := ⟨⟨by decide +kernel, by decide +kernel⟩, lw_t5 (List.mem_of_getElem? (i := 207) rfl), lw_t6 (List.mem_of_getElem? (i := 195) rfl), lw_t6 (List.mem_of_getElem? (i := 196) rfl)⟩
theorem lw_p52 : lw_okq (⟨"BladeBetweenThumbsModel", "isTold", "(IIIII)Z"⟩, 22) := ⟨⟨by decide +kernel, by decide +kernel⟩, lw_t5 (List.mem_of_getElem? (i := 207) rfl), lw_t6 (List.mem_of_getElem? (i := 203) rfl), lw_t6 (List.mem_of_getElem? (i := 204) rfl)⟩
theorem lw_p53 : lw_okq (⟨"BladeBetweenThumbsModel", "isSound", "(IIIII)Z"⟩, 22) := ⟨⟨by decide +kernel, by decide +kernel⟩, lw_t5 (List.mem_of_getElem? (i := 207) rfl), lw_t6 (List.mem_of_getElem? (i := 207) rfl), lw_t6 (List.mem_of_getElem? (i := 208) rfl)⟩
theorem lw_p54 : lw_okq (⟨"BladeBetweenThumbsModel", "isTight", "(IIII)Z"⟩, 22) := ⟨⟨by decide +kernel, by decide +kernel⟩, lw_t5 (List.mem_of_getElem? (i := 207) rfl), lw_t6 (List.mem_of_getElem? (i := 211) rfl), lw_t6 (List.mem_of_getElem? (i := 212) rfl)⟩
theorem lw_p55 : lw_okq (⟨"BladeBetweenThumbsModel", "gripOf", "(I)I"⟩, 22) := ⟨⟨by decide +kernel, by decide +kernel⟩, lw_t5 (List.mem_of_getElem? (i := 207) rfl), lw_t6 (List.mem_of_getElem? (i := 215) rfl), lw_t6 (List.mem_of_getElem? (i := 216) rfl)⟩
theorem lw_p56 : lw_okq (⟨"BladeBetweenThumbsModel", "isHard", "(III)Z"⟩, 22) := ⟨⟨by decide +kernel, by decide +kernel⟩, lw_t5 (List.mem_of_getElem? (i := 207) rfl), lw_t6 (List.mem_of_getElem? (i := 219) rfl), lw_t6 (List.mem_of_getElem? (i := 220) rfl)⟩
theorem lw_p57 : lw_okq (⟨"BladeBetweenThumbsModel", "pitchOf", "(IIII)I"⟩, 22) := ⟨⟨by decide +kernel, by decide +kernel⟩, lw_t5 (List.mem_of_getElem? (i := 207) rfl), lw_t6 (List.mem_of_getElem? (i := 227) rfl), lw_t6 (List.mem_of_getElem? (i := 228) rfl)⟩
theorem lw_p58 : lw_okq (⟨"BladeBetweenThumbsModel", "looks", "(III)V"⟩, 22) := ⟨⟨by decide +kernel, by decide +kernel⟩, lw_t5 (List.mem_of_getElem? (i := 207) rfl), lw_t7 (List.mem_of_getElem? (i := 0) rfl), lw_t7 (List.mem_of_getElem? (i := 1) rfl)⟩
theorem lw_p59 : lw_okq (⟨"BladeBetweenThumbsModel", "bestBlade", "(II)I"⟩, 22) := ⟨⟨by decide +kernel, by decide +kernel⟩, lw_t5 (List.mem_of_getElem? (i := 207) rfl), lw_t7 (List.mem_of_getElem? (i := 8) rfl), lw_t7 (List.mem_of_getElem? (i := 9) rfl)⟩
theorem lw_p60 : lw_okq (⟨"BladeBetweenThumbsModel", "waysBy", "(III)I"⟩, 22) := ⟨⟨by decide +kernel, by decide +kernel⟩, lw_t5 (List.mem_of_getElem? (i := 207) rfl), lw_t7 (List.mem_of_getElem? (i := 36) rfl), lw_t7 (List.mem_of_getElem? (i := 37) rfl)⟩
theorem lw_p61 : lw_okq (⟨"BladeBetweenThumbsModel", "canAnyForce", "(II)Z"⟩, 22) := ⟨⟨by decide +kernel, by decide +kernel⟩, lw_t5 (List.mem_of_getElem? (i := 207) rfl), lw_t7 (List.mem_of_getElem? (i := 40) rfl), lw_t7 (List.mem_of_getElem? (i := 41) rfl)⟩
theorem lw_p62 : lw_okq (⟨"BladeBetweenThumbsModel", "bladesFor", "(II)I"⟩, 22) := ⟨⟨by decide +kernel, by decide +kernel⟩, lw_t5 (List.mem_of_getElem? (i := 207) rfl), lw_t7 (List.mem_of_getElem? (i := 49) rfl), lw_t7 (List.mem_of_getElem? (i := 50) rfl)⟩
theorem lw_p63 : lw_okq (⟨"BladeBetweenThumbsModel", "lastsOf", "(III)I"⟩, 22) := ⟨⟨by decide +kernel, by decide +kernel⟩, lw_t5 (List.mem_of_getElem? (i := 207) rfl), lw_t7 (List.mem_of_getElem? (i := 57) rfl), lw_t7 (List.mem_of_getElem? (i := 58) rfl)⟩
def lw_privs_4 : List (MethodName × Nat) := [(⟨"BladeBetweenThumbsModel", "slitOf", "(I)I"⟩, 22), (⟨"BladeBetweenThumbsModel", "high", "(III)I"⟩, 22), (⟨"BladeBetweenThumbsModel", "softest", "(II)I"⟩, 22), (⟨"BladeBetweenThumbsModel", "hardest", "(II)I"⟩, 22), (⟨"BladeBetweenThumbsModel", "isTold", "(IIIII)Z"⟩, 22), (⟨"BladeBetweenThumbsModel", "isSound", "(IIIII)Z"⟩, 22), (⟨"BladeBetweenThumbsModel", "isTight", "(IIII)Z"⟩, 22), (⟨"BladeBetweenThumbsModel", "gripOf", "(I)I"⟩, 22), (⟨"BladeBetweenThumbsModel", "isHard", "(III)Z"⟩, 22), (⟨"BladeBetweenThumbsModel", "pitchOf", "(IIII)I"⟩, 22), (⟨"BladeBetweenThumbsModel", "looks", "(III)V"⟩, 22), (⟨"BladeBetweenThumbsModel", "bestBlade", "(II)I"⟩, 22), (⟨"BladeBetweenThumbsModel", "waysBy", "(III)I"⟩, 22), (⟨"BladeBetweenThumbsModel", "canAnyForce", "(II)Z"⟩, 22), (⟨"BladeBetweenThumbsModel", "bladesFor", "(II)I"⟩, 22), (⟨"BladeBetweenThumbsModel", "lastsOf", "(III)I"⟩, 22)]
theorem lw_r4 : ∀ q ∈ lw_privs_4, lw_okq q := List.forall_mem_cons.mpr ⟨lw_p48, List.forall_mem_cons.mpr ⟨lw_p49, List.forall_mem_cons.mpr ⟨lw_p50, List.forall_mem_cons.mpr ⟨lw_p51, List.forall_mem_cons.mpr ⟨lw_p52, List.forall_mem_cons.mpr ⟨lw_p53, List.forall_mem_cons.mpr ⟨lw_p54, List.forall_mem_cons.mpr ⟨lw_p55, List.forall_mem_cons.mpr ⟨lw_p56, List.forall_mem_cons.mpr ⟨lw_p57, List.forall_mem_cons.mpr ⟨lw_p58, List.forall_mem_cons.mpr ⟨lw_p59, List.forall_mem_cons.mpr ⟨lw_p60, List.forall_mem_cons.mpr ⟨lw_p61, List.forall_mem_cons.mpr ⟨lw_p62, List.forall_mem_cons.mpr ⟨lw_p63, fun _ h => absurd h List.not_mem_nil⟩⟩⟩⟩⟩⟩⟩⟩⟩⟩⟩⟩⟩⟩⟩⟩
theorem lw_p64 : lw_okq (⟨"BladeBetweenThumbsModel", "nearParts", "(III)J"⟩, 22) := ⟨⟨by decide +kernel, by decide +kernel⟩, lw_t5 (List.mem_of_getElem? (i := 207) rfl), lw_t7 (List.mem_of_getElem? (i := 81) rfl), lw_t7 (List.mem_of_getElem? (i := 82) rfl)⟩
theorem lw_p65 : lw_okq (⟨"BladeBetweenThumbsModel", "whereBy", "(IIII)I"⟩, 22) := ⟨⟨by decide +kernel, by decide +kernel⟩, lw_t5 (List.mem_of_getElem? (i := 207) rfl), lw_t7 (List.mem_of_getElem? (i := 110) rfl), lw_t7 (List.mem_of_getElem? (i := 111) rfl)⟩
theorem lw_p66 : lw_okq (⟨"BladeBetweenThumbsModel", "allPairs", "(I)I"⟩, 22) := ⟨⟨by decide +kernel, by decide +kernel⟩, lw_t5 (List.mem_of_getElem? (i := 207) rfl), lw_t7 (List.mem_of_getElem? (i := 118) rfl), lw_t7 (List.mem_of_getElem? (i := 119) rfl)⟩
theorem lw_p67 : lw_okq (⟨"BladeBetweenThumbsModel", "forcesFor", "(II)I"⟩, 22) := ⟨⟨by decide +kernel, by decide +kernel⟩, lw_t5 (List.mem_of_getElem? (i := 207) rfl), lw_t7 (List.mem_of_getElem? (i := 130) rfl), lw_t7 (List.mem_of_getElem? (i := 131) rfl)⟩
theorem lw_p68 : lw_okq (⟨"BladeBetweenThumbsModel", "drawn", "(I)I"⟩, 22) := ⟨⟨by decide +kernel, by decide +kernel⟩, lw_t5 (List.mem_of_getElem? (i := 207) rfl), lw_t7 (List.mem_of_getElem? (i := 154) rfl), lw_t7 (List.mem_of_getElem? (i := 155) rfl)⟩
def lw_privs_5 : List (MethodName × Nat) := [(⟨"BladeBetweenThumbsModel", "nearParts", "(III)J"⟩, 22), (⟨"BladeBetweenThumbsModel", "whereBy", "(IIII)I"⟩, 22), (⟨"BladeBetweenThumbsModel", "allPairs", "(I)I"⟩, 22), (⟨"BladeBetweenThumbsModel", "forcesFor", "(II)I"⟩, 22), (⟨"BladeBetweenThumbsModel", "drawn", "(I)I"⟩, 22)]
theorem lw_r5 : ∀ q ∈ lw_privs_5, lw_okq q := List.forall_mem_cons.mpr ⟨lw_p64, List.forall_mem_cons.mpr ⟨lw_p65, List.forall_mem_cons.mpr ⟨lw_p66, List.forall_mem_cons.mpr ⟨lw_p67, List.forall_mem_cons.mpr ⟨lw_p68, fun _ h => absurd h List.not_mem_nil⟩⟩⟩⟩⟩
def lw_privs : List (MethodName × Nat) := lw_privs_1 ++ (lw_privs_2 ++ (lw_privs_3 ++ (lw_privs_4 ++ (lw_privs_5))))
def lw_tbl : List Cond := k2_sels lw_privs ++ tables_1
theorem lw_privs_ok : ∀ q ∈ lw_privs, lw_okq q := by
  show ∀ q ∈ lw_privs_1 ++ (lw_privs_2 ++ (lw_privs_3 ++ (lw_privs_4 ++ (lw_privs_5)))), lw_okq q
  exact List.forall_mem_append.mpr ⟨lw_r1, List.forall_mem_append.mpr ⟨lw_r2, List.forall_mem_append.mpr ⟨lw_r3, List.forall_mem_append.mpr ⟨lw_r4, lw_r5⟩⟩⟩⟩
-- ===== ONE list of words for every method: the tables' words that hold all through a run =====
def lw_all : List Cond := lw_tbl.filter goodWord
/-- a word of the tables by its place: claim/WORDS.tsv -/
theorem lw_w {w : Cond} (i : Nat) (h : lw_tbl[i]? = some w) (g : goodWord w = true) : w ∈ lw_all := List.mem_filter.mpr ⟨List.mem_of_getElem? h, g⟩
theorem lw_all_tbl {w : Cond} (h : w ∈ lw_all) : w ∈ lw_tbl := (List.mem_filter.mp h).1
theorem lw_self : GoodIn lw_all lw_all := fun w h => ⟨h, good_of_word (List.mem_filter.mp h).2⟩
/-- a class's field words, by their places -/
theorem lw_in (ws : List Cond) (ps : List Nat) (hp : ws = ps.filterMap (fun i => lw_tbl[i]?)) (hg : ws.all goodWord = true) : ∀ w ∈ ws, w ∈ lw_all := by
  intro w h
  have h1 := List.all_eq_true.mp hg w h
  rw [hp] at h
  obtain ⟨i, -, hi⟩ := List.mem_filterMap.mp h
  exact lw_w i hi h1
/-- the words of a contract for the method y with code b, L locals, answer r -/
abbrev ws_ (y : MethodName) (b : ByteArray) (L : Nat) (r : Option FieldType) : List Cond := Cond.code y b L r :: lw_all
theorem lw_meth {y : MethodName} {b : ByteArray} {L : Nat} {r : Option FieldType} (h : Cond.code y b L r ∈ lw_all) : GoodIn lw_all (ws_ y b L r) := by
  intro w hw
  rcases List.mem_cons.mp hw with e | e
  · rw [e]
    exact lw_self _ h
  · exact lw_self _ e
theorem lw_app {a c : List Cond} (ha : ∀ w ∈ a, w ∈ lw_all) (hc : GoodIn lw_all c) : GoodIn lw_all (a ++ c) := by
  intro w hw
  rcases List.mem_append.mp hw with e | e
  · exact lw_self w (ha w e)
  · exact hc w e
/-- what a call through an object asks: cwV n hts (lw_V ..) -/
theorem lw_V {own : String} {idx : Nat} {C : String} {y : MethodName} {b : ByteArray} {L : Nat} {r : Option FieldType} (h1 : Cond.methodLink own idx y ∈ lw_all) (h2 : Cond.instanceMethod y ∈ lw_all) (h3 : Cond.selects C y y ∈ lw_all) (h4 : Cond.initialized C ∈ lw_all) (h5 : Cond.code y b L r ∈ lw_all) : GoodIn lw_all (wsV own idx C y (ws_ y b L r)) := by
  refine lw_app ?_ (lw_meth h5)
  intro w hw
  simp only [List.mem_cons, List.not_mem_nil, or_false] at hw
  rcases hw with e | e | e | e
  · rw [e]; exact h1
  · rw [e]; exact h2
  · rw [e]; exact h3
  · rw [e]; exact h4
/-- what a static call asks: va_cwS n hts (lw_S ..) -/
theorem lw_S {own : String} {idx : Nat} {y : MethodName} {b : ByteArray} {L : Nat} {r : Option FieldType} (h1 : Cond.methodLink own idx y ∈ lw_all) (h2 : Cond.static y ∈ lw_all) (h3 : Cond.initialized y.cls ∈ lw_all) (h4 : Cond.code y b L r ∈ lw_all) : GoodIn lw_all (va_wsS own idx y (ws_ y b L r)) := by
  refine lw_app ?_ (lw_meth h4)
  intro w hw
  simp only [List.mem_cons, List.not_mem_nil, or_false] at hw
  rcases hw with e | e | e
  · rw [e]; exact h1
  · rw [e]; exact h2
  · rw [e]; exact h3
/-- the words of a contract for a method WITH HANDLERS (hh: its table) -/
abbrev wsW_ (y : MethodName) (b : ByteArray) (L : Nat) (r : Option FieldType) (hh : List (Nat × Nat × Nat × Nat)) : List Cond := Cond.codeWith y b L r hh :: lw_all
theorem lw_methW {y : MethodName} {b : ByteArray} {L : Nat} {r : Option FieldType} {hh : List (Nat × Nat × Nat × Nat)} (h : Cond.codeWith y b L r hh ∈ lw_all) : GoodIn lw_all (wsW_ y b L r hh) := by
  intro w hw
  rcases List.mem_cons.mp hw with e | e
  · rw [e]
    exact lw_self _ h
  · exact lw_self _ e
/-- any list of words by their places (lw_in), good -/
theorem lw_good {ws : List Cond} (h : ∀ w ∈ ws, w ∈ lw_all) : GoodIn lw_all ws := fun w hw => lw_self w (h w hw)
/-- what a call of a method with handlers asks: vx_cwVW n hts (lw_VW ..), vx_cwSW n hts (lw_SW ..) -/
theorem lw_VW {own : String} {idx : Nat} {C : String} {y : MethodName} {b : ByteArray} {L : Nat} {r : Option FieldType} {hh : List (Nat × Nat × Nat × Nat)} (h1 : Cond.methodLink own idx y ∈ lw_all) (h2 : Cond.instanceMethod y ∈ lw_all) (h3 : Cond.selects C y y ∈ lw_all) (h4 : Cond.initialized C ∈ lw_all) (h5 : Cond.codeWith y b L r hh ∈ lw_all) : GoodIn lw_all (wsV own idx C y (wsW_ y b L r hh)) := by
  refine lw_app ?_ (lw_methW h5)
  intro w hw
  simp only [List.mem_cons, List.not_mem_nil, or_false] at hw
  rcases hw with e | e | e | e
  · rw [e]; exact h1
  · rw [e]; exact h2
  · rw [e]; exact h3
  · rw [e]; exact h4
theorem lw_SW {own : String} {idx : Nat} {y : MethodName} {b : ByteArray} {L : Nat} {r : Option FieldType} {hh : List (Nat × Nat × Nat × Nat)} (h1 : Cond.methodLink own idx y ∈ lw_all) (h2 : Cond.static y ∈ lw_all) (h3 : Cond.initialized y.cls ∈ lw_all) (h4 : Cond.codeWith y b L r hh ∈ lw_all) : GoodIn lw_all (va_wsS own idx y (wsW_ y b L r hh)) := by
  refine lw_app ?_ (lw_methW h4)
  intro w hw
  simp only [List.mem_cons, List.not_mem_nil, or_false] at hw
  rcases hw with e | e | e
  · rw [e]; exact h1
  · rw [e]; exact h2
  · rw [e]; exact h3
/-- a word by its place in its run of the tables -/
theorem lw_at {r : List Cond} (hr : ∀ w ∈ r, w ∈ lw_tbl) {w : Cond} (i : Nat) (h : r[i]? = some w) : w ∈ lw_tbl := hr w (List.mem_of_getElem? h)
theorem lw_g {w : Cond} (h : w ∈ lw_tbl) (g : goodWord w = true) : w ∈ lw_all := List.mem_filter.mpr ⟨h, g⟩
theorem lw_ms : ∀ w ∈ k2_sels lw_privs, w ∈ lw_tbl := fun w h => show w ∈ k2_sels lw_privs ++ tables_1 from List.mem_append_left _ h
theorem lw_m1 : ∀ w ∈ tables_1_1, w ∈ lw_tbl := fun w h => show w ∈ k2_sels lw_privs ++ tables_1 from List.mem_append_right (k2_sels lw_privs) (show w ∈ tables_1 from List.mem_append_left _ h)
theorem lw_m2 : ∀ w ∈ tables_1_2, w ∈ lw_tbl := fun w h => show w ∈ k2_sels lw_privs ++ tables_1 from List.mem_append_right (k2_sels lw_privs) (show w ∈ tables_1 from List.mem_append_right _ (List.mem_append_left _ h))
theorem lw_m3 : ∀ w ∈ tables_1_3, w ∈ lw_tbl := fun w h => show w ∈ k2_sels lw_privs ++ tables_1 from List.mem_append_right (k2_sels lw_privs) (show w ∈ tables_1 from List.mem_append_right _ (List.mem_append_right _ (List.mem_append_left _ h)))
theorem lw_m4 : ∀ w ∈ tables_1_4, w ∈ lw_tbl := fun w h => show w ∈ k2_sels lw_privs ++ tables_1 from List.mem_append_right (k2_sels lw_privs) (show w ∈ tables_1 from List.mem_append_right _ (List.mem_append_right _ (List.mem_append_right _ (List.mem_append_left _ h))))
theorem lw_m5 : ∀ w ∈ tables_1_5, w ∈ lw_tbl := fun w h => show w ∈ k2_sels lw_privs ++ tables_1 from List.mem_append_right (k2_sels lw_privs) (show w ∈ tables_1 from List.mem_append_right _ (List.mem_append_right _ (List.mem_append_right _ (List.mem_append_right _ (List.mem_append_left _ h)))))
theorem lw_m6 : ∀ w ∈ tables_1_6, w ∈ lw_tbl := fun w h => show w ∈ k2_sels lw_privs ++ tables_1 from List.mem_append_right (k2_sels lw_privs) (show w ∈ tables_1 from List.mem_append_right _ (List.mem_append_right _ (List.mem_append_right _ (List.mem_append_right _ (List.mem_append_right _ (List.mem_append_left _ h))))))
theorem lw_m7 : ∀ w ∈ tables_1_7, w ∈ lw_tbl := fun w h => show w ∈ k2_sels lw_privs ++ tables_1 from List.mem_append_right (k2_sels lw_privs) (show w ∈ tables_1 from List.mem_append_right _ (List.mem_append_right _ (List.mem_append_right _ (List.mem_append_right _ (List.mem_append_right _ (List.mem_append_right _ h))))))
theorem qs0 : (Cond.selects "java/lang/NullPointerException" ⟨"java/lang/NullPointerException", "getExtendedNPEMessage", "()Ljava/lang/String;"⟩ ⟨"java/lang/NullPointerException", "getExtendedNPEMessage", "()Ljava/lang/String;"⟩) ∈ lw_all := lw_g (lw_at lw_ms 0 rfl) rfl
theorem qs1 : (Cond.selects "java/lang/Throwable" ⟨"java/lang/Throwable", "fillInStackTrace", "(I)Ljava/lang/Throwable;"⟩ ⟨"java/lang/Throwable", "fillInStackTrace", "(I)Ljava/lang/Throwable;"⟩) ∈ lw_all := lw_g (lw_at lw_ms 1 rfl) rfl
theorem qs2 : (Cond.selects "BladeBetweenThumbs" ⟨"BladeBetweenThumbs", "isShelf", "(I)Z"⟩ ⟨"BladeBetweenThumbs", "isShelf", "(I)Z"⟩) ∈ lw_all := lw_g (lw_at lw_ms 2 rfl) rfl
theorem qs3 : (Cond.selects "BladeBetweenThumbs" ⟨"BladeBetweenThumbs", "reads", "([B)I"⟩ ⟨"BladeBetweenThumbs", "reads", "([B)I"⟩) ∈ lw_all := lw_g (lw_at lw_ms 3 rfl) rfl
theorem qs4 : (Cond.selects "BladeBetweenThumbs$HedgeReader" ⟨"BladeBetweenThumbs$HedgeReader", "statement", "()LBladeBetweenThumbs$Told;"⟩ ⟨"BladeBetweenThumbs$HedgeReader", "statement", "()LBladeBetweenThumbs$Told;"⟩) ∈ lw_all := lw_g (lw_at lw_ms 4 rfl) rfl
theorem qs5 : (Cond.selects "BladeBetweenThumbs$HedgeReader" ⟨"BladeBetweenThumbs$HedgeReader", "sign", "()I"⟩ ⟨"BladeBetweenThumbs$HedgeReader", "sign", "()I"⟩) ∈ lw_all := lw_g (lw_at lw_ms 5 rfl) rfl
theorem qs6 : (Cond.selects "BladeBetweenThumbs$HedgeReader" ⟨"BladeBetweenThumbs$HedgeReader", "reads", "(LBladeBetweenThumbs$Told;)V"⟩ ⟨"BladeBetweenThumbs$HedgeReader", "reads", "(LBladeBetweenThumbs$Told;)V"⟩) ∈ lw_all := lw_g (lw_at lw_ms 6 rfl) rfl
theorem qs7 : (Cond.selects "BladeBetweenThumbs$HedgeReader" ⟨"BladeBetweenThumbs$HedgeReader", "number", "(I)I"⟩ ⟨"BladeBetweenThumbs$HedgeReader", "number", "(I)I"⟩) ∈ lw_all := lw_g (lw_at lw_ms 7 rfl) rfl
theorem qs8 : (Cond.selects "BladeBetweenThumbs$HedgeReader" ⟨"BladeBetweenThumbs$HedgeReader", "broken", "()LBladeBetweenThumbs$Broken;"⟩ ⟨"BladeBetweenThumbs$HedgeReader", "broken", "()LBladeBetweenThumbs$Broken;"⟩) ∈ lw_all := lw_g (lw_at lw_ms 8 rfl) rfl
theorem qs9 : (Cond.selects "BladeBetweenThumbs" ⟨"BladeBetweenThumbs", "comes", "(LBladeBetweenThumbs$Told;)Z"⟩ ⟨"BladeBetweenThumbs", "comes", "(LBladeBetweenThumbs$Told;)Z"⟩) ∈ lw_all := lw_g (lw_at lw_ms 9 rfl) rfl
theorem qs10 : (Cond.selects "BladeBetweenThumbs" ⟨"BladeBetweenThumbs", "isTry", "(IIIII)Z"⟩ ⟨"BladeBetweenThumbs", "isTry", "(IIIII)Z"⟩) ∈ lw_all := lw_g (lw_at lw_ms 10 rfl) rfl
theorem qs11 : (Cond.selects "BladeBetweenThumbs" ⟨"BladeBetweenThumbs", "canSound", "(I)Z"⟩ ⟨"BladeBetweenThumbs", "canSound", "(I)Z"⟩) ∈ lw_all := lw_g (lw_at lw_ms 11 rfl) rfl
theorem qs12 : (Cond.selects "BladeBetweenThumbs" ⟨"BladeBetweenThumbs", "waysOf", "(III)I"⟩ ⟨"BladeBetweenThumbs", "waysOf", "(III)I"⟩) ∈ lw_all := lw_g (lw_at lw_ms 12 rfl) rfl
theorem qs13 : (Cond.selects "BladeBetweenThumbs" ⟨"BladeBetweenThumbs", "bladesFor", "(II)I"⟩ ⟨"BladeBetweenThumbs", "bladesFor", "(II)I"⟩) ∈ lw_all := lw_g (lw_at lw_ms 13 rfl) rfl
theorem qs14 : (Cond.selects "BladeBetweenThumbs" ⟨"BladeBetweenThumbs", "canAll", "(II)Z"⟩ ⟨"BladeBetweenThumbs", "canAll", "(II)Z"⟩) ∈ lw_all := lw_g (lw_at lw_ms 14 rfl) rfl
theorem qs15 : (Cond.selects "BladeBetweenThumbs" ⟨"BladeBetweenThumbs", "lastsBy", "(III)I"⟩ ⟨"BladeBetweenThumbs", "lastsBy", "(III)I"⟩) ∈ lw_all := lw_g (lw_at lw_ms 15 rfl) rfl
theorem qs16 : (Cond.selects "BladeBetweenThumbs" ⟨"BladeBetweenThumbs", "minds", "()V"⟩ ⟨"BladeBetweenThumbs", "minds", "()V"⟩) ∈ lw_all := lw_g (lw_at lw_ms 16 rfl) rfl
theorem qs17 : (Cond.selects "BladeBetweenThumbs" ⟨"BladeBetweenThumbs", "partsAt", "(III)J"⟩ ⟨"BladeBetweenThumbs", "partsAt", "(III)J"⟩) ∈ lw_all := lw_g (lw_at lw_ms 17 rfl) rfl
theorem qs18 : (Cond.selects "BladeBetweenThumbs" ⟨"BladeBetweenThumbs", "whereTold", "(IIII)I"⟩ ⟨"BladeBetweenThumbs", "whereTold", "(IIII)I"⟩) ∈ lw_all := lw_g (lw_at lw_ms 18 rfl) rfl
theorem qs19 : (Cond.selects "BladeBetweenThumbs" ⟨"BladeBetweenThumbs", "allTries", "(I)I"⟩ ⟨"BladeBetweenThumbs", "allTries", "(I)I"⟩) ∈ lw_all := lw_g (lw_at lw_ms 19 rfl) rfl
theorem qs20 : (Cond.selects "BladeBetweenThumbs" ⟨"BladeBetweenThumbs", "notRow", "(I)I"⟩ ⟨"BladeBetweenThumbs", "notRow", "(I)I"⟩) ∈ lw_all := lw_g (lw_at lw_ms 20 rfl) rfl
theorem qs21 : (Cond.selects "BladeBetweenThumbs" ⟨"BladeBetweenThumbs", "firstForged", "(Ljava/lang/Object;LBladeBetweenThumbs$Blow;)I"⟩ ⟨"BladeBetweenThumbs", "firstForged", "(Ljava/lang/Object;LBladeBetweenThumbs$Blow;)I"⟩) ∈ lw_all := lw_g (lw_at lw_ms 21 rfl) rfl
theorem qs22 : (Cond.selects "BladeBetweenThumbs" ⟨"BladeBetweenThumbs", "forcesOf", "(LBladeBetweenThumbs$Blow;I)I"⟩ ⟨"BladeBetweenThumbs", "forcesOf", "(LBladeBetweenThumbs$Blow;I)I"⟩) ∈ lw_all := lw_g (lw_at lw_ms 22 rfl) rfl
theorem qs23 : (Cond.selects "BladeBetweenThumbs" ⟨"BladeBetweenThumbs", "notRows", "(II)I"⟩ ⟨"BladeBetweenThumbs", "notRows", "(II)I"⟩) ∈ lw_all := lw_g (lw_at lw_ms 23 rfl) rfl
theorem qs24 : (Cond.selects "BladeBetweenThumbs" ⟨"BladeBetweenThumbs", "notForces", "(I)I"⟩ ⟨"BladeBetweenThumbs", "notForces", "(I)I"⟩) ∈ lw_all := lw_g (lw_at lw_ms 24 rfl) rfl
theorem qs25 : (Cond.selects "BladeBetweenThumbs" ⟨"BladeBetweenThumbs", "does", "(III)I"⟩ ⟨"BladeBetweenThumbs", "does", "(III)I"⟩) ∈ lw_all := lw_g (lw_at lw_ms 25 rfl) rfl
theorem qs26 : (Cond.selects "BladeBetweenThumbs" ⟨"BladeBetweenThumbs", "triesDrawn", "()Z"⟩ ⟨"BladeBetweenThumbs", "triesDrawn", "()Z"⟩) ∈ lw_all := lw_g (lw_at lw_ms 26 rfl) rfl
theorem qs27 : (Cond.selects "BladeBetweenThumbs" ⟨"BladeBetweenThumbs", "draw", "(I)I"⟩ ⟨"BladeBetweenThumbs", "draw", "(I)I"⟩) ∈ lw_all := lw_g (lw_at lw_ms 27 rfl) rfl
theorem qs28 : (Cond.selects "BladeBetweenThumbsModel" ⟨"BladeBetweenThumbsModel", "wrongRow", "(II)I"⟩ ⟨"BladeBetweenThumbsModel", "wrongRow", "(II)I"⟩) ∈ lw_all := lw_g (lw_at lw_ms 28 rfl) rfl
theorem qs29 : (Cond.selects "BladeBetweenThumbsModel" ⟨"BladeBetweenThumbsModel", "readsStatement", "()Z"⟩ ⟨"BladeBetweenThumbsModel", "readsStatement", "()Z"⟩) ∈ lw_all := lw_g (lw_at lw_ms 29 rfl) rfl
theorem qs30 : (Cond.selects "BladeBetweenThumbsModel" ⟨"BladeBetweenThumbsModel", "here", "()I"⟩ ⟨"BladeBetweenThumbsModel", "here", "()I"⟩) ∈ lw_all := lw_g (lw_at lw_ms 30 rfl) rfl
theorem qs31 : (Cond.selects "BladeBetweenThumbsModel" ⟨"BladeBetweenThumbsModel", "readsNumber", "(II)Z"⟩ ⟨"BladeBetweenThumbsModel", "readsNumber", "(II)Z"⟩) ∈ lw_all := lw_g (lw_at lw_ms 31 rfl) rfl
theorem qs32 : (Cond.selects "BladeBetweenThumbsModel" ⟨"BladeBetweenThumbsModel", "isDone", "(I)Z"⟩ ⟨"BladeBetweenThumbsModel", "isDone", "(I)Z"⟩) ∈ lw_all := lw_g (lw_at lw_ms 32 rfl) rfl
theorem qs33 : (Cond.selects "BladeBetweenThumbsModel" ⟨"BladeBetweenThumbsModel", "addsBlade", "(III)V"⟩ ⟨"BladeBetweenThumbsModel", "addsBlade", "(III)V"⟩) ∈ lw_all := lw_g (lw_at lw_ms 33 rfl) rfl
theorem qs34 : (Cond.selects "BladeBetweenThumbsModel" ⟨"BladeBetweenThumbsModel", "addsThumbs", "(II)V"⟩ ⟨"BladeBetweenThumbsModel", "addsThumbs", "(II)V"⟩) ∈ lw_all := lw_g (lw_at lw_ms 34 rfl) rfl
theorem qs35 : (Cond.selects "BladeBetweenThumbsModel" ⟨"BladeBetweenThumbsModel", "addsBlow", "(II)V"⟩ ⟨"BladeBetweenThumbsModel", "addsBlow", "(II)V"⟩) ∈ lw_all := lw_g (lw_at lw_ms 35 rfl) rfl
theorem qs36 : (Cond.selects "BladeBetweenThumbsModel" ⟨"BladeBetweenThumbsModel", "areAll", "(III)Z"⟩ ⟨"BladeBetweenThumbsModel", "areAll", "(III)Z"⟩) ∈ lw_all := lw_g (lw_at lw_ms 36 rfl) rfl
theorem qs37 : (Cond.selects "BladeBetweenThumbsModel" ⟨"BladeBetweenThumbsModel", "isBlade", "(I)Z"⟩ ⟨"BladeBetweenThumbsModel", "isBlade", "(I)Z"⟩) ∈ lw_all := lw_g (lw_at lw_ms 37 rfl) rfl
theorem qs38 : (Cond.selects "BladeBetweenThumbsModel" ⟨"BladeBetweenThumbsModel", "isThumbs", "(I)Z"⟩ ⟨"BladeBetweenThumbsModel", "isThumbs", "(I)Z"⟩) ∈ lw_all := lw_g (lw_at lw_ms 38 rfl) rfl
theorem qs39 : (Cond.selects "BladeBetweenThumbsModel" ⟨"BladeBetweenThumbsModel", "isBlow", "(I)Z"⟩ ⟨"BladeBetweenThumbsModel", "isBlow", "(I)Z"⟩) ∈ lw_all := lw_g (lw_at lw_ms 39 rfl) rfl
theorem qs40 : (Cond.selects "BladeBetweenThumbsModel" ⟨"BladeBetweenThumbsModel", "isSplit", "(I)Z"⟩ ⟨"BladeBetweenThumbsModel", "isSplit", "(I)Z"⟩) ∈ lw_all := lw_g (lw_at lw_ms 40 rfl) rfl
theorem qs41 : (Cond.selects "BladeBetweenThumbsModel" ⟨"BladeBetweenThumbsModel", "bladeOf", "(II)I"⟩ ⟨"BladeBetweenThumbsModel", "bladeOf", "(II)I"⟩) ∈ lw_all := lw_g (lw_at lw_ms 41 rfl) rfl
theorem qs42 : (Cond.selects "BladeBetweenThumbsModel" ⟨"BladeBetweenThumbsModel", "wears", "(II)I"⟩ ⟨"BladeBetweenThumbsModel", "wears", "(II)I"⟩) ∈ lw_all := lw_g (lw_at lw_ms 42 rfl) rfl
theorem qs43 : (Cond.selects "BladeBetweenThumbsModel" ⟨"BladeBetweenThumbsModel", "kind", "(I)I"⟩ ⟨"BladeBetweenThumbsModel", "kind", "(I)I"⟩) ∈ lw_all := lw_g (lw_at lw_ms 43 rfl) rfl
theorem qs44 : (Cond.selects "BladeBetweenThumbsModel" ⟨"BladeBetweenThumbsModel", "figure", "(I)I"⟩ ⟨"BladeBetweenThumbsModel", "figure", "(I)I"⟩) ∈ lw_all := lw_g (lw_at lw_ms 44 rfl) rfl
theorem qs45 : (Cond.selects "BladeBetweenThumbsModel" ⟨"BladeBetweenThumbsModel", "wrongKept", "(I)I"⟩ ⟨"BladeBetweenThumbsModel", "wrongKept", "(I)I"⟩) ∈ lw_all := lw_g (lw_at lw_ms 45 rfl) rfl
theorem qs46 : (Cond.selects "BladeBetweenThumbsModel" ⟨"BladeBetweenThumbsModel", "low", "(III)I"⟩ ⟨"BladeBetweenThumbsModel", "low", "(III)I"⟩) ∈ lw_all := lw_g (lw_at lw_ms 46 rfl) rfl
theorem qs47 : (Cond.selects "BladeBetweenThumbsModel" ⟨"BladeBetweenThumbsModel", "lowPlain", "(III)I"⟩ ⟨"BladeBetweenThumbsModel", "lowPlain", "(III)I"⟩) ∈ lw_all := lw_g (lw_at lw_ms 47 rfl) rfl
theorem qs48 : (Cond.selects "BladeBetweenThumbsModel" ⟨"BladeBetweenThumbsModel", "slitOf", "(I)I"⟩ ⟨"BladeBetweenThumbsModel", "slitOf", "(I)I"⟩) ∈ lw_all := lw_g (lw_at lw_ms 48 rfl) rfl
theorem qs49 : (Cond.selects "BladeBetweenThumbsModel" ⟨"BladeBetweenThumbsModel", "high", "(III)I"⟩ ⟨"BladeBetweenThumbsModel", "high", "(III)I"⟩) ∈ lw_all := lw_g (lw_at lw_ms 49 rfl) rfl
theorem qs50 : (Cond.selects "BladeBetweenThumbsModel" ⟨"BladeBetweenThumbsModel", "softest", "(II)I"⟩ ⟨"BladeBetweenThumbsModel", "softest", "(II)I"⟩) ∈ lw_all := lw_g (lw_at lw_ms 50 rfl) rfl
theorem qs51 : (Cond.selects "BladeBetweenThumbsModel" ⟨"BladeBetweenThumbsModel", "hardest", "(II)I"⟩ ⟨"BladeBetweenThumbsModel", "hardest", "(II)I"⟩) ∈ lw_all := lw_g (lw_at lw_ms 51 rfl) rfl
theorem qs52 : (Cond.selects "BladeBetweenThumbsModel" ⟨"BladeBetweenThumbsModel", "isTold", "(IIIII)Z"⟩ ⟨"BladeBetweenThumbsModel", "isTold", "(IIIII)Z"⟩) ∈ lw_all := lw_g (lw_at lw_ms 52 rfl) rfl
theorem qs53 : (Cond.selects "BladeBetweenThumbsModel" ⟨"BladeBetweenThumbsModel", "isSound", "(IIIII)Z"⟩ ⟨"BladeBetweenThumbsModel", "isSound", "(IIIII)Z"⟩) ∈ lw_all := lw_g (lw_at lw_ms 53 rfl) rfl
theorem qs54 : (Cond.selects "BladeBetweenThumbsModel" ⟨"BladeBetweenThumbsModel", "isTight", "(IIII)Z"⟩ ⟨"BladeBetweenThumbsModel", "isTight", "(IIII)Z"⟩) ∈ lw_all := lw_g (lw_at lw_ms 54 rfl) rfl
theorem qs55 : (Cond.selects "BladeBetweenThumbsModel" ⟨"BladeBetweenThumbsModel", "gripOf", "(I)I"⟩ ⟨"BladeBetweenThumbsModel", "gripOf", "(I)I"⟩) ∈ lw_all := lw_g (lw_at lw_ms 55 rfl) rfl
theorem qs56 : (Cond.selects "BladeBetweenThumbsModel" ⟨"BladeBetweenThumbsModel", "isHard", "(III)Z"⟩ ⟨"BladeBetweenThumbsModel", "isHard", "(III)Z"⟩) ∈ lw_all := lw_g (lw_at lw_ms 56 rfl) rfl
theorem qs57 : (Cond.selects "BladeBetweenThumbsModel" ⟨"BladeBetweenThumbsModel", "pitchOf", "(IIII)I"⟩ ⟨"BladeBetweenThumbsModel", "pitchOf", "(IIII)I"⟩) ∈ lw_all := lw_g (lw_at lw_ms 57 rfl) rfl
theorem qs58 : (Cond.selects "BladeBetweenThumbsModel" ⟨"BladeBetweenThumbsModel", "looks", "(III)V"⟩ ⟨"BladeBetweenThumbsModel", "looks", "(III)V"⟩) ∈ lw_all := lw_g (lw_at lw_ms 58 rfl) rfl
theorem qs59 : (Cond.selects "BladeBetweenThumbsModel" ⟨"BladeBetweenThumbsModel", "bestBlade", "(II)I"⟩ ⟨"BladeBetweenThumbsModel", "bestBlade", "(II)I"⟩) ∈ lw_all := lw_g (lw_at lw_ms 59 rfl) rfl
theorem qs60 : (Cond.selects "BladeBetweenThumbsModel" ⟨"BladeBetweenThumbsModel", "waysBy", "(III)I"⟩ ⟨"BladeBetweenThumbsModel", "waysBy", "(III)I"⟩) ∈ lw_all := lw_g (lw_at lw_ms 60 rfl) rfl
theorem qs61 : (Cond.selects "BladeBetweenThumbsModel" ⟨"BladeBetweenThumbsModel", "canAnyForce", "(II)Z"⟩ ⟨"BladeBetweenThumbsModel", "canAnyForce", "(II)Z"⟩) ∈ lw_all := lw_g (lw_at lw_ms 61 rfl) rfl
theorem qs62 : (Cond.selects "BladeBetweenThumbsModel" ⟨"BladeBetweenThumbsModel", "bladesFor", "(II)I"⟩ ⟨"BladeBetweenThumbsModel", "bladesFor", "(II)I"⟩) ∈ lw_all := lw_g (lw_at lw_ms 62 rfl) rfl
theorem qs63 : (Cond.selects "BladeBetweenThumbsModel" ⟨"BladeBetweenThumbsModel", "lastsOf", "(III)I"⟩ ⟨"BladeBetweenThumbsModel", "lastsOf", "(III)I"⟩) ∈ lw_all := lw_g (lw_at lw_ms 63 rfl) rfl
theorem qs64 : (Cond.selects "BladeBetweenThumbsModel" ⟨"BladeBetweenThumbsModel", "nearParts", "(III)J"⟩ ⟨"BladeBetweenThumbsModel", "nearParts", "(III)J"⟩) ∈ lw_all := lw_g (lw_at lw_ms 64 rfl) rfl
theorem qs65 : (Cond.selects "BladeBetweenThumbsModel" ⟨"BladeBetweenThumbsModel", "whereBy", "(IIII)I"⟩ ⟨"BladeBetweenThumbsModel", "whereBy", "(IIII)I"⟩) ∈ lw_all := lw_g (lw_at lw_ms 65 rfl) rfl
theorem qs66 : (Cond.selects "BladeBetweenThumbsModel" ⟨"BladeBetweenThumbsModel", "allPairs", "(I)I"⟩ ⟨"BladeBetweenThumbsModel", "allPairs", "(I)I"⟩) ∈ lw_all := lw_g (lw_at lw_ms 66 rfl) rfl
theorem qs67 : (Cond.selects "BladeBetweenThumbsModel" ⟨"BladeBetweenThumbsModel", "forcesFor", "(II)I"⟩ ⟨"BladeBetweenThumbsModel", "forcesFor", "(II)I"⟩) ∈ lw_all := lw_g (lw_at lw_ms 67 rfl) rfl
theorem qs68 : (Cond.selects "BladeBetweenThumbsModel" ⟨"BladeBetweenThumbsModel", "drawn", "(I)I"⟩ ⟨"BladeBetweenThumbsModel", "drawn", "(I)I"⟩) ∈ lw_all := lw_g (lw_at lw_ms 68 rfl) rfl
