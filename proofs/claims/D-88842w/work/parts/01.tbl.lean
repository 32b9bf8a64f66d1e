-- ===== PART A: goes FIRST, ahead of the names: the tables' words, and 'selects' of the private methods out of them =====
/-- a private method of a class that the tables say can be made, by its rows of tables_1 -/
def lw_okq (q : MethodName × Nat) : Prop := (q.1.cls ≠ "java/lang/invoke/MethodHandle" ∧ q.1.cls ≠ "java/lang/invoke/VarHandle") ∧ Cond.instantiable q.1.cls q.2 ∈ tables_1 ∧ Cond.privateMethod q.1 ∈ tables_1 ∧ Cond.instanceMethod q.1 ∈ tables_1
set_option maxRecDepth 100000
theorem lw_t1 {w : Cond} (h : w ∈ tables_1_1) : w ∈ tables_1 := List.mem_append_left _ h
theorem lw_t2 {w : Cond} (h : w ∈ tables_1_2) : w ∈ tables_1 := List.mem_append_right _ (List.mem_append_left _ h)
theorem lw_t3 {w : Cond} (h : w ∈ tables_1_3) : w ∈ tables_1 := List.mem_append_right _ (List.mem_append_right _ (List.mem_append_left _ h))
theorem lw_t4 {w : Cond} (h : w ∈ tables_1_4) : w ∈ tables_1 := List.mem_append_right _ (List.mem_append_right _ (List.mem_append_right _ (List.mem_append_left _ h)))
theorem lw_t5 {w : Cond} (h : w ∈ tables_1_5) : w ∈ tables_1 := List.mem_append_right _ (List.mem_append_right _ (List.mem_append_right _ (List.mem_append_right _ (List.mem_append_left _ h))))
theorem lw_t6 {w : Cond} (h : w ∈ tables_1_6) : w ∈ tables_1 := List.mem_append_right _ (List.mem_append_right _ (List.mem_append_right _ (List.mem_append_right _ (List.mem_append_right _ (List.mem_append_left _ h)))))
theorem lw_t7 {w : Cond} (h : w ∈ tables_1_7) : w ∈ tables_1 := List.mem_append_right _ (List.mem_append_right _ (List.mem_append_right _ (List.mem_append_right _ (List.mem_append_right _ (List.mem_append_right _ (List.mem_append_left _ h))))))
theorem lw_t8 {w : Cond} (h : w ∈ tables_1_8) : w ∈ tables_1 := List.mem_append_right _ (List.mem_append_right _ (List.mem_append_right _ (List.mem_append_right _ (List.mem_append_right _ (List.mem_append_right _ (List.mem_append_right _ h))))))
theorem lw_p0 : lw_okq (⟨"RiverGauge", "act", "(IIIIII)I"⟩, 48) := ⟨⟨by decide +kernel, by decide +kernel⟩, lw_t1 (List.mem_of_getElem? (i := 37) rfl), lw_t1 (List.mem_of_getElem? (i := 222) rfl), lw_t1 (List.mem_of_getElem? (i := 223) rfl)⟩
theorem lw_p1 : lw_okq (⟨"RiverGauge", "ofOffice", "(IIIIII)I"⟩, 48) := ⟨⟨by decide +kernel, by decide +kernel⟩, lw_t1 (List.mem_of_getElem? (i := 37) rfl), lw_t1 (List.mem_of_getElem? (i := 227) rfl), lw_t1 (List.mem_of_getElem? (i := 228) rfl)⟩
theorem lw_p2 : lw_okq (⟨"RiverGauge", "ofPosts", "(IIII)I"⟩, 48) := ⟨⟨by decide +kernel, by decide +kernel⟩, lw_t1 (List.mem_of_getElem? (i := 37) rfl), lw_t1 (List.mem_of_getElem? (i := 231) rfl), lw_t1 (List.mem_of_getElem? (i := 232) rfl)⟩
theorem lw_p3 : lw_okq (⟨"java/lang/Throwable", "fillInStackTrace", "(I)Ljava/lang/Throwable;"⟩, 6) := ⟨⟨by decide +kernel, by decide +kernel⟩, lw_t2 (List.mem_of_getElem? (i := 36) rfl), lw_t2 (List.mem_of_getElem? (i := 34) rfl), lw_t2 (List.mem_of_getElem? (i := 35) rfl)⟩
theorem lw_p4 : lw_okq (⟨"RiverGauge", "stale", "()V"⟩, 48) := ⟨⟨by decide +kernel, by decide +kernel⟩, lw_t1 (List.mem_of_getElem? (i := 37) rfl), lw_t2 (List.mem_of_getElem? (i := 112) rfl), lw_t2 (List.mem_of_getElem? (i := 113) rfl)⟩
theorem lw_p5 : lw_okq (⟨"RiverGauge", "zeroOf", "(III)I"⟩, 48) := ⟨⟨by decide +kernel, by decide +kernel⟩, lw_t1 (List.mem_of_getElem? (i := 37) rfl), lw_t2 (List.mem_of_getElem? (i := 116) rfl), lw_t2 (List.mem_of_getElem? (i := 117) rfl)⟩
theorem lw_p6 : lw_okq (⟨"RiverGauge", "ofHeights", "(IIIII)I"⟩, 48) := ⟨⟨by decide +kernel, by decide +kernel⟩, lw_t1 (List.mem_of_getElem? (i := 37) rfl), lw_t2 (List.mem_of_getElem? (i := 126) rfl), lw_t2 (List.mem_of_getElem? (i := 127) rfl)⟩
theorem lw_p7 : lw_okq (⟨"RiverGauge", "struckBy", "(II)I"⟩, 48) := ⟨⟨by decide +kernel, by decide +kernel⟩, lw_t1 (List.mem_of_getElem? (i := 37) rfl), lw_t2 (List.mem_of_getElem? (i := 168) rfl), lw_t2 (List.mem_of_getElem? (i := 169) rfl)⟩
theorem lw_p8 : lw_okq (⟨"RiverGauge", "standardFor", "(III)LRiverGauge$Standard;"⟩, 48) := ⟨⟨by decide +kernel, by decide +kernel⟩, lw_t1 (List.mem_of_getElem? (i := 37) rfl), lw_t2 (List.mem_of_getElem? (i := 181) rfl), lw_t2 (List.mem_of_getElem? (i := 182) rfl)⟩
theorem lw_p9 : lw_okq (⟨"RiverGauge", "aheadOf", "(II)LRiverGauge$Height;"⟩, 48) := ⟨⟨by decide +kernel, by decide +kernel⟩, lw_t1 (List.mem_of_getElem? (i := 37) rfl), lw_t2 (List.mem_of_getElem? (i := 185) rfl), lw_t2 (List.mem_of_getElem? (i := 186) rfl)⟩
theorem lw_p10 : lw_okq (⟨"RiverGauge", "clearLetters", "(I)V"⟩, 48) := ⟨⟨by decide +kernel, by decide +kernel⟩, lw_t1 (List.mem_of_getElem? (i := 37) rfl), lw_t2 (List.mem_of_getElem? (i := 199) rfl), lw_t2 (List.mem_of_getElem? (i := 200) rfl)⟩
theorem lw_p11 : lw_okq (⟨"RiverGauge", "heightOf", "(III)I"⟩, 48) := ⟨⟨by decide +kernel, by decide +kernel⟩, lw_t1 (List.mem_of_getElem? (i := 37) rfl), lw_t3 (List.mem_of_getElem? (i := 1) rfl), lw_t3 (List.mem_of_getElem? (i := 2) rfl)⟩
theorem lw_p12 : lw_okq (⟨"RiverGauge", "countingAt", "(III)I"⟩, 48) := ⟨⟨by decide +kernel, by decide +kernel⟩, lw_t1 (List.mem_of_getElem? (i := 37) rfl), lw_t3 (List.mem_of_getElem? (i := 5) rfl), lw_t3 (List.mem_of_getElem? (i := 6) rfl)⟩
theorem lw_p13 : lw_okq (⟨"RiverGauge", "doesCount", "(LRiverGauge$Flow;I)Z"⟩, 48) := ⟨⟨by decide +kernel, by decide +kernel⟩, lw_t1 (List.mem_of_getElem? (i := 37) rfl), lw_t3 (List.mem_of_getElem? (i := 31) rfl), lw_t3 (List.mem_of_getElem? (i := 32) rfl)⟩
theorem lw_p14 : lw_okq (⟨"RiverGauge", "hasHeight", "(III)Z"⟩, 48) := ⟨⟨by decide +kernel, by decide +kernel⟩, lw_t1 (List.mem_of_getElem? (i := 37) rfl), lw_t3 (List.mem_of_getElem? (i := 38) rfl), lw_t3 (List.mem_of_getElem? (i := 39) rfl)⟩
theorem lw_p15 : lw_okq (⟨"RiverGauge", "ofCurves", "(IIIIII)I"⟩, 48) := ⟨⟨by decide +kernel, by decide +kernel⟩, lw_t1 (List.mem_of_getElem? (i := 37) rfl), lw_t3 (List.mem_of_getElem? (i := 42) rfl), lw_t3 (List.mem_of_getElem? (i := 43) rfl)⟩
def lw_privs_1 : List (MethodName × Nat) := [(⟨"RiverGauge", "act", "(IIIIII)I"⟩, 48), (⟨"RiverGauge", "ofOffice", "(IIIIII)I"⟩, 48), (⟨"RiverGauge", "ofPosts", "(IIII)I"⟩, 48), (⟨"java/lang/Throwable", "fillInStackTrace", "(I)Ljava/lang/Throwable;"⟩, 6), (⟨"RiverGauge", "stale", "()V"⟩, 48), (⟨"RiverGauge", "zeroOf", "(III)I"⟩, 48), (⟨"RiverGauge", "ofHeights", "(IIIII)I"⟩, 48), (⟨"RiverGauge", "struckBy", "(II)I"⟩, 48), (⟨"RiverGauge", "standardFor", "(III)LRiverGauge$Standard;"⟩, 48), (⟨"RiverGauge", "aheadOf", "(II)LRiverGauge$Height;"⟩, 48), (⟨"RiverGauge", "clearLetters", "(I)V"⟩, 48), (⟨"RiverGauge", "heightOf", "(III)I"⟩, 48), (⟨"RiverGauge", "countingAt", "(III)I"⟩, 48), (⟨"RiverGauge", "doesCount", "(LRiverGauge$Flow;I)Z"⟩, 48), (⟨"RiverGauge", "hasHeight", "(III)Z"⟩, 48), (⟨"RiverGauge", "ofCurves", "(IIIIII)I"⟩, 48)]
theorem lw_r1 : ∀ q ∈ lw_privs_1, lw_okq q := List.forall_mem_cons.mpr ⟨lw_p0, List.forall_mem_cons.mpr ⟨lw_p1, List.forall_mem_cons.mpr ⟨lw_p2, List.forall_mem_cons.mpr ⟨lw_p3, List.forall_mem_cons.mpr ⟨lw_p4, List.forall_mem_cons.mpr ⟨lw_p5, List.forall_mem_cons.mpr ⟨lw_p6, List.forall_mem_cons.mpr ⟨lw_p7, List.forall_mem_cons.mpr ⟨lw_p8, List.forall_mem_cons.mpr ⟨lw_p9, List.forall_mem_cons.mpr ⟨lw_p10, List.forall_mem_cons.mpr ⟨lw_p11, List.forall_mem_cons.mpr ⟨lw_p12, List.forall_mem_cons.mpr ⟨lw_p13, List.forall_mem_cons.mpr ⟨lw_p14, List.forall_mem_cons.mpr ⟨lw_p15, fun _ h => absurd h List.not_mem_nil⟩⟩⟩⟩⟩⟩⟩⟩⟩⟩⟩⟩⟩⟩⟩⟩
theorem lw_p16 : lw_okq (⟨"RiverGauge", "tellStandard", "(II)I"⟩, 48) := ⟨⟨by decide +kernel, by decide +kernel⟩, lw_t1 (List.mem_of_getElem? (i := 37) rfl), lw_t3 (List.mem_of_getElem? (i := 46) rfl), lw_t3 (List.mem_of_getElem? (i := 47) rfl)⟩
theorem lw_p17 : lw_okq (⟨"RiverGauge$Reader", "ors", "()LRiverGauge$Test;"⟩, 4) := ⟨⟨by decide +kernel, by decide +kernel⟩, lw_t3 (List.mem_of_getElem? (i := 52) rfl), lw_t3 (List.mem_of_getElem? (i := 75) rfl), lw_t3 (List.mem_of_getElem? (i := 76) rfl)⟩
theorem lw_p18 : lw_okq (⟨"RiverGauge$Reader", "ands", "()LRiverGauge$Test;"⟩, 4) := ⟨⟨by decide +kernel, by decide +kernel⟩, lw_t3 (List.mem_of_getElem? (i := 52) rfl), lw_t3 (List.mem_of_getElem? (i := 79) rfl), lw_t3 (List.mem_of_getElem? (i := 80) rfl)⟩
theorem lw_p19 : lw_okq (⟨"RiverGauge$Reader", "test", "()LRiverGauge$Test;"⟩, 4) := ⟨⟨by decide +kernel, by decide +kernel⟩, lw_t3 (List.mem_of_getElem? (i := 52) rfl), lw_t3 (List.mem_of_getElem? (i := 83) rfl), lw_t3 (List.mem_of_getElem? (i := 84) rfl)⟩
theorem lw_p20 : lw_okq (⟨"RiverGauge$Reader", "here", "()I"⟩, 4) := ⟨⟨by decide +kernel, by decide +kernel⟩, lw_t3 (List.mem_of_getElem? (i := 52) rfl), lw_t3 (List.mem_of_getElem? (i := 87) rfl), lw_t3 (List.mem_of_getElem? (i := 88) rfl)⟩
theorem lw_p21 : lw_okq (⟨"RiverGauge$Reader", "deeper", "()V"⟩, 4) := ⟨⟨by decide +kernel, by decide +kernel⟩, lw_t3 (List.mem_of_getElem? (i := 52) rfl), lw_t3 (List.mem_of_getElem? (i := 91) rfl), lw_t3 (List.mem_of_getElem? (i := 92) rfl)⟩
theorem lw_p22 : lw_okq (⟨"RiverGauge$Reader", "mustStand", "(Z)V"⟩, 4) := ⟨⟨by decide +kernel, by decide +kernel⟩, lw_t3 (List.mem_of_getElem? (i := 52) rfl), lw_t3 (List.mem_of_getElem? (i := 95) rfl), lw_t3 (List.mem_of_getElem? (i := 96) rfl)⟩
theorem lw_p23 : lw_okq (⟨"RiverGauge$Reader", "take", "(C)Z"⟩, 4) := ⟨⟨by decide +kernel, by decide +kernel⟩, lw_t3 (List.mem_of_getElem? (i := 52) rfl), lw_t3 (List.mem_of_getElem? (i := 131) rfl), lw_t3 (List.mem_of_getElem? (i := 132) rfl)⟩
theorem lw_p24 : lw_okq (⟨"RiverGauge$Reader", "sum", "()LRiverGauge$Sum;"⟩, 4) := ⟨⟨by decide +kernel, by decide +kernel⟩, lw_t3 (List.mem_of_getElem? (i := 52) rfl), lw_t3 (List.mem_of_getElem? (i := 135) rfl), lw_t3 (List.mem_of_getElem? (i := 136) rfl)⟩
theorem lw_p25 : lw_okq (⟨"RiverGauge$Reader", "unit", "()LRiverGauge$Sum;"⟩, 4) := ⟨⟨by decide +kernel, by decide +kernel⟩, lw_t3 (List.mem_of_getElem? (i := 52) rfl), lw_t3 (List.mem_of_getElem? (i := 139) rfl), lw_t3 (List.mem_of_getElem? (i := 140) rfl)⟩
theorem lw_p26 : lw_okq (⟨"RiverGauge", "curveFor", "(III)LRiverGauge$Curve;"⟩, 48) := ⟨⟨by decide +kernel, by decide +kernel⟩, lw_t1 (List.mem_of_getElem? (i := 37) rfl), lw_t4 (List.mem_of_getElem? (i := 77) rfl), lw_t4 (List.mem_of_getElem? (i := 78) rfl)⟩
theorem lw_p27 : lw_okq (⟨"RiverGauge", "curve", "(IIII)LRiverGauge$Curve;"⟩, 48) := ⟨⟨by decide +kernel, by decide +kernel⟩, lw_t1 (List.mem_of_getElem? (i := 37) rfl), lw_t4 (List.mem_of_getElem? (i := 83) rfl), lw_t4 (List.mem_of_getElem? (i := 84) rfl)⟩
theorem lw_p28 : lw_okq (⟨"RiverGauge", "make", "(IIII)LRiverGauge$Curve;"⟩, 48) := ⟨⟨by decide +kernel, by decide +kernel⟩, lw_t1 (List.mem_of_getElem? (i := 37) rfl), lw_t4 (List.mem_of_getElem? (i := 87) rfl), lw_t4 (List.mem_of_getElem? (i := 88) rfl)⟩
theorem lw_p29 : lw_okq (⟨"RiverGauge", "ofBreaks", "(IIIII)I"⟩, 48) := ⟨⟨by decide +kernel, by decide +kernel⟩, lw_t1 (List.mem_of_getElem? (i := 37) rfl), lw_t4 (List.mem_of_getElem? (i := 186) rfl), lw_t4 (List.mem_of_getElem? (i := 187) rfl)⟩
theorem lw_p30 : lw_okq (⟨"RiverGauge", "reckon", "(III)LRiverGauge$Reckoned;"⟩, 48) := ⟨⟨by decide +kernel, by decide +kernel⟩, lw_t1 (List.mem_of_getElem? (i := 37) rfl), lw_t4 (List.mem_of_getElem? (i := 192) rfl), lw_t4 (List.mem_of_getElem? (i := 193) rfl)⟩
theorem lw_p31 : lw_okq (⟨"RiverGauge", "covered", "(IIII)I"⟩, 48) := ⟨⟨by decide +kernel, by decide +kernel⟩, lw_t1 (List.mem_of_getElem? (i := 37) rfl), lw_t4 (List.mem_of_getElem? (i := 196) rfl), lw_t4 (List.mem_of_getElem? (i := 197) rfl)⟩
def lw_privs_2 : List (MethodName × Nat) := [(⟨"RiverGauge", "tellStandard", "(II)I"⟩, 48), (⟨"RiverGauge$Reader", "ors", "()LRiverGauge$Test;"⟩, 4), (⟨"RiverGauge$Reader", "ands", "()LRiverGauge$Test;"⟩, 4), (⟨"RiverGauge$Reader", "test", "()LRiverGauge$Test;"⟩, 4), (⟨"RiverGauge$Reader", "here", "()I"⟩, 4), (⟨"RiverGauge$Reader", "deeper", "()V"⟩, 4), (⟨"RiverGauge$Reader", "mustStand", "(Z)V"⟩, 4), (⟨"RiverGauge$Reader", "take", "(C)Z"⟩, 4), (⟨"RiverGauge$Reader", "sum", "()LRiverGauge$Sum;"⟩, 4), (⟨"RiverGauge$Reader", "unit", "()LRiverGauge$Sum;"⟩, 4), (⟨"RiverGauge", "curveFor", "(III)LRiverGauge$Curve;"⟩, 48), (⟨"RiverGauge", "curve", "(IIII)LRiverGauge$Curve;"⟩, 48), (⟨"RiverGauge", "make", "(IIII)LRiverGauge$Curve;"⟩, 48), (⟨"RiverGauge", "ofBreaks", "(IIIII)I"⟩, 48), (⟨"RiverGauge", "reckon", "(III)LRiverGauge$Reckoned;"⟩, 48), (⟨"RiverGauge", "covered", "(IIII)I"⟩, 48)]
theorem lw_r2 : ∀ q ∈ lw_privs_2, lw_okq q := List.forall_mem_cons.mpr ⟨lw_p16, List.forall_mem_cons.mpr ⟨lw_p17, List.forall_mem_cons.mpr ⟨lw_p18, List.forall_mem_cons.mpr ⟨lw_p19, List.forall_mem_cons.mpr ⟨lw_p20, List.forall_mem_cons.mpr ⟨lw_p21, List.forall_mem_cons.mpr ⟨lw_p22, List.forall_mem_cons.mpr ⟨lw_p23, List.forall_mem_cons.mpr ⟨lw_p24, List.forall_mem_cons.mpr ⟨lw_p25, List.forall_mem_cons.mpr ⟨lw_p26, List.forall_mem_cons.mpr ⟨lw_p27, List.forall_mem_cons.mpr ⟨lw_p28, List.forall_mem_cons.mpr ⟨lw_p29, List.forall_mem_cons.mpr ⟨lw_p30, List.forall_mem_cons.mpr ⟨lw_p31, fun _ h => absurd h List.not_mem_nil⟩⟩⟩⟩⟩⟩⟩⟩⟩⟩⟩⟩⟩⟩⟩⟩
theorem lw_p32 : lw_okq (⟨"RiverGauge", "isUnder", "(III)Z"⟩, 48) := ⟨⟨by decide +kernel, by decide +kernel⟩, lw_t1 (List.mem_of_getElem? (i := 37) rfl), lw_t4 (List.mem_of_getElem? (i := 216) rfl), lw_t4 (List.mem_of_getElem? (i := 217) rfl)⟩
theorem lw_p33 : lw_okq (⟨"RiverGauge", "tellBase", "(IIII)I"⟩, 48) := ⟨⟨by decide +kernel, by decide +kernel⟩, lw_t1 (List.mem_of_getElem? (i := 37) rfl), lw_t5 (List.mem_of_getElem? (i := 1) rfl), lw_t5 (List.mem_of_getElem? (i := 2) rfl)⟩
theorem lw_p34 : lw_okq (⟨"RiverGauge", "findBreaks", "(I)V"⟩, 48) := ⟨⟨by decide +kernel, by decide +kernel⟩, lw_t1 (List.mem_of_getElem? (i := 37) rfl), lw_t5 (List.mem_of_getElem? (i := 15) rfl), lw_t5 (List.mem_of_getElem? (i := 16) rfl)⟩
theorem lw_p35 : lw_okq (⟨"RiverGauge", "findMeasured", "(I)V"⟩, 48) := ⟨⟨by decide +kernel, by decide +kernel⟩, lw_t1 (List.mem_of_getElem? (i := 37) rfl), lw_t5 (List.mem_of_getElem? (i := 19) rfl), lw_t5 (List.mem_of_getElem? (i := 20) rfl)⟩
theorem lw_p36 : lw_okq (⟨"RiverGauge", "goesAll", "(I)Z"⟩, 48) := ⟨⟨by decide +kernel, by decide +kernel⟩, lw_t1 (List.mem_of_getElem? (i := 37) rfl), lw_t5 (List.mem_of_getElem? (i := 34) rfl), lw_t5 (List.mem_of_getElem? (i := 35) rfl)⟩
theorem lw_p37 : lw_okq (⟨"RiverGauge", "endOf", "(II)I"⟩, 48) := ⟨⟨by decide +kernel, by decide +kernel⟩, lw_t1 (List.mem_of_getElem? (i := 37) rfl), lw_t5 (List.mem_of_getElem? (i := 38) rfl), lw_t5 (List.mem_of_getElem? (i := 39) rfl)⟩
theorem lw_p38 : lw_okq (⟨"RiverGauge", "shiftOf", "(II)I"⟩, 48) := ⟨⟨by decide +kernel, by decide +kernel⟩, lw_t1 (List.mem_of_getElem? (i := 37) rfl), lw_t5 (List.mem_of_getElem? (i := 42) rfl), lw_t5 (List.mem_of_getElem? (i := 43) rfl)⟩
theorem lw_p39 : lw_okq (⟨"RiverGauge", "goWith", "(III)Z"⟩, 48) := ⟨⟨by decide +kernel, by decide +kernel⟩, lw_t1 (List.mem_of_getElem? (i := 37) rfl), lw_t5 (List.mem_of_getElem? (i := 46) rfl), lw_t5 (List.mem_of_getElem? (i := 47) rfl)⟩
theorem lw_p40 : lw_okq (⟨"RiverGauge", "shiftTold", "(II)I"⟩, 48) := ⟨⟨by decide +kernel, by decide +kernel⟩, lw_t1 (List.mem_of_getElem? (i := 37) rfl), lw_t5 (List.mem_of_getElem? (i := 51) rfl), lw_t5 (List.mem_of_getElem? (i := 52) rfl)⟩
theorem lw_p41 : lw_okq (⟨"RiverGauge", "judgeRow", "(I)I"⟩, 48) := ⟨⟨by decide +kernel, by decide +kernel⟩, lw_t1 (List.mem_of_getElem? (i := 37) rfl), lw_t5 (List.mem_of_getElem? (i := 55) rfl), lw_t5 (List.mem_of_getElem? (i := 56) rfl)⟩
theorem lw_p42 : lw_okq (⟨"RiverGauge", "ofFloods", "(IIIIII)I"⟩, 48) := ⟨⟨by decide +kernel, by decide +kernel⟩, lw_t1 (List.mem_of_getElem? (i := 37) rfl), lw_t5 (List.mem_of_getElem? (i := 61) rfl), lw_t5 (List.mem_of_getElem? (i := 62) rfl)⟩
theorem lw_p43 : lw_okq (⟨"RiverGauge", "tryReckon", "(III)LRiverGauge$Reckoned;"⟩, 48) := ⟨⟨by decide +kernel, by decide +kernel⟩, lw_t1 (List.mem_of_getElem? (i := 37) rfl), lw_t5 (List.mem_of_getElem? (i := 65) rfl), lw_t5 (List.mem_of_getElem? (i := 66) rfl)⟩
theorem lw_p44 : lw_okq (⟨"RiverGauge", "mendIt", "()I"⟩, 48) := ⟨⟨by decide +kernel, by decide +kernel⟩, lw_t1 (List.mem_of_getElem? (i := 37) rfl), lw_t5 (List.mem_of_getElem? (i := 69) rfl), lw_t5 (List.mem_of_getElem? (i := 70) rfl)⟩
theorem lw_p45 : lw_okq (⟨"RiverGauge", "ofTimes", "(IIIIII)I"⟩, 48) := ⟨⟨by decide +kernel, by decide +kernel⟩, lw_t1 (List.mem_of_getElem? (i := 37) rfl), lw_t5 (List.mem_of_getElem? (i := 73) rfl), lw_t5 (List.mem_of_getElem? (i := 74) rfl)⟩
theorem lw_p46 : lw_okq (⟨"RiverGauge", "gapTold", "(III)I"⟩, 48) := ⟨⟨by decide +kernel, by decide +kernel⟩, lw_t1 (List.mem_of_getElem? (i := 37) rfl), lw_t5 (List.mem_of_getElem? (i := 77) rfl), lw_t5 (List.mem_of_getElem? (i := 78) rfl)⟩
theorem lw_p47 : lw_okq (⟨"RiverGauge", "findGap", "(II)V"⟩, 48) := ⟨⟨by decide +kernel, by decide +kernel⟩, lw_t1 (List.mem_of_getElem? (i := 37) rfl), lw_t5 (List.mem_of_getElem? (i := 81) rfl), lw_t5 (List.mem_of_getElem? (i := 82) rfl)⟩
def lw_privs_3 : List (MethodName × Nat) := [(⟨"RiverGauge", "isUnder", "(III)Z"⟩, 48), (⟨"RiverGauge", "tellBase", "(IIII)I"⟩, 48), (⟨"RiverGauge", "findBreaks", "(I)V"⟩, 48), (⟨"RiverGauge", "findMeasured", "(I)V"⟩, 48), (⟨"RiverGauge", "goesAll", "(I)Z"⟩, 48), (⟨"RiverGauge", "endOf", "(II)I"⟩, 48), (⟨"RiverGauge", "shiftOf", "(II)I"⟩, 48), (⟨"RiverGauge", "goWith", "(III)Z"⟩, 48), (⟨"RiverGauge", "shiftTold", "(II)I"⟩, 48), (⟨"RiverGauge", "judgeRow", "(I)I"⟩, 48), (⟨"RiverGauge", "ofFloods", "(IIIIII)I"⟩, 48), (⟨"RiverGauge", "tryReckon", "(III)LRiverGauge$Reckoned;"⟩, 48), (⟨"RiverGauge", "mendIt", "()I"⟩, 48), (⟨"RiverGauge", "ofTimes", "(IIIIII)I"⟩, 48), (⟨"RiverGauge", "gapTold", "(III)I"⟩, 48), (⟨"RiverGauge", "findGap", "(II)V"⟩, 48)]
theorem lw_r3 : ∀ q ∈ lw_privs_3, lw_okq q := List.forall_mem_cons.mpr ⟨lw_p32, List.forall_mem_cons.mpr ⟨lw_p33, List.forall_mem_cons.mpr ⟨lw_p34, List.forall_mem_cons.mpr ⟨lw_p35, List.forall_mem_cons.mpr ⟨lw_p36, List.forall_mem_cons.mpr ⟨lw_p37, List.forall_mem_cons.mpr ⟨lw_p38, List.forall_mem_cons.mpr ⟨lw_p39, List.forall_mem_cons.mpr ⟨lw_p40, List.forall_mem_cons.mpr ⟨lw_p41, List.forall_mem_cons.mpr ⟨lw_p42, List.forall_mem_cons.mpr ⟨lw_p43, List.forall_mem_cons.mpr ⟨lw_p44, List.forall_mem_cons.mpr ⟨lw_p45, List.forall_mem_cons.mpr ⟨lw_p46, List.forall_mem_cons.mpr ⟨lw_p47, fun _ h => absurd h List.not_mem_nil⟩⟩⟩⟩⟩⟩⟩⟩⟩⟩⟩⟩⟩⟩⟩⟩
theorem lw_p48 : lw_okq (⟨"RiverGauge", "lets", "(II)Z"⟩, 48) := ⟨⟨by decide +kernel, by decide +kernel⟩, lw_t1 (List.mem_of_getElem? (i := 37) rfl), lw_t5 (List.mem_of_getElem? (i := 85) rfl), lw_t5 (List.mem_of_getElem? (i := 86) rfl)⟩
theorem lw_p49 : lw_okq (⟨"RiverGauge", "between", "(II)I"⟩, 48) := ⟨⟨by decide +kernel, by decide +kernel⟩, lw_t1 (List.mem_of_getElem? (i := 37) rfl), lw_t5 (List.mem_of_getElem? (i := 89) rfl), lw_t5 (List.mem_of_getElem? (i := 90) rfl)⟩
theorem lw_p50 : lw_okq (⟨"RiverGauge", "peakOf", "(IIII)I"⟩, 48) := ⟨⟨by decide +kernel, by decide +kernel⟩, lw_t1 (List.mem_of_getElem? (i := 37) rfl), lw_t5 (List.mem_of_getElem? (i := 93) rfl), lw_t5 (List.mem_of_getElem? (i := 94) rfl)⟩
theorem lw_p51 : lw_okq (⟨"RiverGauge", "oftenIn", "(II)I"⟩, 48) := ⟨⟨by decide +kernel, by decide +kernel⟩, lw_t1 (List.mem_of_getElem? (i := 37) rfl), lw_t5 (List.mem_of_getElem? (i := 98) rfl), lw_t5 (List.mem_of_getElem? (i := 99) rfl)⟩
theorem lw_p52 : lw_okq (⟨"RiverGauge", "agreeTold", "(IIIII)I"⟩, 48) := ⟨⟨by decide +kernel, by decide +kernel⟩, lw_t1 (List.mem_of_getElem? (i := 37) rfl), lw_t5 (List.mem_of_getElem? (i := 102) rfl), lw_t5 (List.mem_of_getElem? (i := 103) rfl)⟩
theorem lw_p53 : lw_okq (⟨"RiverGauge", "nextAt", "(I)I"⟩, 48) := ⟨⟨by decide +kernel, by decide +kernel⟩, lw_t1 (List.mem_of_getElem? (i := 37) rfl), lw_t5 (List.mem_of_getElem? (i := 109) rfl), lw_t5 (List.mem_of_getElem? (i := 110) rfl)⟩
theorem lw_p54 : lw_okq (⟨"RiverGauge", "publishIt", "(II)I"⟩, 48) := ⟨⟨by decide +kernel, by decide +kernel⟩, lw_t1 (List.mem_of_getElem? (i := 37) rfl), lw_t5 (List.mem_of_getElem? (i := 117) rfl), lw_t5 (List.mem_of_getElem? (i := 118) rfl)⟩
theorem lw_p55 : lw_okq (⟨"RiverGauge", "refuse", "(I)I"⟩, 48) := ⟨⟨by decide +kernel, by decide +kernel⟩, lw_t1 (List.mem_of_getElem? (i := 37) rfl), lw_t5 (List.mem_of_getElem? (i := 128) rfl), lw_t5 (List.mem_of_getElem? (i := 129) rfl)⟩
theorem lw_p56 : lw_okq (⟨"RiverGauge", "actFar", "(IIIIII)I"⟩, 48) := ⟨⟨by decide +kernel, by decide +kernel⟩, lw_t1 (List.mem_of_getElem? (i := 37) rfl), lw_t5 (List.mem_of_getElem? (i := 144) rfl), lw_t5 (List.mem_of_getElem? (i := 145) rfl)⟩
theorem lw_p57 : lw_okq (⟨"RiverGauge", "feedIt", "(IJ)I"⟩, 48) := ⟨⟨by decide +kernel, by decide +kernel⟩, lw_t1 (List.mem_of_getElem? (i := 37) rfl), lw_t5 (List.mem_of_getElem? (i := 181) rfl), lw_t5 (List.mem_of_getElem? (i := 182) rfl)⟩
theorem lw_p58 : lw_okq (⟨"RiverGaugeModel", "no", "(I)I"⟩, 89) := ⟨⟨by decide +kernel, by decide +kernel⟩, lw_t6 (List.mem_of_getElem? (i := 43) rfl), lw_t7 (List.mem_of_getElem? (i := 81) rfl), lw_t7 (List.mem_of_getElem? (i := 82) rfl)⟩
theorem lw_p59 : lw_okq (⟨"RiverGaugeModel", "isPost", "(I)Z"⟩, 89) := ⟨⟨by decide +kernel, by decide +kernel⟩, lw_t6 (List.mem_of_getElem? (i := 43) rfl), lw_t7 (List.mem_of_getElem? (i := 93) rfl), lw_t7 (List.mem_of_getElem? (i := 94) rfl)⟩
theorem lw_p60 : lw_okq (⟨"RiverGaugeModel", "far", "(I)I"⟩, 89) := ⟨⟨by decide +kernel, by decide +kernel⟩, lw_t6 (List.mem_of_getElem? (i := 43) rfl), lw_t7 (List.mem_of_getElem? (i := 104) rfl), lw_t7 (List.mem_of_getElem? (i := 105) rfl)⟩
theorem lw_p61 : lw_okq (⟨"RiverGaugeModel", "zeroOf", "(III)I"⟩, 89) := ⟨⟨by decide +kernel, by decide +kernel⟩, lw_t6 (List.mem_of_getElem? (i := 43) rfl), lw_t7 (List.mem_of_getElem? (i := 109) rfl), lw_t7 (List.mem_of_getElem? (i := 110) rfl)⟩
theorem lw_p62 : lw_okq (⟨"RiverGaugeModel", "isTold", "(II)Z"⟩, 89) := ⟨⟨by decide +kernel, by decide +kernel⟩, lw_t6 (List.mem_of_getElem? (i := 43) rfl), lw_t7 (List.mem_of_getElem? (i := 125) rfl), lw_t7 (List.mem_of_getElem? (i := 126) rfl)⟩
theorem lw_p63 : lw_okq (⟨"RiverGaugeModel", "isByStandard", "(II)Z"⟩, 89) := ⟨⟨by decide +kernel, by decide +kernel⟩, lw_t6 (List.mem_of_getElem? (i := 43) rfl), lw_t7 (List.mem_of_getElem? (i := 129) rfl), lw_t7 (List.mem_of_getElem? (i := 130) rfl)⟩
def lw_privs_4 : List (MethodName × Nat) := [(⟨"RiverGauge", "lets", "(II)Z"⟩, 48), (⟨"RiverGauge", "between", "(II)I"⟩, 48), (⟨"RiverGauge", "peakOf", "(IIII)I"⟩, 48), (⟨"RiverGauge", "oftenIn", "(II)I"⟩, 48), (⟨"RiverGauge", "agreeTold", "(IIIII)I"⟩, 48), (⟨"RiverGauge", "nextAt", "(I)I"⟩, 48), (⟨"RiverGauge", "publishIt", "(II)I"⟩, 48), (⟨"RiverGauge", "refuse", "(I)I"⟩, 48), (⟨"RiverGauge", "actFar", "(IIIIII)I"⟩, 48), (⟨"RiverGauge", "feedIt", "(IJ)I"⟩, 48), (⟨"RiverGaugeModel", "no", "(I)I"⟩, 89), (⟨"RiverGaugeModel", "isPost", "(I)Z"⟩, 89), (⟨"RiverGaugeModel", "far", "(I)I"⟩, 89), (⟨"RiverGaugeModel", "zeroOf", "(III)I"⟩, 89), (⟨"RiverGaugeModel", "isTold", "(II)Z"⟩, 89), (⟨"RiverGaugeModel", "isByStandard", "(II)Z"⟩, 89)]
theorem lw_r4 : ∀ q ∈ lw_privs_4, lw_okq q := List.forall_mem_cons.mpr ⟨lw_p48, List.forall_mem_cons.mpr ⟨lw_p49, List.forall_mem_cons.mpr ⟨lw_p50, List.forall_mem_cons.mpr ⟨lw_p51, List.forall_mem_cons.mpr ⟨lw_p52, List.forall_mem_cons.mpr ⟨lw_p53, List.forall_mem_cons.mpr ⟨lw_p54, List.forall_mem_cons.mpr ⟨lw_p55, List.forall_mem_cons.mpr ⟨lw_p56, List.forall_mem_cons.mpr ⟨lw_p57, List.forall_mem_cons.mpr ⟨lw_p58, List.forall_mem_cons.mpr ⟨lw_p59, List.forall_mem_cons.mpr ⟨lw_p60, List.forall_mem_cons.mpr ⟨lw_p61, List.forall_mem_cons.mpr ⟨lw_p62, List.forall_mem_cons.mpr ⟨lw_p63, fun _ h => absurd h List.not_mem_nil⟩⟩⟩⟩⟩⟩⟩⟩⟩⟩⟩⟩⟩⟩⟩⟩
theorem lw_p64 : lw_okq (⟨"RiverGaugeModel", "inForce", "(III)I"⟩, 89) := ⟨⟨by decide +kernel, by decide +kernel⟩, lw_t6 (List.mem_of_getElem? (i := 43) rfl), lw_t7 (List.mem_of_getElem? (i := 133) rfl), lw_t7 (List.mem_of_getElem? (i := 134) rfl)⟩
theorem lw_p65 : lw_okq (⟨"RiverGaugeModel", "ahead", "(II)I"⟩, 89) := ⟨⟨by decide +kernel, by decide +kernel⟩, lw_t6 (List.mem_of_getElem? (i := 43) rfl), lw_t7 (List.mem_of_getElem? (i := 137) rfl), lw_t7 (List.mem_of_getElem? (i := 138) rfl)⟩
theorem lw_p66 : lw_okq (⟨"RiverGaugeModel", "lays", "(I)V"⟩, 89) := ⟨⟨by decide +kernel, by decide +kernel⟩, lw_t6 (List.mem_of_getElem? (i := 43) rfl), lw_t7 (List.mem_of_getElem? (i := 141) rfl), lw_t7 (List.mem_of_getElem? (i := 142) rfl)⟩
theorem lw_p67 : lw_okq (⟨"RiverGaugeModel", "says", "(I)Z"⟩, 89) := ⟨⟨by decide +kernel, by decide +kernel⟩, lw_t6 (List.mem_of_getElem? (i := 43) rfl), lw_t7 (List.mem_of_getElem? (i := 146) rfl), lw_t7 (List.mem_of_getElem? (i := 147) rfl)⟩
theorem lw_p68 : lw_okq (⟨"RiverGaugeModel", "has", "(III)Z"⟩, 89) := ⟨⟨by decide +kernel, by decide +kernel⟩, lw_t6 (List.mem_of_getElem? (i := 43) rfl), lw_t7 (List.mem_of_getElem? (i := 159) rfl), lw_t7 (List.mem_of_getElem? (i := 160) rfl)⟩
theorem lw_p69 : lw_okq (⟨"RiverGaugeModel", "which", "(III)I"⟩, 89) := ⟨⟨by decide +kernel, by decide +kernel⟩, lw_t6 (List.mem_of_getElem? (i := 43) rfl), lw_t7 (List.mem_of_getElem? (i := 163) rfl), lw_t7 (List.mem_of_getElem? (i := 164) rfl)⟩
theorem lw_p70 : lw_okq (⟨"RiverGaugeModel", "isIn", "(II)Z"⟩, 89) := ⟨⟨by decide +kernel, by decide +kernel⟩, lw_t6 (List.mem_of_getElem? (i := 43) rfl), lw_t7 (List.mem_of_getElem? (i := 180) rfl), lw_t7 (List.mem_of_getElem? (i := 181) rfl)⟩
theorem lw_p71 : lw_okq (⟨"RiverGaugeModel", "isText", "()Z"⟩, 89) := ⟨⟨by decide +kernel, by decide +kernel⟩, lw_t6 (List.mem_of_getElem? (i := 43) rfl), lw_t7 (List.mem_of_getElem? (i := 193) rfl), lw_t7 (List.mem_of_getElem? (i := 194) rfl)⟩
theorem lw_p72 : lw_okq (⟨"RiverGaugeModel", "sign", "()I"⟩, 89) := ⟨⟨by decide +kernel, by decide +kernel⟩, lw_t6 (List.mem_of_getElem? (i := 43) rfl), lw_t7 (List.mem_of_getElem? (i := 197) rfl), lw_t7 (List.mem_of_getElem? (i := 198) rfl)⟩
theorem lw_p73 : lw_okq (⟨"RiverGaugeModel", "isTest", "()Z"⟩, 89) := ⟨⟨by decide +kernel, by decide +kernel⟩, lw_t6 (List.mem_of_getElem? (i := 43) rfl), lw_t7 (List.mem_of_getElem? (i := 201) rfl), lw_t7 (List.mem_of_getElem? (i := 202) rfl)⟩
theorem lw_p74 : lw_okq (⟨"RiverGaugeModel", "isSum", "()Z"⟩, 89) := ⟨⟨by decide +kernel, by decide +kernel⟩, lw_t6 (List.mem_of_getElem? (i := 43) rfl), lw_t7 (List.mem_of_getElem? (i := 205) rfl), lw_t7 (List.mem_of_getElem? (i := 206) rfl)⟩
theorem lw_p75 : lw_okq (⟨"RiverGaugeModel", "isUnit", "()Z"⟩, 89) := ⟨⟨by decide +kernel, by decide +kernel⟩, lw_t6 (List.mem_of_getElem? (i := 43) rfl), lw_t7 (List.mem_of_getElem? (i := 209) rfl), lw_t7 (List.mem_of_getElem? (i := 210) rfl)⟩
theorem lw_p76 : lw_okq (⟨"RiverGaugeModel", "denies", "()V"⟩, 89) := ⟨⟨by decide +kernel, by decide +kernel⟩, lw_t6 (List.mem_of_getElem? (i := 43) rfl), lw_t7 (List.mem_of_getElem? (i := 216) rfl), lw_t7 (List.mem_of_getElem? (i := 217) rfl)⟩
theorem lw_p77 : lw_okq (⟨"RiverGaugeModel", "pops", "(Z)V"⟩, 89) := ⟨⟨by decide +kernel, by decide +kernel⟩, lw_t6 (List.mem_of_getElem? (i := 43) rfl), lw_t7 (List.mem_of_getElem? (i := 220) rfl), lw_t7 (List.mem_of_getElem? (i := 221) rfl)⟩
theorem lw_p78 : lw_okq (⟨"RiverGaugeModel", "known", "(III)I"⟩, 89) := ⟨⟨by decide +kernel, by decide +kernel⟩, lw_t6 (List.mem_of_getElem? (i := 43) rfl), lw_t7 (List.mem_of_getElem? (i := 236) rfl), lw_t7 (List.mem_of_getElem? (i := 237) rfl)⟩
theorem lw_p79 : lw_okq (⟨"RiverGaugeModel", "makes", "(III)V"⟩, 89) := ⟨⟨by decide +kernel, by decide +kernel⟩, lw_t6 (List.mem_of_getElem? (i := 43) rfl), lw_t8 (List.mem_of_getElem? (i := 0) rfl), lw_t8 (List.mem_of_getElem? (i := 1) rfl)⟩
def lw_privs_5 : List (MethodName × Nat) := [(⟨"RiverGaugeModel", "inForce", "(III)I"⟩, 89), (⟨"RiverGaugeModel", "ahead", "(II)I"⟩, 89), (⟨"RiverGaugeModel", "lays", "(I)V"⟩, 89), (⟨"RiverGaugeModel", "says", "(I)Z"⟩, 89), (⟨"RiverGaugeModel", "has", "(III)Z"⟩, 89), (⟨"RiverGaugeModel", "which", "(III)I"⟩, 89), (⟨"RiverGaugeModel", "isIn", "(II)Z"⟩, 89), (⟨"RiverGaugeModel", "isText", "()Z"⟩, 89), (⟨"RiverGaugeModel", "sign", "()I"⟩, 89), (⟨"RiverGaugeModel", "isTest", "()Z"⟩, 89), (⟨"RiverGaugeModel", "isSum", "()Z"⟩, 89), (⟨"RiverGaugeModel", "isUnit", "()Z"⟩, 89), (⟨"RiverGaugeModel", "denies", "()V"⟩, 89), (⟨"RiverGaugeModel", "pops", "(Z)V"⟩, 89), (⟨"RiverGaugeModel", "known", "(III)I"⟩, 89), (⟨"RiverGaugeModel", "makes", "(III)V"⟩, 89)]
theorem lw_r5 : ∀ q ∈ lw_privs_5, lw_okq q := List.forall_mem_cons.mpr ⟨lw_p64, List.forall_mem_cons.mpr ⟨lw_p65, List.forall_mem_cons.mpr ⟨lw_p66, List.forall_mem_cons.mpr ⟨lw_p67, List.forall_mem_cons.mpr ⟨lw_p68, List.forall_mem_cons.mpr ⟨lw_p69, List.forall_mem_cons.mpr ⟨lw_p70, List.forall_mem_cons.mpr ⟨lw_p71, List.forall_mem_cons.mpr ⟨lw_p72, List.forall_mem_cons.mpr ⟨lw_p73, List.forall_mem_cons.mpr ⟨lw_p74, List.forall_mem_cons.mpr ⟨lw_p75, List.forall_mem_cons.mpr ⟨lw_p76, List.forall_mem_cons.mpr ⟨lw_p77, List.forall_mem_cons.mpr ⟨lw_p78, List.forall_mem_cons.mpr ⟨lw_p79, fun _ h => absurd h List.not_mem_nil⟩⟩⟩⟩⟩⟩⟩⟩⟩⟩⟩⟩⟩⟩⟩⟩
theorem lw_p80 : lw_okq (⟨"RiverGaugeModel", "makes", "(IIII)V"⟩, 89) := ⟨⟨by decide +kernel, by decide +kernel⟩, lw_t6 (List.mem_of_getElem? (i := 43) rfl), lw_t8 (List.mem_of_getElem? (i := 4) rfl), lw_t8 (List.mem_of_getElem? (i := 5) rfl)⟩
theorem lw_p81 : lw_okq (⟨"RiverGaugeModel", "along", "([I[IIIII)I"⟩, 89) := ⟨⟨by decide +kernel, by decide +kernel⟩, lw_t6 (List.mem_of_getElem? (i := 43) rfl), lw_t8 (List.mem_of_getElem? (i := 16) rfl), lw_t8 (List.mem_of_getElem? (i := 17) rfl)⟩
theorem lw_p82 : lw_okq (⟨"RiverGaugeModel", "flows", "(III)Z"⟩, 89) := ⟨⟨by decide +kernel, by decide +kernel⟩, lw_t6 (List.mem_of_getElem? (i := 43) rfl), lw_t8 (List.mem_of_getElem? (i := 30) rfl), lw_t8 (List.mem_of_getElem? (i := 31) rfl)⟩
theorem lw_p83 : lw_okq (⟨"RiverGaugeModel", "hundredths", "(IIII)I"⟩, 89) := ⟨⟨by decide +kernel, by decide +kernel⟩, lw_t6 (List.mem_of_getElem? (i := 43) rfl), lw_t8 (List.mem_of_getElem? (i := 34) rfl), lw_t8 (List.mem_of_getElem? (i := 35) rfl)⟩
theorem lw_p84 : lw_okq (⟨"RiverGaugeModel", "gathers", "(I)V"⟩, 89) := ⟨⟨by decide +kernel, by decide +kernel⟩, lw_t6 (List.mem_of_getElem? (i := 43) rfl), lw_t8 (List.mem_of_getElem? (i := 47) rfl), lw_t8 (List.mem_of_getElem? (i := 48) rfl)⟩
theorem lw_p85 : lw_okq (⟨"RiverGaugeModel", "seeks", "(I)V"⟩, 89) := ⟨⟨by decide +kernel, by decide +kernel⟩, lw_t6 (List.mem_of_getElem? (i := 43) rfl), lw_t8 (List.mem_of_getElem? (i := 51) rfl), lw_t8 (List.mem_of_getElem? (i := 52) rfl)⟩
theorem lw_p86 : lw_okq (⟨"RiverGaugeModel", "tries", "(I)V"⟩, 89) := ⟨⟨by decide +kernel, by decide +kernel⟩, lw_t6 (List.mem_of_getElem? (i := 43) rfl), lw_t8 (List.mem_of_getElem? (i := 55) rfl), lw_t8 (List.mem_of_getElem? (i := 56) rfl)⟩
theorem lw_p87 : lw_okq (⟨"RiverGaugeModel", "shiftOf", "(III)I"⟩, 89) := ⟨⟨by decide +kernel, by decide +kernel⟩, lw_t6 (List.mem_of_getElem? (i := 43) rfl), lw_t8 (List.mem_of_getElem? (i := 59) rfl), lw_t8 (List.mem_of_getElem? (i := 60) rfl)⟩
theorem lw_p88 : lw_okq (⟨"RiverGaugeModel", "goes", "(IIII)Z"⟩, 89) := ⟨⟨by decide +kernel, by decide +kernel⟩, lw_t6 (List.mem_of_getElem? (i := 43) rfl), lw_t8 (List.mem_of_getElem? (i := 63) rfl), lw_t8 (List.mem_of_getElem? (i := 64) rfl)⟩
theorem lw_p89 : lw_okq (⟨"RiverGaugeModel", "goesAll", "(I)Z"⟩, 89) := ⟨⟨by decide +kernel, by decide +kernel⟩, lw_t6 (List.mem_of_getElem? (i := 43) rfl), lw_t8 (List.mem_of_getElem? (i := 70) rfl), lw_t8 (List.mem_of_getElem? (i := 71) rfl)⟩
def lw_privs_6 : List (MethodName × Nat) := [(⟨"RiverGaugeModel", "makes", "(IIII)V"⟩, 89), (⟨"RiverGaugeModel", "along", "([I[IIIII)I"⟩, 89), (⟨"RiverGaugeModel", "flows", "(III)Z"⟩, 89), (⟨"RiverGaugeModel", "hundredths", "(IIII)I"⟩, 89), (⟨"RiverGaugeModel", "gathers", "(I)V"⟩, 89), (⟨"RiverGaugeModel", "seeks", "(I)V"⟩, 89), (⟨"RiverGaugeModel", "tries", "(I)V"⟩, 89), (⟨"RiverGaugeModel", "shiftOf", "(III)I"⟩, 89), (⟨"RiverGaugeModel", "goes", "(IIII)Z"⟩, 89), (⟨"RiverGaugeModel", "goesAll", "(I)Z"⟩, 89)]
theorem lw_r6 : ∀ q ∈ lw_privs_6, lw_okq q := List.forall_mem_cons.mpr ⟨lw_p80, List.forall_mem_cons.mpr ⟨lw_p81, List.forall_mem_cons.mpr ⟨lw_p82, List.forall_mem_cons.mpr ⟨lw_p83, List.forall_mem_cons.mpr ⟨lw_p84, List.forall_mem_cons.mpr ⟨lw_p85, List.forall_mem_cons.mpr ⟨lw_p86, List.forall_mem_cons.mpr ⟨lw_p87, List.forall_mem_cons.mpr ⟨lw_p88, List.forall_mem_cons.mpr ⟨lw_p89, fun _ h => absurd h List.not_mem_nil⟩⟩⟩⟩⟩⟩⟩⟩⟩⟩
def lw_privs : List (MethodName × Nat) := lw_privs_1 ++ (lw_privs_2 ++ (lw_privs_3 ++ (lw_privs_4 ++ (lw_privs_5 ++ (lw_privs_6)))))
def lw_tbl : List Cond := k2_sels lw_privs ++ tables_1
theorem lw_privs_ok : ∀ q ∈ lw_privs, lw_okq q := by
  show ∀ q ∈ lw_privs_1 ++ (lw_privs_2 ++ (lw_privs_3 ++ (lw_privs_4 ++ (lw_privs_5 ++ (lw_privs_6))))), lw_okq q
  exact List.forall_mem_append.mpr ⟨lw_r1, List.forall_mem_append.mpr ⟨lw_r2, List.forall_mem_append.mpr ⟨lw_r3, List.forall_mem_append.mpr ⟨lw_r4, List.forall_mem_append.mpr ⟨lw_r5, lw_r6⟩⟩⟩⟩⟩
-- ===== ONE list of words for every method: the tables' words that hold all through a run =====
def lw_all : List Cond := lw_tbl.filter goodWord
/-- a word of the tables by its place: claim/WORDS.tsv -/
theorem lw_w {w : Cond} (i : Nat) (h : lw_tbl[i]? = some w) (g : goodWord w = true) : w ∈ lw_all := List.mem_filter.mpr ⟨List.mem_of_getElem? h, g⟩
theorem lw_all_tbl {w : Cond} (h : w ∈ lw_all) : w ∈ lw_tbl := (List.mem_filter.mp h).1
theorem lw_self : GoodIn lw_all lw_all := fun w h => ⟨h, good_of_word (List.mem_filter.mp h).2⟩
/-- a class's field words, by their places -/
theorem lw_in (ws : List Cond) (ps : List Nat) (hp : ws = ps.filterMap (fun i => lw_tbl[i]?)) (hg : ws.all goodWord = true) : ∀ w ∈ ws, w ∈ lw_all := by
  intro w h
  have h1 := List.all_eq_true.mp hg w h
  rw [hp] at h
  obtain ⟨i, -, hi⟩ := List.mem_filterMap.mp h
  exact lw_w i hi h1
/-- the words of a contract for the method y with code b, L locals, answer r -/
abbrev ws_ (y : MethodName) (b : ByteArray) (L : Nat) (r : Option FieldType) : List Cond := Cond.code y b L r :: lw_all
theorem lw_meth {y : MethodName} {b : ByteArray} {L : Nat} {r : Option FieldType} (h : Cond.code y b L r ∈ lw_all) : GoodIn lw_all (ws_ y b L r) := by
  intro w hw
  rcases List.mem_cons.mp hw with e | e
  · rw [e]
    exact lw_self _ h
  · exact lw_self _ e
theorem lw_app {a c : List Cond} (ha : ∀ w ∈ a, w ∈ lw_all) (hc : GoodIn lw_all c) : GoodIn lw_all (a ++ c) := by
  intro w hw
  rcases List.mem_append.mp hw with e | e
  · exact lw_self w (ha w e)
  · exact hc w e
/-- what a call through an object asks: cwV n hts (lw_V ..) -/
theorem lw_V {own : String} {idx : Nat} {C : String} {y : MethodName} {b : ByteArray} {L : Nat} {r : Option FieldType} (h1 : Cond.methodLink own idx y ∈ lw_all) (h2 : Cond.instanceMethod y ∈ lw_all) (h3 : Cond.selects C y y ∈ lw_all) (h4 : Cond.initialized C ∈ lw_all) (h5 : Cond.code y b L r ∈ lw_all) : GoodIn lw_all (wsV own idx C y (ws_ y b L r)) := by
  refine lw_app ?_ (lw_meth h5)
  intro w hw
  simp only [List.mem_cons, List.not_mem_nil, or_false] at hw
  rcases hw with e | e | e | e
  · rw [e]; exact h1
  · rw [e]; exact h2
  · rw [e]; exact h3
  · rw [e]; exact h4
/-- what a static call asks: va_cwS n hts (lw_S ..) -/
theorem lw_S {own : String} {idx : Nat} {y : MethodName} {b : ByteArray} {L : Nat} {r : Option FieldType} (h1 : Cond.methodLink own idx y ∈ lw_all) (h2 : Cond.static y ∈ lw_all) (h3 : Cond.initialized y.cls ∈ lw_all) (h4 : Cond.code y b L r ∈ lw_all) : GoodIn lw_all (va_wsS own idx y (ws_ y b L r)) := by
  refine lw_app ?_ (lw_meth h4)
  intro w hw
  simp only [List.mem_cons, List.not_mem_nil, or_false] at hw
  rcases hw with e | e | e
  · rw [e]; exact h1
  · rw [e]; exact h2
  · rw [e]; exact h3
/-- the words of a contract for a method WITH HANDLERS (hh: its table) -/
abbrev wsW_ (y : MethodName) (b : ByteArray) (L : Nat) (r : Option FieldType) (hh : List (Nat × Nat × Nat × Nat)) : List Cond := Cond.codeWith y b L r hh :: lw_all
theorem lw_methW {y : MethodName} {b : ByteArray} {L : Nat} {r : Option FieldType} {hh : List (Nat × Nat × Nat × Nat)} (h : Cond.codeWith y b L r hh ∈ lw_all) : GoodIn lw_all (wsW_ y b L r hh) := by
  intro w hw
  rcases List.mem_cons.mp hw with e | e
  · rw [e]
    exact lw_self _ h
  · exact lw_self _ e
/-- any list of words by their places (lw_in), good -/
theorem lw_good {ws : List Cond} (h : ∀ w ∈ ws, w ∈ lw_all) : GoodIn lw_all ws := fun w hw => lw_self w (h w hw)
/-- what a call of a method with handlers asks: vx_cwVW n hts (lw_VW ..), vx_cwSW n hts (lw_SW ..) -/
theorem lw_VW {own : String} {idx : Nat} {C : String} {y : MethodName} {b : ByteArray} {L : Nat} {r : Option FieldType} {hh : List (Nat × Nat × Nat × Nat)} (h1 : Cond.methodLink own idx y ∈ lw_all) (h2 : Cond.instanceMethod y ∈ lw_all) (h3 : Cond.selects C y y ∈ lw_all) (h4 : Cond.initialized C ∈ lw_all) (h5 : Cond.codeWith y b L r hh ∈ lw_all) : GoodIn lw_all (wsV own idx C y (wsW_ y b L r hh)) := by
  refine lw_app ?_ (lw_methW h5)
  intro w hw
  simp only [List.mem_cons, List.not_mem_nil, or_false] at hw
  rcases hw with e | e | e | e
  · rw [e]; exact h1
  · rw [e]; exact h2
  · rw [e]; exact h3
  · rw [e]; exact h4
theorem lw_SW {own : String} {idx : Nat} {y : MethodName} {b : ByteArray} {L : Nat} {r : Option FieldType} {hh : List (Nat × Nat × Nat × Nat)} (h1 : Cond.methodLink own idx y ∈ lw_all) (h2 : Cond.static y ∈ lw_all) (h3 : Cond.initialized y.cls ∈ lw_all) (h4 : Cond.codeWith y b L r hh ∈ lw_all) : GoodIn lw_all (va_wsS own idx y (wsW_ y b L r hh)) := by
  refine lw_app ?_ (lw_methW h4)
  intro w hw
  simp only [List.mem_cons, List.not_mem_nil, or_false] at hw
  rcases hw with e | e | e
  · rw [e]; exact h1
  · rw [e]; exact h2
  · rw [e]; exact h3
/-- a word by its place in its run of the tables -/
theorem lw_at {r : List Cond} (hr : ∀ w ∈ r, w ∈ lw_tbl) {w : Cond} (i : Nat) (h : r[i]? = some w) : w ∈ lw_tbl := hr w (List.mem_of_getElem? h)
theorem lw_g {w : Cond} (h : w ∈ lw_tbl) (g : goodWord w = true) : w ∈ lw_all := List.mem_filter.mpr ⟨h, g⟩
theorem lw_ms : ∀ w ∈ k2_sels lw_privs, w ∈ lw_tbl := fun w h => show w ∈ k2_sels lw_privs ++ tables_1 from List.mem_append_left _ h
theorem lw_m1 : ∀ w ∈ tables_1_1, w ∈ lw_tbl := fun w h => show w ∈ k2_sels lw_privs ++ tables_1 from List.mem_append_right (k2_sels lw_privs) (show w ∈ tables_1 from List.mem_append_left _ h)
theorem lw_m2 : ∀ w ∈ tables_1_2, w ∈ lw_tbl := fun w h => show w ∈ k2_sels lw_privs ++ tables_1 from List.mem_append_right (k2_sels lw_privs) (show w ∈ tables_1 from List.mem_append_right _ (List.mem_append_left _ h))
theorem lw_m3 : ∀ w ∈ tables_1_3, w ∈ lw_tbl := fun w h => show w ∈ k2_sels lw_privs ++ tables_1 from List.mem_append_right (k2_sels lw_privs) (show w ∈ tables_1 from List.mem_append_right _ (List.mem_append_right _ (List.mem_append_left _ h)))
theorem lw_m4 : ∀ w ∈ tables_1_4, w ∈ lw_tbl := fun w h => show w ∈ k2_sels lw_privs ++ tables_1 from List.mem_append_right (k2_sels lw_privs) (show w ∈ tables_1 from List.mem_append_right _ (List.mem_append_right _ (List.mem_append_right _ (List.mem_append_left _ h))))
theorem lw_m5 : ∀ w ∈ tables_1_5, w ∈ lw_tbl := fun w h => show w ∈ k2_sels lw_privs ++ tables_1 from List.mem_append_right (k2_sels lw_privs) (show w ∈ tables_1 from List.mem_append_right _ (List.mem_append_right _ (List.mem_append_right _ (List.mem_append_right _ (List.mem_append_left _ h)))))
theorem lw_m6 : ∀ w ∈ tables_1_6, w ∈ lw_tbl := fun w h => show w ∈ k2_sels lw_privs ++ tables_1 from List.mem_append_right (k2_sels lw_privs) (show w ∈ tables_1 from List.mem_append_right _ (List.mem_append_right _ (List.mem_append_right _ (List.mem_append_right _ (List.mem_append_right _ (List.mem_append_left _ h))))))
theorem lw_m7 : ∀ w ∈ tables_1_7, w ∈ lw_tbl := fun w h => show w ∈ k2_sels lw_privs ++ tables_1 from List.mem_append_right (k2_sels lw_privs) (show w ∈ tables_1 from List.mem_append_right _ (List.mem_append_right _ (List.mem_append_right _ (List.mem_append_right _ (List.mem_append_right _ (List.mem_append_right _ (List.mem_append_left _ h)))))))
theorem lw_m8 : ∀ w ∈ tables_1_8, w ∈ lw_tbl := fun w h => show w ∈ k2_sels lw_privs ++ tables_1 from List.mem_append_right (k2_sels lw_privs) (show w ∈ tables_1 from List.mem_append_right _ (List.mem_append_right _ (List.mem_append_right _ (List.mem_append_right _ (List.mem_append_right _ (List.mem_append_right _ (List.mem_append_right _ h)))))))
theorem qs0 : (Cond.selects "RiverGauge" ⟨"RiverGauge", "act", "(IIIIII)I"⟩ ⟨"RiverGauge", "act", "(IIIIII)I"⟩) ∈ lw_all := lw_g (lw_at lw_ms 0 rfl) rfl
theorem qs1 : (Cond.selects "RiverGauge" ⟨"RiverGauge", "ofOffice", "(IIIIII)I"⟩ ⟨"RiverGauge", "ofOffice", "(IIIIII)I"⟩) ∈ lw_all := lw_g (lw_at lw_ms 1 rfl) rfl
theorem qs2 : (Cond.selects "RiverGauge" ⟨"RiverGauge", "ofPosts", "(IIII)I"⟩ ⟨"RiverGauge", "ofPosts", "(IIII)I"⟩) ∈ lw_all := lw_g (lw_at lw_ms 2 rfl) rfl
theorem qs3 : (Cond.selects "java/lang/Throwable" ⟨"java/lang/Throwable", "fillInStackTrace", "(I)Ljava/lang/Throwable;"⟩ ⟨"java/lang/Throwable", "fillInStackTrace", "(I)Ljava/lang/Throwable;"⟩) ∈ lw_all := lw_g (lw_at lw_ms 3 rfl) rfl
theorem qs4 : (Cond.selects "RiverGauge" ⟨"RiverGauge", "stale", "()V"⟩ ⟨"RiverGauge", "stale", "()V"⟩) ∈ lw_all := lw_g (lw_at lw_ms 4 rfl) rfl
theorem qs5 : (Cond.selects "RiverGauge" ⟨"RiverGauge", "zeroOf", "(III)I"⟩ ⟨"RiverGauge", "zeroOf", "(III)I"⟩) ∈ lw_all := lw_g (lw_at lw_ms 5 rfl) rfl
theorem qs6 : (Cond.selects "RiverGauge" ⟨"RiverGauge", "ofHeights", "(IIIII)I"⟩ ⟨"RiverGauge", "ofHeights", "(IIIII)I"⟩) ∈ lw_all := lw_g (lw_at lw_ms 6 rfl) rfl
theorem qs7 : (Cond.selects "RiverGauge" ⟨"RiverGauge", "struckBy", "(II)I"⟩ ⟨"RiverGauge", "struckBy", "(II)I"⟩) ∈ lw_all := lw_g (lw_at lw_ms 7 rfl) rfl
theorem qs8 : (Cond.selects "RiverGauge" ⟨"RiverGauge", "standardFor", "(III)LRiverGauge$Standard;"⟩ ⟨"RiverGauge", "standardFor", "(III)LRiverGauge$Standard;"⟩) ∈ lw_all := lw_g (lw_at lw_ms 8 rfl) rfl
theorem qs9 : (Cond.selects "RiverGauge" ⟨"RiverGauge", "aheadOf", "(II)LRiverGauge$Height;"⟩ ⟨"RiverGauge", "aheadOf", "(II)LRiverGauge$Height;"⟩) ∈ lw_all := lw_g (lw_at lw_ms 9 rfl) rfl
theorem qs10 : (Cond.selects "RiverGauge" ⟨"RiverGauge", "clearLetters", "(I)V"⟩ ⟨"RiverGauge", "clearLetters", "(I)V"⟩) ∈ lw_all := lw_g (lw_at lw_ms 10 rfl) rfl
theorem qs11 : (Cond.selects "RiverGauge" ⟨"RiverGauge", "heightOf", "(III)I"⟩ ⟨"RiverGauge", "heightOf", "(III)I"⟩) ∈ lw_all := lw_g (lw_at lw_ms 11 rfl) rfl
theorem qs12 : (Cond.selects "RiverGauge" ⟨"RiverGauge", "countingAt", "(III)I"⟩ ⟨"RiverGauge", "countingAt", "(III)I"⟩) ∈ lw_all := lw_g (lw_at lw_ms 12 rfl) rfl
theorem qs13 : (Cond.selects "RiverGauge" ⟨"RiverGauge", "doesCount", "(LRiverGauge$Flow;I)Z"⟩ ⟨"RiverGauge", "doesCount", "(LRiverGauge$Flow;I)Z"⟩) ∈ lw_all := lw_g (lw_at lw_ms 13 rfl) rfl
theorem qs14 : (Cond.selects "RiverGauge" ⟨"RiverGauge", "hasHeight", "(III)Z"⟩ ⟨"RiverGauge", "hasHeight", "(III)Z"⟩) ∈ lw_all := lw_g (lw_at lw_ms 14 rfl) rfl
theorem qs15 : (Cond.selects "RiverGauge" ⟨"RiverGauge", "ofCurves", "(IIIIII)I"⟩ ⟨"RiverGauge", "ofCurves", "(IIIIII)I"⟩) ∈ lw_all := lw_g (lw_at lw_ms 15 rfl) rfl
theorem qs16 : (Cond.selects "RiverGauge" ⟨"RiverGauge", "tellStandard", "(II)I"⟩ ⟨"RiverGauge", "tellStandard", "(II)I"⟩) ∈ lw_all := lw_g (lw_at lw_ms 16 rfl) rfl
theorem qs17 : (Cond.selects "RiverGauge$Reader" ⟨"RiverGauge$Reader", "ors", "()LRiverGauge$Test;"⟩ ⟨"RiverGauge$Reader", "ors", "()LRiverGauge$Test;"⟩) ∈ lw_all := lw_g (lw_at lw_ms 17 rfl) rfl
theorem qs18 : (Cond.selects "RiverGauge$Reader" ⟨"RiverGauge$Reader", "ands", "()LRiverGauge$Test;"⟩ ⟨"RiverGauge$Reader", "ands", "()LRiverGauge$Test;"⟩) ∈ lw_all := lw_g (lw_at lw_ms 18 rfl) rfl
theorem qs19 : (Cond.selects "RiverGauge$Reader" ⟨"RiverGauge$Reader", "test", "()LRiverGauge$Test;"⟩ ⟨"RiverGauge$Reader", "test", "()LRiverGauge$Test;"⟩) ∈ lw_all := lw_g (lw_at lw_ms 19 rfl) rfl
theorem qs20 : (Cond.selects "RiverGauge$Reader" ⟨"RiverGauge$Reader", "here", "()I"⟩ ⟨"RiverGauge$Reader", "here", "()I"⟩) ∈ lw_all := lw_g (lw_at lw_ms 20 rfl) rfl
theorem qs21 : (Cond.selects "RiverGauge$Reader" ⟨"RiverGauge$Reader", "deeper", "()V"⟩ ⟨"RiverGauge$Reader", "deeper", "()V"⟩) ∈ lw_all := lw_g (lw_at lw_ms 21 rfl) rfl
theorem qs22 : (Cond.selects "RiverGauge$Reader" ⟨"RiverGauge$Reader", "mustStand", "(Z)V"⟩ ⟨"RiverGauge$Reader", "mustStand", "(Z)V"⟩) ∈ lw_all := lw_g (lw_at lw_ms 22 rfl) rfl
theorem qs23 : (Cond.selects "RiverGauge$Reader" ⟨"RiverGauge$Reader", "take", "(C)Z"⟩ ⟨"RiverGauge$Reader", "take", "(C)Z"⟩) ∈ lw_all := lw_g (lw_at lw_ms 23 rfl) rfl
theorem qs24 : (Cond.selects "RiverGauge$Reader" ⟨"RiverGauge$Reader", "sum", "()LRiverGauge$Sum;"⟩ ⟨"RiverGauge$Reader", "sum", "()LRiverGauge$Sum;"⟩) ∈ lw_all := lw_g (lw_at lw_ms 24 rfl) rfl
theorem qs25 : (Cond.selects "RiverGauge$Reader" ⟨"RiverGauge$Reader", "unit", "()LRiverGauge$Sum;"⟩ ⟨"RiverGauge$Reader", "unit", "()LRiverGauge$Sum;"⟩) ∈ lw_all := lw_g (lw_at lw_ms 25 rfl) rfl
theorem qs26 : (Cond.selects "RiverGauge" ⟨"RiverGauge", "curveFor", "(III)LRiverGauge$Curve;"⟩ ⟨"RiverGauge", "curveFor", "(III)LRiverGauge$Curve;"⟩) ∈ lw_all := lw_g (lw_at lw_ms 26 rfl) rfl
theorem qs27 : (Cond.selects "RiverGauge" ⟨"RiverGauge", "curve", "(IIII)LRiverGauge$Curve;"⟩ ⟨"RiverGauge", "curve", "(IIII)LRiverGauge$Curve;"⟩) ∈ lw_all := lw_g (lw_at lw_ms 27 rfl) rfl
theorem qs28 : (Cond.selects "RiverGauge" ⟨"RiverGauge", "make", "(IIII)LRiverGauge$Curve;"⟩ ⟨"RiverGauge", "make", "(IIII)LRiverGauge$Curve;"⟩) ∈ lw_all := lw_g (lw_at lw_ms 28 rfl) rfl
theorem qs29 : (Cond.selects "RiverGauge" ⟨"RiverGauge", "ofBreaks", "(IIIII)I"⟩ ⟨"RiverGauge", "ofBreaks", "(IIIII)I"⟩) ∈ lw_all := lw_g (lw_at lw_ms 29 rfl) rfl
theorem qs30 : (Cond.selects "RiverGauge" ⟨"RiverGauge", "reckon", "(III)LRiverGauge$Reckoned;"⟩ ⟨"RiverGauge", "reckon", "(III)LRiverGauge$Reckoned;"⟩) ∈ lw_all := lw_g (lw_at lw_ms 30 rfl) rfl
theorem qs31 : (Cond.selects "RiverGauge" ⟨"RiverGauge", "covered", "(IIII)I"⟩ ⟨"RiverGauge", "covered", "(IIII)I"⟩) ∈ lw_all := lw_g (lw_at lw_ms 31 rfl) rfl
theorem qs32 : (Cond.selects "RiverGauge" ⟨"RiverGauge", "isUnder", "(III)Z"⟩ ⟨"RiverGauge", "isUnder", "(III)Z"⟩) ∈ lw_all := lw_g (lw_at lw_ms 32 rfl) rfl
theorem qs33 : (Cond.selects "RiverGauge" ⟨"RiverGauge", "tellBase", "(IIII)I"⟩ ⟨"RiverGauge", "tellBase", "(IIII)I"⟩) ∈ lw_all := lw_g (lw_at lw_ms 33 rfl) rfl
theorem qs34 : (Cond.selects "RiverGauge" ⟨"RiverGauge", "findBreaks", "(I)V"⟩ ⟨"RiverGauge", "findBreaks", "(I)V"⟩) ∈ lw_all := lw_g (lw_at lw_ms 34 rfl) rfl
theorem qs35 : (Cond.selects "RiverGauge" ⟨"RiverGauge", "findMeasured", "(I)V"⟩ ⟨"RiverGauge", "findMeasured", "(I)V"⟩) ∈ lw_all := lw_g (lw_at lw_ms 35 rfl) rfl
theorem qs36 : (Cond.selects "RiverGauge" ⟨"RiverGauge", "goesAll", "(I)Z"⟩ ⟨"RiverGauge", "goesAll", "(I)Z"⟩) ∈ lw_all := lw_g (lw_at lw_ms 36 rfl) rfl
theorem qs37 : (Cond.selects "RiverGauge" ⟨"RiverGauge", "endOf", "(II)I"⟩ ⟨"RiverGauge", "endOf", "(II)I"⟩) ∈ lw_all := lw_g (lw_at lw_ms 37 rfl) rfl
theorem qs38 : (Cond.selects "RiverGauge" ⟨"RiverGauge", "shiftOf", "(II)I"⟩ ⟨"RiverGauge", "shiftOf", "(II)I"⟩) ∈ lw_all := lw_g (lw_at lw_ms 38 rfl) rfl
theorem qs39 : (Cond.selects "RiverGauge" ⟨"RiverGauge", "goWith", "(III)Z"⟩ ⟨"RiverGauge", "goWith", "(III)Z"⟩) ∈ lw_all := lw_g (lw_at lw_ms 39 rfl) rfl
theorem qs40 : (Cond.selects "RiverGauge" ⟨"RiverGauge", "shiftTold", "(II)I"⟩ ⟨"RiverGauge", "shiftTold", "(II)I"⟩) ∈ lw_all := lw_g (lw_at lw_ms 40 rfl) rfl
theorem qs41 : (Cond.selects "RiverGauge" ⟨"RiverGauge", "judgeRow", "(I)I"⟩ ⟨"RiverGauge", "judgeRow", "(I)I"⟩) ∈ lw_all := lw_g (lw_at lw_ms 41 rfl) rfl
theorem qs42 : (Cond.selects "RiverGauge" ⟨"RiverGauge", "ofFloods", "(IIIIII)I"⟩ ⟨"RiverGauge", "ofFloods", "(IIIIII)I"⟩) ∈ lw_all := lw_g (lw_at lw_ms 42 rfl) rfl
theorem qs43 : (Cond.selects "RiverGauge" ⟨"RiverGauge", "tryReckon", "(III)LRiverGauge$Reckoned;"⟩ ⟨"RiverGauge", "tryReckon", "(III)LRiverGauge$Reckoned;"⟩) ∈ lw_all := lw_g (lw_at lw_ms 43 rfl) rfl
theorem qs44 : (Cond.selects "RiverGauge" ⟨"RiverGauge", "mendIt", "()I"⟩ ⟨"RiverGauge", "mendIt", "()I"⟩) ∈ lw_all := lw_g (lw_at lw_ms 44 rfl) rfl
theorem qs45 : (Cond.selects "RiverGauge" ⟨"RiverGauge", "ofTimes", "(IIIIII)I"⟩ ⟨"RiverGauge", "ofTimes", "(IIIIII)I"⟩) ∈ lw_all := lw_g (lw_at lw_ms 45 rfl) rfl
theorem qs46 : (Cond.selects "RiverGauge" ⟨"RiverGauge", "gapTold", "(III)I"⟩ ⟨"RiverGauge", "gapTold", "(III)I"⟩) ∈ lw_all := lw_g (lw_at lw_ms 46 rfl) rfl
theorem qs47 : (Cond.selects "RiverGauge" ⟨"RiverGauge", "findGap", "(II)V"⟩ ⟨"RiverGauge", "findGap", "(II)V"⟩) ∈ lw_all := lw_g (lw_at lw_ms 47 rfl) rfl
theorem qs48 : (Cond.selects "RiverGauge" ⟨"RiverGauge", "lets", "(II)Z"⟩ ⟨"RiverGauge", "lets", "(II)Z"⟩) ∈ lw_all := lw_g (lw_at lw_ms 48 rfl) rfl
theorem qs49 : (Cond.selects "RiverGauge" ⟨"RiverGauge", "between", "(II)I"⟩ ⟨"RiverGauge", "between", "(II)I"⟩) ∈ lw_all := lw_g (lw_at lw_ms 49 rfl) rfl
theorem qs50 : (Cond.selects "RiverGauge" ⟨"RiverGauge", "peakOf", "(IIII)I"⟩ ⟨"RiverGauge", "peakOf", "(IIII)I"⟩) ∈ lw_all := lw_g (lw_at lw_ms 50 rfl) rfl
theorem qs51 : (Cond.selects "RiverGauge" ⟨"RiverGauge", "oftenIn", "(II)I"⟩ ⟨"RiverGauge", "oftenIn", "(II)I"⟩) ∈ lw_all := lw_g (lw_at lw_ms 51 rfl) rfl
theorem qs52 : (Cond.selects "RiverGauge" ⟨"RiverGauge", "agreeTold", "(IIIII)I"⟩ ⟨"RiverGauge", "agreeTold", "(IIIII)I"⟩) ∈ lw_all := lw_g (lw_at lw_ms 52 rfl) rfl
theorem qs53 : (Cond.selects "RiverGauge" ⟨"RiverGauge", "nextAt", "(I)I"⟩ ⟨"RiverGauge", "nextAt", "(I)I"⟩) ∈ lw_all := lw_g (lw_at lw_ms 53 rfl) rfl
theorem qs54 : (Cond.selects "RiverGauge" ⟨"RiverGauge", "publishIt", "(II)I"⟩ ⟨"RiverGauge", "publishIt", "(II)I"⟩) ∈ lw_all := lw_g (lw_at lw_ms 54 rfl) rfl
theorem qs55 : (Cond.selects "RiverGauge" ⟨"RiverGauge", "refuse", "(I)I"⟩ ⟨"RiverGauge", "refuse", "(I)I"⟩) ∈ lw_all := lw_g (lw_at lw_ms 55 rfl) rfl
theorem qs56 : (Cond.selects "RiverGauge" ⟨"RiverGauge", "actFar", "(IIIIII)I"⟩ ⟨"RiverGauge", "actFar", "(IIIIII)I"⟩) ∈ lw_all := lw_g (lw_at lw_ms 56 rfl) rfl
theorem qs57 : (Cond.selects "RiverGauge" ⟨"RiverGauge", "feedIt", "(IJ)I"⟩ ⟨"RiverGauge", "feedIt", "(IJ)I"⟩) ∈ lw_all := lw_g (lw_at lw_ms 57 rfl) rfl
theorem qs58 : (Cond.selects "RiverGaugeModel" ⟨"RiverGaugeModel", "no", "(I)I"⟩ ⟨"RiverGaugeModel", "no", "(I)I"⟩) ∈ lw_all := lw_g (lw_at lw_ms 58 rfl) rfl
theorem qs59 : (Cond.selects "RiverGaugeModel" ⟨"RiverGaugeModel", "isPost", "(I)Z"⟩ ⟨"RiverGaugeModel", "isPost", "(I)Z"⟩) ∈ lw_all := lw_g (lw_at lw_ms 59 rfl) rfl
theorem qs60 : (Cond.selects "RiverGaugeModel" ⟨"RiverGaugeModel", "far", "(I)I"⟩ ⟨"RiverGaugeModel", "far", "(I)I"⟩) ∈ lw_all := lw_g (lw_at lw_ms 60 rfl) rfl
theorem qs61 : (Cond.selects "RiverGaugeModel" ⟨"RiverGaugeModel", "zeroOf", "(III)I"⟩ ⟨"RiverGaugeModel", "zeroOf", "(III)I"⟩) ∈ lw_all := lw_g (lw_at lw_ms 61 rfl) rfl
theorem qs62 : (Cond.selects "RiverGaugeModel" ⟨"RiverGaugeModel", "isTold", "(II)Z"⟩ ⟨"RiverGaugeModel", "isTold", "(II)Z"⟩) ∈ lw_all := lw_g (lw_at lw_ms 62 rfl) rfl
theorem qs63 : (Cond.selects "RiverGaugeModel" ⟨"RiverGaugeModel", "isByStandard", "(II)Z"⟩ ⟨"RiverGaugeModel", "isByStandard", "(II)Z"⟩) ∈ lw_all := lw_g (lw_at lw_ms 63 rfl) rfl
theorem qs64 : (Cond.selects "RiverGaugeModel" ⟨"RiverGaugeModel", "inForce", "(III)I"⟩ ⟨"RiverGaugeModel", "inForce", "(III)I"⟩) ∈ lw_all := lw_g (lw_at lw_ms 64 rfl) rfl
theorem qs65 : (Cond.selects "RiverGaugeModel" ⟨"RiverGaugeModel", "ahead", "(II)I"⟩ ⟨"RiverGaugeModel", "ahead", "(II)I"⟩) ∈ lw_all := lw_g (lw_at lw_ms 65 rfl) rfl
theorem qs66 : (Cond.selects "RiverGaugeModel" ⟨"RiverGaugeModel", "lays", "(I)V"⟩ ⟨"RiverGaugeModel", "lays", "(I)V"⟩) ∈ lw_all := lw_g (lw_at lw_ms 66 rfl) rfl
theorem qs67 : (Cond.selects "RiverGaugeModel" ⟨"RiverGaugeModel", "says", "(I)Z"⟩ ⟨"RiverGaugeModel", "says", "(I)Z"⟩) ∈ lw_all := lw_g (lw_at lw_ms 67 rfl) rfl
theorem qs68 : (Cond.selects "RiverGaugeModel" ⟨"RiverGaugeModel", "has", "(III)Z"⟩ ⟨"RiverGaugeModel", "has", "(III)Z"⟩) ∈ lw_all := lw_g (lw_at lw_ms 68 rfl) rfl
theorem qs69 : (Cond.selects "RiverGaugeModel" ⟨"RiverGaugeModel", "which", "(III)I"⟩ ⟨"RiverGaugeModel", "which", "(III)I"⟩) ∈ lw_all := lw_g (lw_at lw_ms 69 rfl) rfl
theorem qs70 : (Cond.selects "RiverGaugeModel" ⟨"RiverGaugeModel", "isIn", "(II)Z"⟩ ⟨"RiverGaugeModel", "isIn", "(II)Z"⟩) ∈ lw_all := lw_g (lw_at lw_ms 70 rfl) rfl
theorem qs71 : (Cond.selects "RiverGaugeModel" ⟨"RiverGaugeModel", "isText", "()Z"⟩ ⟨"RiverGaugeModel", "isText", "()Z"⟩) ∈ lw_all := lw_g (lw_at lw_ms 71 rfl) rfl
theorem qs72 : (Cond.selects "RiverGaugeModel" ⟨"RiverGaugeModel", "sign", "()I"⟩ ⟨"RiverGaugeModel", "sign", "()I"⟩) ∈ lw_all := lw_g (lw_at lw_ms 72 rfl) rfl
theorem qs73 : (Cond.selects "RiverGaugeModel" ⟨"RiverGaugeModel", "isTest", "()Z"⟩ ⟨"RiverGaugeModel", "isTest", "()Z"⟩) ∈ lw_all := lw_g (lw_at lw_ms 73 rfl) rfl
theorem qs74 : (Cond.selects "RiverGaugeModel" ⟨"RiverGaugeModel", "isSum", "()Z"⟩ ⟨"RiverGaugeModel", "isSum", "()Z"⟩) ∈ lw_all := lw_g (lw_at lw_ms 74 rfl) rfl
theorem qs75 : (Cond.selects "RiverGaugeModel" ⟨"RiverGaugeModel", "isUnit", "()Z"⟩ ⟨"RiverGaugeModel", "isUnit", "()Z"⟩) ∈ lw_all := lw_g (lw_at lw_ms 75 rfl) rfl
theorem qs76 : (Cond.selects "RiverGaugeModel" ⟨"RiverGaugeModel", "denies", "()V"⟩ ⟨"RiverGaugeModel", "denies", "()V"⟩) ∈ lw_all := lw_g (lw_at lw_ms 76 rfl) rfl
theorem qs77 : (Cond.selects "RiverGaugeModel" ⟨"RiverGaugeModel", "pops", "(Z)V"⟩ ⟨"RiverGaugeModel", "pops", "(Z)V"⟩) ∈ lw_all := lw_g (lw_at lw_ms 77 rfl) rfl
theorem qs78 : (Cond.selects "RiverGaugeModel" ⟨"RiverGaugeModel", "known", "(III)I"⟩ ⟨"RiverGaugeModel", "known", "(III)I"⟩) ∈ lw_all := lw_g (lw_at lw_ms 78 rfl) rfl
theorem qs79 : (Cond.selects "RiverGaugeModel" ⟨"RiverGaugeModel", "makes", "(III)V"⟩ ⟨"RiverGaugeModel", "makes", "(III)V"⟩) ∈ lw_all := lw_g (lw_at lw_ms 79 rfl) rfl
theorem qs80 : (Cond.selects "RiverGaugeModel" ⟨"RiverGaugeModel", "makes", "(IIII)V"⟩ ⟨"RiverGaugeModel", "makes", "(IIII)V"⟩) ∈ lw_all := lw_g (lw_at lw_ms 80 rfl) rfl
theorem qs81 : (Cond.selects "RiverGaugeModel" ⟨"RiverGaugeModel", "along", "([I[IIIII)I"⟩ ⟨"RiverGaugeModel", "along", "([I[IIIII)I"⟩) ∈ lw_all := lw_g (lw_at lw_ms 81 rfl) rfl
theorem qs82 : (Cond.selects "RiverGaugeModel" ⟨"RiverGaugeModel", "flows", "(III)Z"⟩ ⟨"RiverGaugeModel", "flows", "(III)Z"⟩) ∈ lw_all := lw_g (lw_at lw_ms 82 rfl) rfl
theorem qs83 : (Cond.selects "RiverGaugeModel" ⟨"RiverGaugeModel", "hundredths", "(IIII)I"⟩ ⟨"RiverGaugeModel", "hundredths", "(IIII)I"⟩) ∈ lw_all := lw_g (lw_at lw_ms 83 rfl) rfl
theorem qs84 : (Cond.selects "RiverGaugeModel" ⟨"RiverGaugeModel", "gathers", "(I)V"⟩ ⟨"RiverGaugeModel", "gathers", "(I)V"⟩) ∈ lw_all := lw_g (lw_at lw_ms 84 rfl) rfl
theorem qs85 : (Cond.selects "RiverGaugeModel" ⟨"RiverGaugeModel", "seeks", "(I)V"⟩ ⟨"RiverGaugeModel", "seeks", "(I)V"⟩) ∈ lw_all := lw_g (lw_at lw_ms 85 rfl) rfl
theorem qs86 : (Cond.selects "RiverGaugeModel" ⟨"RiverGaugeModel", "tries", "(I)V"⟩ ⟨"RiverGaugeModel", "tries", "(I)V"⟩) ∈ lw_all := lw_g (lw_at lw_ms 86 rfl) rfl
theorem qs87 : (Cond.selects "RiverGaugeModel" ⟨"RiverGaugeModel", "shiftOf", "(III)I"⟩ ⟨"RiverGaugeModel", "shiftOf", "(III)I"⟩) ∈ lw_all := lw_g (lw_at lw_ms 87 rfl) rfl
theorem qs88 : (Cond.selects "RiverGaugeModel" ⟨"RiverGaugeModel", "goes", "(IIII)Z"⟩ ⟨"RiverGaugeModel", "goes", "(IIII)Z"⟩) ∈ lw_all := lw_g (lw_at lw_ms 88 rfl) rfl
theorem qs89 : (Cond.selects "RiverGaugeModel" ⟨"RiverGaugeModel", "goesAll", "(I)Z"⟩ ⟨"RiverGaugeModel", "goesAll", "(I)Z"⟩) ∈ lw_all := lw_g (lw_at lw_ms 89 rfl) rfl
