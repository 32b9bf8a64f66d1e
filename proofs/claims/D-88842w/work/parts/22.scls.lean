/-! the kinds of objects as the tables have them; the field rows: printed by tools/scls.py -/
set_option maxRecDepth 100000
def TXe : u_T := fun k => match k with
  | 0 => ("RiverGauge$Refused", "number", "I", true)
  | _ => ("java/lang/Throwable", "backtrace", "Ljava/lang/Object;", false)
def tyXe : Nat → FieldType := fun k => match k with
  | 0 => .int
  | _ => .object "java/lang/Object"
theorem nmXe : ∀ a, a < 2 → ∀ b, b < 2 → a ≠ b → (TXe a).2.1 ≠ (TXe b).2.1 := by decide +kernel
theorem tyXe_ok : ∀ k, k < 2 → parseFieldDescriptor (TXe k).2.2.1 = some (tyXe k) := by decide +kernel
theorem in_X3e : ∀ x ∈ u_ws RX3 TXe 2, x ∈ lw_all := List.forall_mem_cons.mpr ⟨in_X3 _ (List.mem_of_getElem? (i := 6) rfl), List.forall_mem_cons.mpr ⟨in_X3 _ (List.mem_of_getElem? (i := 4) rfl), fun x h => by cases h⟩⟩
theorem in_X11e : ∀ x ∈ u_ws RX11 TXe 2, x ∈ lw_all := List.forall_mem_cons.mpr ⟨in_X11 _ (List.mem_of_getElem? (i := 5) rfl), List.forall_mem_cons.mpr ⟨in_X11 _ (List.mem_of_getElem? (i := 4) rfl), fun x h => by cases h⟩⟩
def sCl : List vw_C := [(RX0, TX0, 48), (RX1, TX1, 89), (RX3, TXe, 2), (RX5, TX5, 4), (RX7, TX7, 6), (RX8, TX8, 6), (RX9, TX9, 4), (RX10, TX10, 4), (RX11, TXe, 2), (RX14, TX14, 1), (RX16, TX16, 1), (RX17, TX17, 1), (RX18, TX18, 3), (RX19, TX19, 3), (RX20, TX20, 3), (RX22, TX22, 6), (RX23, TX23, 6), (RX24, TX24, 4), (RX25, TX25, 3)]
/-- what is known of the kind number ci -/
def sCOK (ci : Nat) : Prop := ∃ (K : String) (T : u_T) (N n : Nat) (ty : Nat → FieldType), sCl[ci]? = some (K, T, N) ∧ (∀ x ∈ u_ws K T N, x ∈ lw_all) ∧ (∀ k, k < N → parseFieldDescriptor (T k).2.2.1 = some (ty k)) ∧ (∀ a, a < N → ∀ b, b < N → a ≠ b → (T a).2.1 ≠ (T b).2.1) ∧ Jvm.Cond.instantiable K n ∈ lw_all ∧ Jvm.Cond.initialized K ∈ lw_all ∧ (mcn ci).1 = n ∧ (∀ k, k < N → defaultValue (ty k) = (mcn ci).2 k) ∧ mcnm ci = K
theorem sC_0 : sCOK 0 := ⟨RX0, TX0, 48, 48, tyX0, rfl, in_X0, tyX0_ok, nmX0, q127, q91, rfl, by decide +kernel, rfl⟩
theorem sC_1 : sCOK 1 := ⟨RX1, TX1, 89, 89, tyX1, rfl, in_X1, tyX1_ok, nmX1, q1333, q93, rfl, by decide +kernel, rfl⟩
theorem sC_2 : sCOK 2 := ⟨RX3, TXe, 2, 7, tyXe, rfl, in_X3e, tyXe_ok, nmXe, q328, q98, rfl, by decide +kernel, rfl⟩
theorem sC_3 : sCOK 3 := ⟨RX5, TX5, 4, 4, tyX5, rfl, in_X5, tyX5_ok, nmX5, q402, q100, rfl, by decide +kernel, rfl⟩
theorem sC_4 : sCOK 4 := ⟨RX7, TX7, 6, 6, tyX7, rfl, in_X7, tyX7_ok, nmX7, q459, q102, rfl, by decide +kernel, rfl⟩
theorem sC_5 : sCOK 5 := ⟨RX8, TX8, 6, 6, tyX8, rfl, in_X8, tyX8_ok, nmX8, q579, q104, rfl, by decide +kernel, rfl⟩
theorem sC_6 : sCOK 6 := ⟨RX9, TX9, 4, 4, tyX9, rfl, in_X9, tyX9_ok, nmX9, q620, q105, rfl, by decide +kernel, rfl⟩
theorem sC_7 : sCOK 7 := ⟨RX10, TX10, 4, 4, tyX10, rfl, in_X10, tyX10_ok, nmX10, q622, q106, rfl, by decide +kernel, rfl⟩
theorem sC_8 : sCOK 8 := ⟨RX11, TXe, 2, 7, tyXe, rfl, in_X11e, tyXe_ok, nmXe, q669, q107, rfl, by decide +kernel, rfl⟩
theorem sC_9 : sCOK 9 := ⟨RX14, TX14, 1, 1, tyX14, rfl, in_X14, tyX14_ok, nmX14, q685, q110, rfl, by decide +kernel, rfl⟩
theorem sC_10 : sCOK 10 := ⟨RX16, TX16, 1, 1, tyX16, rfl, in_X16, tyX16_ok, nmX16, q791, q116, rfl, by decide +kernel, rfl⟩
theorem sC_11 : sCOK 11 := ⟨RX17, TX17, 1, 1, tyX17, rfl, in_X17, tyX17_ok, nmX17, q807, q117, rfl, by decide +kernel, rfl⟩
theorem sC_12 : sCOK 12 := ⟨RX18, TX18, 3, 3, tyX18, rfl, in_X18, tyX18_ok, nmX18, q817, q118, rfl, by decide +kernel, rfl⟩
theorem sC_13 : sCOK 13 := ⟨RX19, TX19, 3, 3, tyX19, rfl, in_X19, tyX19_ok, nmX19, q833, q119, rfl, by decide +kernel, rfl⟩
theorem sC_14 : sCOK 14 := ⟨RX20, TX20, 3, 3, tyX20, rfl, in_X20, tyX20_ok, nmX20, q849, q120, rfl, by decide +kernel, rfl⟩
theorem sC_15 : sCOK 15 := ⟨RX22, TX22, 6, 6, tyX22, rfl, in_X22, tyX22_ok, nmX22, q901, q122, rfl, by decide +kernel, rfl⟩
theorem sC_16 : sCOK 16 := ⟨RX23, TX23, 6, 6, tyX23, rfl, in_X23, tyX23_ok, nmX23, q975, q123, rfl, by decide +kernel, rfl⟩
theorem sC_17 : sCOK 17 := ⟨RX24, TX24, 4, 4, tyX24, rfl, in_X24, tyX24_ok, nmX24, q1024, q124, rfl, by decide +kernel, rfl⟩
theorem sC_18 : sCOK 18 := ⟨RX25, TX25, 3, 3, tyX25, rfl, in_X25, tyX25_ok, nmX25, q1054, q125, rfl, by decide +kernel, rfl⟩
theorem sC_all : ∀ ci, ci < 19 → sCOK ci := lt_s (lt_s (lt_s (lt_s (lt_s (lt_s (lt_s (lt_s (lt_s (lt_s (lt_s (lt_s (lt_s (lt_s (lt_s (lt_s (lt_s (lt_s (lt_s (lt_0) sC_0) sC_1) sC_2) sC_3) sC_4) sC_5) sC_6) sC_7) sC_8) sC_9) sC_10) sC_11) sC_12) sC_13) sC_14) sC_15) sC_16) sC_17) sC_18
/-- the field rows: owner of the entry, entry, class named, field, kind, whether by a nest mate's way -/
def sfI : List (Nat × List (Nat × String × Nat × String × String × String × Bool)) := [(12, [(0, "RiverGauge", 28, "RiverGauge", "firstZeros", "[I", false), (1, "RiverGauge", 34, "RiverGauge", "zeros", "[LRiverGauge$Zero;", false), (2, "RiverGauge", 40, "RiverGauge", "heights", "[LRiverGauge$Height;", false), (3, "RiverGauge", 46, "RiverGauge", "flows", "[LRiverGauge$Flow;", false), (4, "RiverGauge", 52, "RiverGauge", "standards", "[LRiverGauge$Standard;", false), (5, "RiverGauge", 58, "RiverGauge", "covers", "[LRiverGauge$Cover;", false), (6, "RiverGauge", 62, "RiverGauge", "lows", "[I", false), (7, "RiverGauge", 67, "RiverGauge", "stretches", "[[I", false), (8, "RiverGauge", 70, "RiverGauge", "stretchMany", "[I", false), (9, "RiverGauge", 75, "RiverGauge", "bases", "[LRiverGauge$Base;", false), (10, "RiverGauge", 79, "RiverGauge", "neighbours", "[I", false), (11, "RiverGauge", 82, "RiverGauge", "tape", "[B", false)]),
  (24, [(12, "RiverGauge", 86, "RiverGauge", "row", "[B", false), (13, "RiverGauge", 89, "RiverGauge", "pubPost", "[I", false), (14, "RiverGauge", 92, "RiverGauge", "pubTime", "[I", false), (15, "RiverGauge", 95, "RiverGauge", "pubFlow", "[I", false), (16, "RiverGauge", 98, "RiverGauge", "limit", "I", false), (17, "RiverGauge", 102, "RiverGauge", "refused", "[I", false), (18, "RiverGauge", 113, "RiverGauge", "letters", "[I", false), (19, "RiverGauge", 116, "RiverGauge", "measured", "[LRiverGauge$Flow;", false), (20, "RiverGauge", 119, "RiverGauge", "measuredHeight", "[I", false), (21, "RiverGauge", 122, "RiverGauge", "goes", "[Z", false), (22, "RiverGauge", 154, "RiverGauge", "now", "I", false), (23, "RiverGauge", 389, "RiverGauge", "postMany", "I", false)]),
  (36, [(24, "RiverGauge", 126, "RiverGauge", "zeroMany", "I", false), (25, "RiverGauge", 220, "RiverGauge", "kept", "LRiverGauge$Curve;", false), (26, "RiverGauge", 224, "RiverGauge", "keptOther", "LRiverGauge$Curve;", false), (27, "RiverGauge", 129, "RiverGauge$Zero", "post", "I", false), (28, "RiverGauge", 136, "RiverGauge$Zero", "time", "I", false), (29, "RiverGauge", 139, "RiverGauge$Zero", "zero", "I", true), (30, "RiverGauge", 171, "RiverGauge", "heightMany", "I", false), (31, "RiverGauge", 176, "RiverGauge$Height", "read", "I", true), (32, "RiverGauge", 258, "RiverGauge", "flowMany", "I", false), (33, "RiverGauge", 175, "RiverGauge$Height", "time", "I", false), (34, "RiverGauge", 193, "RiverGauge$Height", "kind", "I", true), (35, "RiverGauge", 161, "RiverGauge$Standard", "test", "LRiverGauge$Test;", true)]),
  (48, [(36, "RiverGauge", 142, "RiverGauge", "standardMany", "I", false), (37, "RiverGauge", 145, "RiverGauge$Standard", "purpose", "I", true), (38, "RiverGauge", 148, "RiverGauge$Standard", "day", "I", true), (39, "RiverGauge", 151, "RiverGauge$Standard", "known", "I", true), (40, "RiverGauge", 174, "RiverGauge$Height", "post", "I", false), (41, "RiverGauge", 214, "RiverGauge$Flow", "post", "I", false), (42, "RiverGauge", 215, "RiverGauge$Flow", "time", "I", false), (43, "RiverGauge", 301, "RiverGauge$Curve", "many", "I", false), (44, "RiverGauge", 410, "RiverGauge$Curve", "heights", "[I", false), (45, "RiverGauge", 480, "RiverGauge$Curve", "flows", "[J", false), (46, "RiverGauge", 284, "RiverGauge", "coverMany", "I", false), (47, "RiverGauge", 488, "RiverGauge", "tapeMany", "I", false)]),
  (60, [(48, "RiverGauge", 227, "RiverGauge", "keptPost", "I", false), (49, "RiverGauge", 230, "RiverGauge", "keptFrom", "I", false), (50, "RiverGauge", 233, "RiverGauge", "keptTo", "I", false), (51, "RiverGauge", 236, "RiverGauge", "keptOn", "I", false), (52, "RiverGauge", 239, "RiverGauge", "otherPost", "I", false), (53, "RiverGauge", 242, "RiverGauge", "otherFrom", "I", false), (54, "RiverGauge", 245, "RiverGauge", "otherTo", "I", false), (55, "RiverGauge", 248, "RiverGauge", "otherOn", "I", false), (56, "RiverGauge", 372, "RiverGauge", "rowMany", "I", false), (57, "RiverGauge", 401, "RiverGauge$Reckoned", "flow", "I", true), (58, "RiverGauge", 418, "RiverGauge$Reckoned", "wrong", "I", true), (59, "RiverGauge", 419, "RiverGauge$Reckoned", "isBeyond", "Z", true)]),
  (72, [(60, "RiverGauge", 332, "RiverGauge", "measuredMany", "I", false), (61, "RiverGauge", 354, "RiverGauge", "fewest", "I", false), (62, "RiverGauge", 357, "RiverGauge", "rivals", "I", false), (63, "RiverGauge", 366, "RiverGauge", "toldSet", "I", false), (64, "RiverGauge", 317, "RiverGauge$Curve", "wrong", "I", true), (65, "RiverGauge", 287, "RiverGauge$Cover", "post", "I", false), (66, "RiverGauge", 288, "RiverGauge$Cover", "kind", "I", true), (67, "RiverGauge", 290, "RiverGauge$Cover", "time", "I", false), (68, "RiverGauge", 291, "RiverGauge$Cover", "to", "I", true), (69, "RiverGauge", 335, "RiverGauge$Base", "many", "I", false), (70, "RiverGauge", 503, "RiverGauge$Base", "heights", "[I", false), (71, "RiverGauge", 504, "RiverGauge$Base", "flows", "[J", false)]),
  (84, [(72, "RiverGauge", 415, "RiverGauge", "pubMany", "I", false), (73, "RiverGauge", 379, "RiverGauge", "gapFrom", "I", false), (74, "RiverGauge", 382, "RiverGauge", "gapTo", "I", false), (75, "RiverGauge", 422, "RiverGauge$Reckoned", "isCovered", "Z", true), (76, "RiverGaugeModel", 7, "RiverGaugeModel", "limit", "I", false), (77, "RiverGaugeModel", 13, "RiverGaugeModel", "zero", "[I", false), (78, "RiverGaugeModel", 17, "RiverGaugeModel", "low", "[I", false), (79, "RiverGaugeModel", 20, "RiverGaugeModel", "beside", "[I", false), (80, "RiverGaugeModel", 23, "RiverGaugeModel", "stretches", "[I", false), (81, "RiverGaugeModel", 26, "RiverGaugeModel", "bases", "[I", false), (82, "RiverGaugeModel", 29, "RiverGaugeModel", "stretchFrom", "[I", false), (83, "RiverGaugeModel", 32, "RiverGaugeModel", "baseHeight", "[I", false)]),
  (96, [(84, "RiverGaugeModel", 35, "RiverGaugeModel", "baseFlow", "[I", false), (85, "RiverGaugeModel", 38, "RiverGaugeModel", "zPost", "[I", false), (86, "RiverGaugeModel", 41, "RiverGaugeModel", "zZero", "[I", false), (87, "RiverGaugeModel", 44, "RiverGaugeModel", "zFrom", "[I", false), (88, "RiverGaugeModel", 47, "RiverGaugeModel", "zKnown", "[I", false), (89, "RiverGaugeModel", 50, "RiverGaugeModel", "hPost", "[I", false), (90, "RiverGaugeModel", 53, "RiverGaugeModel", "hTime", "[I", false), (91, "RiverGaugeModel", 56, "RiverGaugeModel", "hKind", "[I", false), (92, "RiverGaugeModel", 59, "RiverGaugeModel", "hRead", "[I", false), (93, "RiverGaugeModel", 62, "RiverGaugeModel", "hKnown", "[I", false), (94, "RiverGaugeModel", 65, "RiverGaugeModel", "hStruck", "[I", false), (95, "RiverGaugeModel", 68, "RiverGaugeModel", "fPost", "[I", false)]),
  (108, [(96, "RiverGaugeModel", 71, "RiverGaugeModel", "fTime", "[I", false), (97, "RiverGaugeModel", 74, "RiverGaugeModel", "fNumber", "[I", false), (98, "RiverGaugeModel", 77, "RiverGaugeModel", "fWrong", "[I", false), (99, "RiverGaugeModel", 80, "RiverGaugeModel", "fKnown", "[I", false), (100, "RiverGaugeModel", 83, "RiverGaugeModel", "fStruck", "[I", false), (101, "RiverGaugeModel", 86, "RiverGaugeModel", "uPost", "[I", false), (102, "RiverGaugeModel", 89, "RiverGaugeModel", "uKind", "[I", false), (103, "RiverGaugeModel", 92, "RiverGaugeModel", "uFrom", "[I", false), (104, "RiverGaugeModel", 95, "RiverGaugeModel", "uTo", "[I", false), (105, "RiverGaugeModel", 98, "RiverGaugeModel", "uMany", "[I", false), (106, "RiverGaugeModel", 101, "RiverGaugeModel", "uKnown", "[I", false), (107, "RiverGaugeModel", 104, "RiverGaugeModel", "sPurpose", "[I", false)]),
  (120, [(108, "RiverGaugeModel", 107, "RiverGaugeModel", "sDay", "[I", false), (109, "RiverGaugeModel", 110, "RiverGaugeModel", "sTold", "[I", false), (110, "RiverGaugeModel", 113, "RiverGaugeModel", "sN", "[I", false), (111, "RiverGaugeModel", 116, "RiverGaugeModel", "steps", "[I", false), (112, "RiverGaugeModel", 119, "RiverGaugeModel", "pPost", "[I", false), (113, "RiverGaugeModel", 122, "RiverGaugeModel", "pTime", "[I", false), (114, "RiverGaugeModel", 125, "RiverGaugeModel", "pTold", "[I", false), (115, "RiverGaugeModel", 128, "RiverGaugeModel", "tape", "[I", false), (116, "RiverGaugeModel", 131, "RiverGaugeModel", "row", "[I", false), (117, "RiverGaugeModel", 134, "RiverGaugeModel", "refused", "[I", false), (118, "RiverGaugeModel", 137, "RiverGaugeModel", "letters", "[J", false), (119, "RiverGaugeModel", 141, "RiverGaugeModel", "ops", "[I", false)]),
  (132, [(120, "RiverGaugeModel", 144, "RiverGaugeModel", "newSteps", "[I", false), (121, "RiverGaugeModel", 147, "RiverGaugeModel", "stack", "[J", false), (122, "RiverGaugeModel", 150, "RiverGaugeModel", "builtPost", "I", false), (123, "RiverGaugeModel", 153, "RiverGaugeModel", "pointHeight", "[I", false), (124, "RiverGaugeModel", 156, "RiverGaugeModel", "pointFlow", "[I", false), (125, "RiverGaugeModel", 159, "RiverGaugeModel", "pointMany", "[I", false), (126, "RiverGaugeModel", 162, "RiverGaugeModel", "block", "[I", false), (127, "RiverGaugeModel", 165, "RiverGaugeModel", "blockMany", "[I", false), (128, "RiverGaugeModel", 168, "RiverGaugeModel", "pointSum", "[J", false), (129, "RiverGaugeModel", 171, "RiverGaugeModel", "blockSum", "[J", false), (130, "RiverGaugeModel", 174, "RiverGaugeModel", "runFlow", "[I", false), (131, "RiverGaugeModel", 177, "RiverGaugeModel", "runHeight", "[I", false)]),
  (144, [(132, "RiverGaugeModel", 180, "RiverGaugeModel", "shifts", "[I", false), (133, "RiverGaugeModel", 183, "RiverGaugeModel", "ones", "[I", false), (134, "RiverGaugeModel", 186, "RiverGaugeModel", "others", "[I", false), (135, "RiverGaugeModel", 197, "RiverGaugeModel", "now", "I", false), (136, "RiverGaugeModel", 194, "RiverGaugeModel", "posts", "I", false), (137, "RiverGaugeModel", 204, "RiverGaugeModel", "zeros", "I", false), (138, "RiverGaugeModel", 207, "RiverGaugeModel", "stamp", "I", false), (139, "RiverGaugeModel", 221, "RiverGaugeModel", "heights", "I", false), (140, "RiverGaugeModel", 228, "RiverGaugeModel", "standards", "I", false), (141, "RiverGaugeModel", 252, "RiverGaugeModel", "found", "I", false), (142, "RiverGaugeModel", 260, "RiverGaugeModel", "flows", "I", false), (143, "RiverGaugeModel", 266, "RiverGaugeModel", "tapeN", "I", false)]),
  (156, [(144, "RiverGaugeModel", 271, "RiverGaugeModel", "at", "I", false), (145, "RiverGaugeModel", 281, "RiverGaugeModel", "stepN", "I", false), (146, "RiverGaugeModel", 291, "RiverGaugeModel", "opsN", "I", false), (147, "RiverGaugeModel", 294, "RiverGaugeModel", "deep", "I", false), (148, "RiverGaugeModel", 334, "RiverGaugeModel", "pointN", "I", false), (149, "RiverGaugeModel", 322, "RiverGaugeModel", "builtFrom", "I", false), (150, "RiverGaugeModel", 325, "RiverGaugeModel", "builtTo", "I", false), (151, "RiverGaugeModel", 328, "RiverGaugeModel", "builtKnown", "I", false), (152, "RiverGaugeModel", 331, "RiverGaugeModel", "builtStamp", "I", false), (153, "RiverGaugeModel", 337, "RiverGaugeModel", "wrongest", "I", false), (154, "RiverGaugeModel", 340, "RiverGaugeModel", "isBeyond", "Z", false), (155, "RiverGaugeModel", 357, "RiverGaugeModel", "unders", "I", false)]),
  (168, [(156, "RiverGaugeModel", 372, "RiverGaugeModel", "reckoned", "I", false), (157, "RiverGaugeModel", 363, "RiverGaugeModel", "wrong", "I", false), (158, "RiverGaugeModel", 360, "RiverGaugeModel", "isUnder", "Z", false), (159, "RiverGaugeModel", 377, "RiverGaugeModel", "runN", "I", false), (160, "RiverGaugeModel", 390, "RiverGaugeModel", "fewest", "I", false), (161, "RiverGaugeModel", 393, "RiverGaugeModel", "rivals", "I", false), (162, "RiverGaugeModel", 396, "RiverGaugeModel", "least", "I", false), (163, "RiverGaugeModel", 411, "RiverGaugeModel", "rowN", "I", false), (164, "RiverGaugeModel", 427, "RiverGaugeModel", "publishedN", "I", false), (165, "RiverGauge$Refused", 7, "RiverGauge$Refused", "number", "I", false), (166, "RiverGauge$Told", 7, "RiverGauge$Told", "post", "I", false), (167, "RiverGauge$Told", 13, "RiverGauge$Told", "time", "I", false)]),
  (180, [(168, "RiverGauge$Told", 16, "RiverGauge$Told", "known", "I", false), (169, "RiverGauge$Zero", 7, "RiverGauge$Zero", "zero", "I", false), (170, "RiverGauge$Strikable", 10, "RiverGauge$Strikable", "struck", "I", false), (171, "RiverGauge$Height", 7, "RiverGauge$Height", "kind", "I", false), (172, "RiverGauge$Height", 13, "RiverGauge$Height", "read", "I", false), (173, "RiverGauge$Flow", 7, "RiverGauge$Flow", "flow", "I", false), (174, "RiverGauge$Flow", 13, "RiverGauge$Flow", "wrong", "I", false), (175, "RiverGauge$Standard", 7, "RiverGauge$Standard", "purpose", "I", false), (176, "RiverGauge$Standard", 13, "RiverGauge$Standard", "day", "I", false), (177, "RiverGauge$Standard", 16, "RiverGauge$Standard", "known", "I", false), (178, "RiverGauge$Standard", 19, "RiverGauge$Standard", "test", "LRiverGauge$Test;", false), (179, "RiverGauge$Reader", 9, "RiverGauge$Reader", "bytes", "[B", false)]),
  (192, [(180, "RiverGauge$Reader", 15, "RiverGauge$Reader", "length", "I", false), (181, "RiverGauge$Reader", 19, "RiverGauge$Reader", "at", "I", false), (182, "RiverGauge$Reader", 54, "RiverGauge$Reader", "deep", "I", false), (183, "RiverGauge$Not", 7, "RiverGauge$Not", "test", "LRiverGauge$Test;", false), (184, "RiverGauge$Letter", 7, "RiverGauge$Letter", "letter", "I", false), (185, "RiverGauge$Plain", 7, "RiverGauge$Plain", "value", "I", false), (186, "RiverGauge$Joined", 9, "RiverGauge$Joined", "left", "LRiverGauge$Sum;", false), (187, "RiverGauge$Joined", 15, "RiverGauge$Joined", "right", "LRiverGauge$Sum;", false), (188, "RiverGauge$Joined", 18, "RiverGauge$Joined", "sign", "I", false), (189, "RiverGauge$Compare", 7, "RiverGauge$Compare", "left", "LRiverGauge$Sum;", false), (190, "RiverGauge$Compare", 13, "RiverGauge$Compare", "right", "LRiverGauge$Sum;", false), (191, "RiverGauge$Compare", 16, "RiverGauge$Compare", "sign", "I", false)]),
  (204, [(192, "RiverGauge$Both", 16, "RiverGauge$Both", "all", "Z", false), (193, "RiverGauge$Both", 7, "RiverGauge$Both", "left", "LRiverGauge$Test;", false), (194, "RiverGauge$Both", 13, "RiverGauge$Both", "right", "LRiverGauge$Test;", false), (195, "RiverGauge$Line", 9, "RiverGauge$Line", "heights", "[I", false), (196, "RiverGauge$Line", 15, "RiverGauge$Line", "flows", "[J", false), (197, "RiverGauge$Line", 19, "RiverGauge$Line", "many", "I", false), (198, "RiverGauge$Curve", 9, "RiverGauge$Curve", "counts", "[I", false), (199, "RiverGauge$Curve", 15, "RiverGauge$Curve", "low", "I", false), (200, "RiverGauge$Curve", 19, "RiverGauge$Curve", "wrong", "I", false), (201, "RiverGauge$Curve", 22, "RiverGauge$Flow", "wrong", "I", true), (202, "RiverGauge$Curve", 31, "RiverGauge$Curve", "many", "I", false), (203, "RiverGauge$Curve", 34, "RiverGauge$Curve", "heights", "[I", false)]),
  (214, [(204, "RiverGauge$Curve", 37, "RiverGauge$Curve", "flows", "[J", false), (205, "RiverGauge$Curve", 41, "RiverGauge$Flow", "flow", "I", true), (206, "RiverGauge$Cover", 7, "RiverGauge$Cover", "kind", "I", false), (207, "RiverGauge$Cover", 13, "RiverGauge$Cover", "to", "I", false), (208, "RiverGauge$Cover", 16, "RiverGauge$Cover", "part", "I", false), (209, "RiverGauge$Cover", 19, "RiverGauge$Cover", "time", "I", false), (210, "RiverGauge$Reckoned", 7, "RiverGauge$Reckoned", "flow", "I", false), (211, "RiverGauge$Reckoned", 13, "RiverGauge$Reckoned", "wrong", "I", false), (212, "RiverGauge$Reckoned", 16, "RiverGauge$Reckoned", "isBeyond", "Z", false), (213, "RiverGauge$Reckoned", 20, "RiverGauge$Reckoned", "isCovered", "Z", false)])]
def sFOK (f : Nat) : Prop := ∀ own idx ref n d nest, mlk2 sfI f = some (own, idx, ref, n, d, nest) → (bif nest then Jvm.Cond.fieldLinkNest own idx ref n d "RiverGauge" ∈ lw_tbl else Jvm.Cond.fieldLink own idx ref n d ∈ lw_all)
theorem sF_0 : sFOK 0 := by rintro _ _ _ _ _ _ ⟨⟩; exact q161
theorem sF_1 : sFOK 1 := by rintro _ _ _ _ _ _ ⟨⟩; exact q162
theorem sF_2 : sFOK 2 := by rintro _ _ _ _ _ _ ⟨⟩; exact q164
theorem sF_3 : sFOK 3 := by rintro _ _ _ _ _ _ ⟨⟩; exact q166
theorem sF_4 : sFOK 4 := by rintro _ _ _ _ _ _ ⟨⟩; exact q168
theorem sF_5 : sFOK 5 := by rintro _ _ _ _ _ _ ⟨⟩; exact q170
theorem sF_6 : sFOK 6 := by rintro _ _ _ _ _ _ ⟨⟩; exact q172
theorem sF_7 : sFOK 7 := by rintro _ _ _ _ _ _ ⟨⟩; exact q173
theorem sF_8 : sFOK 8 := by rintro _ _ _ _ _ _ ⟨⟩; exact q174
theorem sF_9 : sFOK 9 := by rintro _ _ _ _ _ _ ⟨⟩; exact q175
theorem sF_10 : sFOK 10 := by rintro _ _ _ _ _ _ ⟨⟩; exact q176
theorem sF_11 : sFOK 11 := by rintro _ _ _ _ _ _ ⟨⟩; exact q177
theorem sF_12 : sFOK 12 := by rintro _ _ _ _ _ _ ⟨⟩; exact q179
theorem sF_13 : sFOK 13 := by rintro _ _ _ _ _ _ ⟨⟩; exact q181
theorem sF_14 : sFOK 14 := by rintro _ _ _ _ _ _ ⟨⟩; exact q182
theorem sF_15 : sFOK 15 := by rintro _ _ _ _ _ _ ⟨⟩; exact q183
theorem sF_16 : sFOK 16 := by rintro _ _ _ _ _ _ ⟨⟩; exact q185
theorem sF_17 : sFOK 17 := by rintro _ _ _ _ _ _ ⟨⟩; exact q186
theorem sF_18 : sFOK 18 := by rintro _ _ _ _ _ _ ⟨⟩; exact q187
theorem sF_19 : sFOK 19 := by rintro _ _ _ _ _ _ ⟨⟩; exact q198
theorem sF_20 : sFOK 20 := by rintro _ _ _ _ _ _ ⟨⟩; exact q199
theorem sF_21 : sFOK 21 := by rintro _ _ _ _ _ _ ⟨⟩; exact q201
theorem sF_22 : sFOK 22 := by rintro _ _ _ _ _ _ ⟨⟩; exact q159
theorem sF_23 : sFOK 23 := by rintro _ _ _ _ _ _ ⟨⟩; exact q160
theorem sF_24 : sFOK 24 := by rintro _ _ _ _ _ _ ⟨⟩; exact q163
theorem sF_25 : sFOK 25 := by rintro _ _ _ _ _ _ ⟨⟩; exact q188
theorem sF_26 : sFOK 26 := by rintro _ _ _ _ _ _ ⟨⟩; exact q193
theorem sF_27 : sFOK 27 := by rintro _ _ _ _ _ _ ⟨⟩; exact q413
theorem sF_28 : sFOK 28 := by rintro _ _ _ _ _ _ ⟨⟩; exact q424
theorem sF_29 : sFOK 29 := by rintro _ _ _ _ _ _ ⟨⟩; exact q411
theorem sF_30 : sFOK 30 := by rintro _ _ _ _ _ _ ⟨⟩; exact q165
theorem sF_31 : sFOK 31 := by rintro _ _ _ _ _ _ ⟨⟩; exact q471
theorem sF_32 : sFOK 32 := by rintro _ _ _ _ _ _ ⟨⟩; exact q167
theorem sF_33 : sFOK 33 := by rintro _ _ _ _ _ _ ⟨⟩; exact q426
theorem sF_34 : sFOK 34 := by rintro _ _ _ _ _ _ ⟨⟩; exact q469
theorem sF_35 : sFOK 35 := by rintro _ _ _ _ _ _ ⟨⟩; exact q875
theorem sF_36 : sFOK 36 := by rintro _ _ _ _ _ _ ⟨⟩; exact q169
theorem sF_37 : sFOK 37 := by rintro _ _ _ _ _ _ ⟨⟩; exact q869
theorem sF_38 : sFOK 38 := by rintro _ _ _ _ _ _ ⟨⟩; exact q871
theorem sF_39 : sFOK 39 := by rintro _ _ _ _ _ _ ⟨⟩; exact q873
theorem sF_40 : sFOK 40 := by rintro _ _ _ _ _ _ ⟨⟩; exact q415
theorem sF_41 : sFOK 41 := by rintro _ _ _ _ _ _ ⟨⟩; exact q417
theorem sF_42 : sFOK 42 := by rintro _ _ _ _ _ _ ⟨⟩; exact q428
theorem sF_43 : sFOK 43 := by rintro _ _ _ _ _ _ ⟨⟩; exact q928
theorem sF_44 : sFOK 44 := by rintro _ _ _ _ _ _ ⟨⟩; exact q916
theorem sF_45 : sFOK 45 := by rintro _ _ _ _ _ _ ⟨⟩; exact q922
theorem sF_46 : sFOK 46 := by rintro _ _ _ _ _ _ ⟨⟩; exact q171
theorem sF_47 : sFOK 47 := by rintro _ _ _ _ _ _ ⟨⟩; exact q178
theorem sF_48 : sFOK 48 := by rintro _ _ _ _ _ _ ⟨⟩; exact q189
theorem sF_49 : sFOK 49 := by rintro _ _ _ _ _ _ ⟨⟩; exact q190
theorem sF_50 : sFOK 50 := by rintro _ _ _ _ _ _ ⟨⟩; exact q191
theorem sF_51 : sFOK 51 := by rintro _ _ _ _ _ _ ⟨⟩; exact q192
theorem sF_52 : sFOK 52 := by rintro _ _ _ _ _ _ ⟨⟩; exact q194
theorem sF_53 : sFOK 53 := by rintro _ _ _ _ _ _ ⟨⟩; exact q195
theorem sF_54 : sFOK 54 := by rintro _ _ _ _ _ _ ⟨⟩; exact q196
theorem sF_55 : sFOK 55 := by rintro _ _ _ _ _ _ ⟨⟩; exact q197
theorem sF_56 : sFOK 56 := by rintro _ _ _ _ _ _ ⟨⟩; exact q180
theorem sF_57 : sFOK 57 := by rintro _ _ _ _ _ _ ⟨⟩; exact q1034
theorem sF_58 : sFOK 58 := by rintro _ _ _ _ _ _ ⟨⟩; exact q1036
theorem sF_59 : sFOK 59 := by rintro _ _ _ _ _ _ ⟨⟩; exact q1038
theorem sF_60 : sFOK 60 := by rintro _ _ _ _ _ _ ⟨⟩; exact q200
theorem sF_61 : sFOK 61 := by rintro _ _ _ _ _ _ ⟨⟩; exact q202
theorem sF_62 : sFOK 62 := by rintro _ _ _ _ _ _ ⟨⟩; exact q203
theorem sF_63 : sFOK 63 := by rintro _ _ _ _ _ _ ⟨⟩; exact q204
theorem sF_64 : sFOK 64 := by rintro _ _ _ _ _ _ ⟨⟩; exact q911
theorem sF_65 : sFOK 65 := by rintro _ _ _ _ _ _ ⟨⟩; exact q419
theorem sF_66 : sFOK 66 := by rintro _ _ _ _ _ _ ⟨⟩; exact q981
theorem sF_67 : sFOK 67 := by rintro _ _ _ _ _ _ ⟨⟩; exact q430
theorem sF_68 : sFOK 68 := by rintro _ _ _ _ _ _ ⟨⟩; exact q983
theorem sF_69 : sFOK 69 := by rintro _ _ _ _ _ _ ⟨⟩; exact q929
theorem sF_70 : sFOK 70 := by rintro _ _ _ _ _ _ ⟨⟩; exact q917
theorem sF_71 : sFOK 71 := by rintro _ _ _ _ _ _ ⟨⟩; exact q923
theorem sF_72 : sFOK 72 := by rintro _ _ _ _ _ _ ⟨⟩; exact q184
theorem sF_73 : sFOK 73 := by rintro _ _ _ _ _ _ ⟨⟩; exact q205
theorem sF_74 : sFOK 74 := by rintro _ _ _ _ _ _ ⟨⟩; exact q206
theorem sF_75 : sFOK 75 := by rintro _ _ _ _ _ _ ⟨⟩; exact q1040
theorem sF_76 : sFOK 76 := by rintro _ _ _ _ _ _ ⟨⟩; exact q1348
theorem sF_77 : sFOK 77 := by rintro _ _ _ _ _ _ ⟨⟩; exact q1350
theorem sF_78 : sFOK 78 := by rintro _ _ _ _ _ _ ⟨⟩; exact q1351
theorem sF_79 : sFOK 79 := by rintro _ _ _ _ _ _ ⟨⟩; exact q1352
theorem sF_80 : sFOK 80 := by rintro _ _ _ _ _ _ ⟨⟩; exact q1353
theorem sF_81 : sFOK 81 := by rintro _ _ _ _ _ _ ⟨⟩; exact q1354
theorem sF_82 : sFOK 82 := by rintro _ _ _ _ _ _ ⟨⟩; exact q1355
theorem sF_83 : sFOK 83 := by rintro _ _ _ _ _ _ ⟨⟩; exact q1356
theorem sF_84 : sFOK 84 := by rintro _ _ _ _ _ _ ⟨⟩; exact q1357
theorem sF_85 : sFOK 85 := by rintro _ _ _ _ _ _ ⟨⟩; exact q1358
theorem sF_86 : sFOK 86 := by rintro _ _ _ _ _ _ ⟨⟩; exact q1359
theorem sF_87 : sFOK 87 := by rintro _ _ _ _ _ _ ⟨⟩; exact q1360
theorem sF_88 : sFOK 88 := by rintro _ _ _ _ _ _ ⟨⟩; exact q1361
theorem sF_89 : sFOK 89 := by rintro _ _ _ _ _ _ ⟨⟩; exact q1362
theorem sF_90 : sFOK 90 := by rintro _ _ _ _ _ _ ⟨⟩; exact q1363
theorem sF_91 : sFOK 91 := by rintro _ _ _ _ _ _ ⟨⟩; exact q1364
theorem sF_92 : sFOK 92 := by rintro _ _ _ _ _ _ ⟨⟩; exact q1365
theorem sF_93 : sFOK 93 := by rintro _ _ _ _ _ _ ⟨⟩; exact q1366
theorem sF_94 : sFOK 94 := by rintro _ _ _ _ _ _ ⟨⟩; exact q1367
theorem sF_95 : sFOK 95 := by rintro _ _ _ _ _ _ ⟨⟩; exact q1368
theorem sF_96 : sFOK 96 := by rintro _ _ _ _ _ _ ⟨⟩; exact q1369
theorem sF_97 : sFOK 97 := by rintro _ _ _ _ _ _ ⟨⟩; exact q1370
theorem sF_98 : sFOK 98 := by rintro _ _ _ _ _ _ ⟨⟩; exact q1371
theorem sF_99 : sFOK 99 := by rintro _ _ _ _ _ _ ⟨⟩; exact q1372
theorem sF_100 : sFOK 100 := by rintro _ _ _ _ _ _ ⟨⟩; exact q1373
theorem sF_101 : sFOK 101 := by rintro _ _ _ _ _ _ ⟨⟩; exact q1374
theorem sF_102 : sFOK 102 := by rintro _ _ _ _ _ _ ⟨⟩; exact q1375
theorem sF_103 : sFOK 103 := by rintro _ _ _ _ _ _ ⟨⟩; exact q1376
theorem sF_104 : sFOK 104 := by rintro _ _ _ _ _ _ ⟨⟩; exact q1377
theorem sF_105 : sFOK 105 := by rintro _ _ _ _ _ _ ⟨⟩; exact q1378
theorem sF_106 : sFOK 106 := by rintro _ _ _ _ _ _ ⟨⟩; exact q1379
theorem sF_107 : sFOK 107 := by rintro _ _ _ _ _ _ ⟨⟩; exact q1380
theorem sF_108 : sFOK 108 := by rintro _ _ _ _ _ _ ⟨⟩; exact q1381
theorem sF_109 : sFOK 109 := by rintro _ _ _ _ _ _ ⟨⟩; exact q1382
theorem sF_110 : sFOK 110 := by rintro _ _ _ _ _ _ ⟨⟩; exact q1383
theorem sF_111 : sFOK 111 := by rintro _ _ _ _ _ _ ⟨⟩; exact q1384
theorem sF_112 : sFOK 112 := by rintro _ _ _ _ _ _ ⟨⟩; exact q1385
theorem sF_113 : sFOK 113 := by rintro _ _ _ _ _ _ ⟨⟩; exact q1386
theorem sF_114 : sFOK 114 := by rintro _ _ _ _ _ _ ⟨⟩; exact q1387
theorem sF_115 : sFOK 115 := by rintro _ _ _ _ _ _ ⟨⟩; exact q1388
theorem sF_116 : sFOK 116 := by rintro _ _ _ _ _ _ ⟨⟩; exact q1389
theorem sF_117 : sFOK 117 := by rintro _ _ _ _ _ _ ⟨⟩; exact q1390
theorem sF_118 : sFOK 118 := by rintro _ _ _ _ _ _ ⟨⟩; exact q1391
theorem sF_119 : sFOK 119 := by rintro _ _ _ _ _ _ ⟨⟩; exact q1393
theorem sF_120 : sFOK 120 := by rintro _ _ _ _ _ _ ⟨⟩; exact q1394
theorem sF_121 : sFOK 121 := by rintro _ _ _ _ _ _ ⟨⟩; exact q1399
theorem sF_122 : sFOK 122 := by rintro _ _ _ _ _ _ ⟨⟩; exact q1400
theorem sF_123 : sFOK 123 := by rintro _ _ _ _ _ _ ⟨⟩; exact q1407
theorem sF_124 : sFOK 124 := by rintro _ _ _ _ _ _ ⟨⟩; exact q1408
theorem sF_125 : sFOK 125 := by rintro _ _ _ _ _ _ ⟨⟩; exact q1409
theorem sF_126 : sFOK 126 := by rintro _ _ _ _ _ _ ⟨⟩; exact q1410
theorem sF_127 : sFOK 127 := by rintro _ _ _ _ _ _ ⟨⟩; exact q1411
theorem sF_128 : sFOK 128 := by rintro _ _ _ _ _ _ ⟨⟩; exact q1412
theorem sF_129 : sFOK 129 := by rintro _ _ _ _ _ _ ⟨⟩; exact q1413
theorem sF_130 : sFOK 130 := by rintro _ _ _ _ _ _ ⟨⟩; exact q1419
theorem sF_131 : sFOK 131 := by rintro _ _ _ _ _ _ ⟨⟩; exact q1420
theorem sF_132 : sFOK 132 := by rintro _ _ _ _ _ _ ⟨⟩; exact q1421
theorem sF_133 : sFOK 133 := by rintro _ _ _ _ _ _ ⟨⟩; exact q1425
theorem sF_134 : sFOK 134 := by rintro _ _ _ _ _ _ ⟨⟩; exact q1426
theorem sF_135 : sFOK 135 := by rintro _ _ _ _ _ _ ⟨⟩; exact q1338
theorem sF_136 : sFOK 136 := by rintro _ _ _ _ _ _ ⟨⟩; exact q1339
theorem sF_137 : sFOK 137 := by rintro _ _ _ _ _ _ ⟨⟩; exact q1340
theorem sF_138 : sFOK 138 := by rintro _ _ _ _ _ _ ⟨⟩; exact q1349
theorem sF_139 : sFOK 139 := by rintro _ _ _ _ _ _ ⟨⟩; exact q1341
theorem sF_140 : sFOK 140 := by rintro _ _ _ _ _ _ ⟨⟩; exact q1343
theorem sF_141 : sFOK 141 := by rintro _ _ _ _ _ _ ⟨⟩; exact q1392
theorem sF_142 : sFOK 142 := by rintro _ _ _ _ _ _ ⟨⟩; exact q1342
theorem sF_143 : sFOK 143 := by rintro _ _ _ _ _ _ ⟨⟩; exact q1346
theorem sF_144 : sFOK 144 := by rintro _ _ _ _ _ _ ⟨⟩; exact q1395
theorem sF_145 : sFOK 145 := by rintro _ _ _ _ _ _ ⟨⟩; exact q1396
theorem sF_146 : sFOK 146 := by rintro _ _ _ _ _ _ ⟨⟩; exact q1397
theorem sF_147 : sFOK 147 := by rintro _ _ _ _ _ _ ⟨⟩; exact q1398
theorem sF_148 : sFOK 148 := by rintro _ _ _ _ _ _ ⟨⟩; exact q1405
theorem sF_149 : sFOK 149 := by rintro _ _ _ _ _ _ ⟨⟩; exact q1401
theorem sF_150 : sFOK 150 := by rintro _ _ _ _ _ _ ⟨⟩; exact q1402
theorem sF_151 : sFOK 151 := by rintro _ _ _ _ _ _ ⟨⟩; exact q1403
theorem sF_152 : sFOK 152 := by rintro _ _ _ _ _ _ ⟨⟩; exact q1404
theorem sF_153 : sFOK 153 := by rintro _ _ _ _ _ _ ⟨⟩; exact q1406
theorem sF_154 : sFOK 154 := by rintro _ _ _ _ _ _ ⟨⟩; exact q1414
theorem sF_155 : sFOK 155 := by rintro _ _ _ _ _ _ ⟨⟩; exact q1344
theorem sF_156 : sFOK 156 := by rintro _ _ _ _ _ _ ⟨⟩; exact q1416
theorem sF_157 : sFOK 157 := by rintro _ _ _ _ _ _ ⟨⟩; exact q1417
theorem sF_158 : sFOK 158 := by rintro _ _ _ _ _ _ ⟨⟩; exact q1415
theorem sF_159 : sFOK 159 := by rintro _ _ _ _ _ _ ⟨⟩; exact q1418
theorem sF_160 : sFOK 160 := by rintro _ _ _ _ _ _ ⟨⟩; exact q1422
theorem sF_161 : sFOK 161 := by rintro _ _ _ _ _ _ ⟨⟩; exact q1423
theorem sF_162 : sFOK 162 := by rintro _ _ _ _ _ _ ⟨⟩; exact q1424
theorem sF_163 : sFOK 163 := by rintro _ _ _ _ _ _ ⟨⟩; exact q1347
theorem sF_164 : sFOK 164 := by rintro _ _ _ _ _ _ ⟨⟩; exact q1345
theorem sF_165 : sFOK 165 := by rintro _ _ _ _ _ _ ⟨⟩; exact q381
theorem sF_166 : sFOK 166 := by rintro _ _ _ _ _ _ ⟨⟩; exact q412
theorem sF_167 : sFOK 167 := by rintro _ _ _ _ _ _ ⟨⟩; exact q421
theorem sF_168 : sFOK 168 := by rintro _ _ _ _ _ _ ⟨⟩; exact q431
theorem sF_169 : sFOK 169 := by rintro _ _ _ _ _ _ ⟨⟩; exact q410
theorem sF_170 : sFOK 170 := by rintro _ _ _ _ _ _ ⟨⟩; exact q472
theorem sF_171 : sFOK 171 := by rintro _ _ _ _ _ _ ⟨⟩; exact q468
theorem sF_172 : sFOK 172 := by rintro _ _ _ _ _ _ ⟨⟩; exact q470
theorem sF_173 : sFOK 173 := by rintro _ _ _ _ _ _ ⟨⟩; exact q584
theorem sF_174 : sFOK 174 := by rintro _ _ _ _ _ _ ⟨⟩; exact q586
theorem sF_175 : sFOK 175 := by rintro _ _ _ _ _ _ ⟨⟩; exact q868
theorem sF_176 : sFOK 176 := by rintro _ _ _ _ _ _ ⟨⟩; exact q870
theorem sF_177 : sFOK 177 := by rintro _ _ _ _ _ _ ⟨⟩; exact q872
theorem sF_178 : sFOK 178 := by rintro _ _ _ _ _ _ ⟨⟩; exact q874
theorem sF_179 : sFOK 179 := by rintro _ _ _ _ _ _ ⟨⟩; exact q627
theorem sF_180 : sFOK 180 := by rintro _ _ _ _ _ _ ⟨⟩; exact q628
theorem sF_181 : sFOK 181 := by rintro _ _ _ _ _ _ ⟨⟩; exact q629
theorem sF_182 : sFOK 182 := by rintro _ _ _ _ _ _ ⟨⟩; exact q630
theorem sF_183 : sFOK 183 := by rintro _ _ _ _ _ _ ⟨⟩; exact q696
theorem sF_184 : sFOK 184 := by rintro _ _ _ _ _ _ ⟨⟩; exact q799
theorem sF_185 : sFOK 185 := by rintro _ _ _ _ _ _ ⟨⟩; exact q812
theorem sF_186 : sFOK 186 := by rintro _ _ _ _ _ _ ⟨⟩; exact q822
theorem sF_187 : sFOK 187 := by rintro _ _ _ _ _ _ ⟨⟩; exact q823
theorem sF_188 : sFOK 188 := by rintro _ _ _ _ _ _ ⟨⟩; exact q824
theorem sF_189 : sFOK 189 := by rintro _ _ _ _ _ _ ⟨⟩; exact q838
theorem sF_190 : sFOK 190 := by rintro _ _ _ _ _ _ ⟨⟩; exact q839
theorem sF_191 : sFOK 191 := by rintro _ _ _ _ _ _ ⟨⟩; exact q840
theorem sF_192 : sFOK 192 := by rintro _ _ _ _ _ _ ⟨⟩; exact q856
theorem sF_193 : sFOK 193 := by rintro _ _ _ _ _ _ ⟨⟩; exact q854
theorem sF_194 : sFOK 194 := by rintro _ _ _ _ _ _ ⟨⟩; exact q855
theorem sF_195 : sFOK 195 := by rintro _ _ _ _ _ _ ⟨⟩; exact q913
theorem sF_196 : sFOK 196 := by rintro _ _ _ _ _ _ ⟨⟩; exact q919
theorem sF_197 : sFOK 197 := by rintro _ _ _ _ _ _ ⟨⟩; exact q925
theorem sF_198 : sFOK 198 := by rintro _ _ _ _ _ _ ⟨⟩; exact q912
theorem sF_199 : sFOK 199 := by rintro _ _ _ _ _ _ ⟨⟩; exact q909
theorem sF_200 : sFOK 200 := by rintro _ _ _ _ _ _ ⟨⟩; exact q910
theorem sF_201 : sFOK 201 := by rintro _ _ _ _ _ _ ⟨⟩; exact q587
theorem sF_202 : sFOK 202 := by rintro _ _ _ _ _ _ ⟨⟩; exact q926
theorem sF_203 : sFOK 203 := by rintro _ _ _ _ _ _ ⟨⟩; exact q914
theorem sF_204 : sFOK 204 := by rintro _ _ _ _ _ _ ⟨⟩; exact q920
theorem sF_205 : sFOK 205 := by rintro _ _ _ _ _ _ ⟨⟩; exact q585
theorem sF_206 : sFOK 206 := by rintro _ _ _ _ _ _ ⟨⟩; exact q980
theorem sF_207 : sFOK 207 := by rintro _ _ _ _ _ _ ⟨⟩; exact q982
theorem sF_208 : sFOK 208 := by rintro _ _ _ _ _ _ ⟨⟩; exact q984
theorem sF_209 : sFOK 209 := by rintro _ _ _ _ _ _ ⟨⟩; exact q422
theorem sF_210 : sFOK 210 := by rintro _ _ _ _ _ _ ⟨⟩; exact q1033
theorem sF_211 : sFOK 211 := by rintro _ _ _ _ _ _ ⟨⟩; exact q1035
theorem sF_212 : sFOK 212 := by rintro _ _ _ _ _ _ ⟨⟩; exact q1037
theorem sF_213 : sFOK 213 := by rintro _ _ _ _ _ _ ⟨⟩; exact q1039
theorem sF_all : ∀ f, f < 214 → sFOK f := lt_s (lt_s (lt_s (lt_s (lt_s (lt_s (lt_s (lt_s (lt_s (lt_s (lt_s (lt_s (lt_s (lt_s (lt_s (lt_s (lt_s (lt_s (lt_s (lt_s (lt_s (lt_s (lt_s (lt_s (lt_s (lt_s (lt_s (lt_s (lt_s (lt_s (lt_s (lt_s (lt_s (lt_s (lt_s (lt_s (lt_s (lt_s (lt_s (lt_s (lt_s (lt_s (lt_s (lt_s (lt_s (lt_s (lt_s (lt_s (lt_s (lt_s (lt_s (lt_s (lt_s (lt_s (lt_s (lt_s (lt_s (lt_s (lt_s (lt_s (lt_s (lt_s (lt_s (lt_s (lt_s (lt_s (lt_s (lt_s (lt_s (lt_s (lt_s (lt_s (lt_s (lt_s (lt_s (lt_s (lt_s (lt_s (lt_s (lt_s (lt_s (lt_s (lt_s (lt_s (lt_s (lt_s (lt_s (lt_s (lt_s (lt_s (lt_s (lt_s (lt_s (lt_s (lt_s (lt_s (lt_s (lt_s (lt_s (lt_s (lt_s (lt_s (lt_s (lt_s (lt_s (lt_s (lt_s (lt_s (lt_s (lt_s (lt_s (lt_s (lt_s (lt_s (lt_s (lt_s (lt_s (lt_s (lt_s (lt_s (lt_s (lt_s (lt_s (lt_s (lt_s (lt_s (lt_s (lt_s (lt_s (lt_s (lt_s (lt_s (lt_s (lt_s (lt_s (lt_s (lt_s (lt_s (lt_s (lt_s (lt_s (lt_s (lt_s (lt_s (lt_s (lt_s (lt_s (lt_s (lt_s (lt_s (lt_s (lt_s (lt_s (lt_s (lt_s (lt_s (lt_s (lt_s (lt_s (lt_s (lt_s (lt_s (lt_s (lt_s (lt_s (lt_s (lt_s (lt_s (lt_s (lt_s (lt_s (lt_s (lt_s (lt_s (lt_s (lt_s (lt_s (lt_s (lt_s (lt_s (lt_s (lt_s (lt_s (lt_s (lt_s (lt_s (lt_s (lt_s (lt_s (lt_s (lt_s (lt_s (lt_s (lt_s (lt_s (lt_s (lt_s (lt_s (lt_s (lt_s (lt_s (lt_s (lt_s (lt_s (lt_s (lt_s (lt_s (lt_s (lt_s (lt_s (lt_s (lt_s (lt_s (lt_s (lt_0) sF_0) sF_1) sF_2) sF_3) sF_4) sF_5) sF_6) sF_7) sF_8) sF_9) sF_10) sF_11) sF_12) sF_13) sF_14) sF_15) sF_16) sF_17) sF_18) sF_19) sF_20) sF_21) sF_22) sF_23) sF_24) sF_25) sF_26) sF_27) sF_28) sF_29) sF_30) sF_31) sF_32) sF_33) sF_34) sF_35) sF_36) sF_37) sF_38) sF_39) sF_40) sF_41) sF_42) sF_43) sF_44) sF_45) sF_46) sF_47) sF_48) sF_49) sF_50) sF_51) sF_52) sF_53) sF_54) sF_55) sF_56) sF_57) sF_58) sF_59) sF_60) sF_61) sF_62) sF_63) sF_64) sF_65) sF_66) sF_67) sF_68) sF_69) sF_70) sF_71) sF_72) sF_73) sF_74) sF_75) sF_76) sF_77) sF_78) sF_79) sF_80) sF_81) sF_82) sF_83) sF_84) sF_85) sF_86) sF_87) sF_88) sF_89) sF_90) sF_91) sF_92) sF_93) sF_94) sF_95) sF_96) sF_97) sF_98) sF_99) sF_100) sF_101) sF_102) sF_103) sF_104) sF_105) sF_106) sF_107) sF_108) sF_109) sF_110) sF_111) sF_112) sF_113) sF_114) sF_115) sF_116) sF_117) sF_118) sF_119) sF_120) sF_121) sF_122) sF_123) sF_124) sF_125) sF_126) sF_127) sF_128) sF_129) sF_130) sF_131) sF_132) sF_133) sF_134) sF_135) sF_136) sF_137) sF_138) sF_139) sF_140) sF_141) sF_142) sF_143) sF_144) sF_145) sF_146) sF_147) sF_148) sF_149) sF_150) sF_151) sF_152) sF_153) sF_154) sF_155) sF_156) sF_157) sF_158) sF_159) sF_160) sF_161) sF_162) sF_163) sF_164) sF_165) sF_166) sF_167) sF_168) sF_169) sF_170) sF_171) sF_172) sF_173) sF_174) sF_175) sF_176) sF_177) sF_178) sF_179) sF_180) sF_181) sF_182) sF_183) sF_184) sF_185) sF_186) sF_187) sF_188) sF_189) sF_190) sF_191) sF_192) sF_193) sF_194) sF_195) sF_196) sF_197) sF_198) sF_199) sF_200) sF_201) sF_202) sF_203) sF_204) sF_205) sF_206) sF_207) sF_208) sF_209) sF_210) sF_211) sF_212) sF_213
def sSm : List (String × String × String × String) := [("RiverGauge$Zero", "RiverGauge$Told", "post", "I"), ("RiverGauge$Zero", "RiverGauge$Told", "time", "I"), ("RiverGauge$Height", "RiverGauge$Told", "post", "I"), ("RiverGauge$Height", "RiverGauge$Told", "time", "I"), ("RiverGauge$Flow", "RiverGauge$Told", "post", "I"), ("RiverGauge$Flow", "RiverGauge$Told", "time", "I"), ("RiverGauge$Curve", "RiverGauge$Line", "heights", "[I"), ("RiverGauge$Curve", "RiverGauge$Line", "flows", "[J"), ("RiverGauge$Curve", "RiverGauge$Line", "many", "I"), ("RiverGauge$Cover", "RiverGauge$Told", "post", "I"), ("RiverGauge$Cover", "RiverGauge$Told", "time", "I"), ("RiverGauge$Base", "RiverGauge$Line", "heights", "[I"), ("RiverGauge$Base", "RiverGauge$Line", "flows", "[J"), ("RiverGauge$Base", "RiverGauge$Line", "many", "I")]
theorem sSm_ok : ∀ r ∈ sSm, Jvm.Cond.sameField r.1 r.2.1 r.2.2.1 r.2.2.2 ∈ lw_all := List.forall_mem_cons.mpr ⟨q414, List.forall_mem_cons.mpr ⟨q425, List.forall_mem_cons.mpr ⟨q416, List.forall_mem_cons.mpr ⟨q427, List.forall_mem_cons.mpr ⟨q418, List.forall_mem_cons.mpr ⟨q429, List.forall_mem_cons.mpr ⟨q915, List.forall_mem_cons.mpr ⟨q921, List.forall_mem_cons.mpr ⟨q927, List.forall_mem_cons.mpr ⟨q420, List.forall_mem_cons.mpr ⟨q423, List.forall_mem_cons.mpr ⟨q918, List.forall_mem_cons.mpr ⟨q924, List.forall_mem_cons.mpr ⟨q930, fun _ h => absurd h List.not_mem_nil⟩⟩⟩⟩⟩⟩⟩⟩⟩⟩⟩⟩⟩⟩
/-- a receiver's row of a field row, by the tables -/
def sRcB (ref n d : String) (ck : Nat × Nat) : Bool := match sCl[ck.1]? with
  | some (_, T, N) => Nat.blt ck.2 N && ((T ck.2).2.1 == n && ((T ck.2).2.2.1 == d && ((T ck.2).1 == ref || sSm.contains (ref, (T ck.2).1, n, d))))
  | none => false
def sFB (f : Nat) : Bool := match mlk2 sfI f with
  | some (_, _, ref, n, d, _) => (mfT f).2.all (sRcB ref n d) && (match parseFieldDescriptor d with
    | some .int => Nat.beq (mfT f).1 0
    | some .boolean => Nat.beq (mfT f).1 1
    | some (.object _) => Nat.beq (mfT f).1 2
    | some (.array _) => Nat.beq (mfT f).1 2
    | _ => false)
  | none => true
theorem sFB_all : ∀ f, f < 214 → sFB f = true := by decide +kernel
