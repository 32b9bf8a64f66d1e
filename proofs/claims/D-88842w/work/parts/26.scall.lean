/-! the methods' and the calls' rows: printed by tools/scall.py -/
set_option maxRecDepth 100000
def scI : List (Nat × List (Nat × String × Nat × Nat)) := [(12, [(0, "RiverGauge", 23, 1), (1, "RiverGauge", 107, 2), (2, "RiverGauge", 547, 2), (3, "RiverGauge", 425, 2), (4, "RiverGauge", 431, 2), (5, "RiverGauge", 434, 2), (6, "RiverGauge", 438, 2), (7, "RiverGauge", 441, 2), (8, "RiverGauge", 445, 2), (9, "RiverGauge", 448, 2), (10, "RiverGauge", 451, 2), (11, "RiverGauge", 9, 0)]),
  (24, [(12, "RiverGauge", 454, 0), (13, "RiverGauge", 457, 1), (14, "RiverGauge", 460, 2), (15, "RiverGauge", 210, 2), (16, "RiverGauge", 3, 1), (17, "RiverGauge", 13, 0), (18, "RiverGauge", 132, 2), (19, "RiverGauge", 463, 1), (20, "RiverGauge", 466, 2), (21, "RiverGauge", 469, 0), (22, "RiverGauge", 202, 2), (23, "RiverGauge", 265, 2)]),
  (36, [(24, "RiverGauge", 473, 1), (25, "RiverGauge", 474, 2), (26, "RiverGauge", 261, 2), (27, "RiverGauge", 19, 0), (28, "RiverGauge", 182, 2), (29, "RiverGauge", 183, 2), (30, "RiverGauge", 157, 2), (31, "RiverGauge", 186, 2), (32, "RiverGauge", 190, 2), (33, "RiverGauge", 196, 0), (34, "RiverGauge", 165, 2), (35, "RiverGauge", 179, 2)]),
  (48, [(36, "RiverGauge", 206, 2), (37, "RiverGauge", 213, 2), (38, "RiverGauge", 216, 2), (39, "RiverGauge", 475, 2), (40, "RiverGauge", 297, 2), (41, "RiverGauge", 308, 2), (42, "RiverGauge", 483, 1), (43, "RiverGauge", 493, 1), (44, "RiverGauge", 496, 2), (45, "RiverGauge", 500, 1), (46, "RiverGauge", 275, 0), (47, "RiverGauge", 278, 0)]),
  (60, [(48, "RiverGauge", 281, 2), (49, "RiverGauge", 251, 2), (50, "RiverGauge", 257, 1), (51, "RiverGauge", 268, 2), (52, "RiverGauge", 272, 2), (53, "RiverGauge", 328, 2), (54, "RiverGauge", 510, 2), (55, "RiverGauge", 369, 2), (56, "RiverGauge", 515, 2), (57, "RiverGauge", 518, 2), (58, "RiverGauge", 304, 2), (59, "RiverGauge", 314, 2)]),
  (72, [(60, "RiverGauge", 322, 2), (61, "RiverGauge", 325, 1), (62, "RiverGauge", 289, 2), (63, "RiverGauge", 294, 2), (64, "RiverGauge", 505, 1), (65, "RiverGauge", 351, 2), (66, "RiverGauge", 360, 0), (67, "RiverGauge", 363, 2), (68, "RiverGauge", 336, 2), (69, "RiverGauge", 337, 2), (70, "RiverGauge", 345, 2), (71, "RiverGauge", 348, 2)]),
  (84, [(72, "RiverGauge", 341, 2), (73, "RiverGauge", 398, 2), (74, "RiverGauge", 521, 2), (75, "RiverGauge", 524, 2), (76, "RiverGauge", 527, 2), (77, "RiverGauge", 530, 2), (78, "RiverGauge", 535, 2), (79, "RiverGauge", 538, 2), (80, "RiverGauge", 541, 2), (81, "RiverGauge", 544, 2), (82, "RiverGauge", 385, 2), (83, "RiverGauge", 392, 2)]),
  (96, [(84, "RiverGauge", 395, 2), (85, "RiverGauge", 404, 0), (86, "RiverGauge", 412, 0), (87, "RiverGauge", 550, 2), (88, "RiverGauge", 553, 2), (89, "RiverGaugeModel", 1, 1), (90, "RiverGaugeModel", 190, 2), (91, "RiverGaugeModel", 200, 2), (92, "RiverGaugeModel", 210, 0), (93, "RiverGaugeModel", 214, 2), (94, "RiverGaugeModel", 217, 2), (95, "RiverGaugeModel", 224, 2)]),
  (108, [(96, "RiverGaugeModel", 246, 2), (97, "RiverGaugeModel", 231, 2), (98, "RiverGaugeModel", 234, 2), (99, "RiverGaugeModel", 237, 2), (100, "RiverGaugeModel", 243, 2), (101, "RiverGaugeModel", 314, 0), (102, "RiverGaugeModel", 255, 2), (103, "RiverGaugeModel", 249, 2), (104, "RiverGaugeModel", 263, 2), (105, "RiverGaugeModel", 307, 2), (106, "RiverGaugeModel", 274, 2), (107, "RiverGaugeModel", 297, 2)]),
  (120, [(108, "RiverGaugeModel", 300, 2), (109, "RiverGaugeModel", 303, 2), (110, "RiverGaugeModel", 288, 2), (111, "RiverGaugeModel", 284, 2), (112, "RiverGaugeModel", 278, 0), (113, "RiverGaugeModel", 347, 2), (114, "RiverGaugeModel", 350, 2), (115, "RiverGaugeModel", 318, 2), (116, "RiverGaugeModel", 353, 2), (117, "RiverGaugeModel", 375, 2), (118, "RiverGaugeModel", 366, 2), (119, "RiverGaugeModel", 405, 2)]),
  (132, [(120, "RiverGaugeModel", 408, 2), (121, "RiverGaugeModel", 387, 2), (122, "RiverGaugeModel", 399, 0), (123, "RiverGaugeModel", 402, 2), (124, "RiverGaugeModel", 384, 2), (125, "RiverGaugeModel", 380, 2), (126, "RiverGaugeModel", 414, 0), (127, "RiverGaugeModel", 422, 0), (128, "RiverGauge$Refusal", 1, 1), (129, "RiverGauge$Refused", 1, 1), (130, "RiverGauge$Told", 1, 1), (131, "RiverGauge$Zero", 1, 1)]),
  (144, [(132, "RiverGauge$Strikable", 3, 1), (133, "RiverGauge$Strikable", 20, 0), (134, "RiverGauge$Strikable", 16, 2), (135, "RiverGauge$Height", 1, 1), (136, "RiverGauge$Flow", 1, 1), (137, "RiverGauge$Flow", 16, 0), (138, "RiverGauge$Standard", 1, 1), (139, "RiverGauge$Reader", 3, 1), (140, "RiverGauge$Reader", 31, 2), (141, "RiverGauge$Reader", 35, 2), (142, "RiverGauge$Reader", 39, 2), (143, "RiverGauge$Reader", 42, 2)]),
  (156, [(144, "RiverGauge$Reader", 48, 1), (145, "RiverGauge$Reader", 51, 2), (146, "RiverGauge$Reader", 27, 2), (147, "RiverGauge$Reader", 57, 2), (148, "RiverGauge$Reader", 62, 1), (149, "RiverGauge$Reader", 65, 2), (150, "RiverGauge$Reader", 71, 1), (151, "RiverGauge$Reader", 24, 1), (152, "RiverGauge$Reader", 74, 2), (153, "RiverGauge$Reader", 79, 1), (154, "RiverGauge$Reader", 82, 2), (155, "RiverGauge$Reader", 90, 1)]),
  (168, [(156, "RiverGauge$Reader", 95, 0), (157, "RiverGauge$Reader", 101, 1), (158, "RiverGauge$BadText", 1, 1), (159, "RiverGauge$Part", 1, 1), (160, "RiverGauge$Test", 1, 1), (161, "RiverGauge$Not", 13, 2), (162, "RiverGauge$Not", 1, 1), (163, "RiverGauge$Sum", 1, 1), (164, "RiverGauge$Letter", 1, 1), (165, "RiverGauge$Plain", 1, 1), (166, "RiverGauge$Joined", 22, 2), (167, "RiverGauge$Joined", 30, 0)]),
  (180, [(168, "RiverGauge$Joined", 36, 0), (169, "RiverGauge$Joined", 3, 1), (170, "RiverGauge$Compare", 20, 2), (171, "RiverGauge$Compare", 1, 1), (172, "RiverGauge$Both", 20, 2), (173, "RiverGauge$Both", 1, 1), (174, "RiverGauge$Line", 3, 1), (175, "RiverGauge$Line", 23, 2), (176, "RiverGauge$Line", 29, 0), (177, "RiverGauge$Line", 35, 2), (178, "RiverGauge$Curve", 3, 1), (179, "RiverGauge$Curve", 25, 0)]),
  (192, [(180, "RiverGauge$Cover", 1, 1), (181, "RiverGauge$Reckoned", 1, 1), (182, "RiverGauge$Base", 3, 1), (183, "RiverGaugeLaw", 9, 1), (184, "RiverGaugeLaw", 12, 1), (185, "RiverGaugeLaw", 13, 2), (186, "RiverGaugeLaw", 17, 2), (187, "RiverGaugeLaw", 18, 2), (188, "RiverGaugeLaw", 21, 2), (189, "RiverGaugeLaw", 22, 2), (190, "RiverGaugeLaw", 26, 2), (191, "RiverGaugeLaw", 27, 2)]),
  (204, [(192, "RiverGaugeLaw", 30, 2), (193, "RiverGaugeLaw", 31, 2), (194, "RiverGaugeLaw", 35, 2), (195, "RiverGaugeLaw", 36, 2), (196, "RiverGaugeLaw", 39, 2), (197, "RiverGaugeLaw", 40, 2), (198, "RiverGaugeLaw", 44, 2), (199, "RiverGaugeLaw", 45, 2), (200, "RiverGaugeLaw", 48, 2), (201, "RiverGaugeLaw", 49, 2), (202, "RiverGaugeLaw", 52, 2), (203, "RiverGaugeLaw", 53, 2)]),
  (216, [(204, "RiverGaugeLaw", 56, 2), (205, "RiverGaugeLaw", 57, 2), (206, "RiverGaugeLaw", 60, 2), (207, "RiverGaugeLaw", 63, 2), (208, "RiverGaugeLaw", 67, 2), (209, "RiverGaugeLaw", 68, 2), (210, "RiverGaugeLaw", 71, 2), (211, "RiverGaugeLaw", 72, 2), (212, "RiverGaugeLaw", 75, 2), (213, "RiverGaugeLaw", 76, 2), (214, "RiverGaugeLaw", 79, 2), (215, "RiverGaugeLaw", 80, 2)]),
  (228, [(216, "RiverGaugeLaw", 83, 2), (217, "RiverGaugeLaw", 84, 2), (218, "RiverGaugeLaw", 88, 2), (219, "RiverGaugeLaw", 89, 2), (220, "RiverGaugeLaw", 92, 2), (221, "RiverGaugeLaw", 93, 2), (222, "RiverGaugeLaw", 96, 2), (223, "RiverGaugeLaw", 97, 2), (224, "RiverGaugeLaw", 100, 2), (225, "RiverGaugeLaw", 101, 2), (226, "RiverGaugeLaw", 104, 2), (227, "RiverGaugeLaw", 105, 2)]),
  (240, [(228, "RiverGaugeLaw", 108, 2), (229, "RiverGaugeLaw", 109, 2), (230, "RiverGaugeLaw", 112, 2), (231, "RiverGaugeLaw", 113, 2), (232, "RiverGaugeLaw", 116, 2), (233, "RiverGaugeLaw", 117, 2), (234, "RiverGaugeLaw", 120, 2), (235, "RiverGaugeLaw", 121, 2), (236, "RiverGaugeLaw", 124, 2), (237, "RiverGaugeLaw", 125, 2), (238, "RiverGaugeLaw", 128, 2), (239, "RiverGaugeLaw", 129, 2)]),
  (252, [(240, "RiverGaugeLaw", 132, 2), (241, "RiverGaugeLaw", 133, 2), (242, "RiverGaugeLaw", 136, 2), (243, "RiverGaugeLaw", 137, 2), (244, "RiverGaugeLaw", 140, 2), (245, "RiverGaugeLaw", 141, 2), (246, "RiverGaugeLaw", 144, 2), (247, "RiverGaugeLaw", 145, 2), (248, "RiverGaugeLaw", 148, 2), (249, "RiverGaugeLaw", 149, 2), (250, "RiverGaugeLaw", 152, 2), (251, "RiverGaugeLaw", 153, 2)]),
  (257, [(252, "RiverGaugeLaw", 157, 2), (253, "RiverGaugeLaw", 158, 2), (254, "RiverGaugeLaw", 161, 2), (255, "RiverGaugeLaw", 162, 2), (256, "RiverGaugeLaw", 165, 2)])]
def sop (op idx : Nat) : Instr := match op with
  | 0 => .invokestatic idx
  | 1 => .invokespecial idx
  | _ => .invokevirtual idx
def sCOk (cid : Nat) : Prop := ∀ kind argc tg, mlk2 mcT cid = some (kind, argc, tg) → ∀ own idx op, mlk2 scI cid = some (own, idx, op) → (kind = 0 → ∀ c0 z r, tg = (c0, z) :: r → sAr (sop op idx) own none (smI z).1 argc) ∧ (kind = 1 → ∀ ci z, mlk tg ci = some z → sAr (.invokevirtual idx) own (some ci) (smI z).1 argc)
theorem sc_0 : sCOk 0 := by
  rintro _ _ _ ⟨⟩ _ _ _ ⟨⟩
  exact ⟨fun h => (by cases h), fun h => (by cases h)⟩
theorem sc_1 : sCOk 1 := by
  rintro _ _ _ ⟨⟩ _ _ _ ⟨⟩
  exact ⟨fun h => (by cases h), fun h => (by cases h)⟩
theorem sc_2 : sCOk 2 := by
  rintro _ _ _ ⟨⟩ _ _ _ ⟨⟩
  refine ⟨fun h => (by cases h), fun _ ci z h => ?_⟩
  have h := mlk_mem h
  rw [List.mem_singleton] at h
  cases h
  exact sAr.V rfl q311 q313 qs0 (Or.inr ⟨_, _, _, _, q314⟩) ⟨by decide, by decide⟩ rfl
theorem sc_3 : sCOk 3 := by
  rintro _ _ _ ⟨⟩ _ _ _ ⟨⟩
  refine ⟨fun h => (by cases h), fun _ ci z h => ?_⟩
  have h := mlk_mem h
  rw [List.mem_singleton] at h
  cases h
  exact sAr.V rfl q316 q318 qs1 (Or.inl ⟨_, _, _, q319⟩) ⟨by decide, by decide⟩ rfl
theorem sc_4 : sCOk 4 := by
  rintro _ _ _ ⟨⟩ _ _ _ ⟨⟩
  refine ⟨fun h => (by cases h), fun _ ci z h => ?_⟩
  have h := mlk_mem h
  simp only [List.mem_cons, List.not_mem_nil, or_false] at h
  rcases h with h | h
  · cases h; exact sAr.U (x := ⟨"RiverGauge$Refusal", "number", "()I"⟩) rfl q1170 q1172 q1171 ⟨by decide, by decide⟩ q1174 q1176 rfl
  · cases h; exact sAr.U (x := ⟨"RiverGauge$Refusal", "number", "()I"⟩) rfl q1170 q1172 q1171 ⟨by decide, by decide⟩ q1174 q1173 rfl
theorem sc_5 : sCOk 5 := by
  rintro _ _ _ ⟨⟩ _ _ _ ⟨⟩
  refine ⟨fun h => (by cases h), fun _ ci z h => ?_⟩
  have h := mlk_mem h
  rw [List.mem_singleton] at h
  cases h
  exact sAr.V rfl q1177 q1179 qs55 (Or.inl ⟨_, _, _, q1180⟩) ⟨by decide, by decide⟩ rfl
theorem sc_6 : sCOk 6 := by
  rintro _ _ _ ⟨⟩ _ _ _ ⟨⟩
  refine ⟨fun h => (by cases h), fun _ ci z h => ?_⟩
  have h := mlk_mem h
  rw [List.mem_singleton] at h
  cases h
  exact sAr.V rfl q320 q322 qs2 (Or.inl ⟨_, _, _, q323⟩) ⟨by decide, by decide⟩ rfl
theorem sc_7 : sCOk 7 := by
  rintro _ _ _ ⟨⟩ _ _ _ ⟨⟩
  refine ⟨fun h => (by cases h), fun _ ci z h => ?_⟩
  have h := mlk_mem h
  rw [List.mem_singleton] at h
  cases h
  exact sAr.V rfl q455 q457 qs6 (Or.inl ⟨_, _, _, q458⟩) ⟨by decide, by decide⟩ rfl
theorem sc_8 : sCOk 8 := by
  rintro _ _ _ ⟨⟩ _ _ _ ⟨⟩
  refine ⟨fun h => (by cases h), fun _ ci z h => ?_⟩
  have h := mlk_mem h
  rw [List.mem_singleton] at h
  cases h
  exact sAr.V rfl q611 q613 qs15 (Or.inl ⟨_, _, _, q614⟩) ⟨by decide, by decide⟩ rfl
theorem sc_9 : sCOk 9 := by
  rintro _ _ _ ⟨⟩ _ _ _ ⟨⟩
  refine ⟨fun h => (by cases h), fun _ ci z h => ?_⟩
  have h := mlk_mem h
  rw [List.mem_singleton] at h
  cases h
  exact sAr.V rfl q995 q997 qs29 (Or.inl ⟨_, _, _, q998⟩) ⟨by decide, by decide⟩ rfl
theorem sc_10 : sCOk 10 := by
  rintro _ _ _ ⟨⟩ _ _ _ ⟨⟩
  refine ⟨fun h => (by cases h), fun _ ci z h => ?_⟩
  have h := mlk_mem h
  rw [List.mem_singleton] at h
  cases h
  exact sAr.V rfl q1110 q1112 qs42 (Or.inl ⟨_, _, _, q1113⟩) ⟨by decide, by decide⟩ rfl
theorem sc_11 : sCOk 11 := by
  rintro _ _ _ ⟨⟩ _ _ _ ⟨⟩
  refine ⟨fun _ c0 z r h => ?_, fun h => (by cases h)⟩
  cases h
  exact sAr.S q324 q325 q91 (Or.inl ⟨_, _, _, q326⟩) ⟨by decide, by decide⟩ rfl
theorem sc_12 : sCOk 12 := by
  rintro _ _ _ ⟨⟩ _ _ _ ⟨⟩
  refine ⟨fun _ c0 z r h => ?_, fun h => (by cases h)⟩
  cases h
  exact sAr.S q396 q397 q91 (Or.inl ⟨_, _, _, q398⟩) ⟨by decide, by decide⟩ rfl
theorem sc_13 : sCOk 13 := by
  rintro _ _ _ ⟨⟩ _ _ _ ⟨⟩
  refine ⟨fun _ c0 z r h => ?_, fun h => (by cases h)⟩
  cases h
  exact sAr.I rfl q403 q404 q405 ⟨by decide, by decide⟩ rfl
theorem sc_14 : sCOk 14 := by
  rintro _ _ _ ⟨⟩ _ _ _ ⟨⟩
  refine ⟨fun h => (by cases h), fun _ ci z h => ?_⟩
  have h := mlk_mem h
  rw [List.mem_singleton] at h
  cases h
  exact sAr.V rfl q441 q443 qs4 (Or.inl ⟨_, _, _, q444⟩) ⟨by decide, by decide⟩ rfl
theorem sc_15 : sCOk 15 := by
  rintro _ _ _ ⟨⟩ _ _ _ ⟨⟩
  refine ⟨fun h => (by cases h), fun _ ci z h => ?_⟩
  have h := mlk_mem h
  rw [List.mem_singleton] at h
  cases h
  exact sAr.V rfl q445 q447 qs5 (Or.inl ⟨_, _, _, q448⟩) ⟨by decide, by decide⟩ rfl
theorem sc_16 : sCOk 16 := by
  rintro _ _ _ ⟨⟩ _ _ _ ⟨⟩
  refine ⟨fun _ c0 z r h => ?_, fun h => (by cases h)⟩
  cases h
  exact sAr.I rfl q368 q369 q370 ⟨by decide, by decide⟩ rfl
theorem sc_17 : sCOk 17 := by
  rintro _ _ _ ⟨⟩ _ _ _ ⟨⟩
  refine ⟨fun _ c0 z r h => ?_, fun h => (by cases h)⟩
  cases h
  exact sAr.S q399 q400 q91 (Or.inl ⟨_, _, _, q401⟩) ⟨by decide, by decide⟩ rfl
theorem sc_18 : sCOk 18 := by
  rintro _ _ _ ⟨⟩ _ _ _ ⟨⟩
  refine ⟨fun h => (by cases h), fun _ ci z h => ?_⟩
  have h := mlk_mem h
  rw [List.mem_singleton] at h
  cases h
  exact sAr.U (x := ⟨"RiverGauge$Zero", "isKnown", "(I)Z"⟩) rfl q449 q450 q451 ⟨by decide, by decide⟩ q453 q452 rfl
theorem sc_19 : sCOk 19 := by
  rintro _ _ _ ⟨⟩ _ _ _ ⟨⟩
  refine ⟨fun _ c0 z r h => ?_, fun h => (by cases h)⟩
  cases h
  exact sAr.I rfl q460 q461 q462 ⟨by decide, by decide⟩ rfl
theorem sc_20 : sCOk 20 := by
  rintro _ _ _ ⟨⟩ _ _ _ ⟨⟩
  refine ⟨fun h => (by cases h), fun _ ci z h => ?_⟩
  have h := mlk_mem h
  rw [List.mem_singleton] at h
  cases h
  exact sAr.U (x := ⟨"RiverGauge$Height", "strike", "(I)V"⟩) rfl q483 q484 q485 ⟨by decide, by decide⟩ q487 q486 rfl
theorem sc_21 : sCOk 21 := by
  rintro _ _ _ ⟨⟩ _ _ _ ⟨⟩
  refine ⟨fun _ c0 z r h => ?_, fun h => (by cases h)⟩
  cases h
  exact sAr.S q490 q491 q91 (Or.inl ⟨_, _, _, q492⟩) ⟨by decide, by decide⟩ rfl
theorem sc_22 : sCOk 22 := by
  rintro _ _ _ ⟨⟩ _ _ _ ⟨⟩
  refine ⟨fun h => (by cases h), fun _ ci z h => ?_⟩
  have h := mlk_mem h
  rw [List.mem_singleton] at h
  cases h
  exact sAr.V rfl q497 q499 qs7 (Or.inl ⟨_, _, _, q500⟩) ⟨by decide, by decide⟩ rfl
theorem sc_23 : sCOk 23 := by
  rintro _ _ _ ⟨⟩ _ _ _ ⟨⟩
  refine ⟨fun h => (by cases h), fun _ ci z h => ?_⟩
  have h := mlk_mem h
  rw [List.mem_singleton] at h
  cases h
  exact sAr.V rfl q570 q572 qs11 (Or.inl ⟨_, _, _, q573⟩) ⟨by decide, by decide⟩ rfl
theorem sc_24 : sCOk 24 := by
  rintro _ _ _ ⟨⟩ _ _ _ ⟨⟩
  refine ⟨fun _ c0 z r h => ?_, fun h => (by cases h)⟩
  cases h
  exact sAr.I rfl q580 q581 q582 ⟨by decide, by decide⟩ rfl
theorem sc_25 : sCOk 25 := by
  rintro _ _ _ ⟨⟩ _ _ _ ⟨⟩
  refine ⟨fun h => (by cases h), fun _ ci z h => ?_⟩
  have h := mlk_mem h
  rw [List.mem_singleton] at h
  cases h
  exact sAr.U (x := ⟨"RiverGauge$Flow", "strike", "(I)V"⟩) rfl q597 q598 q485 ⟨by decide, by decide⟩ q487 q599 rfl
theorem sc_26 : sCOk 26 := by
  rintro _ _ _ ⟨⟩ _ _ _ ⟨⟩
  refine ⟨fun h => (by cases h), fun _ ci z h => ?_⟩
  have h := mlk_mem h
  rw [List.mem_singleton] at h
  cases h
  exact sAr.V rfl q600 q602 qs13 (Or.inl ⟨_, _, _, q603⟩) ⟨by decide, by decide⟩ rfl
theorem sc_27 : sCOk 27 := by
  rintro _ _ _ ⟨⟩ _ _ _ ⟨⟩
  refine ⟨fun _ c0 z r h => ?_, fun h => (by cases h)⟩
  cases h
  exact sAr.S q494 q495 q91 (Or.inl ⟨_, _, _, q496⟩) ⟨by decide, by decide⟩ rfl
theorem sc_28 : sCOk 28 := by
  rintro _ _ _ ⟨⟩ _ _ _ ⟨⟩
  refine ⟨fun h => (by cases h), fun _ ci z h => ?_⟩
  have h := mlk_mem h
  rw [List.mem_singleton] at h
  cases h
  exact sAr.U (x := ⟨"RiverGauge$Height", "isKnown", "(I)Z"⟩) rfl q501 q502 q451 ⟨by decide, by decide⟩ q453 q503 rfl
theorem sc_29 : sCOk 29 := by
  rintro _ _ _ ⟨⟩ _ _ _ ⟨⟩
  refine ⟨fun h => (by cases h), fun _ ci z h => ?_⟩
  have h := mlk_mem h
  rw [List.mem_singleton] at h
  cases h
  exact sAr.U (x := ⟨"RiverGauge$Height", "isStruckBy", "(I)Z"⟩) rfl q504 q505 q506 ⟨by decide, by decide⟩ q508 q507 rfl
theorem sc_30 : sCOk 30 := by
  rintro _ _ _ ⟨⟩ _ _ _ ⟨⟩
  refine ⟨fun h => (by cases h), fun _ ci z h => ?_⟩
  have h := mlk_mem h
  rw [List.mem_singleton] at h
  cases h
  exact sAr.V rfl q510 q512 qs8 (Or.inl ⟨_, _, _, q513⟩) ⟨by decide, by decide⟩ rfl
theorem sc_31 : sCOk 31 := by
  rintro _ _ _ ⟨⟩ _ _ _ ⟨⟩
  refine ⟨fun h => (by cases h), fun _ ci z h => ?_⟩
  have h := mlk_mem h
  rw [List.mem_singleton] at h
  cases h
  exact sAr.V rfl q514 q516 qs9 (Or.inl ⟨_, _, _, q517⟩) ⟨by decide, by decide⟩ rfl
theorem sc_32 : sCOk 32 := by
  rintro _ _ _ ⟨⟩ _ _ _ ⟨⟩
  refine ⟨fun h => (by cases h), fun _ ci z h => ?_⟩
  have h := mlk_mem h
  rw [List.mem_singleton] at h
  cases h
  exact sAr.V rfl q528 q530 qs10 (Or.inl ⟨_, _, _, q531⟩) ⟨by decide, by decide⟩ rfl
theorem sc_33 : sCOk 33 := by
  rintro _ _ _ ⟨⟩ _ _ _ ⟨⟩
  refine ⟨fun _ c0 z r h => ?_, fun h => (by cases h)⟩
  cases h
  exact sAr.S q532 q533 q103 (Or.inl ⟨_, _, _, q534⟩) ⟨by decide, by decide⟩ rfl
theorem sc_34 : sCOk 34 := by
  rintro _ _ _ ⟨⟩ _ _ _ ⟨⟩
  refine ⟨fun h => (by cases h), fun _ ci z h => ?_⟩
  have h := mlk_mem h
  simp only [List.mem_cons, List.not_mem_nil, or_false] at h
  rcases h with h | h | h
  · cases h; exact sAr.U (x := ⟨"RiverGauge$Test", "holds", "([I)Z"⟩) rfl q535 q537 q536 ⟨by decide, by decide⟩ q565 q569 rfl
  · cases h; exact sAr.U (x := ⟨"RiverGauge$Test", "holds", "([I)Z"⟩) rfl q535 q537 q536 ⟨by decide, by decide⟩ q542 q568 rfl
  · cases h; exact sAr.U (x := ⟨"RiverGauge$Test", "holds", "([I)Z"⟩) rfl q535 q537 q536 ⟨by decide, by decide⟩ q539 q538 rfl
theorem sc_35 : sCOk 35 := by
  rintro _ _ _ ⟨⟩ _ _ _ ⟨⟩
  refine ⟨fun h => (by cases h), fun _ ci z h => ?_⟩
  have h := mlk_mem h
  rw [List.mem_singleton] at h
  cases h
  exact sAr.U (x := ⟨"RiverGauge$Height", "isTold", "(I)Z"⟩) rfl q518 q519 q520 ⟨by decide, by decide⟩ q522 q521 rfl
theorem sc_36 : sCOk 36 := by
  rintro _ _ _ ⟨⟩ _ _ _ ⟨⟩
  refine ⟨fun h => (by cases h), fun _ ci z h => ?_⟩
  have h := mlk_mem h
  rw [List.mem_singleton] at h
  cases h
  exact sAr.V rfl q574 q576 qs12 (Or.inl ⟨_, _, _, q577⟩) ⟨by decide, by decide⟩ rfl
theorem sc_37 : sCOk 37 := by
  rintro _ _ _ ⟨⟩ _ _ _ ⟨⟩
  refine ⟨fun h => (by cases h), fun _ ci z h => ?_⟩
  have h := mlk_mem h
  rw [List.mem_singleton] at h
  cases h
  exact sAr.U (x := ⟨"RiverGauge$Flow", "isTold", "(I)Z"⟩) rfl q604 q605 q520 ⟨by decide, by decide⟩ q522 q606 rfl
theorem sc_38 : sCOk 38 := by
  rintro _ _ _ ⟨⟩ _ _ _ ⟨⟩
  refine ⟨fun h => (by cases h), fun _ ci z h => ?_⟩
  have h := mlk_mem h
  rw [List.mem_singleton] at h
  cases h
  exact sAr.V rfl q607 q609 qs14 (Or.inl ⟨_, _, _, q610⟩) ⟨by decide, by decide⟩ rfl
theorem sc_39 : sCOk 39 := by
  rintro _ _ _ ⟨⟩ _ _ _ ⟨⟩
  refine ⟨fun h => (by cases h), fun _ ci z h => ?_⟩
  have h := mlk_mem h
  rw [List.mem_singleton] at h
  cases h
  exact sAr.V rfl q615 q617 qs16 (Or.inl ⟨_, _, _, q618⟩) ⟨by decide, by decide⟩ rfl
theorem sc_40 : sCOk 40 := by
  rintro _ _ _ ⟨⟩ _ _ _ ⟨⟩
  refine ⟨fun h => (by cases h), fun _ ci z h => ?_⟩
  have h := mlk_mem h
  rw [List.mem_singleton] at h
  cases h
  exact sAr.V rfl q886 q888 qs26 (Or.inl ⟨_, _, _, q889⟩) ⟨by decide, by decide⟩ rfl
theorem sc_41 : sCOk 41 := by
  rintro _ _ _ ⟨⟩ _ _ _ ⟨⟩
  refine ⟨fun h => (by cases h), fun _ ci z h => ?_⟩
  have h := mlk_mem h
  rw [List.mem_singleton] at h
  cases h
  exact sAr.U (x := ⟨"RiverGauge$Curve", "at", "(I)J"⟩) rfl q954 q955 q956 ⟨by decide, by decide⟩ q958 q957 rfl
theorem sc_42 : sCOk 42 := by
  rintro _ _ _ ⟨⟩ _ _ _ ⟨⟩
  refine ⟨fun _ c0 z r h => ?_, fun h => (by cases h)⟩
  cases h
  exact sAr.I rfl q976 q977 q978 ⟨by decide, by decide⟩ rfl
theorem sc_43 : sCOk 43 := by
  rintro _ _ _ ⟨⟩ _ _ _ ⟨⟩
  refine ⟨fun _ c0 z r h => ?_, fun h => (by cases h)⟩
  cases h
  exact sAr.I rfl q623 q624 q625 ⟨by decide, by decide⟩ rfl
theorem sc_44 : sCOk 44 := by
  rintro _ _ _ ⟨⟩ _ _ _ ⟨⟩
  refine ⟨fun h => (by cases h), fun _ ci z h => ?_⟩
  have h := mlk_mem h
  rw [List.mem_singleton] at h
  cases h
  exact sAr.V rfl q640 q641 q642 (Or.inl ⟨_, _, _, q643⟩) ⟨by decide, by decide⟩ rfl
theorem sc_45 : sCOk 45 := by
  rintro _ _ _ ⟨⟩ _ _ _ ⟨⟩
  refine ⟨fun _ c0 z r h => ?_, fun h => (by cases h)⟩
  cases h
  exact sAr.I rfl q864 q865 q866 ⟨by decide, by decide⟩ rfl
theorem sc_46 : sCOk 46 := by
  rintro _ _ _ ⟨⟩ _ _ _ ⟨⟩
  refine ⟨fun _ c0 z r h => ?_, fun h => (by cases h)⟩
  cases h
  exact sAr.S q890 q733 q103 (Or.inl ⟨_, _, _, q734⟩) ⟨by decide, by decide⟩ rfl
theorem sc_47 : sCOk 47 := by
  rintro _ _ _ ⟨⟩ _ _ _ ⟨⟩
  refine ⟨fun _ c0 z r h => ?_, fun h => (by cases h)⟩
  cases h
  exact sAr.S q891 q736 q103 (Or.inl ⟨_, _, _, q737⟩) ⟨by decide, by decide⟩ rfl
theorem sc_48 : sCOk 48 := by
  rintro _ _ _ ⟨⟩ _ _ _ ⟨⟩
  refine ⟨fun h => (by cases h), fun _ ci z h => ?_⟩
  have h := mlk_mem h
  rw [List.mem_singleton] at h
  cases h
  exact sAr.V rfl q892 q894 qs27 (Or.inl ⟨_, _, _, q895⟩) ⟨by decide, by decide⟩ rfl
theorem sc_49 : sCOk 49 := by
  rintro _ _ _ ⟨⟩ _ _ _ ⟨⟩
  refine ⟨fun h => (by cases h), fun _ ci z h => ?_⟩
  have h := mlk_mem h
  rw [List.mem_singleton] at h
  cases h
  exact sAr.V rfl q896 q898 qs28 (Or.inl ⟨_, _, _, q899⟩) ⟨by decide, by decide⟩ rfl
theorem sc_50 : sCOk 50 := by
  rintro _ _ _ ⟨⟩ _ _ _ ⟨⟩
  refine ⟨fun _ c0 z r h => ?_, fun h => (by cases h)⟩
  cases h
  exact sAr.I rfl q902 q903 q904 ⟨by decide, by decide⟩ rfl
theorem sc_51 : sCOk 51 := by
  rintro _ _ _ ⟨⟩ _ _ _ ⟨⟩
  refine ⟨fun h => (by cases h), fun _ ci z h => ?_⟩
  have h := mlk_mem h
  rw [List.mem_singleton] at h
  cases h
  exact sAr.V rfl q945 q946 q947 (Or.inl ⟨_, _, _, q948⟩) ⟨by decide, by decide⟩ rfl
theorem sc_52 : sCOk 52 := by
  rintro _ _ _ ⟨⟩ _ _ _ ⟨⟩
  refine ⟨fun h => (by cases h), fun _ ci z h => ?_⟩
  have h := mlk_mem h
  rw [List.mem_singleton] at h
  cases h
  exact sAr.V rfl q950 q951 q952 (Or.inl ⟨_, _, _, q953⟩) ⟨by decide, by decide⟩ rfl
theorem sc_53 : sCOk 53 := by
  rintro _ _ _ ⟨⟩ _ _ _ ⟨⟩
  refine ⟨fun h => (by cases h), fun _ ci z h => ?_⟩
  have h := mlk_mem h
  rw [List.mem_singleton] at h
  cases h
  exact sAr.V rfl q1001 q1003 qs30 (Or.inl ⟨_, _, _, q1004⟩) ⟨by decide, by decide⟩ rfl
theorem sc_54 : sCOk 54 := by
  rintro _ _ _ ⟨⟩ _ _ _ ⟨⟩
  refine ⟨fun h => (by cases h), fun _ ci z h => ?_⟩
  have h := mlk_mem h
  rw [List.mem_singleton] at h
  cases h
  exact sAr.V rfl q1050 q1052 qs33 (Or.inl ⟨_, _, _, q1053⟩) ⟨by decide, by decide⟩ rfl
theorem sc_55 : sCOk 55 := by
  rintro _ _ _ ⟨⟩ _ _ _ ⟨⟩
  refine ⟨fun h => (by cases h), fun _ ci z h => ?_⟩
  have h := mlk_mem h
  rw [List.mem_singleton] at h
  cases h
  exact sAr.V rfl q1064 q1066 qs34 (Or.inl ⟨_, _, _, q1067⟩) ⟨by decide, by decide⟩ rfl
theorem sc_56 : sCOk 56 := by
  rintro _ _ _ ⟨⟩ _ _ _ ⟨⟩
  refine ⟨fun h => (by cases h), fun _ ci z h => ?_⟩
  have h := mlk_mem h
  rw [List.mem_singleton] at h
  cases h
  exact sAr.V rfl q1100 q1102 qs40 (Or.inl ⟨_, _, _, q1103⟩) ⟨by decide, by decide⟩ rfl
theorem sc_57 : sCOk 57 := by
  rintro _ _ _ ⟨⟩ _ _ _ ⟨⟩
  refine ⟨fun h => (by cases h), fun _ ci z h => ?_⟩
  have h := mlk_mem h
  rw [List.mem_singleton] at h
  cases h
  exact sAr.V rfl q1104 q1106 qs41 (Or.inl ⟨_, _, _, q1107⟩) ⟨by decide, by decide⟩ rfl
theorem sc_58 : sCOk 58 := by
  rintro _ _ _ ⟨⟩ _ _ _ ⟨⟩
  refine ⟨fun h => (by cases h), fun _ ci z h => ?_⟩
  have h := mlk_mem h
  rw [List.mem_singleton] at h
  cases h
  exact sAr.V rfl q1005 q1007 qs31 (Or.inl ⟨_, _, _, q1008⟩) ⟨by decide, by decide⟩ rfl
theorem sc_59 : sCOk 59 := by
  rintro _ _ _ ⟨⟩ _ _ _ ⟨⟩
  refine ⟨fun h => (by cases h), fun _ ci z h => ?_⟩
  have h := mlk_mem h
  rw [List.mem_singleton] at h
  cases h
  exact sAr.U (x := ⟨"RiverGauge$Curve", "isBeyond", "(I)Z"⟩) rfl q1017 q1018 q1019 ⟨by decide, by decide⟩ q1021 q1020 rfl
theorem sc_60 : sCOk 60 := by
  rintro _ _ _ ⟨⟩ _ _ _ ⟨⟩
  refine ⟨fun h => (by cases h), fun _ ci z h => ?_⟩
  have h := mlk_mem h
  rw [List.mem_singleton] at h
  cases h
  exact sAr.V rfl q1025 q1027 qs32 (Or.inl ⟨_, _, _, q1028⟩) ⟨by decide, by decide⟩ rfl
theorem sc_61 : sCOk 61 := by
  rintro _ _ _ ⟨⟩ _ _ _ ⟨⟩
  refine ⟨fun _ c0 z r h => ?_, fun h => (by cases h)⟩
  cases h
  exact sAr.I rfl q1029 q1030 q1031 ⟨by decide, by decide⟩ rfl
theorem sc_62 : sCOk 62 := by
  rintro _ _ _ ⟨⟩ _ _ _ ⟨⟩
  refine ⟨fun h => (by cases h), fun _ ci z h => ?_⟩
  have h := mlk_mem h
  rw [List.mem_singleton] at h
  cases h
  exact sAr.U (x := ⟨"RiverGauge$Cover", "isKnown", "(I)Z"⟩) rfl q1009 q1010 q451 ⟨by decide, by decide⟩ q453 q1011 rfl
theorem sc_63 : sCOk 63 := by
  rintro _ _ _ ⟨⟩ _ _ _ ⟨⟩
  refine ⟨fun h => (by cases h), fun _ ci z h => ?_⟩
  have h := mlk_mem h
  rw [List.mem_singleton] at h
  cases h
  exact sAr.V rfl q1012 q1013 q1014 (Or.inl ⟨_, _, _, q1015⟩) ⟨by decide, by decide⟩ rfl
theorem sc_64 : sCOk 64 := by
  rintro _ _ _ ⟨⟩ _ _ _ ⟨⟩
  refine ⟨fun _ c0 z r h => ?_, fun h => (by cases h)⟩
  cases h
  exact sAr.I rfl q1055 q1056 q1057 ⟨by decide, by decide⟩ rfl
theorem sc_65 : sCOk 65 := by
  rintro _ _ _ ⟨⟩ _ _ _ ⟨⟩
  refine ⟨fun h => (by cases h), fun _ ci z h => ?_⟩
  have h := mlk_mem h
  rw [List.mem_singleton] at h
  cases h
  exact sAr.V rfl q1068 q1070 qs35 (Or.inl ⟨_, _, _, q1071⟩) ⟨by decide, by decide⟩ rfl
theorem sc_66 : sCOk 66 := by
  rintro _ _ _ ⟨⟩ _ _ _ ⟨⟩
  refine ⟨fun _ c0 z r h => ?_, fun h => (by cases h)⟩
  cases h
  exact sAr.S q1080 q1081 q91 (Or.inl ⟨_, _, _, q1082⟩) ⟨by decide, by decide⟩ rfl
theorem sc_67 : sCOk 67 := by
  rintro _ _ _ ⟨⟩ _ _ _ ⟨⟩
  refine ⟨fun h => (by cases h), fun _ ci z h => ?_⟩
  have h := mlk_mem h
  rw [List.mem_singleton] at h
  cases h
  exact sAr.V rfl q1083 q1085 qs36 (Or.inl ⟨_, _, _, q1086⟩) ⟨by decide, by decide⟩ rfl
theorem sc_68 : sCOk 68 := by
  rintro _ _ _ ⟨⟩ _ _ _ ⟨⟩
  refine ⟨fun h => (by cases h), fun _ ci z h => ?_⟩
  have h := mlk_mem h
  rw [List.mem_singleton] at h
  cases h
  exact sAr.U (x := ⟨"RiverGauge$Base", "at", "(I)J"⟩) rfl q1072 q1073 q956 ⟨by decide, by decide⟩ q958 q1074 rfl
theorem sc_69 : sCOk 69 := by
  rintro _ _ _ ⟨⟩ _ _ _ ⟨⟩
  refine ⟨fun h => (by cases h), fun _ ci z h => ?_⟩
  have h := mlk_mem h
  rw [List.mem_singleton] at h
  cases h
  exact sAr.V rfl q1075 q1076 q1077 (Or.inl ⟨_, _, _, q1078⟩) ⟨by decide, by decide⟩ rfl
theorem sc_70 : sCOk 70 := by
  rintro _ _ _ ⟨⟩ _ _ _ ⟨⟩
  refine ⟨fun h => (by cases h), fun _ ci z h => ?_⟩
  have h := mlk_mem h
  rw [List.mem_singleton] at h
  cases h
  exact sAr.V rfl q1087 q1089 qs37 (Or.inl ⟨_, _, _, q1090⟩) ⟨by decide, by decide⟩ rfl
theorem sc_71 : sCOk 71 := by
  rintro _ _ _ ⟨⟩ _ _ _ ⟨⟩
  refine ⟨fun h => (by cases h), fun _ ci z h => ?_⟩
  have h := mlk_mem h
  rw [List.mem_singleton] at h
  cases h
  exact sAr.V rfl q1091 q1093 qs38 (Or.inl ⟨_, _, _, q1094⟩) ⟨by decide, by decide⟩ rfl
theorem sc_72 : sCOk 72 := by
  rintro _ _ _ ⟨⟩ _ _ _ ⟨⟩
  refine ⟨fun h => (by cases h), fun _ ci z h => ?_⟩
  have h := mlk_mem h
  rw [List.mem_singleton] at h
  cases h
  exact sAr.V rfl q1095 q1097 qs39 (Or.inl ⟨_, _, _, q1098⟩) ⟨by decide, by decide⟩ rfl
theorem sc_73 : sCOk 73 := by
  rintro _ _ _ ⟨⟩ _ _ _ ⟨⟩
  refine ⟨fun h => (by cases h), fun _ ci z h => ?_⟩
  have h := mlk_mem h
  rw [List.mem_singleton] at h
  cases h
  exact sAr.V rfl q1114 q1116 qs43 (Or.inl ⟨_, _, _, q1117⟩) ⟨by decide, by decide⟩ rfl
theorem sc_74 : sCOk 74 := by
  rintro _ _ _ ⟨⟩ _ _ _ ⟨⟩
  refine ⟨fun h => (by cases h), fun _ ci z h => ?_⟩
  have h := mlk_mem h
  rw [List.mem_singleton] at h
  cases h
  exact sAr.V rfl q1118 q1120 qs44 (Or.inl ⟨_, _, _, q1121⟩) ⟨by decide, by decide⟩ rfl
theorem sc_75 : sCOk 75 := by
  rintro _ _ _ ⟨⟩ _ _ _ ⟨⟩
  refine ⟨fun h => (by cases h), fun _ ci z h => ?_⟩
  have h := mlk_mem h
  rw [List.mem_singleton] at h
  cases h
  exact sAr.V rfl q1122 q1124 qs45 (Or.inl ⟨_, _, _, q1125⟩) ⟨by decide, by decide⟩ rfl
theorem sc_76 : sCOk 76 := by
  rintro _ _ _ ⟨⟩ _ _ _ ⟨⟩
  refine ⟨fun h => (by cases h), fun _ ci z h => ?_⟩
  have h := mlk_mem h
  rw [List.mem_singleton] at h
  cases h
  exact sAr.V rfl q1126 q1128 qs46 (Or.inl ⟨_, _, _, q1129⟩) ⟨by decide, by decide⟩ rfl
theorem sc_77 : sCOk 77 := by
  rintro _ _ _ ⟨⟩ _ _ _ ⟨⟩
  refine ⟨fun h => (by cases h), fun _ ci z h => ?_⟩
  have h := mlk_mem h
  rw [List.mem_singleton] at h
  cases h
  exact sAr.V rfl q1142 q1144 qs50 (Or.inl ⟨_, _, _, q1145⟩) ⟨by decide, by decide⟩ rfl
theorem sc_78 : sCOk 78 := by
  rintro _ _ _ ⟨⟩ _ _ _ ⟨⟩
  refine ⟨fun h => (by cases h), fun _ ci z h => ?_⟩
  have h := mlk_mem h
  rw [List.mem_singleton] at h
  cases h
  exact sAr.V rfl q1147 q1149 qs51 (Or.inl ⟨_, _, _, q1150⟩) ⟨by decide, by decide⟩ rfl
theorem sc_79 : sCOk 79 := by
  rintro _ _ _ ⟨⟩ _ _ _ ⟨⟩
  refine ⟨fun h => (by cases h), fun _ ci z h => ?_⟩
  have h := mlk_mem h
  rw [List.mem_singleton] at h
  cases h
  exact sAr.V rfl q1151 q1153 qs52 (Or.inl ⟨_, _, _, q1154⟩) ⟨by decide, by decide⟩ rfl
theorem sc_80 : sCOk 80 := by
  rintro _ _ _ ⟨⟩ _ _ _ ⟨⟩
  refine ⟨fun h => (by cases h), fun _ ci z h => ?_⟩
  have h := mlk_mem h
  rw [List.mem_singleton] at h
  cases h
  exact sAr.V rfl q1158 q1160 qs53 (Or.inl ⟨_, _, _, q1161⟩) ⟨by decide, by decide⟩ rfl
theorem sc_81 : sCOk 81 := by
  rintro _ _ _ ⟨⟩ _ _ _ ⟨⟩
  refine ⟨fun h => (by cases h), fun _ ci z h => ?_⟩
  have h := mlk_mem h
  rw [List.mem_singleton] at h
  cases h
  exact sAr.V rfl q1166 q1168 qs54 (Or.inl ⟨_, _, _, q1169⟩) ⟨by decide, by decide⟩ rfl
theorem sc_82 : sCOk 82 := by
  rintro _ _ _ ⟨⟩ _ _ _ ⟨⟩
  refine ⟨fun h => (by cases h), fun _ ci z h => ?_⟩
  have h := mlk_mem h
  rw [List.mem_singleton] at h
  cases h
  exact sAr.V rfl q1130 q1132 qs47 (Or.inl ⟨_, _, _, q1133⟩) ⟨by decide, by decide⟩ rfl
theorem sc_83 : sCOk 83 := by
  rintro _ _ _ ⟨⟩ _ _ _ ⟨⟩
  refine ⟨fun h => (by cases h), fun _ ci z h => ?_⟩
  have h := mlk_mem h
  rw [List.mem_singleton] at h
  cases h
  exact sAr.V rfl q1134 q1136 qs48 (Or.inl ⟨_, _, _, q1137⟩) ⟨by decide, by decide⟩ rfl
theorem sc_84 : sCOk 84 := by
  rintro _ _ _ ⟨⟩ _ _ _ ⟨⟩
  refine ⟨fun h => (by cases h), fun _ ci z h => ?_⟩
  have h := mlk_mem h
  rw [List.mem_singleton] at h
  cases h
  exact sAr.V rfl q1138 q1140 qs49 (Or.inl ⟨_, _, _, q1141⟩) ⟨by decide, by decide⟩ rfl
theorem sc_85 : sCOk 85 := by
  rintro _ _ _ ⟨⟩ _ _ _ ⟨⟩
  refine ⟨fun _ c0 z r h => ?_, fun h => (by cases h)⟩
  cases h
  exact sAr.S q1155 q1156 q91 (Or.inl ⟨_, _, _, q1157⟩) ⟨by decide, by decide⟩ rfl
theorem sc_86 : sCOk 86 := by
  rintro _ _ _ ⟨⟩ _ _ _ ⟨⟩
  refine ⟨fun _ c0 z r h => ?_, fun h => (by cases h)⟩
  cases h
  exact sAr.S q1163 q1164 q103 (Or.inl ⟨_, _, _, q1165⟩) ⟨by decide, by decide⟩ rfl
theorem sc_87 : sCOk 87 := by
  rintro _ _ _ ⟨⟩ _ _ _ ⟨⟩
  refine ⟨fun h => (by cases h), fun _ ci z h => ?_⟩
  have h := mlk_mem h
  rw [List.mem_singleton] at h
  cases h
  exact sAr.V rfl q1193 q1195 qs56 (Or.inr ⟨_, _, _, _, q1196⟩) ⟨by decide, by decide⟩ rfl
theorem sc_88 : sCOk 88 := by
  rintro _ _ _ ⟨⟩ _ _ _ ⟨⟩
  refine ⟨fun h => (by cases h), fun _ ci z h => ?_⟩
  have h := mlk_mem h
  rw [List.mem_singleton] at h
  cases h
  exact sAr.V rfl q1230 q1232 qs57 (Or.inl ⟨_, _, _, q1233⟩) ⟨by decide, by decide⟩ rfl
theorem sc_89 : sCOk 89 := by
  rintro _ _ _ ⟨⟩ _ _ _ ⟨⟩
  exact ⟨fun h => (by cases h), fun h => (by cases h)⟩
theorem sc_90 : sCOk 90 := by
  rintro _ _ _ ⟨⟩ _ _ _ ⟨⟩
  refine ⟨fun h => (by cases h), fun _ ci z h => ?_⟩
  have h := mlk_mem h
  rw [List.mem_singleton] at h
  cases h
  exact sAr.V rfl q1610 q1612 qs58 (Or.inl ⟨_, _, _, q1613⟩) ⟨by decide, by decide⟩ rfl
theorem sc_91 : sCOk 91 := by
  rintro _ _ _ ⟨⟩ _ _ _ ⟨⟩
  refine ⟨fun h => (by cases h), fun _ ci z h => ?_⟩
  have h := mlk_mem h
  rw [List.mem_singleton] at h
  cases h
  exact sAr.V rfl q1622 q1624 qs59 (Or.inl ⟨_, _, _, q1625⟩) ⟨by decide, by decide⟩ rfl
theorem sc_92 : sCOk 92 := by
  rintro _ _ _ ⟨⟩ _ _ _ ⟨⟩
  refine ⟨fun _ c0 z r h => ?_, fun h => (by cases h)⟩
  cases h
  exact sAr.S q1630 q1631 q93 (Or.inl ⟨_, _, _, q1632⟩) ⟨by decide, by decide⟩ rfl
theorem sc_93 : sCOk 93 := by
  rintro _ _ _ ⟨⟩ _ _ _ ⟨⟩
  refine ⟨fun h => (by cases h), fun _ ci z h => ?_⟩
  have h := mlk_mem h
  rw [List.mem_singleton] at h
  cases h
  exact sAr.V rfl q1633 q1635 qs60 (Or.inl ⟨_, _, _, q1636⟩) ⟨by decide, by decide⟩ rfl
theorem sc_94 : sCOk 94 := by
  rintro _ _ _ ⟨⟩ _ _ _ ⟨⟩
  refine ⟨fun h => (by cases h), fun _ ci z h => ?_⟩
  have h := mlk_mem h
  rw [List.mem_singleton] at h
  cases h
  exact sAr.V rfl q1638 q1640 qs61 (Or.inl ⟨_, _, _, q1641⟩) ⟨by decide, by decide⟩ rfl
theorem sc_95 : sCOk 95 := by
  rintro _ _ _ ⟨⟩ _ _ _ ⟨⟩
  refine ⟨fun h => (by cases h), fun _ ci z h => ?_⟩
  have h := mlk_mem h
  rw [List.mem_singleton] at h
  cases h
  exact sAr.V rfl q1654 q1656 qs62 (Or.inl ⟨_, _, _, q1657⟩) ⟨by decide, by decide⟩ rfl
theorem sc_96 : sCOk 96 := by
  rintro _ _ _ ⟨⟩ _ _ _ ⟨⟩
  refine ⟨fun h => (by cases h), fun _ ci z h => ?_⟩
  have h := mlk_mem h
  rw [List.mem_singleton] at h
  cases h
  exact sAr.V rfl q1658 q1660 qs63 (Or.inl ⟨_, _, _, q1661⟩) ⟨by decide, by decide⟩ rfl
theorem sc_97 : sCOk 97 := by
  rintro _ _ _ ⟨⟩ _ _ _ ⟨⟩
  refine ⟨fun h => (by cases h), fun _ ci z h => ?_⟩
  have h := mlk_mem h
  rw [List.mem_singleton] at h
  cases h
  exact sAr.V rfl q1662 q1664 qs64 (Or.inl ⟨_, _, _, q1665⟩) ⟨by decide, by decide⟩ rfl
theorem sc_98 : sCOk 98 := by
  rintro _ _ _ ⟨⟩ _ _ _ ⟨⟩
  refine ⟨fun h => (by cases h), fun _ ci z h => ?_⟩
  have h := mlk_mem h
  rw [List.mem_singleton] at h
  cases h
  exact sAr.V rfl q1666 q1668 qs65 (Or.inl ⟨_, _, _, q1669⟩) ⟨by decide, by decide⟩ rfl
theorem sc_99 : sCOk 99 := by
  rintro _ _ _ ⟨⟩ _ _ _ ⟨⟩
  refine ⟨fun h => (by cases h), fun _ ci z h => ?_⟩
  have h := mlk_mem h
  rw [List.mem_singleton] at h
  cases h
  exact sAr.V rfl q1670 q1672 qs66 (Or.inl ⟨_, _, _, q1673⟩) ⟨by decide, by decide⟩ rfl
theorem sc_100 : sCOk 100 := by
  rintro _ _ _ ⟨⟩ _ _ _ ⟨⟩
  refine ⟨fun h => (by cases h), fun _ ci z h => ?_⟩
  have h := mlk_mem h
  rw [List.mem_singleton] at h
  cases h
  exact sAr.V rfl q1675 q1677 qs67 (Or.inl ⟨_, _, _, q1678⟩) ⟨by decide, by decide⟩ rfl
theorem sc_101 : sCOk 101 := by
  rintro _ _ _ ⟨⟩ _ _ _ ⟨⟩
  refine ⟨fun _ c0 z r h => ?_, fun h => (by cases h)⟩
  cases h
  exact sAr.S q1679 q1680 q93 (Or.inl ⟨_, _, _, q1681⟩) ⟨by decide, by decide⟩ rfl
theorem sc_102 : sCOk 102 := by
  rintro _ _ _ ⟨⟩ _ _ _ ⟨⟩
  refine ⟨fun h => (by cases h), fun _ ci z h => ?_⟩
  have h := mlk_mem h
  rw [List.mem_singleton] at h
  cases h
  exact sAr.V rfl q1688 q1690 qs68 (Or.inl ⟨_, _, _, q1691⟩) ⟨by decide, by decide⟩ rfl
theorem sc_103 : sCOk 103 := by
  rintro _ _ _ ⟨⟩ _ _ _ ⟨⟩
  refine ⟨fun h => (by cases h), fun _ ci z h => ?_⟩
  have h := mlk_mem h
  rw [List.mem_singleton] at h
  cases h
  exact sAr.V rfl q1692 q1694 qs69 (Or.inl ⟨_, _, _, q1695⟩) ⟨by decide, by decide⟩ rfl
theorem sc_104 : sCOk 104 := by
  rintro _ _ _ ⟨⟩ _ _ _ ⟨⟩
  refine ⟨fun h => (by cases h), fun _ ci z h => ?_⟩
  have h := mlk_mem h
  rw [List.mem_singleton] at h
  cases h
  exact sAr.V rfl q1709 q1711 qs70 (Or.inl ⟨_, _, _, q1712⟩) ⟨by decide, by decide⟩ rfl
theorem sc_105 : sCOk 105 := by
  rintro _ _ _ ⟨⟩ _ _ _ ⟨⟩
  refine ⟨fun h => (by cases h), fun _ ci z h => ?_⟩
  have h := mlk_mem h
  rw [List.mem_singleton] at h
  cases h
  exact sAr.V rfl q1722 q1724 qs71 (Or.inl ⟨_, _, _, q1725⟩) ⟨by decide, by decide⟩ rfl
theorem sc_106 : sCOk 106 := by
  rintro _ _ _ ⟨⟩ _ _ _ ⟨⟩
  refine ⟨fun h => (by cases h), fun _ ci z h => ?_⟩
  have h := mlk_mem h
  rw [List.mem_singleton] at h
  cases h
  exact sAr.V rfl q1726 q1728 qs72 (Or.inl ⟨_, _, _, q1729⟩) ⟨by decide, by decide⟩ rfl
theorem sc_107 : sCOk 107 := by
  rintro _ _ _ ⟨⟩ _ _ _ ⟨⟩
  refine ⟨fun h => (by cases h), fun _ ci z h => ?_⟩
  have h := mlk_mem h
  rw [List.mem_singleton] at h
  cases h
  exact sAr.V rfl q1730 q1732 qs73 (Or.inl ⟨_, _, _, q1733⟩) ⟨by decide, by decide⟩ rfl
theorem sc_108 : sCOk 108 := by
  rintro _ _ _ ⟨⟩ _ _ _ ⟨⟩
  refine ⟨fun h => (by cases h), fun _ ci z h => ?_⟩
  have h := mlk_mem h
  rw [List.mem_singleton] at h
  cases h
  exact sAr.V rfl q1745 q1747 qs76 (Or.inl ⟨_, _, _, q1748⟩) ⟨by decide, by decide⟩ rfl
theorem sc_109 : sCOk 109 := by
  rintro _ _ _ ⟨⟩ _ _ _ ⟨⟩
  refine ⟨fun h => (by cases h), fun _ ci z h => ?_⟩
  have h := mlk_mem h
  rw [List.mem_singleton] at h
  cases h
  exact sAr.V rfl q1749 q1751 qs77 (Or.inl ⟨_, _, _, q1752⟩) ⟨by decide, by decide⟩ rfl
theorem sc_110 : sCOk 110 := by
  rintro _ _ _ ⟨⟩ _ _ _ ⟨⟩
  refine ⟨fun h => (by cases h), fun _ ci z h => ?_⟩
  have h := mlk_mem h
  rw [List.mem_singleton] at h
  cases h
  exact sAr.V rfl q1734 q1736 qs74 (Or.inl ⟨_, _, _, q1737⟩) ⟨by decide, by decide⟩ rfl
theorem sc_111 : sCOk 111 := by
  rintro _ _ _ ⟨⟩ _ _ _ ⟨⟩
  refine ⟨fun h => (by cases h), fun _ ci z h => ?_⟩
  have h := mlk_mem h
  rw [List.mem_singleton] at h
  cases h
  exact sAr.V rfl q1738 q1740 qs75 (Or.inl ⟨_, _, _, q1741⟩) ⟨by decide, by decide⟩ rfl
theorem sc_112 : sCOk 112 := by
  rintro _ _ _ ⟨⟩ _ _ _ ⟨⟩
  refine ⟨fun _ c0 z r h => ?_, fun h => (by cases h)⟩
  cases h
  exact sAr.S q1742 q1743 q93 (Or.inl ⟨_, _, _, q1744⟩) ⟨by decide, by decide⟩ rfl
theorem sc_113 : sCOk 113 := by
  rintro _ _ _ ⟨⟩ _ _ _ ⟨⟩
  refine ⟨fun h => (by cases h), fun _ ci z h => ?_⟩
  have h := mlk_mem h
  rw [List.mem_singleton] at h
  cases h
  exact sAr.V rfl q1765 q1767 qs78 (Or.inl ⟨_, _, _, q1768⟩) ⟨by decide, by decide⟩ rfl
theorem sc_114 : sCOk 114 := by
  rintro _ _ _ ⟨⟩ _ _ _ ⟨⟩
  refine ⟨fun h => (by cases h), fun _ ci z h => ?_⟩
  have h := mlk_mem h
  rw [List.mem_singleton] at h
  cases h
  exact sAr.V rfl q1769 q1771 qs79 (Or.inl ⟨_, _, _, q1772⟩) ⟨by decide, by decide⟩ rfl
theorem sc_115 : sCOk 115 := by
  rintro _ _ _ ⟨⟩ _ _ _ ⟨⟩
  refine ⟨fun h => (by cases h), fun _ ci z h => ?_⟩
  have h := mlk_mem h
  rw [List.mem_singleton] at h
  cases h
  exact sAr.V rfl q1773 q1775 qs80 (Or.inl ⟨_, _, _, q1776⟩) ⟨by decide, by decide⟩ rfl
theorem sc_116 : sCOk 116 := by
  rintro _ _ _ ⟨⟩ _ _ _ ⟨⟩
  refine ⟨fun h => (by cases h), fun _ ci z h => ?_⟩
  have h := mlk_mem h
  rw [List.mem_singleton] at h
  cases h
  exact sAr.V rfl q1785 q1787 qs81 (Or.inl ⟨_, _, _, q1788⟩) ⟨by decide, by decide⟩ rfl
theorem sc_117 : sCOk 117 := by
  rintro _ _ _ ⟨⟩ _ _ _ ⟨⟩
  refine ⟨fun h => (by cases h), fun _ ci z h => ?_⟩
  have h := mlk_mem h
  rw [List.mem_singleton] at h
  cases h
  exact sAr.V rfl q1799 q1801 qs82 (Or.inl ⟨_, _, _, q1802⟩) ⟨by decide, by decide⟩ rfl
theorem sc_118 : sCOk 118 := by
  rintro _ _ _ ⟨⟩ _ _ _ ⟨⟩
  refine ⟨fun h => (by cases h), fun _ ci z h => ?_⟩
  have h := mlk_mem h
  rw [List.mem_singleton] at h
  cases h
  exact sAr.V rfl q1803 q1805 qs83 (Or.inl ⟨_, _, _, q1806⟩) ⟨by decide, by decide⟩ rfl
theorem sc_119 : sCOk 119 := by
  rintro _ _ _ ⟨⟩ _ _ _ ⟨⟩
  refine ⟨fun h => (by cases h), fun _ ci z h => ?_⟩
  have h := mlk_mem h
  rw [List.mem_singleton] at h
  cases h
  exact sAr.V rfl q1816 q1818 qs84 (Or.inl ⟨_, _, _, q1819⟩) ⟨by decide, by decide⟩ rfl
theorem sc_120 : sCOk 120 := by
  rintro _ _ _ ⟨⟩ _ _ _ ⟨⟩
  refine ⟨fun h => (by cases h), fun _ ci z h => ?_⟩
  have h := mlk_mem h
  rw [List.mem_singleton] at h
  cases h
  exact sAr.V rfl q1820 q1822 qs85 (Or.inl ⟨_, _, _, q1823⟩) ⟨by decide, by decide⟩ rfl
theorem sc_121 : sCOk 121 := by
  rintro _ _ _ ⟨⟩ _ _ _ ⟨⟩
  refine ⟨fun h => (by cases h), fun _ ci z h => ?_⟩
  have h := mlk_mem h
  rw [List.mem_singleton] at h
  cases h
  exact sAr.V rfl q1824 q1826 qs86 (Or.inl ⟨_, _, _, q1827⟩) ⟨by decide, by decide⟩ rfl
theorem sc_122 : sCOk 122 := by
  rintro _ _ _ ⟨⟩ _ _ _ ⟨⟩
  refine ⟨fun _ c0 z r h => ?_, fun h => (by cases h)⟩
  cases h
  exact sAr.S q1836 q1837 q93 (Or.inl ⟨_, _, _, q1838⟩) ⟨by decide, by decide⟩ rfl
theorem sc_123 : sCOk 123 := by
  rintro _ _ _ ⟨⟩ _ _ _ ⟨⟩
  refine ⟨fun h => (by cases h), fun _ ci z h => ?_⟩
  have h := mlk_mem h
  rw [List.mem_singleton] at h
  cases h
  exact sAr.V rfl q1839 q1841 qs89 (Or.inl ⟨_, _, _, q1842⟩) ⟨by decide, by decide⟩ rfl
theorem sc_124 : sCOk 124 := by
  rintro _ _ _ ⟨⟩ _ _ _ ⟨⟩
  refine ⟨fun h => (by cases h), fun _ ci z h => ?_⟩
  have h := mlk_mem h
  rw [List.mem_singleton] at h
  cases h
  exact sAr.V rfl q1828 q1830 qs87 (Or.inl ⟨_, _, _, q1831⟩) ⟨by decide, by decide⟩ rfl
theorem sc_125 : sCOk 125 := by
  rintro _ _ _ ⟨⟩ _ _ _ ⟨⟩
  refine ⟨fun h => (by cases h), fun _ ci z h => ?_⟩
  have h := mlk_mem h
  rw [List.mem_singleton] at h
  cases h
  exact sAr.V rfl q1832 q1834 qs88 (Or.inl ⟨_, _, _, q1835⟩) ⟨by decide, by decide⟩ rfl
theorem sc_126 : sCOk 126 := by
  rintro _ _ _ ⟨⟩ _ _ _ ⟨⟩
  refine ⟨fun _ c0 z r h => ?_, fun h => (by cases h)⟩
  cases h
  exact sAr.S q1863 q1864 q93 (Or.inl ⟨_, _, _, q1865⟩) ⟨by decide, by decide⟩ rfl
theorem sc_127 : sCOk 127 := by
  rintro _ _ _ ⟨⟩ _ _ _ ⟨⟩
  refine ⟨fun _ c0 z r h => ?_, fun h => (by cases h)⟩
  cases h
  exact sAr.S q1884 q1164 q103 (Or.inl ⟨_, _, _, q1165⟩) ⟨by decide, by decide⟩ rfl
theorem sc_128 : sCOk 128 := by
  rintro _ _ _ ⟨⟩ _ _ _ ⟨⟩
  exact ⟨fun h => (by cases h), fun h => (by cases h)⟩
theorem sc_129 : sCOk 129 := by
  rintro _ _ _ ⟨⟩ _ _ _ ⟨⟩
  refine ⟨fun _ c0 z r h => ?_, fun h => (by cases h)⟩
  cases h
  exact sAr.IN rfl q371 q372 q373 ⟨by decide, by decide⟩ rfl
theorem sc_130 : sCOk 130 := by
  rintro _ _ _ ⟨⟩ _ _ _ ⟨⟩
  exact ⟨fun h => (by cases h), fun h => (by cases h)⟩
theorem sc_131 : sCOk 131 := by
  rintro _ _ _ ⟨⟩ _ _ _ ⟨⟩
  refine ⟨fun _ c0 z r h => ?_, fun h => (by cases h)⟩
  cases h
  exact sAr.I rfl q406 q407 q408 ⟨by decide, by decide⟩ rfl
theorem sc_132 : sCOk 132 := by
  rintro _ _ _ ⟨⟩ _ _ _ ⟨⟩
  refine ⟨fun _ c0 z r h => ?_, fun h => (by cases h)⟩
  cases h
  exact sAr.I rfl q466 q407 q408 ⟨by decide, by decide⟩ rfl
theorem sc_133 : sCOk 133 := by
  rintro _ _ _ ⟨⟩ _ _ _ ⟨⟩
  refine ⟨fun _ c0 z r h => ?_, fun h => (by cases h)⟩
  cases h
  exact sAr.SN q489 q325 q91 (Or.inl ⟨_, _, _, q326⟩) ⟨by decide, by decide⟩ rfl
theorem sc_134 : sCOk 134 := by
  rintro _ _ _ ⟨⟩ _ _ _ ⟨⟩
  refine ⟨fun h => (by cases h), fun _ ci z h => ?_⟩
  have h := mlk_mem h
  simp only [List.mem_cons, List.not_mem_nil, or_false] at h
  rcases h with h | h
  · cases h; exact sAr.U (x := ⟨"RiverGauge$Strikable", "isKnown", "(I)Z"⟩) rfl q524 q525 q451 ⟨by decide, by decide⟩ q453 q527 rfl
  · cases h; exact sAr.U (x := ⟨"RiverGauge$Strikable", "isKnown", "(I)Z"⟩) rfl q524 q525 q451 ⟨by decide, by decide⟩ q453 q526 rfl
theorem sc_135 : sCOk 135 := by
  rintro _ _ _ ⟨⟩ _ _ _ ⟨⟩
  refine ⟨fun _ c0 z r h => ?_, fun h => (by cases h)⟩
  cases h
  exact sAr.I rfl q463 q464 q465 ⟨by decide, by decide⟩ rfl
theorem sc_136 : sCOk 136 := by
  rintro _ _ _ ⟨⟩ _ _ _ ⟨⟩
  refine ⟨fun _ c0 z r h => ?_, fun h => (by cases h)⟩
  cases h
  exact sAr.I rfl q583 q464 q465 ⟨by decide, by decide⟩ rfl
theorem sc_137 : sCOk 137 := by
  rintro _ _ _ ⟨⟩ _ _ _ ⟨⟩
  refine ⟨fun _ c0 z r h => ?_, fun h => (by cases h)⟩
  cases h
  exact sAr.SN q1079 q400 q91 (Or.inl ⟨_, _, _, q401⟩) ⟨by decide, by decide⟩ rfl
theorem sc_138 : sCOk 138 := by
  rintro _ _ _ ⟨⟩ _ _ _ ⟨⟩
  exact ⟨fun h => (by cases h), fun h => (by cases h)⟩
theorem sc_139 : sCOk 139 := by
  rintro _ _ _ ⟨⟩ _ _ _ ⟨⟩
  exact ⟨fun h => (by cases h), fun h => (by cases h)⟩
theorem sc_140 : sCOk 140 := by
  rintro _ _ _ ⟨⟩ _ _ _ ⟨⟩
  refine ⟨fun h => (by cases h), fun _ ci z h => ?_⟩
  have h := mlk_mem h
  rw [List.mem_singleton] at h
  cases h
  exact sAr.V rfl q644 q646 qs17 (Or.inl ⟨_, _, _, q647⟩) ⟨by decide, by decide⟩ rfl
theorem sc_141 : sCOk 141 := by
  rintro _ _ _ ⟨⟩ _ _ _ ⟨⟩
  refine ⟨fun h => (by cases h), fun _ ci z h => ?_⟩
  have h := mlk_mem h
  rw [List.mem_singleton] at h
  cases h
  exact sAr.V rfl q664 q666 qs22 (Or.inl ⟨_, _, _, q667⟩) ⟨by decide, by decide⟩ rfl
theorem sc_142 : sCOk 142 := by
  rintro _ _ _ ⟨⟩ _ _ _ ⟨⟩
  refine ⟨fun h => (by cases h), fun _ ci z h => ?_⟩
  have h := mlk_mem h
  rw [List.mem_singleton] at h
  cases h
  exact sAr.V rfl q648 q650 qs18 (Or.inl ⟨_, _, _, q651⟩) ⟨by decide, by decide⟩ rfl
theorem sc_143 : sCOk 143 := by
  rintro _ _ _ ⟨⟩ _ _ _ ⟨⟩
  refine ⟨fun h => (by cases h), fun _ ci z h => ?_⟩
  have h := mlk_mem h
  rw [List.mem_singleton] at h
  cases h
  exact sAr.V rfl q700 q702 qs23 (Or.inl ⟨_, _, _, q703⟩) ⟨by decide, by decide⟩ rfl
theorem sc_144 : sCOk 144 := by
  rintro _ _ _ ⟨⟩ _ _ _ ⟨⟩
  refine ⟨fun _ c0 z r h => ?_, fun h => (by cases h)⟩
  cases h
  exact sAr.I rfl q850 q851 q852 ⟨by decide, by decide⟩ rfl
theorem sc_145 : sCOk 145 := by
  rintro _ _ _ ⟨⟩ _ _ _ ⟨⟩
  refine ⟨fun h => (by cases h), fun _ ci z h => ?_⟩
  have h := mlk_mem h
  rw [List.mem_singleton] at h
  cases h
  exact sAr.V rfl q652 q654 qs19 (Or.inl ⟨_, _, _, q655⟩) ⟨by decide, by decide⟩ rfl
theorem sc_146 : sCOk 146 := by
  rintro _ _ _ ⟨⟩ _ _ _ ⟨⟩
  refine ⟨fun h => (by cases h), fun _ ci z h => ?_⟩
  have h := mlk_mem h
  rw [List.mem_singleton] at h
  cases h
  exact sAr.V rfl q656 q658 qs20 (Or.inl ⟨_, _, _, q659⟩) ⟨by decide, by decide⟩ rfl
theorem sc_147 : sCOk 147 := by
  rintro _ _ _ ⟨⟩ _ _ _ ⟨⟩
  refine ⟨fun h => (by cases h), fun _ ci z h => ?_⟩
  have h := mlk_mem h
  rw [List.mem_singleton] at h
  cases h
  exact sAr.V rfl q660 q662 qs21 (Or.inl ⟨_, _, _, q663⟩) ⟨by decide, by decide⟩ rfl
theorem sc_148 : sCOk 148 := by
  rintro _ _ _ ⟨⟩ _ _ _ ⟨⟩
  refine ⟨fun _ c0 z r h => ?_, fun h => (by cases h)⟩
  cases h
  exact sAr.I rfl q686 q687 q688 ⟨by decide, by decide⟩ rfl
theorem sc_149 : sCOk 149 := by
  rintro _ _ _ ⟨⟩ _ _ _ ⟨⟩
  refine ⟨fun h => (by cases h), fun _ ci z h => ?_⟩
  have h := mlk_mem h
  rw [List.mem_singleton] at h
  cases h
  exact sAr.V rfl q704 q706 qs24 (Or.inl ⟨_, _, _, q707⟩) ⟨by decide, by decide⟩ rfl
theorem sc_150 : sCOk 150 := by
  rintro _ _ _ ⟨⟩ _ _ _ ⟨⟩
  refine ⟨fun _ c0 z r h => ?_, fun h => (by cases h)⟩
  cases h
  exact sAr.I rfl q834 q835 q836 ⟨by decide, by decide⟩ rfl
theorem sc_151 : sCOk 151 := by
  rintro _ _ _ ⟨⟩ _ _ _ ⟨⟩
  refine ⟨fun _ c0 z r h => ?_, fun h => (by cases h)⟩
  cases h
  exact sAr.I rfl q677 q678 q679 ⟨by decide, by decide⟩ rfl
theorem sc_152 : sCOk 152 := by
  rintro _ _ _ ⟨⟩ _ _ _ ⟨⟩
  refine ⟨fun h => (by cases h), fun _ ci z h => ?_⟩
  have h := mlk_mem h
  rw [List.mem_singleton] at h
  cases h
  exact sAr.V rfl q708 q710 qs25 (Or.inl ⟨_, _, _, q711⟩) ⟨by decide, by decide⟩ rfl
theorem sc_153 : sCOk 153 := by
  rintro _ _ _ ⟨⟩ _ _ _ ⟨⟩
  refine ⟨fun _ c0 z r h => ?_, fun h => (by cases h)⟩
  cases h
  exact sAr.I rfl q818 q819 q820 ⟨by decide, by decide⟩ rfl
theorem sc_154 : sCOk 154 := by
  rintro _ _ _ ⟨⟩ _ _ _ ⟨⟩
  exact ⟨fun h => (by cases h), fun h => (by cases h)⟩
theorem sc_155 : sCOk 155 := by
  rintro _ _ _ ⟨⟩ _ _ _ ⟨⟩
  refine ⟨fun _ c0 z r h => ?_, fun h => (by cases h)⟩
  cases h
  exact sAr.I rfl q792 q793 q794 ⟨by decide, by decide⟩ rfl
theorem sc_156 : sCOk 156 := by
  rintro _ _ _ ⟨⟩ _ _ _ ⟨⟩
  refine ⟨fun _ c0 z r h => ?_, fun h => (by cases h)⟩
  cases h
  exact sAr.SN q805 q400 q91 (Or.inl ⟨_, _, _, q401⟩) ⟨by decide, by decide⟩ rfl
theorem sc_157 : sCOk 157 := by
  rintro _ _ _ ⟨⟩ _ _ _ ⟨⟩
  refine ⟨fun _ c0 z r h => ?_, fun h => (by cases h)⟩
  cases h
  exact sAr.I rfl q808 q809 q810 ⟨by decide, by decide⟩ rfl
theorem sc_158 : sCOk 158 := by
  rintro _ _ _ ⟨⟩ _ _ _ ⟨⟩
  refine ⟨fun _ c0 z r h => ?_, fun h => (by cases h)⟩
  cases h
  exact sAr.I rfl q680 q369 q370 ⟨by decide, by decide⟩ rfl
theorem sc_159 : sCOk 159 := by
  rintro _ _ _ ⟨⟩ _ _ _ ⟨⟩
  exact ⟨fun h => (by cases h), fun h => (by cases h)⟩
theorem sc_160 : sCOk 160 := by
  rintro _ _ _ ⟨⟩ _ _ _ ⟨⟩
  refine ⟨fun _ c0 z r h => ?_, fun h => (by cases h)⟩
  cases h
  exact sAr.IN rfl q692 q693 q694 ⟨by decide, by decide⟩ rfl
theorem sc_161 : sCOk 161 := by
  rintro _ _ _ ⟨⟩ _ _ _ ⟨⟩
  refine ⟨fun h => (by cases h), fun _ ci z h => ?_⟩
  have h := mlk_mem h
  simp only [List.mem_cons, List.not_mem_nil, or_false] at h
  rcases h with h | h | h
  · cases h; exact sAr.U (x := ⟨"RiverGauge$Test", "holds", "([I)Z"⟩) rfl q567 q537 q536 ⟨by decide, by decide⟩ q565 q569 rfl
  · cases h; exact sAr.U (x := ⟨"RiverGauge$Test", "holds", "([I)Z"⟩) rfl q567 q537 q536 ⟨by decide, by decide⟩ q542 q568 rfl
  · cases h; exact sAr.U (x := ⟨"RiverGauge$Test", "holds", "([I)Z"⟩) rfl q567 q537 q536 ⟨by decide, by decide⟩ q539 q538 rfl
theorem sc_162 : sCOk 162 := by
  rintro _ _ _ ⟨⟩ _ _ _ ⟨⟩
  refine ⟨fun _ c0 z r h => ?_, fun h => (by cases h)⟩
  cases h
  exact sAr.IN rfl q689 q690 q691 ⟨by decide, by decide⟩ rfl
theorem sc_163 : sCOk 163 := by
  rintro _ _ _ ⟨⟩ _ _ _ ⟨⟩
  refine ⟨fun _ c0 z r h => ?_, fun h => (by cases h)⟩
  cases h
  exact sAr.IN rfl q798 q693 q694 ⟨by decide, by decide⟩ rfl
theorem sc_164 : sCOk 164 := by
  rintro _ _ _ ⟨⟩ _ _ _ ⟨⟩
  refine ⟨fun _ c0 z r h => ?_, fun h => (by cases h)⟩
  cases h
  exact sAr.IN rfl q795 q796 q797 ⟨by decide, by decide⟩ rfl
theorem sc_165 : sCOk 165 := by
  rintro _ _ _ ⟨⟩ _ _ _ ⟨⟩
  refine ⟨fun _ c0 z r h => ?_, fun h => (by cases h)⟩
  cases h
  exact sAr.IN rfl q811 q796 q797 ⟨by decide, by decide⟩ rfl
theorem sc_166 : sCOk 166 := by
  rintro _ _ _ ⟨⟩ _ _ _ ⟨⟩
  refine ⟨fun h => (by cases h), fun _ ci z h => ?_⟩
  have h := mlk_mem h
  simp only [List.mem_cons, List.not_mem_nil, or_false] at h
  rcases h with h | h | h
  · cases h; exact sAr.U (x := ⟨"RiverGauge$Sum", "worth", "([I)I"⟩) rfl q550 q546 q545 ⟨by decide, by decide⟩ q551 q563 rfl
  · cases h; exact sAr.U (x := ⟨"RiverGauge$Sum", "worth", "([I)I"⟩) rfl q550 q546 q545 ⟨by decide, by decide⟩ q553 q564 rfl
  · cases h; exact sAr.U (x := ⟨"RiverGauge$Sum", "worth", "([I)I"⟩) rfl q550 q546 q545 ⟨by decide, by decide⟩ q548 q547 rfl
theorem sc_167 : sCOk 167 := by
  rintro _ _ _ ⟨⟩ _ _ _ ⟨⟩
  refine ⟨fun _ c0 z r h => ?_, fun h => (by cases h)⟩
  cases h
  exact sAr.S q557 q558 q103 (Or.inl ⟨_, _, _, q559⟩) ⟨by decide, by decide⟩ rfl
theorem sc_168 : sCOk 168 := by
  rintro _ _ _ ⟨⟩ _ _ _ ⟨⟩
  refine ⟨fun _ c0 z r h => ?_, fun h => (by cases h)⟩
  cases h
  exact sAr.S q560 q561 q103 (Or.inl ⟨_, _, _, q562⟩) ⟨by decide, by decide⟩ rfl
theorem sc_169 : sCOk 169 := by
  rintro _ _ _ ⟨⟩ _ _ _ ⟨⟩
  refine ⟨fun _ c0 z r h => ?_, fun h => (by cases h)⟩
  cases h
  exact sAr.IN rfl q821 q796 q797 ⟨by decide, by decide⟩ rfl
theorem sc_170 : sCOk 170 := by
  rintro _ _ _ ⟨⟩ _ _ _ ⟨⟩
  refine ⟨fun h => (by cases h), fun _ ci z h => ?_⟩
  have h := mlk_mem h
  simp only [List.mem_cons, List.not_mem_nil, or_false] at h
  rcases h with h | h | h
  · cases h; exact sAr.U (x := ⟨"RiverGauge$Sum", "worth", "([I)I"⟩) rfl q544 q546 q545 ⟨by decide, by decide⟩ q551 q563 rfl
  · cases h; exact sAr.U (x := ⟨"RiverGauge$Sum", "worth", "([I)I"⟩) rfl q544 q546 q545 ⟨by decide, by decide⟩ q553 q564 rfl
  · cases h; exact sAr.U (x := ⟨"RiverGauge$Sum", "worth", "([I)I"⟩) rfl q544 q546 q545 ⟨by decide, by decide⟩ q548 q547 rfl
theorem sc_171 : sCOk 171 := by
  rintro _ _ _ ⟨⟩ _ _ _ ⟨⟩
  refine ⟨fun _ c0 z r h => ?_, fun h => (by cases h)⟩
  cases h
  exact sAr.IN rfl q837 q690 q691 ⟨by decide, by decide⟩ rfl
theorem sc_172 : sCOk 172 := by
  rintro _ _ _ ⟨⟩ _ _ _ ⟨⟩
  refine ⟨fun h => (by cases h), fun _ ci z h => ?_⟩
  have h := mlk_mem h
  simp only [List.mem_cons, List.not_mem_nil, or_false] at h
  rcases h with h | h | h
  · cases h; exact sAr.U (x := ⟨"RiverGauge$Test", "holds", "([I)Z"⟩) rfl q541 q537 q536 ⟨by decide, by decide⟩ q565 q569 rfl
  · cases h; exact sAr.U (x := ⟨"RiverGauge$Test", "holds", "([I)Z"⟩) rfl q541 q537 q536 ⟨by decide, by decide⟩ q542 q568 rfl
  · cases h; exact sAr.U (x := ⟨"RiverGauge$Test", "holds", "([I)Z"⟩) rfl q541 q537 q536 ⟨by decide, by decide⟩ q539 q538 rfl
theorem sc_173 : sCOk 173 := by
  rintro _ _ _ ⟨⟩ _ _ _ ⟨⟩
  refine ⟨fun _ c0 z r h => ?_, fun h => (by cases h)⟩
  cases h
  exact sAr.IN rfl q853 q690 q691 ⟨by decide, by decide⟩ rfl
theorem sc_174 : sCOk 174 := by
  rintro _ _ _ ⟨⟩ _ _ _ ⟨⟩
  exact ⟨fun h => (by cases h), fun h => (by cases h)⟩
theorem sc_175 : sCOk 175 := by
  rintro _ _ _ ⟨⟩ _ _ _ ⟨⟩
  refine ⟨fun h => (by cases h), fun _ ci z h => ?_⟩
  have h := mlk_mem h
  simp only [List.mem_cons, List.not_mem_nil, or_false] at h
  rcases h with h | h
  · cases h; exact sAr.P rfl q960 q962 q961 q1907 (Or.inl ⟨_, _, _, q963⟩) ⟨by decide, by decide⟩ rfl
  · cases h; exact sAr.P rfl q960 q962 q961 q1907 (Or.inl ⟨_, _, _, q963⟩) ⟨by decide, by decide⟩ rfl
theorem sc_176 : sCOk 176 := by
  rintro _ _ _ ⟨⟩ _ _ _ ⟨⟩
  refine ⟨fun _ c0 z r h => ?_, fun h => (by cases h)⟩
  cases h
  exact sAr.S q974 q558 q103 (Or.inl ⟨_, _, _, q559⟩) ⟨by decide, by decide⟩ rfl
theorem sc_177 : sCOk 177 := by
  rintro _ _ _ ⟨⟩ _ _ _ ⟨⟩
  refine ⟨fun h => (by cases h), fun _ ci z h => ?_⟩
  have h := mlk_mem h
  simp only [List.mem_cons, List.not_mem_nil, or_false] at h
  rcases h with h | h
  · cases h; exact sAr.U (x := ⟨"RiverGauge$Line", "low", "()I"⟩) rfl q964 q966 q965 ⟨by decide, by decide⟩ q971 q970 rfl
  · cases h; exact sAr.U (x := ⟨"RiverGauge$Line", "low", "()I"⟩) rfl q964 q966 q965 ⟨by decide, by decide⟩ q968 q967 rfl
theorem sc_178 : sCOk 178 := by
  rintro _ _ _ ⟨⟩ _ _ _ ⟨⟩
  refine ⟨fun _ c0 z r h => ?_, fun h => (by cases h)⟩
  cases h
  exact sAr.I rfl q905 q906 q907 ⟨by decide, by decide⟩ rfl
theorem sc_179 : sCOk 179 := by
  rintro _ _ _ ⟨⟩ _ _ _ ⟨⟩
  refine ⟨fun _ c0 z r h => ?_, fun h => (by cases h)⟩
  cases h
  exact sAr.S q949 q733 q103 (Or.inl ⟨_, _, _, q734⟩) ⟨by decide, by decide⟩ rfl
theorem sc_180 : sCOk 180 := by
  rintro _ _ _ ⟨⟩ _ _ _ ⟨⟩
  refine ⟨fun _ c0 z r h => ?_, fun h => (by cases h)⟩
  cases h
  exact sAr.I rfl q979 q407 q408 ⟨by decide, by decide⟩ rfl
theorem sc_181 : sCOk 181 := by
  rintro _ _ _ ⟨⟩ _ _ _ ⟨⟩
  exact ⟨fun h => (by cases h), fun h => (by cases h)⟩
theorem sc_182 : sCOk 182 := by
  rintro _ _ _ ⟨⟩ _ _ _ ⟨⟩
  refine ⟨fun _ c0 z r h => ?_, fun h => (by cases h)⟩
  cases h
  exact sAr.I rfl q1058 q906 q907 ⟨by decide, by decide⟩ rfl
theorem sc_183 : sCOk 183 := by
  rintro _ _ _ ⟨⟩ _ _ _ ⟨⟩
  refine ⟨fun _ c0 z r h => ?_, fun h => (by cases h)⟩
  cases h
  exact sAr.I rfl q128 q129 q130 ⟨by decide, by decide⟩ rfl
theorem sc_184 : sCOk 184 := by
  rintro _ _ _ ⟨⟩ _ _ _ ⟨⟩
  refine ⟨fun _ c0 z r h => ?_, fun h => (by cases h)⟩
  cases h
  exact sAr.I rfl q1334 q1335 q1336 ⟨by decide, by decide⟩ rfl
theorem sc_185 : sCOk 185 := by
  rintro _ _ _ ⟨⟩ _ _ _ ⟨⟩
  refine ⟨fun h => (by cases h), fun _ ci z h => ?_⟩
  have h := mlk_mem h
  rw [List.mem_singleton] at h
  cases h
  exact sAr.V rfl q307 q308 q309 (Or.inl ⟨_, _, _, q310⟩) ⟨by decide, by decide⟩ rfl
theorem sc_186 : sCOk 186 := by
  rintro _ _ _ ⟨⟩ _ _ _ ⟨⟩
  refine ⟨fun h => (by cases h), fun _ ci z h => ?_⟩
  have h := mlk_mem h
  rw [List.mem_singleton] at h
  cases h
  exact sAr.V rfl q1606 q1607 q1608 (Or.inl ⟨_, _, _, q1609⟩) ⟨by decide, by decide⟩ rfl
theorem sc_187 : sCOk 187 := by
  rintro _ _ _ ⟨⟩ _ _ _ ⟨⟩
  refine ⟨fun h => (by cases h), fun _ ci z h => ?_⟩
  have h := mlk_mem h
  rw [List.mem_singleton] at h
  cases h
  exact sAr.V rfl q1181 q1182 q1183 (Or.inl ⟨_, _, _, q1184⟩) ⟨by decide, by decide⟩ rfl
theorem sc_188 : sCOk 188 := by
  rintro _ _ _ ⟨⟩ _ _ _ ⟨⟩
  refine ⟨fun h => (by cases h), fun _ ci z h => ?_⟩
  have h := mlk_mem h
  rw [List.mem_singleton] at h
  cases h
  exact sAr.V rfl q1614 q1615 q1616 (Or.inl ⟨_, _, _, q1617⟩) ⟨by decide, by decide⟩ rfl
theorem sc_189 : sCOk 189 := by
  rintro _ _ _ ⟨⟩ _ _ _ ⟨⟩
  refine ⟨fun h => (by cases h), fun _ ci z h => ?_⟩
  have h := mlk_mem h
  rw [List.mem_singleton] at h
  cases h
  exact sAr.V rfl q1185 q1186 q1187 (Or.inl ⟨_, _, _, q1188⟩) ⟨by decide, by decide⟩ rfl
theorem sc_190 : sCOk 190 := by
  rintro _ _ _ ⟨⟩ _ _ _ ⟨⟩
  refine ⟨fun h => (by cases h), fun _ ci z h => ?_⟩
  have h := mlk_mem h
  rw [List.mem_singleton] at h
  cases h
  exact sAr.V rfl q1618 q1619 q1620 (Or.inl ⟨_, _, _, q1621⟩) ⟨by decide, by decide⟩ rfl
theorem sc_191 : sCOk 191 := by
  rintro _ _ _ ⟨⟩ _ _ _ ⟨⟩
  refine ⟨fun h => (by cases h), fun _ ci z h => ?_⟩
  have h := mlk_mem h
  rw [List.mem_singleton] at h
  cases h
  exact sAr.V rfl q1189 q1190 q1191 (Or.inl ⟨_, _, _, q1192⟩) ⟨by decide, by decide⟩ rfl
theorem sc_192 : sCOk 192 := by
  rintro _ _ _ ⟨⟩ _ _ _ ⟨⟩
  refine ⟨fun h => (by cases h), fun _ ci z h => ?_⟩
  have h := mlk_mem h
  rw [List.mem_singleton] at h
  cases h
  exact sAr.V rfl q1626 q1627 q1628 (Or.inl ⟨_, _, _, q1629⟩) ⟨by decide, by decide⟩ rfl
theorem sc_193 : sCOk 193 := by
  rintro _ _ _ ⟨⟩ _ _ _ ⟨⟩
  refine ⟨fun h => (by cases h), fun _ ci z h => ?_⟩
  have h := mlk_mem h
  rw [List.mem_singleton] at h
  cases h
  exact sAr.V rfl q1198 q1199 q1200 (Or.inl ⟨_, _, _, q1201⟩) ⟨by decide, by decide⟩ rfl
theorem sc_194 : sCOk 194 := by
  rintro _ _ _ ⟨⟩ _ _ _ ⟨⟩
  refine ⟨fun h => (by cases h), fun _ ci z h => ?_⟩
  have h := mlk_mem h
  rw [List.mem_singleton] at h
  cases h
  exact sAr.V rfl q1642 q1643 q1644 (Or.inl ⟨_, _, _, q1645⟩) ⟨by decide, by decide⟩ rfl
theorem sc_195 : sCOk 195 := by
  rintro _ _ _ ⟨⟩ _ _ _ ⟨⟩
  refine ⟨fun h => (by cases h), fun _ ci z h => ?_⟩
  have h := mlk_mem h
  rw [List.mem_singleton] at h
  cases h
  exact sAr.V rfl q1202 q1203 q1204 (Or.inl ⟨_, _, _, q1205⟩) ⟨by decide, by decide⟩ rfl
theorem sc_196 : sCOk 196 := by
  rintro _ _ _ ⟨⟩ _ _ _ ⟨⟩
  refine ⟨fun h => (by cases h), fun _ ci z h => ?_⟩
  have h := mlk_mem h
  rw [List.mem_singleton] at h
  cases h
  exact sAr.V rfl q1646 q1647 q1648 (Or.inl ⟨_, _, _, q1649⟩) ⟨by decide, by decide⟩ rfl
theorem sc_197 : sCOk 197 := by
  rintro _ _ _ ⟨⟩ _ _ _ ⟨⟩
  refine ⟨fun h => (by cases h), fun _ ci z h => ?_⟩
  have h := mlk_mem h
  rw [List.mem_singleton] at h
  cases h
  exact sAr.V rfl q1206 q1207 q1208 (Or.inl ⟨_, _, _, q1209⟩) ⟨by decide, by decide⟩ rfl
theorem sc_198 : sCOk 198 := by
  rintro _ _ _ ⟨⟩ _ _ _ ⟨⟩
  refine ⟨fun h => (by cases h), fun _ ci z h => ?_⟩
  have h := mlk_mem h
  rw [List.mem_singleton] at h
  cases h
  exact sAr.V rfl q1650 q1651 q1652 (Or.inl ⟨_, _, _, q1653⟩) ⟨by decide, by decide⟩ rfl
theorem sc_199 : sCOk 199 := by
  rintro _ _ _ ⟨⟩ _ _ _ ⟨⟩
  refine ⟨fun h => (by cases h), fun _ ci z h => ?_⟩
  have h := mlk_mem h
  rw [List.mem_singleton] at h
  cases h
  exact sAr.V rfl q1210 q1211 q1212 (Or.inl ⟨_, _, _, q1213⟩) ⟨by decide, by decide⟩ rfl
theorem sc_200 : sCOk 200 := by
  rintro _ _ _ ⟨⟩ _ _ _ ⟨⟩
  refine ⟨fun h => (by cases h), fun _ ci z h => ?_⟩
  have h := mlk_mem h
  rw [List.mem_singleton] at h
  cases h
  exact sAr.V rfl q1684 q1685 q1686 (Or.inl ⟨_, _, _, q1687⟩) ⟨by decide, by decide⟩ rfl
theorem sc_201 : sCOk 201 := by
  rintro _ _ _ ⟨⟩ _ _ _ ⟨⟩
  refine ⟨fun h => (by cases h), fun _ ci z h => ?_⟩
  have h := mlk_mem h
  rw [List.mem_singleton] at h
  cases h
  exact sAr.V rfl q1214 q1215 q1216 (Or.inl ⟨_, _, _, q1217⟩) ⟨by decide, by decide⟩ rfl
theorem sc_202 : sCOk 202 := by
  rintro _ _ _ ⟨⟩ _ _ _ ⟨⟩
  refine ⟨fun h => (by cases h), fun _ ci z h => ?_⟩
  have h := mlk_mem h
  rw [List.mem_singleton] at h
  cases h
  exact sAr.V rfl q1696 q1697 q1698 (Or.inl ⟨_, _, _, q1699⟩) ⟨by decide, by decide⟩ rfl
theorem sc_203 : sCOk 203 := by
  rintro _ _ _ ⟨⟩ _ _ _ ⟨⟩
  refine ⟨fun h => (by cases h), fun _ ci z h => ?_⟩
  have h := mlk_mem h
  rw [List.mem_singleton] at h
  cases h
  exact sAr.V rfl q1218 q1219 q1220 (Or.inl ⟨_, _, _, q1221⟩) ⟨by decide, by decide⟩ rfl
theorem sc_204 : sCOk 204 := by
  rintro _ _ _ ⟨⟩ _ _ _ ⟨⟩
  refine ⟨fun h => (by cases h), fun _ ci z h => ?_⟩
  have h := mlk_mem h
  rw [List.mem_singleton] at h
  cases h
  exact sAr.V rfl q1701 q1702 q1703 (Or.inl ⟨_, _, _, q1704⟩) ⟨by decide, by decide⟩ rfl
theorem sc_205 : sCOk 205 := by
  rintro _ _ _ ⟨⟩ _ _ _ ⟨⟩
  refine ⟨fun h => (by cases h), fun _ ci z h => ?_⟩
  have h := mlk_mem h
  rw [List.mem_singleton] at h
  cases h
  exact sAr.V rfl q1222 q1223 q1224 (Or.inl ⟨_, _, _, q1225⟩) ⟨by decide, by decide⟩ rfl
theorem sc_206 : sCOk 206 := by
  rintro _ _ _ ⟨⟩ _ _ _ ⟨⟩
  refine ⟨fun h => (by cases h), fun _ ci z h => ?_⟩
  have h := mlk_mem h
  rw [List.mem_singleton] at h
  cases h
  exact sAr.V rfl q1705 q1706 q1707 (Or.inl ⟨_, _, _, q1708⟩) ⟨by decide, by decide⟩ rfl
theorem sc_207 : sCOk 207 := by
  rintro _ _ _ ⟨⟩ _ _ _ ⟨⟩
  refine ⟨fun h => (by cases h), fun _ ci z h => ?_⟩
  have h := mlk_mem h
  rw [List.mem_singleton] at h
  cases h
  exact sAr.V rfl q1226 q1227 q1228 (Or.inr ⟨_, _, _, _, q1229⟩) ⟨by decide, by decide⟩ rfl
theorem sc_208 : sCOk 208 := by
  rintro _ _ _ ⟨⟩ _ _ _ ⟨⟩
  refine ⟨fun h => (by cases h), fun _ ci z h => ?_⟩
  have h := mlk_mem h
  rw [List.mem_singleton] at h
  cases h
  exact sAr.V rfl q1713 q1714 q1715 (Or.inl ⟨_, _, _, q1716⟩) ⟨by decide, by decide⟩ rfl
theorem sc_209 : sCOk 209 := by
  rintro _ _ _ ⟨⟩ _ _ _ ⟨⟩
  refine ⟨fun h => (by cases h), fun _ ci z h => ?_⟩
  have h := mlk_mem h
  rw [List.mem_singleton] at h
  cases h
  exact sAr.V rfl q1234 q1235 q1236 (Or.inl ⟨_, _, _, q1237⟩) ⟨by decide, by decide⟩ rfl
theorem sc_210 : sCOk 210 := by
  rintro _ _ _ ⟨⟩ _ _ _ ⟨⟩
  refine ⟨fun h => (by cases h), fun _ ci z h => ?_⟩
  have h := mlk_mem h
  rw [List.mem_singleton] at h
  cases h
  exact sAr.V rfl q1718 q1719 q1720 (Or.inl ⟨_, _, _, q1721⟩) ⟨by decide, by decide⟩ rfl
theorem sc_211 : sCOk 211 := by
  rintro _ _ _ ⟨⟩ _ _ _ ⟨⟩
  refine ⟨fun h => (by cases h), fun _ ci z h => ?_⟩
  have h := mlk_mem h
  rw [List.mem_singleton] at h
  cases h
  exact sAr.V rfl q1238 q1239 q1240 (Or.inl ⟨_, _, _, q1241⟩) ⟨by decide, by decide⟩ rfl
theorem sc_212 : sCOk 212 := by
  rintro _ _ _ ⟨⟩ _ _ _ ⟨⟩
  refine ⟨fun h => (by cases h), fun _ ci z h => ?_⟩
  have h := mlk_mem h
  rw [List.mem_singleton] at h
  cases h
  exact sAr.V rfl q1753 q1754 q1755 (Or.inl ⟨_, _, _, q1756⟩) ⟨by decide, by decide⟩ rfl
theorem sc_213 : sCOk 213 := by
  rintro _ _ _ ⟨⟩ _ _ _ ⟨⟩
  refine ⟨fun h => (by cases h), fun _ ci z h => ?_⟩
  have h := mlk_mem h
  rw [List.mem_singleton] at h
  cases h
  exact sAr.V rfl q1242 q1243 q1244 (Or.inl ⟨_, _, _, q1245⟩) ⟨by decide, by decide⟩ rfl
theorem sc_214 : sCOk 214 := by
  rintro _ _ _ ⟨⟩ _ _ _ ⟨⟩
  refine ⟨fun h => (by cases h), fun _ ci z h => ?_⟩
  have h := mlk_mem h
  rw [List.mem_singleton] at h
  cases h
  exact sAr.V rfl q1757 q1758 q1759 (Or.inl ⟨_, _, _, q1760⟩) ⟨by decide, by decide⟩ rfl
theorem sc_215 : sCOk 215 := by
  rintro _ _ _ ⟨⟩ _ _ _ ⟨⟩
  refine ⟨fun h => (by cases h), fun _ ci z h => ?_⟩
  have h := mlk_mem h
  rw [List.mem_singleton] at h
  cases h
  exact sAr.V rfl q1246 q1247 q1248 (Or.inl ⟨_, _, _, q1249⟩) ⟨by decide, by decide⟩ rfl
theorem sc_216 : sCOk 216 := by
  rintro _ _ _ ⟨⟩ _ _ _ ⟨⟩
  refine ⟨fun h => (by cases h), fun _ ci z h => ?_⟩
  have h := mlk_mem h
  rw [List.mem_singleton] at h
  cases h
  exact sAr.V rfl q1761 q1762 q1763 (Or.inl ⟨_, _, _, q1764⟩) ⟨by decide, by decide⟩ rfl
theorem sc_217 : sCOk 217 := by
  rintro _ _ _ ⟨⟩ _ _ _ ⟨⟩
  refine ⟨fun h => (by cases h), fun _ ci z h => ?_⟩
  have h := mlk_mem h
  rw [List.mem_singleton] at h
  cases h
  exact sAr.V rfl q1250 q1251 q1252 (Or.inl ⟨_, _, _, q1253⟩) ⟨by decide, by decide⟩ rfl
theorem sc_218 : sCOk 218 := by
  rintro _ _ _ ⟨⟩ _ _ _ ⟨⟩
  refine ⟨fun h => (by cases h), fun _ ci z h => ?_⟩
  have h := mlk_mem h
  rw [List.mem_singleton] at h
  cases h
  exact sAr.V rfl q1777 q1778 q1779 (Or.inl ⟨_, _, _, q1780⟩) ⟨by decide, by decide⟩ rfl
theorem sc_219 : sCOk 219 := by
  rintro _ _ _ ⟨⟩ _ _ _ ⟨⟩
  refine ⟨fun h => (by cases h), fun _ ci z h => ?_⟩
  have h := mlk_mem h
  rw [List.mem_singleton] at h
  cases h
  exact sAr.V rfl q1254 q1255 q1256 (Or.inl ⟨_, _, _, q1257⟩) ⟨by decide, by decide⟩ rfl
theorem sc_220 : sCOk 220 := by
  rintro _ _ _ ⟨⟩ _ _ _ ⟨⟩
  refine ⟨fun h => (by cases h), fun _ ci z h => ?_⟩
  have h := mlk_mem h
  rw [List.mem_singleton] at h
  cases h
  exact sAr.V rfl q1781 q1782 q1783 (Or.inl ⟨_, _, _, q1784⟩) ⟨by decide, by decide⟩ rfl
theorem sc_221 : sCOk 221 := by
  rintro _ _ _ ⟨⟩ _ _ _ ⟨⟩
  refine ⟨fun h => (by cases h), fun _ ci z h => ?_⟩
  have h := mlk_mem h
  rw [List.mem_singleton] at h
  cases h
  exact sAr.V rfl q1258 q1259 q1260 (Or.inl ⟨_, _, _, q1261⟩) ⟨by decide, by decide⟩ rfl
theorem sc_222 : sCOk 222 := by
  rintro _ _ _ ⟨⟩ _ _ _ ⟨⟩
  refine ⟨fun h => (by cases h), fun _ ci z h => ?_⟩
  have h := mlk_mem h
  rw [List.mem_singleton] at h
  cases h
  exact sAr.V rfl q1791 q1792 q1793 (Or.inl ⟨_, _, _, q1794⟩) ⟨by decide, by decide⟩ rfl
theorem sc_223 : sCOk 223 := by
  rintro _ _ _ ⟨⟩ _ _ _ ⟨⟩
  refine ⟨fun h => (by cases h), fun _ ci z h => ?_⟩
  have h := mlk_mem h
  rw [List.mem_singleton] at h
  cases h
  exact sAr.V rfl q1262 q1263 q1264 (Or.inl ⟨_, _, _, q1265⟩) ⟨by decide, by decide⟩ rfl
theorem sc_224 : sCOk 224 := by
  rintro _ _ _ ⟨⟩ _ _ _ ⟨⟩
  refine ⟨fun h => (by cases h), fun _ ci z h => ?_⟩
  have h := mlk_mem h
  rw [List.mem_singleton] at h
  cases h
  exact sAr.V rfl q1795 q1796 q1797 (Or.inl ⟨_, _, _, q1798⟩) ⟨by decide, by decide⟩ rfl
theorem sc_225 : sCOk 225 := by
  rintro _ _ _ ⟨⟩ _ _ _ ⟨⟩
  refine ⟨fun h => (by cases h), fun _ ci z h => ?_⟩
  have h := mlk_mem h
  rw [List.mem_singleton] at h
  cases h
  exact sAr.V rfl q1266 q1267 q1268 (Or.inl ⟨_, _, _, q1269⟩) ⟨by decide, by decide⟩ rfl
theorem sc_226 : sCOk 226 := by
  rintro _ _ _ ⟨⟩ _ _ _ ⟨⟩
  refine ⟨fun h => (by cases h), fun _ ci z h => ?_⟩
  have h := mlk_mem h
  rw [List.mem_singleton] at h
  cases h
  exact sAr.V rfl q1808 q1809 q1810 (Or.inl ⟨_, _, _, q1811⟩) ⟨by decide, by decide⟩ rfl
theorem sc_227 : sCOk 227 := by
  rintro _ _ _ ⟨⟩ _ _ _ ⟨⟩
  refine ⟨fun h => (by cases h), fun _ ci z h => ?_⟩
  have h := mlk_mem h
  rw [List.mem_singleton] at h
  cases h
  exact sAr.V rfl q1270 q1271 q1272 (Or.inl ⟨_, _, _, q1273⟩) ⟨by decide, by decide⟩ rfl
theorem sc_228 : sCOk 228 := by
  rintro _ _ _ ⟨⟩ _ _ _ ⟨⟩
  refine ⟨fun h => (by cases h), fun _ ci z h => ?_⟩
  have h := mlk_mem h
  rw [List.mem_singleton] at h
  cases h
  exact sAr.V rfl q1812 q1813 q1814 (Or.inl ⟨_, _, _, q1815⟩) ⟨by decide, by decide⟩ rfl
theorem sc_229 : sCOk 229 := by
  rintro _ _ _ ⟨⟩ _ _ _ ⟨⟩
  refine ⟨fun h => (by cases h), fun _ ci z h => ?_⟩
  have h := mlk_mem h
  rw [List.mem_singleton] at h
  cases h
  exact sAr.V rfl q1274 q1275 q1276 (Or.inl ⟨_, _, _, q1277⟩) ⟨by decide, by decide⟩ rfl
theorem sc_230 : sCOk 230 := by
  rintro _ _ _ ⟨⟩ _ _ _ ⟨⟩
  refine ⟨fun h => (by cases h), fun _ ci z h => ?_⟩
  have h := mlk_mem h
  rw [List.mem_singleton] at h
  cases h
  exact sAr.V rfl q1843 q1844 q1845 (Or.inl ⟨_, _, _, q1846⟩) ⟨by decide, by decide⟩ rfl
theorem sc_231 : sCOk 231 := by
  rintro _ _ _ ⟨⟩ _ _ _ ⟨⟩
  refine ⟨fun h => (by cases h), fun _ ci z h => ?_⟩
  have h := mlk_mem h
  rw [List.mem_singleton] at h
  cases h
  exact sAr.V rfl q1278 q1279 q1280 (Or.inl ⟨_, _, _, q1281⟩) ⟨by decide, by decide⟩ rfl
theorem sc_232 : sCOk 232 := by
  rintro _ _ _ ⟨⟩ _ _ _ ⟨⟩
  refine ⟨fun h => (by cases h), fun _ ci z h => ?_⟩
  have h := mlk_mem h
  rw [List.mem_singleton] at h
  cases h
  exact sAr.V rfl q1847 q1848 q1849 (Or.inl ⟨_, _, _, q1850⟩) ⟨by decide, by decide⟩ rfl
theorem sc_233 : sCOk 233 := by
  rintro _ _ _ ⟨⟩ _ _ _ ⟨⟩
  refine ⟨fun h => (by cases h), fun _ ci z h => ?_⟩
  have h := mlk_mem h
  rw [List.mem_singleton] at h
  cases h
  exact sAr.V rfl q1282 q1283 q1284 (Or.inl ⟨_, _, _, q1285⟩) ⟨by decide, by decide⟩ rfl
theorem sc_234 : sCOk 234 := by
  rintro _ _ _ ⟨⟩ _ _ _ ⟨⟩
  refine ⟨fun h => (by cases h), fun _ ci z h => ?_⟩
  have h := mlk_mem h
  rw [List.mem_singleton] at h
  cases h
  exact sAr.V rfl q1851 q1852 q1853 (Or.inl ⟨_, _, _, q1854⟩) ⟨by decide, by decide⟩ rfl
theorem sc_235 : sCOk 235 := by
  rintro _ _ _ ⟨⟩ _ _ _ ⟨⟩
  refine ⟨fun h => (by cases h), fun _ ci z h => ?_⟩
  have h := mlk_mem h
  rw [List.mem_singleton] at h
  cases h
  exact sAr.V rfl q1286 q1287 q1288 (Or.inl ⟨_, _, _, q1289⟩) ⟨by decide, by decide⟩ rfl
theorem sc_236 : sCOk 236 := by
  rintro _ _ _ ⟨⟩ _ _ _ ⟨⟩
  refine ⟨fun h => (by cases h), fun _ ci z h => ?_⟩
  have h := mlk_mem h
  rw [List.mem_singleton] at h
  cases h
  exact sAr.V rfl q1855 q1856 q1857 (Or.inl ⟨_, _, _, q1858⟩) ⟨by decide, by decide⟩ rfl
theorem sc_237 : sCOk 237 := by
  rintro _ _ _ ⟨⟩ _ _ _ ⟨⟩
  refine ⟨fun h => (by cases h), fun _ ci z h => ?_⟩
  have h := mlk_mem h
  rw [List.mem_singleton] at h
  cases h
  exact sAr.V rfl q1290 q1291 q1292 (Or.inl ⟨_, _, _, q1293⟩) ⟨by decide, by decide⟩ rfl
theorem sc_238 : sCOk 238 := by
  rintro _ _ _ ⟨⟩ _ _ _ ⟨⟩
  refine ⟨fun h => (by cases h), fun _ ci z h => ?_⟩
  have h := mlk_mem h
  rw [List.mem_singleton] at h
  cases h
  exact sAr.V rfl q1859 q1860 q1861 (Or.inl ⟨_, _, _, q1862⟩) ⟨by decide, by decide⟩ rfl
theorem sc_239 : sCOk 239 := by
  rintro _ _ _ ⟨⟩ _ _ _ ⟨⟩
  refine ⟨fun h => (by cases h), fun _ ci z h => ?_⟩
  have h := mlk_mem h
  rw [List.mem_singleton] at h
  cases h
  exact sAr.V rfl q1294 q1295 q1296 (Or.inl ⟨_, _, _, q1297⟩) ⟨by decide, by decide⟩ rfl
theorem sc_240 : sCOk 240 := by
  rintro _ _ _ ⟨⟩ _ _ _ ⟨⟩
  refine ⟨fun h => (by cases h), fun _ ci z h => ?_⟩
  have h := mlk_mem h
  rw [List.mem_singleton] at h
  cases h
  exact sAr.V rfl q1867 q1868 q1869 (Or.inl ⟨_, _, _, q1870⟩) ⟨by decide, by decide⟩ rfl
theorem sc_241 : sCOk 241 := by
  rintro _ _ _ ⟨⟩ _ _ _ ⟨⟩
  refine ⟨fun h => (by cases h), fun _ ci z h => ?_⟩
  have h := mlk_mem h
  rw [List.mem_singleton] at h
  cases h
  exact sAr.V rfl q1298 q1299 q1300 (Or.inl ⟨_, _, _, q1301⟩) ⟨by decide, by decide⟩ rfl
theorem sc_242 : sCOk 242 := by
  rintro _ _ _ ⟨⟩ _ _ _ ⟨⟩
  refine ⟨fun h => (by cases h), fun _ ci z h => ?_⟩
  have h := mlk_mem h
  rw [List.mem_singleton] at h
  cases h
  exact sAr.V rfl q1871 q1872 q1873 (Or.inl ⟨_, _, _, q1874⟩) ⟨by decide, by decide⟩ rfl
theorem sc_243 : sCOk 243 := by
  rintro _ _ _ ⟨⟩ _ _ _ ⟨⟩
  refine ⟨fun h => (by cases h), fun _ ci z h => ?_⟩
  have h := mlk_mem h
  rw [List.mem_singleton] at h
  cases h
  exact sAr.V rfl q1302 q1303 q1304 (Or.inl ⟨_, _, _, q1305⟩) ⟨by decide, by decide⟩ rfl
theorem sc_244 : sCOk 244 := by
  rintro _ _ _ ⟨⟩ _ _ _ ⟨⟩
  refine ⟨fun h => (by cases h), fun _ ci z h => ?_⟩
  have h := mlk_mem h
  rw [List.mem_singleton] at h
  cases h
  exact sAr.V rfl q1875 q1876 q1877 (Or.inl ⟨_, _, _, q1878⟩) ⟨by decide, by decide⟩ rfl
theorem sc_245 : sCOk 245 := by
  rintro _ _ _ ⟨⟩ _ _ _ ⟨⟩
  refine ⟨fun h => (by cases h), fun _ ci z h => ?_⟩
  have h := mlk_mem h
  rw [List.mem_singleton] at h
  cases h
  exact sAr.V rfl q1306 q1307 q1308 (Or.inl ⟨_, _, _, q1309⟩) ⟨by decide, by decide⟩ rfl
theorem sc_246 : sCOk 246 := by
  rintro _ _ _ ⟨⟩ _ _ _ ⟨⟩
  refine ⟨fun h => (by cases h), fun _ ci z h => ?_⟩
  have h := mlk_mem h
  rw [List.mem_singleton] at h
  cases h
  exact sAr.V rfl q1879 q1880 q1881 (Or.inl ⟨_, _, _, q1882⟩) ⟨by decide, by decide⟩ rfl
theorem sc_247 : sCOk 247 := by
  rintro _ _ _ ⟨⟩ _ _ _ ⟨⟩
  refine ⟨fun h => (by cases h), fun _ ci z h => ?_⟩
  have h := mlk_mem h
  rw [List.mem_singleton] at h
  cases h
  exact sAr.V rfl q1310 q1311 q1312 (Or.inl ⟨_, _, _, q1313⟩) ⟨by decide, by decide⟩ rfl
theorem sc_248 : sCOk 248 := by
  rintro _ _ _ ⟨⟩ _ _ _ ⟨⟩
  refine ⟨fun h => (by cases h), fun _ ci z h => ?_⟩
  have h := mlk_mem h
  rw [List.mem_singleton] at h
  cases h
  exact sAr.V rfl q1885 q1886 q1887 (Or.inl ⟨_, _, _, q1888⟩) ⟨by decide, by decide⟩ rfl
theorem sc_249 : sCOk 249 := by
  rintro _ _ _ ⟨⟩ _ _ _ ⟨⟩
  refine ⟨fun h => (by cases h), fun _ ci z h => ?_⟩
  have h := mlk_mem h
  rw [List.mem_singleton] at h
  cases h
  exact sAr.V rfl q1314 q1315 q1316 (Or.inl ⟨_, _, _, q1317⟩) ⟨by decide, by decide⟩ rfl
theorem sc_250 : sCOk 250 := by
  rintro _ _ _ ⟨⟩ _ _ _ ⟨⟩
  refine ⟨fun h => (by cases h), fun _ ci z h => ?_⟩
  have h := mlk_mem h
  rw [List.mem_singleton] at h
  cases h
  exact sAr.V rfl q1889 q1890 q1891 (Or.inl ⟨_, _, _, q1892⟩) ⟨by decide, by decide⟩ rfl
theorem sc_251 : sCOk 251 := by
  rintro _ _ _ ⟨⟩ _ _ _ ⟨⟩
  refine ⟨fun h => (by cases h), fun _ ci z h => ?_⟩
  have h := mlk_mem h
  rw [List.mem_singleton] at h
  cases h
  exact sAr.V rfl q1318 q1319 q1320 (Or.inl ⟨_, _, _, q1321⟩) ⟨by decide, by decide⟩ rfl
theorem sc_252 : sCOk 252 := by
  rintro _ _ _ ⟨⟩ _ _ _ ⟨⟩
  refine ⟨fun h => (by cases h), fun _ ci z h => ?_⟩
  have h := mlk_mem h
  rw [List.mem_singleton] at h
  cases h
  exact sAr.V rfl q1893 q1894 q1895 (Or.inl ⟨_, _, _, q1896⟩) ⟨by decide, by decide⟩ rfl
theorem sc_253 : sCOk 253 := by
  rintro _ _ _ ⟨⟩ _ _ _ ⟨⟩
  refine ⟨fun h => (by cases h), fun _ ci z h => ?_⟩
  have h := mlk_mem h
  rw [List.mem_singleton] at h
  cases h
  exact sAr.V rfl q1322 q1323 q1324 (Or.inl ⟨_, _, _, q1325⟩) ⟨by decide, by decide⟩ rfl
theorem sc_254 : sCOk 254 := by
  rintro _ _ _ ⟨⟩ _ _ _ ⟨⟩
  refine ⟨fun h => (by cases h), fun _ ci z h => ?_⟩
  have h := mlk_mem h
  rw [List.mem_singleton] at h
  cases h
  exact sAr.V rfl q1897 q1898 q1899 (Or.inl ⟨_, _, _, q1900⟩) ⟨by decide, by decide⟩ rfl
theorem sc_255 : sCOk 255 := by
  rintro _ _ _ ⟨⟩ _ _ _ ⟨⟩
  refine ⟨fun h => (by cases h), fun _ ci z h => ?_⟩
  have h := mlk_mem h
  rw [List.mem_singleton] at h
  cases h
  exact sAr.V rfl q1326 q1327 q1328 (Or.inl ⟨_, _, _, q1329⟩) ⟨by decide, by decide⟩ rfl
theorem sc_256 : sCOk 256 := by
  rintro _ _ _ ⟨⟩ _ _ _ ⟨⟩
  refine ⟨fun h => (by cases h), fun _ ci z h => ?_⟩
  have h := mlk_mem h
  rw [List.mem_singleton] at h
  cases h
  exact sAr.V rfl q1901 q1902 q1903 (Or.inl ⟨_, _, _, q1904⟩) ⟨by decide, by decide⟩ rfl
theorem sc_all : ∀ c, c < 257 → sCOk c := lt_s (lt_s (lt_s (lt_s (lt_s (lt_s (lt_s (lt_s (lt_s (lt_s (lt_s (lt_s (lt_s (lt_s (lt_s (lt_s (lt_s (lt_s (lt_s (lt_s (lt_s (lt_s (lt_s (lt_s (lt_s (lt_s (lt_s (lt_s (lt_s (lt_s (lt_s (lt_s (lt_s (lt_s (lt_s (lt_s (lt_s (lt_s (lt_s (lt_s (lt_s (lt_s (lt_s (lt_s (lt_s (lt_s (lt_s (lt_s (lt_s (lt_s (lt_s (lt_s (lt_s (lt_s (lt_s (lt_s (lt_s (lt_s (lt_s (lt_s (lt_s (lt_s (lt_s (lt_s (lt_s (lt_s (lt_s (lt_s (lt_s (lt_s (lt_s (lt_s (lt_s (lt_s (lt_s (lt_s (lt_s (lt_s (lt_s (lt_s (lt_s (lt_s (lt_s (lt_s (lt_s (lt_s (lt_s (lt_s (lt_s (lt_s (lt_s (lt_s (lt_s (lt_s (lt_s (lt_s (lt_s (lt_s (lt_s (lt_s (lt_s (lt_s (lt_s (lt_s (lt_s (lt_s (lt_s (lt_s (lt_s (lt_s (lt_s (lt_s (lt_s (lt_s (lt_s (lt_s (lt_s (lt_s (lt_s (lt_s (lt_s (lt_s (lt_s (lt_s (lt_s (lt_s (lt_s (lt_s (lt_s (lt_s (lt_s (lt_s (lt_s (lt_s (lt_s (lt_s (lt_s (lt_s (lt_s (lt_s (lt_s (lt_s (lt_s (lt_s (lt_s (lt_s (lt_s (lt_s (lt_s (lt_s (lt_s (lt_s (lt_s (lt_s (lt_s (lt_s (lt_s (lt_s (lt_s (lt_s (lt_s (lt_s (lt_s (lt_s (lt_s (lt_s (lt_s (lt_s (lt_s (lt_s (lt_s (lt_s (lt_s (lt_s (lt_s (lt_s (lt_s (lt_s (lt_s (lt_s (lt_s (lt_s (lt_s (lt_s (lt_s (lt_s (lt_s (lt_s (lt_s (lt_s (lt_s (lt_s (lt_s (lt_s (lt_s (lt_s (lt_s (lt_s (lt_s (lt_s (lt_s (lt_s (lt_s (lt_s (lt_s (lt_s (lt_s (lt_s (lt_s (lt_s (lt_s (lt_s (lt_s (lt_s (lt_s (lt_s (lt_s (lt_s (lt_s (lt_s (lt_s (lt_s (lt_s (lt_s (lt_s (lt_s (lt_s (lt_s (lt_s (lt_s (lt_s (lt_s (lt_s (lt_s (lt_s (lt_s (lt_s (lt_s (lt_s (lt_s (lt_s (lt_s (lt_s (lt_s (lt_s (lt_s (lt_s (lt_s (lt_s (lt_s (lt_s (lt_s (lt_s (lt_s (lt_s (lt_s (lt_s (lt_0) sc_0) sc_1) sc_2) sc_3) sc_4) sc_5) sc_6) sc_7) sc_8) sc_9) sc_10) sc_11) sc_12) sc_13) sc_14) sc_15) sc_16) sc_17) sc_18) sc_19) sc_20) sc_21) sc_22) sc_23) sc_24) sc_25) sc_26) sc_27) sc_28) sc_29) sc_30) sc_31) sc_32) sc_33) sc_34) sc_35) sc_36) sc_37) sc_38) sc_39) sc_40) sc_41) sc_42) sc_43) sc_44) sc_45) sc_46) sc_47) sc_48) sc_49) sc_50) sc_51) sc_52) sc_53) sc_54) sc_55) sc_56) sc_57) sc_58) sc_59) sc_60) sc_61) sc_62) sc_63) sc_64) sc_65) sc_66) sc_67) sc_68) sc_69) sc_70) sc_71) sc_72) sc_73) sc_74) sc_75) sc_76) sc_77) sc_78) sc_79) sc_80) sc_81) sc_82) sc_83) sc_84) sc_85) sc_86) sc_87) sc_88) sc_89) sc_90) sc_91) sc_92) sc_93) sc_94) sc_95) sc_96) sc_97) sc_98) sc_99) sc_100) sc_101) sc_102) sc_103) sc_104) sc_105) sc_106) sc_107) sc_108) sc_109) sc_110) sc_111) sc_112) sc_113) sc_114) sc_115) sc_116) sc_117) sc_118) sc_119) sc_120) sc_121) sc_122) sc_123) sc_124) sc_125) sc_126) sc_127) sc_128) sc_129) sc_130) sc_131) sc_132) sc_133) sc_134) sc_135) sc_136) sc_137) sc_138) sc_139) sc_140) sc_141) sc_142) sc_143) sc_144) sc_145) sc_146) sc_147) sc_148) sc_149) sc_150) sc_151) sc_152) sc_153) sc_154) sc_155) sc_156) sc_157) sc_158) sc_159) sc_160) sc_161) sc_162) sc_163) sc_164) sc_165) sc_166) sc_167) sc_168) sc_169) sc_170) sc_171) sc_172) sc_173) sc_174) sc_175) sc_176) sc_177) sc_178) sc_179) sc_180) sc_181) sc_182) sc_183) sc_184) sc_185) sc_186) sc_187) sc_188) sc_189) sc_190) sc_191) sc_192) sc_193) sc_194) sc_195) sc_196) sc_197) sc_198) sc_199) sc_200) sc_201) sc_202) sc_203) sc_204) sc_205) sc_206) sc_207) sc_208) sc_209) sc_210) sc_211) sc_212) sc_213) sc_214) sc_215) sc_216) sc_217) sc_218) sc_219) sc_220) sc_221) sc_222) sc_223) sc_224) sc_225) sc_226) sc_227) sc_228) sc_229) sc_230) sc_231) sc_232) sc_233) sc_234) sc_235) sc_236) sc_237) sc_238) sc_239) sc_240) sc_241) sc_242) sc_243) sc_244) sc_245) sc_246) sc_247) sc_248) sc_249) sc_250) sc_251) sc_252) sc_253) sc_254) sc_255) sc_256
def skI : List (Nat × List (Nat × String × Nat)) := [(12, [(0, "RiverGauge", 105), (1, "RiverGauge", 472), (2, "RiverGauge", 17), (3, "RiverGauge", 478), (4, "RiverGauge", 486), (5, "RiverGauge", 506), (6, "RiverGauge", 508), (7, "RiverGauge", 513), (8, "RiverGauge", 312), (9, "RiverGauge", 344), (10, "RiverGauge", 375), (11, "RiverGauge", 377)]),
  (24, [(12, "RiverGauge", 533), (13, "RiverGauge", 408), (14, "RiverGauge", 437), (15, "RiverGauge", 557), (16, "RiverGauge", 559), (17, "RiverGaugeModel", 189), (18, "RiverGaugeModel", 241), (19, "RiverGaugeModel", 310), (20, "RiverGaugeModel", 312), (21, "RiverGaugeModel", 259), (22, "RiverGaugeModel", 269), (23, "RiverGaugeModel", 344)]),
  (36, [(24, "RiverGaugeModel", 346), (25, "RiverGaugeModel", 370), (26, "RiverGaugeModel", 418), (27, "RiverGaugeModel", 420), (28, "RiverGauge$Strikable", 9), (29, "RiverGauge$Reader", 80), (30, "RiverGauge$Reader", 91), (31, "RiverGauge$Reader", 93), (32, "RiverGauge$Joined", 26), (33, "RiverGauge$Joined", 28), (34, "RiverGauge$Line", 27), (35, "RiverGaugeLaw", 61)])]
def sKOk (k : Nat) : Prop := ∀ own idx, mlk2 skI k = some (own, idx) → match mkT k with
  | .int v => Jvm.Cond.constant own idx v ∈ lw_all
  | .long v => Jvm.Cond.constantLong own idx v ∈ lw_all
  | .ref 1 => Jvm.Cond.stringRef own idx "dmrkabghnfwxi" ∈ lw_tbl
  | _ => False
theorem sk_0 : sKOk 0 := by rintro _ _ ⟨⟩; exact q148
theorem sk_1 : sKOk 1 := by rintro _ _ ⟨⟩; exact q578
theorem sk_2 : sKOk 2 := by rintro _ _ ⟨⟩; exact q493
theorem sk_3 : sKOk 3 := by rintro _ _ ⟨⟩; exact q885
theorem sk_4 : sKOk 4 := by rintro _ _ ⟨⟩; exact q619
theorem sk_5 : sKOk 5 := by rintro _ _ ⟨⟩; exact q999
theorem sk_6 : sKOk 6 := by rintro _ _ ⟨⟩; exact q1000
theorem sk_7 : sKOk 7 := by rintro _ _ ⟨⟩; exact q1063
theorem sk_8 : sKOk 8 := by rintro _ _ ⟨⟩; exact q1016
theorem sk_9 : sKOk 9 := by rintro _ _ ⟨⟩; exact q1099
theorem sk_10 : sKOk 10 := by rintro _ _ ⟨⟩; exact q1108
theorem sk_11 : sKOk 11 := by rintro _ _ ⟨⟩; exact q1109
theorem sk_12 : sKOk 12 := by rintro _ _ ⟨⟩; exact q1146
theorem sk_13 : sKOk 13 := by rintro _ _ ⟨⟩; exact q1162
theorem sk_14 : sKOk 14 := by rintro _ _ ⟨⟩; exact q1197
theorem sk_15 : sKOk 15 := by rintro _ _ ⟨⟩; exact q1330
theorem sk_16 : sKOk 16 := by rintro _ _ ⟨⟩; exact q1331
theorem sk_17 : sKOk 17 := by rintro _ _ ⟨⟩; exact q1637
theorem sk_18 : sKOk 18 := by rintro _ _ ⟨⟩; exact q1674
theorem sk_19 : sKOk 19 := by rintro _ _ ⟨⟩; exact q1682
theorem sk_20 : sKOk 20 := by rintro _ _ ⟨⟩; exact q1683
theorem sk_21 : sKOk 21 := by rintro _ _ ⟨⟩; exact q1700
theorem sk_22 : sKOk 22 := by rintro _ _ ⟨⟩; exact q1717
theorem sk_23 : sKOk 23 := by rintro _ _ ⟨⟩; exact q1789
theorem sk_24 : sKOk 24 := by rintro _ _ ⟨⟩; exact q1790
theorem sk_25 : sKOk 25 := by rintro _ _ ⟨⟩; exact q1807
theorem sk_26 : sKOk 26 := by rintro _ _ ⟨⟩; exact q1866
theorem sk_27 : sKOk 27 := by rintro _ _ ⟨⟩; exact q1883
theorem sk_28 : sKOk 28 := by rintro _ _ ⟨⟩; exact q467
theorem sk_29 : sKOk 29 := by rintro _ _ ⟨⟩; exact q712
theorem sk_30 : sKOk 30 := by rintro _ _ ⟨⟩; exact q803
theorem sk_31 : sKOk 31 := by rintro _ _ ⟨⟩; exact q804
theorem sk_32 : sKOk 32 := by rintro _ _ ⟨⟩; exact q555
theorem sk_33 : sKOk 33 := by rintro _ _ ⟨⟩; exact q556
theorem sk_34 : sKOk 34 := by rintro _ _ ⟨⟩; exact q973
theorem sk_35 : sKOk 35 := by rintro _ _ ⟨⟩; exact q1905
theorem sk_all : ∀ c, c < 36 → sKOk c := lt_s (lt_s (lt_s (lt_s (lt_s (lt_s (lt_s (lt_s (lt_s (lt_s (lt_s (lt_s (lt_s (lt_s (lt_s (lt_s (lt_s (lt_s (lt_s (lt_s (lt_s (lt_s (lt_s (lt_s (lt_s (lt_s (lt_s (lt_s (lt_s (lt_s (lt_s (lt_s (lt_s (lt_s (lt_s (lt_s (lt_0) sk_0) sk_1) sk_2) sk_3) sk_4) sk_5) sk_6) sk_7) sk_8) sk_9) sk_10) sk_11) sk_12) sk_13) sk_14) sk_15) sk_16) sk_17) sk_18) sk_19) sk_20) sk_21) sk_22) sk_23) sk_24) sk_25) sk_26) sk_27) sk_28) sk_29) sk_30) sk_31) sk_32) sk_33) sk_34) sk_35
def snI : List (String × Nat × Nat) := [("RiverGauge", 32, 3), ("RiverGauge", 1, 2), ("RiverGauge", 38, 4), ("RiverGauge", 44, 5), ("RiverGauge", 56, 16), ("RiverGauge", 50, 6), ("RiverGauge", 491, 7), ("RiverGauge", 255, 15), ("RiverGauge", 320, 17), ("RiverGauge", 73, 18), ("RiverGauge$Reader", 46, 14), ("RiverGauge$Reader", 60, 9), ("RiverGauge$Reader", 69, 13), ("RiverGauge$Reader", 22, 8), ("RiverGauge$Reader", 77, 12), ("RiverGauge$Reader", 88, 10), ("RiverGauge$Reader", 99, 11), ("RiverGaugeLaw", 7, 0), ("RiverGaugeLaw", 10, 1)]
theorem sn_ok : ∀ r ∈ snI, r.2.2 < 19 ∧ Jvm.Cond.classLink r.1 r.2.1 (mcnm r.2.2) ∈ lw_all := List.forall_mem_cons.mpr ⟨⟨by decide, q134⟩, List.forall_mem_cons.mpr ⟨⟨by decide, q327⟩, List.forall_mem_cons.mpr ⟨⟨by decide, q136⟩, List.forall_mem_cons.mpr ⟨⟨by decide, q138⟩, List.forall_mem_cons.mpr ⟨⟨by decide, q142⟩, List.forall_mem_cons.mpr ⟨⟨by decide, q140⟩, List.forall_mem_cons.mpr ⟨⟨by decide, q621⟩, List.forall_mem_cons.mpr ⟨⟨by decide, q900⟩, List.forall_mem_cons.mpr ⟨⟨by decide, q1023⟩, List.forall_mem_cons.mpr ⟨⟨by decide, q146⟩, List.forall_mem_cons.mpr ⟨⟨by decide, q848⟩, List.forall_mem_cons.mpr ⟨⟨by decide, q684⟩, List.forall_mem_cons.mpr ⟨⟨by decide, q832⟩, List.forall_mem_cons.mpr ⟨⟨by decide, q668⟩, List.forall_mem_cons.mpr ⟨⟨by decide, q816⟩, List.forall_mem_cons.mpr ⟨⟨by decide, q790⟩, List.forall_mem_cons.mpr ⟨⟨by decide, q806⟩, List.forall_mem_cons.mpr ⟨⟨by decide, q126⟩, List.forall_mem_cons.mpr ⟨⟨by decide, q1332⟩, fun _ h => absurd h List.not_mem_nil⟩⟩⟩⟩⟩⟩⟩⟩⟩⟩⟩⟩⟩⟩⟩⟩⟩⟩⟩
def saI : List (String × Nat × Nat) := [("RiverGauge", 32, 3), ("RiverGauge", 38, 4), ("RiverGauge", 44, 5), ("RiverGauge", 50, 6), ("RiverGauge", 56, 16), ("RiverGauge", 73, 18)]
theorem sa_ok : ∀ r ∈ saI, Jvm.Cond.classLink r.1 r.2.1 (mcnm r.2.2) ∈ lw_all ∧ Jvm.Cond.arrayOver (.object (mcnm r.2.2)) ∈ lw_tbl ∧ FieldType.object (mcnm r.2.2) ∈ sTys := List.forall_mem_cons.mpr ⟨⟨q134, q135, by decide +kernel⟩, List.forall_mem_cons.mpr ⟨⟨q136, q137, by decide +kernel⟩, List.forall_mem_cons.mpr ⟨⟨q138, q139, by decide +kernel⟩, List.forall_mem_cons.mpr ⟨⟨q140, q141, by decide +kernel⟩, List.forall_mem_cons.mpr ⟨⟨q142, q143, by decide +kernel⟩, List.forall_mem_cons.mpr ⟨⟨q146, q147, by decide +kernel⟩, fun _ h => absurd h List.not_mem_nil⟩⟩⟩⟩⟩⟩
