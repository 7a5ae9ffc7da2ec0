/-! the constructors: fields that are set, constants, rows of arrays (printed by mkcon.py) -/
def kf_hp : List (Nat × Nat) := [(12, 0), (17, 1), (21, 2), (24, 3), (27, 4), (31, 5), (35, 6)]
theorem KF_hp : gall (kFo "GraftTrees$Heap" 10) kf_hp := ⟨⟨TX2, 15, by decide, by decide, rfl, by decide, rfl, q267⟩,
  ⟨TX2, 15, by decide, by decide, rfl, by decide, rfl, q272⟩,
  ⟨TX2, 15, by decide, by decide, rfl, by decide, rfl, q277⟩,
  ⟨TX2, 15, by decide, by decide, rfl, by decide, rfl, q282⟩,
  ⟨TX2, 15, by decide, by decide, rfl, by decide, rfl, q284⟩,
  ⟨TX2, 15, by decide, by decide, rfl, by decide, rfl, q286⟩,
  ⟨TX2, 15, by decide, by decide, rfl, by decide, rfl, q287⟩,
  trivial⟩
def kc_hp : List (Nat × Int) := [(11, 124600), (16, 108000), (30, 33000), (34, 132000)]
theorem KC_hp : gall (kCo "GraftTrees$Heap") kc_hp := ⟨q263, q264, q265, q266, trivial⟩
def gs_hp0 : List kG := [(.ldc 11, 2, 124600, 2, 12), (.ldc 16, 2, 108000, 1, 17), (.ldc 16, 2, 108000, 1, 21), (.ldc 16, 2, 108000, 1, 24), (.ldc 16, 2, 108000, 1, 27), (.ldc 30, 2, 33000, 1, 31), (.ldc 34, 2, 132000, 4, 35)]
def kf_fr : List (Nat × Nat) := [(11, 1), (15, 2), (18, 3), (21, 4), (24, 5), (27, 6), (30, 7), (33, 8), (36, 9), (40, 10), (44, 11), (48, 13), (51, 14), (54, 15), (57, 17), (60, 18), (63, 20), (66, 21), (69, 22), (72, 23), (75, 24), (78, 25), (81, 26), (84, 27), (87, 28), (90, 29), (93, 30), (99, 38), (117, 39), (121, 40), (124, 41), (128, 0)]
theorem KF_fr : gall (kFo "GraftTrees$Forest" 11) kf_fr := ⟨⟨TX3, 42, by decide, by decide, rfl, by decide, rfl, q466⟩,
  ⟨TX3, 42, by decide, by decide, rfl, by decide, rfl, q470⟩,
  ⟨TX3, 42, by decide, by decide, rfl, by decide, rfl, q472⟩,
  ⟨TX3, 42, by decide, by decide, rfl, by decide, rfl, q476⟩,
  ⟨TX3, 42, by decide, by decide, rfl, by decide, rfl, q479⟩,
  ⟨TX3, 42, by decide, by decide, rfl, by decide, rfl, q482⟩,
  ⟨TX3, 42, by decide, by decide, rfl, by decide, rfl, q484⟩,
  ⟨TX3, 42, by decide, by decide, rfl, by decide, rfl, q486⟩,
  ⟨TX3, 42, by decide, by decide, rfl, by decide, rfl, q489⟩,
  ⟨TX3, 42, by decide, by decide, rfl, by decide, rfl, q491⟩,
  ⟨TX3, 42, by decide, by decide, rfl, by decide, rfl, q495⟩,
  ⟨TX3, 42, by decide, by decide, rfl, by decide, rfl, q500⟩,
  ⟨TX3, 42, by decide, by decide, rfl, by decide, rfl, q503⟩,
  ⟨TX3, 42, by decide, by decide, rfl, by decide, rfl, q506⟩,
  ⟨TX3, 42, by decide, by decide, rfl, by decide, rfl, q510⟩,
  ⟨TX3, 42, by decide, by decide, rfl, by decide, rfl, q513⟩,
  ⟨TX3, 42, by decide, by decide, rfl, by decide, rfl, q517⟩,
  ⟨TX3, 42, by decide, by decide, rfl, by decide, rfl, q521⟩,
  ⟨TX3, 42, by decide, by decide, rfl, by decide, rfl, q525⟩,
  ⟨TX3, 42, by decide, by decide, rfl, by decide, rfl, q528⟩,
  ⟨TX3, 42, by decide, by decide, rfl, by decide, rfl, q531⟩,
  ⟨TX3, 42, by decide, by decide, rfl, by decide, rfl, q533⟩,
  ⟨TX3, 42, by decide, by decide, rfl, by decide, rfl, q535⟩,
  ⟨TX3, 42, by decide, by decide, rfl, by decide, rfl, q538⟩,
  ⟨TX3, 42, by decide, by decide, rfl, by decide, rfl, q541⟩,
  ⟨TX3, 42, by decide, by decide, rfl, by decide, rfl, q544⟩,
  ⟨TX3, 42, by decide, by decide, rfl, by decide, rfl, q548⟩,
  ⟨TX3, 42, by decide, by decide, rfl, by decide, rfl, q559⟩,
  ⟨TX3, 42, by decide, by decide, rfl, by decide, rfl, q560⟩,
  ⟨TX3, 42, by decide, by decide, rfl, by decide, rfl, q561⟩,
  ⟨TX3, 42, by decide, by decide, rfl, by decide, rfl, q563⟩,
  ⟨TX3, 42, by decide, by decide, rfl, by decide, rfl, q465⟩,
  trivial⟩
def kc_fr : List (Nat × Int) := [(43, 144000), (47, 164000)]
theorem KC_fr : gall (kCo "GraftTrees$Forest") kc_fr := ⟨q337, q338, trivial⟩
def gs_fr0 : List kG := [(.sipush 16000, 3, 16000, 1, 11), (.sipush 16000, 3, 16000, 1, 15), (.sipush 16000, 3, 16000, 1, 18), (.sipush 16000, 3, 16000, 1, 21), (.sipush 16000, 3, 16000, 1, 24), (.sipush 16000, 3, 16000, 1, 27), (.sipush 16000, 3, 16000, 1, 30), (.sipush 16000, 3, 16000, 1, 33), (.sipush 16000, 3, 16000, 4, 36), (.sipush 16000, 3, 16000, 1, 40), (.ldc 43, 2, 144000, 1, 44), (.ldc 47, 2, 164000, 1, 48), (.ldc 47, 2, 164000, 1, 51), (.ldc 47, 2, 164000, 1, 54), (.sipush 9000, 3, 9000, 1, 57), (.sipush 9000, 3, 9000, 1, 60), (.bipush 60, 2, 60, 1, 63), (.bipush 60, 2, 60, 1, 66), (.bipush 60, 2, 60, 1, 69), (.bipush 60, 2, 60, 1, 72), (.bipush 60, 2, 60, 1, 75), (.bipush 60, 2, 60, 1, 78), (.bipush 60, 2, 60, 1, 81), (.bipush 60, 2, 60, 1, 84), (.bipush 60, 2, 60, 1, 87), (.bipush 60, 2, 60, 1, 90), (.sipush 720, 3, 720, 1, 93)]
def gs_fr1 : List kG := [(.bipush 7, 2, 7, 1, 121), (.bipush 12, 2, 12, 2, 124)]
def kf_wl : List (Nat × Nat) := [(7, 1), (13, 2)]
theorem KF_wl : gall (kFo "GraftTrees$Whole" 12) kf_wl := ⟨⟨TX4, 4, by decide, by decide, rfl, by decide, rfl, q348⟩,
  ⟨TX4, 4, by decide, by decide, rfl, by decide, rfl, q350⟩,
  trivial⟩
def kc_wl : List (Nat × Int) := []
theorem KC_wl : gall (kCo "GraftTrees$Whole") kc_wl := trivial
def gs_wl0 : List kG := [(.iconst 4, 1, 4, 4, 7), (.bipush 8, 2, 8, 4, 13)]
def kf_sp : List (Nat × Nat) := [(9, 1), (15, 2), (18, 3), (21, 4), (24, 5), (28, 7), (32, 8), (35, 9), (38, 12), (41, 0)]
theorem KF_sp : gall (kFo "GraftTrees$Shapes" 13) kf_sp := ⟨⟨TX5, 13, by decide, by decide, rfl, by decide, rfl, q661⟩,
  ⟨TX5, 13, by decide, by decide, rfl, by decide, rfl, q663⟩,
  ⟨TX5, 13, by decide, by decide, rfl, by decide, rfl, q665⟩,
  ⟨TX5, 13, by decide, by decide, rfl, by decide, rfl, q667⟩,
  ⟨TX5, 13, by decide, by decide, rfl, by decide, rfl, q670⟩,
  ⟨TX5, 13, by decide, by decide, rfl, by decide, rfl, q675⟩,
  ⟨TX5, 13, by decide, by decide, rfl, by decide, rfl, q677⟩,
  ⟨TX5, 13, by decide, by decide, rfl, by decide, rfl, q679⟩,
  ⟨TX5, 13, by decide, by decide, rfl, by decide, rfl, q683⟩,
  ⟨TX5, 13, by decide, by decide, rfl, by decide, rfl, q660⟩,
  trivial⟩
def kc_sp : List (Nat × Int) := [(27, 40000)]
theorem KC_sp : gall (kCo "GraftTrees$Shapes") kc_sp := ⟨q655, trivial⟩
def gs_sp0 : List kG := [(.sipush 200, 3, 200, 1, 9), (.sipush 200, 3, 200, 1, 15), (.sipush 200, 3, 200, 1, 18), (.sipush 200, 3, 200, 1, 21), (.sipush 200, 3, 200, 1, 24), (.ldc 27, 2, 40000, 2, 28), (.sipush 200, 3, 200, 1, 32), (.sipush 200, 3, 200, 1, 35), (.bipush 12, 2, 12, 1, 38)]
def kf_cd : List (Nat × Nat) := [(9, 1), (15, 2), (18, 3), (21, 4), (24, 5), (27, 6), (30, 7), (33, 8), (36, 9), (40, 13), (43, 14), (46, 15), (49, 16), (55, 17), (58, 18), (61, 0)]
theorem KF_cd : gall (kFo "GraftTrees$Codes" 14) kf_cd := ⟨⟨TX6, 20, by decide, by decide, rfl, by decide, rfl, q719⟩,
  ⟨TX6, 20, by decide, by decide, rfl, by decide, rfl, q721⟩,
  ⟨TX6, 20, by decide, by decide, rfl, by decide, rfl, q723⟩,
  ⟨TX6, 20, by decide, by decide, rfl, by decide, rfl, q725⟩,
  ⟨TX6, 20, by decide, by decide, rfl, by decide, rfl, q727⟩,
  ⟨TX6, 20, by decide, by decide, rfl, by decide, rfl, q729⟩,
  ⟨TX6, 20, by decide, by decide, rfl, by decide, rfl, q732⟩,
  ⟨TX6, 20, by decide, by decide, rfl, by decide, rfl, q735⟩,
  ⟨TX6, 20, by decide, by decide, rfl, by decide, rfl, q738⟩,
  ⟨TX6, 20, by decide, by decide, rfl, by decide, rfl, q745⟩,
  ⟨TX6, 20, by decide, by decide, rfl, by decide, rfl, q747⟩,
  ⟨TX6, 20, by decide, by decide, rfl, by decide, rfl, q748⟩,
  ⟨TX6, 20, by decide, by decide, rfl, by decide, rfl, q749⟩,
  ⟨TX6, 20, by decide, by decide, rfl, by decide, rfl, q750⟩,
  ⟨TX6, 20, by decide, by decide, rfl, by decide, rfl, q752⟩,
  ⟨TX6, 20, by decide, by decide, rfl, by decide, rfl, q718⟩,
  trivial⟩
def kc_cd : List (Nat × Int) := [(54, 100000)]
theorem KC_cd : gall (kCo "GraftTrees$Codes") kc_cd := ⟨q717, trivial⟩
def gs_cd0 : List kG := [(.bipush 100, 2, 100, 1, 9), (.bipush 100, 2, 100, 1, 15), (.bipush 100, 2, 100, 1, 18), (.bipush 100, 2, 100, 1, 21), (.bipush 100, 2, 100, 1, 24), (.bipush 100, 2, 100, 1, 27), (.bipush 100, 2, 100, 1, 30), (.bipush 100, 2, 100, 1, 33), (.bipush 100, 2, 100, 3, 36), (.sipush 16000, 3, 16000, 1, 40), (.sipush 16000, 3, 16000, 1, 43), (.sipush 16000, 3, 16000, 1, 46), (.sipush 16000, 3, 16000, 1, 49), (.ldc 54, 2, 100000, 1, 55), (.bipush 60, 2, 60, 1, 58)]
def kf_ps : List (Nat × Nat) := [(12, 0), (18, 1), (22, 2), (25, 3), (28, 4), (31, 5), (34, 6), (37, 7), (40, 8), (43, 9), (47, 11), (50, 12), (53, 13), (56, 14), (59, 15), (62, 16), (65, 17), (68, 18)]
theorem KF_ps : gall (kFo "GraftTrees$Parser" 15) kf_ps := ⟨⟨TX7, 23, by decide, by decide, rfl, by decide, rfl, q846⟩,
  ⟨TX7, 23, by decide, by decide, rfl, by decide, rfl, q848⟩,
  ⟨TX7, 23, by decide, by decide, rfl, by decide, rfl, q850⟩,
  ⟨TX7, 23, by decide, by decide, rfl, by decide, rfl, q852⟩,
  ⟨TX7, 23, by decide, by decide, rfl, by decide, rfl, q854⟩,
  ⟨TX7, 23, by decide, by decide, rfl, by decide, rfl, q856⟩,
  ⟨TX7, 23, by decide, by decide, rfl, by decide, rfl, q858⟩,
  ⟨TX7, 23, by decide, by decide, rfl, by decide, rfl, q860⟩,
  ⟨TX7, 23, by decide, by decide, rfl, by decide, rfl, q862⟩,
  ⟨TX7, 23, by decide, by decide, rfl, by decide, rfl, q864⟩,
  ⟨TX7, 23, by decide, by decide, rfl, by decide, rfl, q866⟩,
  ⟨TX7, 23, by decide, by decide, rfl, by decide, rfl, q868⟩,
  ⟨TX7, 23, by decide, by decide, rfl, by decide, rfl, q870⟩,
  ⟨TX7, 23, by decide, by decide, rfl, by decide, rfl, q872⟩,
  ⟨TX7, 23, by decide, by decide, rfl, by decide, rfl, q874⟩,
  ⟨TX7, 23, by decide, by decide, rfl, by decide, rfl, q876⟩,
  ⟨TX7, 23, by decide, by decide, rfl, by decide, rfl, q878⟩,
  ⟨TX7, 23, by decide, by decide, rfl, by decide, rfl, q879⟩,
  trivial⟩
def kc_ps : List (Nat × Int) := []
theorem KC_ps : gall (kCo "GraftTrees$Parser") kc_ps := trivial
def gs_ps0 : List kG := [(.sipush 4200, 3, 4200, 1, 18), (.sipush 4200, 3, 4200, 1, 22), (.sipush 4200, 3, 4200, 1, 25), (.sipush 4200, 3, 4200, 1, 28), (.sipush 4200, 3, 4200, 1, 31), (.sipush 4200, 3, 4200, 1, 34), (.sipush 4200, 3, 4200, 1, 37), (.sipush 4200, 3, 4200, 1, 40), (.sipush 4200, 3, 4200, 3, 43), (.bipush 50, 2, 50, 1, 47), (.bipush 50, 2, 50, 1, 50), (.bipush 50, 2, 50, 1, 53), (.bipush 50, 2, 50, 1, 56), (.bipush 50, 2, 50, 1, 59), (.bipush 50, 2, 50, 1, 62), (.sipush 600, 3, 600, 1, 65), (.sipush 600, 3, 600, 1, 68)]
def kf_tk : List (Nat × Nat) := []
theorem KF_tk : gall (kFo "GraftTrees$Tokens" 16) kf_tk := trivial
def kc_tk : List (Nat × Int) := []
theorem KC_tk : gall (kCo "GraftTrees$Tokens") kc_tk := trivial
def kf_mc : List (Nat × Nat) := [(11, 6), (15, 7), (19, 9), (22, 10), (25, 11), (28, 12), (31, 13), (34, 14), (37, 15), (41, 16), (44, 17), (47, 18), (50, 28), (53, 29), (56, 30), (59, 32), (63, 33), (69, 43), (73, 44), (76, 45), (79, 46), (82, 0), (86, 1), (90, 2), (94, 3), (98, 4)]
theorem KF_mc : gall (kFo "GraftTrees$Machine" 17) kf_mc := ⟨⟨TX9, 48, by decide, by decide, rfl, by decide, rfl, q953⟩,
  ⟨TX9, 48, by decide, by decide, rfl, by decide, rfl, q954⟩,
  ⟨TX9, 48, by decide, by decide, rfl, by decide, rfl, q956⟩,
  ⟨TX9, 48, by decide, by decide, rfl, by decide, rfl, q958⟩,
  ⟨TX9, 48, by decide, by decide, rfl, by decide, rfl, q959⟩,
  ⟨TX9, 48, by decide, by decide, rfl, by decide, rfl, q960⟩,
  ⟨TX9, 48, by decide, by decide, rfl, by decide, rfl, q962⟩,
  ⟨TX9, 48, by decide, by decide, rfl, by decide, rfl, q964⟩,
  ⟨TX9, 48, by decide, by decide, rfl, by decide, rfl, q965⟩,
  ⟨TX9, 48, by decide, by decide, rfl, by decide, rfl, q967⟩,
  ⟨TX9, 48, by decide, by decide, rfl, by decide, rfl, q968⟩,
  ⟨TX9, 48, by decide, by decide, rfl, by decide, rfl, q970⟩,
  ⟨TX9, 48, by decide, by decide, rfl, by decide, rfl, q987⟩,
  ⟨TX9, 48, by decide, by decide, rfl, by decide, rfl, q988⟩,
  ⟨TX9, 48, by decide, by decide, rfl, by decide, rfl, q989⟩,
  ⟨TX9, 48, by decide, by decide, rfl, by decide, rfl, q992⟩,
  ⟨TX9, 48, by decide, by decide, rfl, by decide, rfl, q994⟩,
  ⟨TX9, 48, by decide, by decide, rfl, by decide, rfl, q1014⟩,
  ⟨TX9, 48, by decide, by decide, rfl, by decide, rfl, q1015⟩,
  ⟨TX9, 48, by decide, by decide, rfl, by decide, rfl, q1016⟩,
  ⟨TX9, 48, by decide, by decide, rfl, by decide, rfl, q1017⟩,
  ⟨TX9, 48, by decide, by decide, rfl, by decide, rfl, q947⟩,
  ⟨TX9, 48, by decide, by decide, rfl, by decide, rfl, q948⟩,
  ⟨TX9, 48, by decide, by decide, rfl, by decide, rfl, q949⟩,
  ⟨TX9, 48, by decide, by decide, rfl, by decide, rfl, q950⟩,
  ⟨TX9, 48, by decide, by decide, rfl, by decide, rfl, q951⟩,
  trivial⟩
def kc_mc : List (Nat × Int) := []
theorem KC_mc : gall (kCo "GraftTrees$Machine") kc_mc := trivial
theorem KI_mc_5 : kFld "GraftTrees$Machine" 102 17 5 8 := ⟨TX9, 48, by decide, by decide, rfl, by decide, rfl, q952⟩
def gs_mc0 : List kG := [(.sipush 18240, 3, 18240, 1, 11), (.sipush 18240, 3, 18240, 4, 15), (.bipush 60, 2, 60, 1, 19), (.bipush 60, 2, 60, 1, 22), (.bipush 60, 2, 60, 1, 25), (.bipush 60, 2, 60, 1, 28), (.bipush 60, 2, 60, 1, 31), (.bipush 60, 2, 60, 1, 34), (.bipush 60, 2, 60, 3, 37), (.sipush 720, 3, 720, 1, 41), (.sipush 720, 3, 720, 1, 44), (.sipush 720, 3, 720, 4, 47), (.sipush 400, 3, 400, 1, 50), (.sipush 4800, 3, 4800, 1, 53), (.sipush 4800, 3, 4800, 4, 56), (.sipush 2000, 3, 2000, 2, 59), (.sipush 200, 3, 200, 2, 63)]
def kf_gt : List (Nat × Nat) := [(10, 0), (21, 1), (28, 2), (37, 3), (44, 4), (48, 6), (70, 5)]
theorem KF_gt : gall (kFo "GraftTrees" 18) kf_gt := ⟨⟨TX1, 10, by decide, by decide, rfl, by decide, rfl, q1125⟩,
  ⟨TX1, 10, by decide, by decide, rfl, by decide, rfl, q1126⟩,
  ⟨TX1, 10, by decide, by decide, rfl, by decide, rfl, q1127⟩,
  ⟨TX1, 10, by decide, by decide, rfl, by decide, rfl, q1128⟩,
  ⟨TX1, 10, by decide, by decide, rfl, by decide, rfl, q1129⟩,
  ⟨TX1, 10, by decide, by decide, rfl, by decide, rfl, q1131⟩,
  ⟨TX1, 10, by decide, by decide, rfl, by decide, rfl, q1130⟩,
  trivial⟩
def kc_gt : List (Nat × Int) := []
theorem KC_gt : gall (kCo "GraftTrees") kc_gt := trivial
theorem KI_gt_9 : kFld "GraftTrees" 52 18 9 0 := ⟨TX1, 10, by decide, by decide, rfl, by decide, rfl, q1134⟩
def gs_gt0 : List kG := [(.sipush 4000, 3, 4000, 2, 48)]
def kf_md : List (Nat × Nat) := [(10, 0), (17, 2), (22, 3), (26, 4), (29, 5), (32, 6), (35, 7), (38, 8), (42, 14), (45, 17), (48, 18), (51, 19), (54, 20), (57, 21), (61, 22), (64, 32), (67, 33), (70, 34), (73, 35), (76, 36), (79, 37), (82, 38), (85, 39), (88, 40), (91, 41), (94, 42), (98, 45), (101, 46), (104, 47), (107, 48), (110, 49), (113, 50), (116, 51), (119, 52), (122, 53), (125, 58), (128, 59), (131, 60), (134, 61), (137, 62), (140, 63), (143, 64), (146, 65), (149, 66), (152, 67), (155, 68), (158, 69), (161, 70), (164, 71), (167, 72), (170, 73), (173, 74), (176, 75), (179, 76), (182, 77), (185, 78), (188, 79), (191, 80), (194, 81), (197, 82), (200, 83), (203, 84), (207, 85), (210, 86), (213, 87), (216, 88), (219, 90), (222, 91), (225, 96), (228, 97), (231, 98), (234, 99), (237, 100), (240, 101), (243, 102), (246, 103), (249, 105), (252, 106), (255, 107), (258, 108), (261, 109), (264, 110), (267, 111), (270, 112), (273, 113), (276, 114), (279, 115), (282, 116), (292, 131), (295, 132), (298, 133), (301, 134), (304, 135), (307, 136), (310, 137), (313, 138), (316, 139), (319, 140), (323, 141), (326, 142), (329, 143), (332, 144), (335, 145), (338, 146), (341, 147), (344, 150), (347, 152)]
theorem KF_md : gall (kFo "GraftTreesModel" 20) kf_md := ⟨⟨TX10, 156, by decide, by decide, rfl, by decide, rfl, q2112⟩,
  ⟨TX10, 156, by decide, by decide, rfl, by decide, rfl, q2114⟩,
  ⟨TX10, 156, by decide, by decide, rfl, by decide, rfl, q2115⟩,
  ⟨TX10, 156, by decide, by decide, rfl, by decide, rfl, q2116⟩,
  ⟨TX10, 156, by decide, by decide, rfl, by decide, rfl, q2117⟩,
  ⟨TX10, 156, by decide, by decide, rfl, by decide, rfl, q2118⟩,
  ⟨TX10, 156, by decide, by decide, rfl, by decide, rfl, q2119⟩,
  ⟨TX10, 156, by decide, by decide, rfl, by decide, rfl, q2120⟩,
  ⟨TX10, 156, by decide, by decide, rfl, by decide, rfl, q2126⟩,
  ⟨TX10, 156, by decide, by decide, rfl, by decide, rfl, q2129⟩,
  ⟨TX10, 156, by decide, by decide, rfl, by decide, rfl, q2130⟩,
  ⟨TX10, 156, by decide, by decide, rfl, by decide, rfl, q2131⟩,
  ⟨TX10, 156, by decide, by decide, rfl, by decide, rfl, q2132⟩,
  ⟨TX10, 156, by decide, by decide, rfl, by decide, rfl, q2133⟩,
  ⟨TX10, 156, by decide, by decide, rfl, by decide, rfl, q2134⟩,
  ⟨TX10, 156, by decide, by decide, rfl, by decide, rfl, q2144⟩,
  ⟨TX10, 156, by decide, by decide, rfl, by decide, rfl, q2145⟩,
  ⟨TX10, 156, by decide, by decide, rfl, by decide, rfl, q2146⟩,
  ⟨TX10, 156, by decide, by decide, rfl, by decide, rfl, q2147⟩,
  ⟨TX10, 156, by decide, by decide, rfl, by decide, rfl, q2148⟩,
  ⟨TX10, 156, by decide, by decide, rfl, by decide, rfl, q2149⟩,
  ⟨TX10, 156, by decide, by decide, rfl, by decide, rfl, q2150⟩,
  ⟨TX10, 156, by decide, by decide, rfl, by decide, rfl, q2151⟩,
  ⟨TX10, 156, by decide, by decide, rfl, by decide, rfl, q2152⟩,
  ⟨TX10, 156, by decide, by decide, rfl, by decide, rfl, q2153⟩,
  ⟨TX10, 156, by decide, by decide, rfl, by decide, rfl, q2154⟩,
  ⟨TX10, 156, by decide, by decide, rfl, by decide, rfl, q2157⟩,
  ⟨TX10, 156, by decide, by decide, rfl, by decide, rfl, q2158⟩,
  ⟨TX10, 156, by decide, by decide, rfl, by decide, rfl, q2159⟩,
  ⟨TX10, 156, by decide, by decide, rfl, by decide, rfl, q2160⟩,
  ⟨TX10, 156, by decide, by decide, rfl, by decide, rfl, q2161⟩,
  ⟨TX10, 156, by decide, by decide, rfl, by decide, rfl, q2162⟩,
  ⟨TX10, 156, by decide, by decide, rfl, by decide, rfl, q2163⟩,
  ⟨TX10, 156, by decide, by decide, rfl, by decide, rfl, q2164⟩,
  ⟨TX10, 156, by decide, by decide, rfl, by decide, rfl, q2165⟩,
  ⟨TX10, 156, by decide, by decide, rfl, by decide, rfl, q2170⟩,
  ⟨TX10, 156, by decide, by decide, rfl, by decide, rfl, q2171⟩,
  ⟨TX10, 156, by decide, by decide, rfl, by decide, rfl, q2172⟩,
  ⟨TX10, 156, by decide, by decide, rfl, by decide, rfl, q2173⟩,
  ⟨TX10, 156, by decide, by decide, rfl, by decide, rfl, q2174⟩,
  ⟨TX10, 156, by decide, by decide, rfl, by decide, rfl, q2175⟩,
  ⟨TX10, 156, by decide, by decide, rfl, by decide, rfl, q2176⟩,
  ⟨TX10, 156, by decide, by decide, rfl, by decide, rfl, q2177⟩,
  ⟨TX10, 156, by decide, by decide, rfl, by decide, rfl, q2178⟩,
  ⟨TX10, 156, by decide, by decide, rfl, by decide, rfl, q2179⟩,
  ⟨TX10, 156, by decide, by decide, rfl, by decide, rfl, q2180⟩,
  ⟨TX10, 156, by decide, by decide, rfl, by decide, rfl, q2181⟩,
  ⟨TX10, 156, by decide, by decide, rfl, by decide, rfl, q2182⟩,
  ⟨TX10, 156, by decide, by decide, rfl, by decide, rfl, q2183⟩,
  ⟨TX10, 156, by decide, by decide, rfl, by decide, rfl, q2184⟩,
  ⟨TX10, 156, by decide, by decide, rfl, by decide, rfl, q2185⟩,
  ⟨TX10, 156, by decide, by decide, rfl, by decide, rfl, q2186⟩,
  ⟨TX10, 156, by decide, by decide, rfl, by decide, rfl, q2187⟩,
  ⟨TX10, 156, by decide, by decide, rfl, by decide, rfl, q2188⟩,
  ⟨TX10, 156, by decide, by decide, rfl, by decide, rfl, q2189⟩,
  ⟨TX10, 156, by decide, by decide, rfl, by decide, rfl, q2190⟩,
  ⟨TX10, 156, by decide, by decide, rfl, by decide, rfl, q2191⟩,
  ⟨TX10, 156, by decide, by decide, rfl, by decide, rfl, q2192⟩,
  ⟨TX10, 156, by decide, by decide, rfl, by decide, rfl, q2193⟩,
  ⟨TX10, 156, by decide, by decide, rfl, by decide, rfl, q2194⟩,
  ⟨TX10, 156, by decide, by decide, rfl, by decide, rfl, q2195⟩,
  ⟨TX10, 156, by decide, by decide, rfl, by decide, rfl, q2196⟩,
  ⟨TX10, 156, by decide, by decide, rfl, by decide, rfl, q2197⟩,
  ⟨TX10, 156, by decide, by decide, rfl, by decide, rfl, q2198⟩,
  ⟨TX10, 156, by decide, by decide, rfl, by decide, rfl, q2199⟩,
  ⟨TX10, 156, by decide, by decide, rfl, by decide, rfl, q2200⟩,
  ⟨TX10, 156, by decide, by decide, rfl, by decide, rfl, q2202⟩,
  ⟨TX10, 156, by decide, by decide, rfl, by decide, rfl, q2203⟩,
  ⟨TX10, 156, by decide, by decide, rfl, by decide, rfl, q2208⟩,
  ⟨TX10, 156, by decide, by decide, rfl, by decide, rfl, q2209⟩,
  ⟨TX10, 156, by decide, by decide, rfl, by decide, rfl, q2210⟩,
  ⟨TX10, 156, by decide, by decide, rfl, by decide, rfl, q2211⟩,
  ⟨TX10, 156, by decide, by decide, rfl, by decide, rfl, q2212⟩,
  ⟨TX10, 156, by decide, by decide, rfl, by decide, rfl, q2213⟩,
  ⟨TX10, 156, by decide, by decide, rfl, by decide, rfl, q2214⟩,
  ⟨TX10, 156, by decide, by decide, rfl, by decide, rfl, q2215⟩,
  ⟨TX10, 156, by decide, by decide, rfl, by decide, rfl, q2217⟩,
  ⟨TX10, 156, by decide, by decide, rfl, by decide, rfl, q2218⟩,
  ⟨TX10, 156, by decide, by decide, rfl, by decide, rfl, q2219⟩,
  ⟨TX10, 156, by decide, by decide, rfl, by decide, rfl, q2220⟩,
  ⟨TX10, 156, by decide, by decide, rfl, by decide, rfl, q2221⟩,
  ⟨TX10, 156, by decide, by decide, rfl, by decide, rfl, q2222⟩,
  ⟨TX10, 156, by decide, by decide, rfl, by decide, rfl, q2223⟩,
  ⟨TX10, 156, by decide, by decide, rfl, by decide, rfl, q2224⟩,
  ⟨TX10, 156, by decide, by decide, rfl, by decide, rfl, q2225⟩,
  ⟨TX10, 156, by decide, by decide, rfl, by decide, rfl, q2226⟩,
  ⟨TX10, 156, by decide, by decide, rfl, by decide, rfl, q2227⟩,
  ⟨TX10, 156, by decide, by decide, rfl, by decide, rfl, q2228⟩,
  ⟨TX10, 156, by decide, by decide, rfl, by decide, rfl, q2243⟩,
  ⟨TX10, 156, by decide, by decide, rfl, by decide, rfl, q2244⟩,
  ⟨TX10, 156, by decide, by decide, rfl, by decide, rfl, q2245⟩,
  ⟨TX10, 156, by decide, by decide, rfl, by decide, rfl, q2246⟩,
  ⟨TX10, 156, by decide, by decide, rfl, by decide, rfl, q2247⟩,
  ⟨TX10, 156, by decide, by decide, rfl, by decide, rfl, q2248⟩,
  ⟨TX10, 156, by decide, by decide, rfl, by decide, rfl, q2249⟩,
  ⟨TX10, 156, by decide, by decide, rfl, by decide, rfl, q2250⟩,
  ⟨TX10, 156, by decide, by decide, rfl, by decide, rfl, q2251⟩,
  ⟨TX10, 156, by decide, by decide, rfl, by decide, rfl, q2252⟩,
  ⟨TX10, 156, by decide, by decide, rfl, by decide, rfl, q2253⟩,
  ⟨TX10, 156, by decide, by decide, rfl, by decide, rfl, q2254⟩,
  ⟨TX10, 156, by decide, by decide, rfl, by decide, rfl, q2255⟩,
  ⟨TX10, 156, by decide, by decide, rfl, by decide, rfl, q2256⟩,
  ⟨TX10, 156, by decide, by decide, rfl, by decide, rfl, q2257⟩,
  ⟨TX10, 156, by decide, by decide, rfl, by decide, rfl, q2258⟩,
  ⟨TX10, 156, by decide, by decide, rfl, by decide, rfl, q2259⟩,
  ⟨TX10, 156, by decide, by decide, rfl, by decide, rfl, q2262⟩,
  ⟨TX10, 156, by decide, by decide, rfl, by decide, rfl, q2264⟩,
  trivial⟩
def kc_md : List (Nat × Int) := [(16, 160400), (21, 109004), (41, 135020), (206, 60000), (322, 42000)]
theorem KC_md : gall (kCo "GraftTreesModel") kc_md := ⟨q2054, q2055, q2056, q2057, q2058, trivial⟩
theorem KI_md_129 : kFld "GraftTreesModel" 285 20 129 0 := ⟨TX10, 156, by decide, by decide, rfl, by decide, rfl, q2241⟩
theorem KI_md_130 : kFld "GraftTreesModel" 289 20 130 0 := ⟨TX10, 156, by decide, by decide, rfl, by decide, rfl, q2242⟩
theorem KI_md_155 : kFld "GraftTreesModel" 350 20 155 0 := ⟨TX10, 156, by decide, by decide, rfl, by decide, rfl, q2267⟩
theorem KI_md_1 : kFld "GraftTreesModel" 353 20 1 8 := ⟨TX10, 156, by decide, by decide, rfl, by decide, rfl, q2113⟩
def gs_md0 : List kG := [(.ldc 16, 2, 160400, 2, 17), (.ldc 21, 2, 109004, 1, 22), (.ldc 21, 2, 109004, 1, 26), (.ldc 21, 2, 109004, 1, 29), (.ldc 21, 2, 109004, 1, 32), (.sipush 4096, 3, 4096, 1, 35), (.sipush 16384, 3, 16384, 1, 38), (.ldc 41, 2, 135020, 1, 42), (.iconst 5, 1, 5, 1, 45), (.iconst 5, 1, 5, 1, 48), (.iconst 5, 1, 5, 1, 51), (.iconst 5, 1, 5, 1, 54), (.bipush 9, 2, 9, 4, 57), (.sipush 4000, 3, 4000, 2, 61), (.sipush 4004, 3, 4004, 1, 64), (.sipush 4004, 3, 4004, 1, 67), (.sipush 4004, 3, 4004, 1, 70), (.sipush 4004, 3, 4004, 1, 73), (.sipush 4004, 3, 4004, 1, 76), (.sipush 4004, 3, 4004, 1, 79), (.sipush 4004, 3, 4004, 1, 82), (.sipush 4004, 3, 4004, 1, 85), (.sipush 4004, 3, 4004, 1, 88), (.sipush 4004, 3, 4004, 1, 91), (.sipush 4004, 3, 4004, 3, 94), (.bipush 51, 2, 51, 1, 98), (.bipush 51, 2, 51, 1, 101), (.bipush 51, 2, 51, 1, 104), (.bipush 51, 2, 51, 1, 107), (.bipush 51, 2, 51, 1, 110), (.bipush 51, 2, 51, 1, 113), (.bipush 51, 2, 51, 1, 116), (.sipush 612, 3, 612, 1, 119), (.sipush 612, 3, 612, 1, 122), (.sipush 9000, 3, 9000, 1, 125), (.sipush 9000, 3, 9000, 1, 128), (.bipush 60, 2, 60, 1, 131), (.bipush 60, 2, 60, 1, 134), (.bipush 60, 2, 60, 1, 137), (.bipush 60, 2, 60, 1, 140), (.bipush 60, 2, 60, 1, 143), (.bipush 60, 2, 60, 1, 146), (.bipush 60, 2, 60, 1, 149), (.bipush 60, 2, 60, 1, 152), (.bipush 60, 2, 60, 1, 155), (.bipush 60, 2, 60, 1, 158), (.sipush 720, 3, 720, 1, 161), (.sipush 20000, 3, 20000, 1, 164), (.sipush 20000, 3, 20000, 1, 167), (.sipush 20000, 3, 20000, 1, 170), (.sipush 20000, 3, 20000, 1, 173), (.sipush 20000, 3, 20000, 1, 176), (.sipush 20000, 3, 20000, 1, 179), (.sipush 20000, 3, 20000, 1, 182), (.sipush 20000, 3, 20000, 1, 185), (.sipush 20000, 3, 20000, 1, 188), (.sipush 20000, 3, 20000, 4, 191), (.sipush 20000, 3, 20000, 1, 194), (.sipush 20000, 3, 20000, 1, 197), (.sipush 20000, 3, 20000, 1, 200), (.sipush 20000, 3, 20000, 1, 203), (.ldc 206, 2, 60000, 1, 207), (.ldc 206, 2, 60000, 1, 210), (.ldc 206, 2, 60000, 1, 213), (.bipush 60, 2, 60, 1, 216), (.sipush 9000, 3, 9000, 1, 219), (.bipush 7, 2, 7, 4, 222), (.sipush 200, 3, 200, 1, 225), (.sipush 200, 3, 200, 1, 228), (.sipush 200, 3, 200, 1, 231), (.sipush 200, 3, 200, 1, 234), (.sipush 200, 3, 200, 1, 237), (.sipush 400, 3, 400, 1, 240), (.sipush 4800, 3, 4800, 1, 243), (.sipush 4800, 3, 4800, 4, 246), (.bipush 100, 2, 100, 1, 249), (.bipush 100, 2, 100, 1, 252), (.bipush 100, 2, 100, 1, 255), (.bipush 100, 2, 100, 1, 258), (.bipush 100, 2, 100, 1, 261), (.bipush 100, 2, 100, 1, 264), (.bipush 100, 2, 100, 1, 267), (.bipush 100, 2, 100, 3, 270), (.sipush 15200, 3, 15200, 1, 273), (.sipush 15200, 3, 15200, 1, 276), (.sipush 15200, 3, 15200, 1, 279), (.sipush 15200, 3, 15200, 1, 282)]
def gs_md1 : List kG := [(.bipush 60, 2, 60, 1, 292), (.bipush 60, 2, 60, 1, 295), (.bipush 60, 2, 60, 1, 298), (.bipush 60, 2, 60, 1, 301), (.bipush 60, 2, 60, 1, 304), (.bipush 60, 2, 60, 1, 307), (.bipush 60, 2, 60, 3, 310), (.sipush 720, 3, 720, 1, 313), (.sipush 720, 3, 720, 1, 316), (.sipush 720, 3, 720, 4, 319), (.ldc_w 322, 3, 42000, 1, 323), (.ldc_w 322, 3, 42000, 1, 326), (.ldc_w 322, 3, 42000, 1, 329), (.sipush 24000, 3, 24000, 1, 332), (.sipush 24000, 3, 24000, 4, 335), (.sipush 2000, 3, 2000, 2, 338), (.bipush 16, 2, 16, 1, 341), (.sipush 420, 3, 420, 2, 344), (.sipush 4000, 3, 4000, 2, 347)]
