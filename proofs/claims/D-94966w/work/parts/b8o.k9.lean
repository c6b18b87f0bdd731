set_option maxRecDepth 100000
set_option linter.unusedVariables false
/-! the model's constructor, cell by cell; printed by gen/ctor.py -/
def oT : List Nat := [10, 102, 102, 103, 102, 102, 102, 102, 102, 102, 103, 102, 102, 103, 102, 102, 102, 102, 103, 102, 102, 102, 102, 102, 102, 102, 102, 102, 102, 102, 102, 102, 102, 102, 102, 102, 102, 102, 102, 102, 102, 102, 102, 102, 102, 102, 102, 102, 102]
def ofl : List (Nat × Nat × Nat) := [(3002, 0, 1), (3044, 0, 2), (3047, 0, 3), (3050, 0, 4), (3053, 0, 5), (3056, 0, 6), (3059, 0, 7), (3062, 0, 8), (3065, 0, 9), (3068, 0, 10), (3071, 0, 11), (3074, 0, 12), (3077, 0, 13), (3080, 0, 14), (3083, 0, 15), (3086, 0, 16), (3089, 0, 17), (3092, 0, 18), (3095, 0, 19), (3098, 0, 20), (3101, 0, 21), (3104, 0, 22), (3107, 0, 23), (3110, 0, 24), (3113, 0, 25), (3119, 0, 26), (3128, 0, 27), (3131, 0, 28), (3134, 0, 29), (3137, 0, 30), (3140, 0, 31), (3143, 0, 32), (3146, 0, 33), (3149, 0, 34), (3152, 0, 35), (3164, 0, 36), (3176, 0, 37), (3191, 0, 38), (3197, 0, 39), (3200, 0, 40), (3203, 0, 41), (3206, 0, 42), (3209, 0, 43), (3212, 0, 44), (3215, 0, 45), (3218, 0, 46), (3221, 0, 47), (3236, 0, 48)]
def oln : List (Nat × Nat) := [(1, 1800), (2, 2), (3, 48), (4, 48), (5, 48), (6, 48), (7, 48), (8, 48), (9, 2), (10, 12), (11, 288), (12, 2), (13, 20), (14, 20), (15, 20), (16, 480), (17, 2), (18, 24), (19, 24), (20, 24), (21, 24), (22, 288), (23, 2), (24, 2), (25, 2), (26, 12), (27, 6), (28, 22), (29, 264), (30, 264), (31, 264), (32, 264), (33, 3168), (34, 22), (35, 8800), (36, 12), (37, 12), (38, 12), (39, 12), (40, 12), (41, 12), (42, 144), (43, 29400), (44, 10), (45, 10), (46, 12), (47, 12), (48, 210)]
def oFl : List cFl := [(3003, 0, 0, 0), (3006, 0, 0, 0), (3009, 0, 0, 0), (3012, 0, 0, 0), (3015, 0, 0, 0), (3018, 0, 0, 0), (3022, 0, 0, 0), (3024, 0, 0, 0), (3027, 0, 0, (-1)), (3030, 0, 0, 0), (3033, 0, 0, (-1)), (3036, 0, 0, (-1)), (3039, 0, 0, 0), (3114, 0, 0, 1), (3120, 0, 0, 0), (3123, 0, 0, 0), (3153, 0, 0, 0), (3156, 0, 0, 0), (3160, 0, 0, 1), (3165, 0, 0, 0), (3168, 0, 0, 0), (3171, 0, 0, 0), (3177, 0, 0, 0), (3180, 0, 0, 0), (3183, 0, 0, 0), (3186, 0, 0, (-1)), (3192, 0, 0, 0), (3222, 0, 0, 0), (3225, 0, 0, 0), (3228, 0, 0, 0), (3231, 0, 0, 0), (3237, 0, 0, 0)]
def oAl : List (Nat × Int) := [(1, 0), (2, 0), (3, 0), (4, 0), (5, 0), (6, 0), (7, 0), (8, 0), (9, 0), (10, 0), (11, 0), (12, 0), (13, 0), (14, 0), (15, 0), (16, 0), (17, 0), (18, 0), (19, 0), (20, 0), (21, 0), (22, 0), (23, 0), (24, 0), (25, 0), (26, 0), (27, 0), (28, 0), (29, 0), (30, 0), (31, 0), (32, 0), (33, 0), (34, 0), (35, 0), (36, 0), (37, 0), (38, 0), (39, 0), (40, 0), (41, 0), (42, 0), (43, 0), (44, 0), (45, 0), (46, 0), (47, 0), (48, 0)]
set_option maxHeartbeats 8000000 in
theorem kX9_init {N : jSh} {F : jFl} {A : jAr} (hn : nb N) : wqX9_init (jnx N) (jnew N 10 0 80 1) (nwF N F) A (fun N' F' A' => ∃ A1, cI (jnx N) 0 N F A N' F' A1 oT ofl oln oFl oAl [] (jsu N + 46362) ∧ A' = upA (upA A1 (jnx N + 23) 0 12) (jnx N + 24) 0 2) := by
  obtain ⟨ho, c0⟩ := (cI.start (s := 0) (F := F) (A := A) hn).objE 10 80 0 [] (by decide) rfl rfl rfl rfl
  unfold wqX9_init
  intro b1 N1 F1 A1 eb1 eN1 eF1 eA1
  obtain ⟨hb1, c1⟩ := c0.arrE 102 1800 1 (by decide) (by decide +kernel) eb1 eN1 eF1 eA1
  refine ⟨c1.o1 ho (by decide +kernel), ?_⟩
  intro N2 eN2
  have c2 := c1.pfE (f := 3002) 0 1 ho hb1 (by decide +kernel) (by decide) (by decide +kernel) eN2
  intro F3 eF3
  have c3 := c2.uFE (f := 3003) 0 0 (0) ho rfl (by decide +kernel) (by decide +kernel) eF3
  intro F4 eF4
  have c4 := c3.uFE (f := 3006) 0 0 (0) ho rfl (by decide +kernel) (by decide +kernel) eF4
  intro F5 eF5
  have c5 := c4.uFE (f := 3009) 0 0 (0) ho rfl (by decide +kernel) (by decide +kernel) eF5
  intro F6 eF6
  have c6 := c5.uFE (f := 3012) 0 0 (0) ho rfl (by decide +kernel) (by decide +kernel) eF6
  intro F7 eF7
  have c7 := c6.uFE (f := 3015) 0 0 (0) ho rfl (by decide +kernel) (by decide +kernel) eF7
  intro F8 eF8
  have c8 := c7.uFE (f := 3018) 0 0 (0) ho rfl (by decide +kernel) (by decide +kernel) eF8
  intro F9 eF9
  have c9 := c8.uFE (f := 3022) 0 0 (0) ho rfl (by decide +kernel) (by decide +kernel) eF9
  intro F10 eF10
  have c10 := c9.uFE (f := 3024) 0 0 (0) ho rfl (by decide +kernel) (by decide +kernel) eF10
  intro F11 eF11
  have c11 := c10.uFE (f := 3027) 0 0 (-1) ho rfl (by decide +kernel) (by decide +kernel) eF11
  intro F12 eF12
  have c12 := c11.uFE (f := 3030) 0 0 (0) ho rfl (by decide +kernel) (by decide +kernel) eF12
  intro F13 eF13
  have c13 := c12.uFE (f := 3033) 0 0 (-1) ho rfl (by decide +kernel) (by decide +kernel) eF13
  intro F14 eF14
  have c14 := c13.uFE (f := 3036) 0 0 (-1) ho rfl (by decide +kernel) (by decide +kernel) eF14
  intro F15 eF15
  have c15 := c14.uFE (f := 3039) 0 0 (0) ho rfl (by decide +kernel) (by decide +kernel) eF15
  intro b16 N16 F16 A16 eb16 eN16 eF16 eA16
  obtain ⟨hb16, c16⟩ := c15.arrE 102 2 2 (by decide) (by decide +kernel) eb16 eN16 eF16 eA16
  intro N17 eN17
  have c17 := c16.pfE (f := 3044) 0 2 ho hb16 (by decide +kernel) (by decide) (by decide +kernel) eN17
  intro b18 N18 F18 A18 eb18 eN18 eF18 eA18
  obtain ⟨hb18, c18⟩ := c17.arrE 103 48 3 (by decide) (by decide +kernel) eb18 eN18 eF18 eA18
  intro N19 eN19
  have c19 := c18.pfE (f := 3047) 0 3 ho hb18 (by decide +kernel) (by decide) (by decide +kernel) eN19
  intro b20 N20 F20 A20 eb20 eN20 eF20 eA20
  obtain ⟨hb20, c20⟩ := c19.arrE 102 48 4 (by decide) (by decide +kernel) eb20 eN20 eF20 eA20
  intro N21 eN21
  have c21 := c20.pfE (f := 3050) 0 4 ho hb20 (by decide +kernel) (by decide) (by decide +kernel) eN21
  intro b22 N22 F22 A22 eb22 eN22 eF22 eA22
  obtain ⟨hb22, c22⟩ := c21.arrE 102 48 5 (by decide) (by decide +kernel) eb22 eN22 eF22 eA22
  intro N23 eN23
  have c23 := c22.pfE (f := 3053) 0 5 ho hb22 (by decide +kernel) (by decide) (by decide +kernel) eN23
  intro b24 N24 F24 A24 eb24 eN24 eF24 eA24
  obtain ⟨hb24, c24⟩ := c23.arrE 102 48 6 (by decide) (by decide +kernel) eb24 eN24 eF24 eA24
  intro N25 eN25
  have c25 := c24.pfE (f := 3056) 0 6 ho hb24 (by decide +kernel) (by decide) (by decide +kernel) eN25
  intro b26 N26 F26 A26 eb26 eN26 eF26 eA26
  obtain ⟨hb26, c26⟩ := c25.arrE 102 48 7 (by decide) (by decide +kernel) eb26 eN26 eF26 eA26
  intro N27 eN27
  have c27 := c26.pfE (f := 3059) 0 7 ho hb26 (by decide +kernel) (by decide) (by decide +kernel) eN27
  intro b28 N28 F28 A28 eb28 eN28 eF28 eA28
  obtain ⟨hb28, c28⟩ := c27.arrE 102 48 8 (by decide) (by decide +kernel) eb28 eN28 eF28 eA28
  intro N29 eN29
  have c29 := c28.pfE (f := 3062) 0 8 ho hb28 (by decide +kernel) (by decide) (by decide +kernel) eN29
  intro b30 N30 F30 A30 eb30 eN30 eF30 eA30
  obtain ⟨hb30, c30⟩ := c29.arrE 102 2 9 (by decide) (by decide +kernel) eb30 eN30 eF30 eA30
  intro N31 eN31
  have c31 := c30.pfE (f := 3065) 0 9 ho hb30 (by decide +kernel) (by decide) (by decide +kernel) eN31
  intro b32 N32 F32 A32 eb32 eN32 eF32 eA32
  obtain ⟨hb32, c32⟩ := c31.arrE 103 12 10 (by decide) (by decide +kernel) eb32 eN32 eF32 eA32
  intro N33 eN33
  have c33 := c32.pfE (f := 3068) 0 10 ho hb32 (by decide +kernel) (by decide) (by decide +kernel) eN33
  intro b34 N34 F34 A34 eb34 eN34 eF34 eA34
  obtain ⟨hb34, c34⟩ := c33.arrE 102 288 11 (by decide) (by decide +kernel) eb34 eN34 eF34 eA34
  intro N35 eN35
  have c35 := c34.pfE (f := 3071) 0 11 ho hb34 (by decide +kernel) (by decide) (by decide +kernel) eN35
  intro b36 N36 F36 A36 eb36 eN36 eF36 eA36
  obtain ⟨hb36, c36⟩ := c35.arrE 102 2 12 (by decide) (by decide +kernel) eb36 eN36 eF36 eA36
  intro N37 eN37
  have c37 := c36.pfE (f := 3074) 0 12 ho hb36 (by decide +kernel) (by decide) (by decide +kernel) eN37
  intro b38 N38 F38 A38 eb38 eN38 eF38 eA38
  obtain ⟨hb38, c38⟩ := c37.arrE 103 20 13 (by decide) (by decide +kernel) eb38 eN38 eF38 eA38
  intro N39 eN39
  have c39 := c38.pfE (f := 3077) 0 13 ho hb38 (by decide +kernel) (by decide) (by decide +kernel) eN39
  intro b40 N40 F40 A40 eb40 eN40 eF40 eA40
  obtain ⟨hb40, c40⟩ := c39.arrE 102 20 14 (by decide) (by decide +kernel) eb40 eN40 eF40 eA40
  intro N41 eN41
  have c41 := c40.pfE (f := 3080) 0 14 ho hb40 (by decide +kernel) (by decide) (by decide +kernel) eN41
  intro b42 N42 F42 A42 eb42 eN42 eF42 eA42
  obtain ⟨hb42, c42⟩ := c41.arrE 102 20 15 (by decide) (by decide +kernel) eb42 eN42 eF42 eA42
  intro N43 eN43
  have c43 := c42.pfE (f := 3083) 0 15 ho hb42 (by decide +kernel) (by decide) (by decide +kernel) eN43
  intro b44 N44 F44 A44 eb44 eN44 eF44 eA44
  obtain ⟨hb44, c44⟩ := c43.arrE 102 480 16 (by decide) (by decide +kernel) eb44 eN44 eF44 eA44
  intro N45 eN45
  have c45 := c44.pfE (f := 3086) 0 16 ho hb44 (by decide +kernel) (by decide) (by decide +kernel) eN45
  intro b46 N46 F46 A46 eb46 eN46 eF46 eA46
  obtain ⟨hb46, c46⟩ := c45.arrE 102 2 17 (by decide) (by decide +kernel) eb46 eN46 eF46 eA46
  intro N47 eN47
  have c47 := c46.pfE (f := 3089) 0 17 ho hb46 (by decide +kernel) (by decide) (by decide +kernel) eN47
  intro b48 N48 F48 A48 eb48 eN48 eF48 eA48
  obtain ⟨hb48, c48⟩ := c47.arrE 103 24 18 (by decide) (by decide +kernel) eb48 eN48 eF48 eA48
  intro N49 eN49
  have c49 := c48.pfE (f := 3092) 0 18 ho hb48 (by decide +kernel) (by decide) (by decide +kernel) eN49
  intro b50 N50 F50 A50 eb50 eN50 eF50 eA50
  obtain ⟨hb50, c50⟩ := c49.arrE 102 24 19 (by decide) (by decide +kernel) eb50 eN50 eF50 eA50
  intro N51 eN51
  have c51 := c50.pfE (f := 3095) 0 19 ho hb50 (by decide +kernel) (by decide) (by decide +kernel) eN51
  intro b52 N52 F52 A52 eb52 eN52 eF52 eA52
  obtain ⟨hb52, c52⟩ := c51.arrE 102 24 20 (by decide) (by decide +kernel) eb52 eN52 eF52 eA52
  intro N53 eN53
  have c53 := c52.pfE (f := 3098) 0 20 ho hb52 (by decide +kernel) (by decide) (by decide +kernel) eN53
  intro b54 N54 F54 A54 eb54 eN54 eF54 eA54
  obtain ⟨hb54, c54⟩ := c53.arrE 102 24 21 (by decide) (by decide +kernel) eb54 eN54 eF54 eA54
  intro N55 eN55
  have c55 := c54.pfE (f := 3101) 0 21 ho hb54 (by decide +kernel) (by decide) (by decide +kernel) eN55
  intro b56 N56 F56 A56 eb56 eN56 eF56 eA56
  obtain ⟨hb56, c56⟩ := c55.arrE 102 288 22 (by decide) (by decide +kernel) eb56 eN56 eF56 eA56
  intro N57 eN57
  have c57 := c56.pfE (f := 3104) 0 22 ho hb56 (by decide +kernel) (by decide) (by decide +kernel) eN57
  intro b58 N58 F58 A58 eb58 eN58 eF58 eA58
  obtain ⟨hb58, c58⟩ := c57.arrE 102 2 23 (by decide) (by decide +kernel) eb58 eN58 eF58 eA58
  intro N59 eN59
  have c59 := c58.pfE (f := 3107) 0 23 ho hb58 (by decide +kernel) (by decide) (by decide +kernel) eN59
  intro b60 N60 F60 A60 eb60 eN60 eF60 eA60
  obtain ⟨hb60, c60⟩ := c59.arrE 102 2 24 (by decide) (by decide +kernel) eb60 eN60 eF60 eA60
  intro N61 eN61
  have c61 := c60.pfE (f := 3110) 0 24 ho hb60 (by decide +kernel) (by decide) (by decide +kernel) eN61
  intro b62 N62 F62 A62 eb62 eN62 eF62 eA62
  obtain ⟨hb62, c62⟩ := c61.arrE 102 2 25 (by decide) (by decide +kernel) eb62 eN62 eF62 eA62
  intro N63 eN63
  have c63 := c62.pfE (f := 3113) 0 25 ho hb62 (by decide +kernel) (by decide) (by decide +kernel) eN63
  intro F64 eF64
  have c64 := c63.uFE (f := 3114) 0 0 (1) ho rfl (by decide +kernel) (by decide +kernel) eF64
  intro b65 N65 F65 A65 eb65 eN65 eF65 eA65
  obtain ⟨hb65, c65⟩ := c64.arrE 102 12 26 (by decide) (by decide +kernel) eb65 eN65 eF65 eA65
  intro N66 eN66
  have c66 := c65.pfE (f := 3119) 0 26 ho hb65 (by decide +kernel) (by decide) (by decide +kernel) eN66
  intro F67 eF67
  have c67 := c66.uFE (f := 3120) 0 0 (0) ho rfl (by decide +kernel) (by decide +kernel) eF67
  intro F68 eF68
  have c68 := c67.uFE (f := 3123) 0 0 (0) ho rfl (by decide +kernel) (by decide +kernel) eF68
  intro b69 N69 F69 A69 eb69 eN69 eF69 eA69
  obtain ⟨hb69, c69⟩ := c68.arrE 102 6 27 (by decide) (by decide +kernel) eb69 eN69 eF69 eA69
  intro N70 eN70
  have c70 := c69.pfE (f := 3128) 0 27 ho hb69 (by decide +kernel) (by decide) (by decide +kernel) eN70
  intro b71 N71 F71 A71 eb71 eN71 eF71 eA71
  obtain ⟨hb71, c71⟩ := c70.arrE 102 22 28 (by decide) (by decide +kernel) eb71 eN71 eF71 eA71
  intro N72 eN72
  have c72 := c71.pfE (f := 3131) 0 28 ho hb71 (by decide +kernel) (by decide) (by decide +kernel) eN72
  intro b73 N73 F73 A73 eb73 eN73 eF73 eA73
  obtain ⟨hb73, c73⟩ := c72.arrE 102 264 29 (by decide) (by decide +kernel) eb73 eN73 eF73 eA73
  intro N74 eN74
  have c74 := c73.pfE (f := 3134) 0 29 ho hb73 (by decide +kernel) (by decide) (by decide +kernel) eN74
  intro b75 N75 F75 A75 eb75 eN75 eF75 eA75
  obtain ⟨hb75, c75⟩ := c74.arrE 102 264 30 (by decide) (by decide +kernel) eb75 eN75 eF75 eA75
  intro N76 eN76
  have c76 := c75.pfE (f := 3137) 0 30 ho hb75 (by decide +kernel) (by decide) (by decide +kernel) eN76
  intro b77 N77 F77 A77 eb77 eN77 eF77 eA77
  obtain ⟨hb77, c77⟩ := c76.arrE 102 264 31 (by decide) (by decide +kernel) eb77 eN77 eF77 eA77
  intro N78 eN78
  have c78 := c77.pfE (f := 3140) 0 31 ho hb77 (by decide +kernel) (by decide) (by decide +kernel) eN78
  intro b79 N79 F79 A79 eb79 eN79 eF79 eA79
  obtain ⟨hb79, c79⟩ := c78.arrE 102 264 32 (by decide) (by decide +kernel) eb79 eN79 eF79 eA79
  intro N80 eN80
  have c80 := c79.pfE (f := 3143) 0 32 ho hb79 (by decide +kernel) (by decide) (by decide +kernel) eN80
  intro b81 N81 F81 A81 eb81 eN81 eF81 eA81
  obtain ⟨hb81, c81⟩ := c80.arrE 102 3168 33 (by decide) (by decide +kernel) eb81 eN81 eF81 eA81
  intro N82 eN82
  have c82 := c81.pfE (f := 3146) 0 33 ho hb81 (by decide +kernel) (by decide) (by decide +kernel) eN82
  intro b83 N83 F83 A83 eb83 eN83 eF83 eA83
  obtain ⟨hb83, c83⟩ := c82.arrE 102 22 34 (by decide) (by decide +kernel) eb83 eN83 eF83 eA83
  intro N84 eN84
  have c84 := c83.pfE (f := 3149) 0 34 ho hb83 (by decide +kernel) (by decide) (by decide +kernel) eN84
  intro b85 N85 F85 A85 eb85 eN85 eF85 eA85
  obtain ⟨hb85, c85⟩ := c84.arrE 102 8800 35 (by decide) (by decide +kernel) eb85 eN85 eF85 eA85
  intro N86 eN86
  have c86 := c85.pfE (f := 3152) 0 35 ho hb85 (by decide +kernel) (by decide) (by decide +kernel) eN86
  intro F87 eF87
  have c87 := c86.uFE (f := 3153) 0 0 (0) ho rfl (by decide +kernel) (by decide +kernel) eF87
  intro F88 eF88
  have c88 := c87.uFE (f := 3156) 0 0 (0) ho rfl (by decide +kernel) (by decide +kernel) eF88
  intro F89 eF89
  have c89 := c88.uFE (f := 3160) 0 0 (1) ho rfl (by decide +kernel) (by decide +kernel) eF89
  intro b90 N90 F90 A90 eb90 eN90 eF90 eA90
  obtain ⟨hb90, c90⟩ := c89.arrE 102 12 36 (by decide) (by decide +kernel) eb90 eN90 eF90 eA90
  intro N91 eN91
  have c91 := c90.pfE (f := 3164) 0 36 ho hb90 (by decide +kernel) (by decide) (by decide +kernel) eN91
  intro F92 eF92
  have c92 := c91.uFE (f := 3165) 0 0 (0) ho rfl (by decide +kernel) (by decide +kernel) eF92
  intro F93 eF93
  have c93 := c92.uFE (f := 3168) 0 0 (0) ho rfl (by decide +kernel) (by decide +kernel) eF93
  intro F94 eF94
  have c94 := c93.uFE (f := 3171) 0 0 (0) ho rfl (by decide +kernel) (by decide +kernel) eF94
  intro b95 N95 F95 A95 eb95 eN95 eF95 eA95
  obtain ⟨hb95, c95⟩ := c94.arrE 102 12 37 (by decide) (by decide +kernel) eb95 eN95 eF95 eA95
  intro N96 eN96
  have c96 := c95.pfE (f := 3176) 0 37 ho hb95 (by decide +kernel) (by decide) (by decide +kernel) eN96
  intro F97 eF97
  have c97 := c96.uFE (f := 3177) 0 0 (0) ho rfl (by decide +kernel) (by decide +kernel) eF97
  intro F98 eF98
  have c98 := c97.uFE (f := 3180) 0 0 (0) ho rfl (by decide +kernel) (by decide +kernel) eF98
  intro F99 eF99
  have c99 := c98.uFE (f := 3183) 0 0 (0) ho rfl (by decide +kernel) (by decide +kernel) eF99
  intro F100 eF100
  have c100 := c99.uFE (f := 3186) 0 0 (-1) ho rfl (by decide +kernel) (by decide +kernel) eF100
  intro b101 N101 F101 A101 eb101 eN101 eF101 eA101
  obtain ⟨hb101, c101⟩ := c100.arrE 102 12 38 (by decide) (by decide +kernel) eb101 eN101 eF101 eA101
  intro N102 eN102
  have c102 := c101.pfE (f := 3191) 0 38 ho hb101 (by decide +kernel) (by decide) (by decide +kernel) eN102
  intro F103 eF103
  have c103 := c102.uFE (f := 3192) 0 0 (0) ho rfl (by decide +kernel) (by decide +kernel) eF103
  intro b104 N104 F104 A104 eb104 eN104 eF104 eA104
  obtain ⟨hb104, c104⟩ := c103.arrE 102 12 39 (by decide) (by decide +kernel) eb104 eN104 eF104 eA104
  intro N105 eN105
  have c105 := c104.pfE (f := 3197) 0 39 ho hb104 (by decide +kernel) (by decide) (by decide +kernel) eN105
  intro b106 N106 F106 A106 eb106 eN106 eF106 eA106
  obtain ⟨hb106, c106⟩ := c105.arrE 102 12 40 (by decide) (by decide +kernel) eb106 eN106 eF106 eA106
  intro N107 eN107
  have c107 := c106.pfE (f := 3200) 0 40 ho hb106 (by decide +kernel) (by decide) (by decide +kernel) eN107
  intro b108 N108 F108 A108 eb108 eN108 eF108 eA108
  obtain ⟨hb108, c108⟩ := c107.arrE 102 12 41 (by decide) (by decide +kernel) eb108 eN108 eF108 eA108
  intro N109 eN109
  have c109 := c108.pfE (f := 3203) 0 41 ho hb108 (by decide +kernel) (by decide) (by decide +kernel) eN109
  intro b110 N110 F110 A110 eb110 eN110 eF110 eA110
  obtain ⟨hb110, c110⟩ := c109.arrE 102 144 42 (by decide) (by decide +kernel) eb110 eN110 eF110 eA110
  intro N111 eN111
  have c111 := c110.pfE (f := 3206) 0 42 ho hb110 (by decide +kernel) (by decide) (by decide +kernel) eN111
  intro b112 N112 F112 A112 eb112 eN112 eF112 eA112
  obtain ⟨hb112, c112⟩ := c111.arrE 102 29400 43 (by decide) (by decide +kernel) eb112 eN112 eF112 eA112
  intro N113 eN113
  have c113 := c112.pfE (f := 3209) 0 43 ho hb112 (by decide +kernel) (by decide) (by decide +kernel) eN113
  intro b114 N114 F114 A114 eb114 eN114 eF114 eA114
  obtain ⟨hb114, c114⟩ := c113.arrE 102 10 44 (by decide) (by decide +kernel) eb114 eN114 eF114 eA114
  intro N115 eN115
  have c115 := c114.pfE (f := 3212) 0 44 ho hb114 (by decide +kernel) (by decide) (by decide +kernel) eN115
  intro b116 N116 F116 A116 eb116 eN116 eF116 eA116
  obtain ⟨hb116, c116⟩ := c115.arrE 102 10 45 (by decide) (by decide +kernel) eb116 eN116 eF116 eA116
  intro N117 eN117
  have c117 := c116.pfE (f := 3215) 0 45 ho hb116 (by decide +kernel) (by decide) (by decide +kernel) eN117
  intro b118 N118 F118 A118 eb118 eN118 eF118 eA118
  obtain ⟨hb118, c118⟩ := c117.arrE 102 12 46 (by decide) (by decide +kernel) eb118 eN118 eF118 eA118
  intro N119 eN119
  have c119 := c118.pfE (f := 3218) 0 46 ho hb118 (by decide +kernel) (by decide) (by decide +kernel) eN119
  intro b120 N120 F120 A120 eb120 eN120 eF120 eA120
  obtain ⟨hb120, c120⟩ := c119.arrE 102 12 47 (by decide) (by decide +kernel) eb120 eN120 eF120 eA120
  intro N121 eN121
  have c121 := c120.pfE (f := 3221) 0 47 ho hb120 (by decide +kernel) (by decide) (by decide +kernel) eN121
  intro F122 eF122
  have c122 := c121.uFE (f := 3222) 0 0 (0) ho rfl (by decide +kernel) (by decide +kernel) eF122
  intro F123 eF123
  have c123 := c122.uFE (f := 3225) 0 0 (0) ho rfl (by decide +kernel) (by decide +kernel) eF123
  intro F124 eF124
  have c124 := c123.uFE (f := 3228) 0 0 (0) ho rfl (by decide +kernel) (by decide +kernel) eF124
  intro F125 eF125
  have c125 := c124.uFE (f := 3231) 0 0 (0) ho rfl (by decide +kernel) (by decide +kernel) eF125
  intro b126 N126 F126 A126 eb126 eN126 eF126 eA126
  obtain ⟨hb126, c126⟩ := c125.arrE 102 210 48 (by decide) (by decide +kernel) eb126 eN126 eF126 eA126
  intro N127 eN127
  have c127 := c126.pfE (f := 3236) 0 48 ho hb126 (by decide +kernel) (by decide) (by decide +kernel) eN127
  intro F128 eF128
  have c128 := c127.uFE (f := 3237) 0 0 (0) ho rfl (by decide +kernel) (by decide +kernel) eF128
  have e1 := (c128.2.2.2.1 (3107, 0, 23) (by decide +kernel)).2
  have e2 := (c128.2.2.2.1 (3110, 0, 24) (by decide +kernel)).2
  have t1 := c128.2.2.1 23 (by decide +kernel)
  have t2 := c128.2.2.1 24 (by decide +kernel)
  have l1 := (c128.2.2.2.2.1 (23, 2) (by decide +kernel)).2
  have l2 := (c128.2.2.2.2.1 (24, 2) (by decide +kernel)).2
  refine ⟨jnx N + 23, e1, t1.1.trans (by decide +kernel), t1.2, ⟨by decide, by rw [l1]; decide⟩, fun A9 e9 => ⟨jnx N + 24, e2, t2.1.trans (by decide +kernel), t2.2, ⟨by decide, by rw [l2]; decide⟩, fun A8 e8 => ⟨_, c128, by rw [e8, e9]⟩⟩⟩
