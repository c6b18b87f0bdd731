set_option maxRecDepth 100000
set_option linter.unusedVariables false
/-! the component's constructor, cell by cell; printed by gen/ctor.py -/
def kT : List Nat := [1, 111, 102, 2, 20, 20, 20, 20, 20, 20, 20, 3, 4, 107, 5, 110, 113, 3, 4, 107, 3, 4, 107, 3, 4, 107, 3, 4, 107, 3, 4, 107, 3, 4, 107, 3, 4, 107, 3, 4, 107, 3, 4, 107, 3, 4, 107, 3, 4, 107, 3, 4, 107, 6, 110, 102, 102, 3, 4, 107, 3, 4, 107, 3, 4, 107, 3, 4, 107, 3, 4, 107, 3, 4, 107, 3, 4, 107, 3, 4, 107, 3, 4, 107, 3, 4, 107, 7, 4, 107, 4, 107, 8, 4, 107, 102, 102, 9, 5, 110, 113, 3, 4, 107, 3, 4, 107, 3, 4, 107, 3, 4, 107, 3, 4, 107, 3, 4, 107, 3, 4, 107, 3, 4, 107, 3, 4, 107, 3, 4, 107, 3, 4, 107, 3, 4, 107, 113, 4, 107, 21, 108]
def kfl : List (Nat × Nat × Nat) := [(302, 0, 1), (308, 0, 2), (617, 3, 4), (620, 3, 5), (623, 3, 6), (626, 3, 7), (629, 3, 8), (632, 3, 9), (323, 0, 10), (914, 11, 0), (1202, 12, 13), (902, 11, 12), (326, 0, 11), (1511, 14, 0), (1502, 14, 15), (1505, 14, 16), (914, 17, 0), (1202, 18, 19), (902, 17, 18), (914, 20, 0), (1202, 21, 22), (902, 20, 21), (914, 23, 0), (1202, 24, 25), (902, 23, 24), (914, 26, 0), (1202, 27, 28), (902, 26, 27), (914, 29, 0), (1202, 30, 31), (902, 29, 30), (914, 32, 0), (1202, 33, 34), (902, 32, 33), (914, 35, 0), (1202, 36, 37), (902, 35, 36), (914, 38, 0), (1202, 39, 40), (902, 38, 39), (914, 41, 0), (1202, 42, 43), (902, 41, 42), (914, 44, 0), (1202, 45, 46), (902, 44, 45), (914, 47, 0), (1202, 48, 49), (902, 47, 48), (914, 50, 0), (1202, 51, 52), (902, 50, 51), (329, 0, 14), (1814, 53, 0), (1802, 53, 54), (1805, 53, 55), (1808, 53, 56), (914, 57, 0), (1202, 58, 59), (902, 57, 58), (914, 60, 0), (1202, 61, 62), (902, 60, 61), (914, 63, 0), (1202, 64, 65), (902, 63, 64), (914, 66, 0), (1202, 67, 68), (902, 66, 67), (914, 69, 0), (1202, 70, 71), (902, 69, 70), (914, 72, 0), (1202, 73, 74), (902, 72, 73), (914, 75, 0), (1202, 76, 77), (902, 75, 76), (914, 78, 0), (1202, 79, 80), (902, 78, 79), (914, 81, 0), (1202, 82, 83), (902, 81, 82), (914, 84, 0), (1202, 85, 86), (902, 84, 85), (335, 0, 53), (2117, 87, 0), (1202, 88, 89), (2102, 87, 88), (1202, 90, 91), (2105, 87, 90), (338, 0, 87), (2420, 92, 0), (1202, 93, 94), (2402, 92, 93), (2405, 92, 95), (2408, 92, 96), (341, 0, 92), (2714, 97, 0), (1511, 98, 0), (1502, 98, 99), (1505, 98, 100), (914, 101, 0), (1202, 102, 103), (902, 101, 102), (914, 104, 0), (1202, 105, 106), (902, 104, 105), (914, 107, 0), (1202, 108, 109), (902, 107, 108), (914, 110, 0), (1202, 111, 112), (902, 110, 111), (914, 113, 0), (1202, 114, 115), (902, 113, 114), (914, 116, 0), (1202, 117, 118), (902, 116, 117), (914, 119, 0), (1202, 120, 121), (902, 119, 120), (914, 122, 0), (1202, 123, 124), (902, 122, 123), (914, 125, 0), (1202, 126, 127), (902, 125, 126), (914, 128, 0), (1202, 129, 130), (902, 128, 129), (914, 131, 0), (1202, 132, 133), (902, 131, 132), (914, 134, 0), (1202, 135, 136), (902, 134, 135), (2702, 97, 98), (2705, 97, 137), (344, 0, 97), (1202, 138, 139), (347, 0, 138), (350, 0, 140)]
def kln : List (Nat × Nat) := [(1, 1600), (2, 6), (13, 12), (15, 12), (16, 12), (19, 12), (22, 12), (25, 12), (28, 12), (31, 12), (34, 12), (37, 12), (40, 12), (43, 12), (46, 12), (49, 12), (52, 12), (54, 10), (55, 10), (56, 10), (59, 12), (62, 12), (65, 12), (68, 12), (71, 12), (74, 12), (77, 12), (80, 12), (83, 12), (86, 12), (89, 12), (91, 12), (94, 12), (95, 8), (96, 8), (99, 12), (100, 12), (103, 12), (106, 12), (109, 12), (112, 12), (115, 12), (118, 12), (121, 12), (124, 12), (127, 12), (130, 12), (133, 12), (136, 12), (137, 12), (139, 12), (141, 16)]
def kFl : List cFl := [(303, 0, 0, 0), (312, 0, 0, 0), (330, 0, 0, 0), (609, 3, 0, 0), (612, 3, 0, 0), (603, 3, 0, 12), (606, 3, 0, 2), (6003, 4, 0, 0), (6900, 4, 0, 0), (6002, 4, 2, 0), (6003, 5, 0, 0), (6900, 5, 0, 0), (6002, 5, 2, 0), (6003, 6, 0, 0), (6900, 6, 0, 0), (6002, 6, 2, 0), (6003, 7, 0, 0), (6900, 7, 0, 0), (6002, 7, 2, 0), (6003, 8, 0, 0), (6900, 8, 0, 0), (6002, 8, 2, 0), (6003, 9, 0, 0), (6900, 9, 0, 0), (6002, 9, 2, 0), (311, 0, 1, 3), (315, 0, 0, (-1)), (319, 0, 0, 1), (6003, 10, 0, 0), (6900, 10, 0, 0), (6002, 10, 2, 0), (7209, 140, 0, 0), (7202, 140, 1, 141), (7203, 140, 0, 0)]
def kAl : List (Nat × Int) := [(1, 0), (2, 0), (13, (-1)), (16, (-1)), (19, (-1)), (22, (-1)), (25, (-1)), (28, (-1)), (31, (-1)), (34, (-1)), (37, (-1)), (40, (-1)), (43, (-1)), (46, (-1)), (49, (-1)), (52, (-1)), (55, 0), (56, 0), (59, (-1)), (62, (-1)), (65, (-1)), (68, (-1)), (71, (-1)), (74, (-1)), (77, (-1)), (80, (-1)), (83, (-1)), (86, (-1)), (89, (-1)), (91, (-1)), (94, (-1)), (95, 0), (96, 0), (100, (-1)), (103, (-1)), (106, (-1)), (109, (-1)), (112, (-1)), (115, (-1)), (118, (-1)), (121, (-1)), (124, (-1)), (127, (-1)), (130, (-1)), (133, (-1)), (136, (-1)), (137, (-1)), (139, (-1)), (141, 0)]
def kSl : List (Nat × Nat × Nat) := [(15, 17, 12), (54, 57, 10), (99, 101, 12)]
set_option maxHeartbeats 8000000 in
theorem kX0_init {S : Nat → Nat} {N : jSh} {F : jFl} {A : jAr} (hn : nb N) : wqX0_init S (jnx N) (jnew N 1 0 17 1) (nwF N F) A (fun N' F' A' => cI (jnx N) (S 19 : Int) N F A N' F' A' kT kfl kln kFl kAl kSl (jsu N + 2572)) := by
  obtain ⟨ho, c0⟩ := (cI.start (s := (S 19 : Int)) (F := F) (A := A) hn).objE 1 17 0 [303, 312, 330] (by decide) rfl rfl rfl rfl
  unfold wqX0_init
  intro b1 N1 F1 A1 eb1 eN1 eF1 eA1
  obtain ⟨hb1, c1⟩ := c0.arrE 111 1600 1 (by decide) (by decide +kernel) eb1 eN1 eF1 eA1
  refine ⟨c1.o1 ho (by decide +kernel), ?_⟩
  intro N2 eN2
  have c2 := c1.pfE (f := 302) 0 1 ho hb1 (by decide +kernel) (by decide) (by decide +kernel) eN2
  intro b3 N3 F3 A3 eb3 eN3 eF3 eA3
  obtain ⟨hb3, c3⟩ := c2.arrE 102 6 2 (by decide) (by decide +kernel) eb3 eN3 eF3 eA3
  intro N4 eN4
  have c4 := c3.pfE (f := 308) 0 2 ho hb3 (by decide +kernel) (by decide) (by decide +kernel) eN4
  intro b5 N5 F5 eb5 eN5 eF5
  obtain ⟨hb5, c5⟩ := c4.objE 2 11 3 [609, 612] (by decide) (by decide +kernel) eb5 eN5 eF5
  refine ⟨_, ?_, fun _ _ _ h => h⟩
  unfold wqX1_init
  refine ⟨c5.o1 hb5 (by decide +kernel), ?_⟩
  intro F6 eF6
  have c6 := c5.uFE (f := 603) 3 0 (12) hb5 rfl (by decide +kernel) (by decide +kernel) eF6
  intro F7 eF7
  have c7 := c6.uFE (f := 606) 3 0 (2) hb5 rfl (by decide +kernel) (by decide +kernel) eF7
  intro b8 N8 F8 eb8 eN8 eF8
  obtain ⟨hb8, c8⟩ := c7.objE 20 3 4 [6003] (by decide) (by decide +kernel) eb8 eN8 eF8
  refine ⟨_, sJ2_init (c8.o1 hb8 (by decide +kernel)), fun F9 A9 hp9 => ?_⟩
  obtain ⟨eF9, eA9⟩ := hp9
  have c9 := c8.uF (f := 6900) (z := 0) 4 0 0 hb8 rfl (by decide +kernel) (by decide +kernel)
  have c10 := c9.uF (f := 6002) (z := (S 19 : Int)) 4 2 0 hb8 rfl (by decide +kernel) (by decide +kernel)
  rw [← eF9, ← eA9] at c10
  intro N11 eN11
  have c11 := c10.pfE (f := 617) 3 4 hb5 hb8 (by decide +kernel) (by decide) (by decide +kernel) eN11
  intro b12 N12 F12 eb12 eN12 eF12
  obtain ⟨hb12, c12⟩ := c11.objE 20 3 5 [6003] (by decide) (by decide +kernel) eb12 eN12 eF12
  refine ⟨_, sJ2_init (c12.o1 hb12 (by decide +kernel)), fun F13 A13 hp13 => ?_⟩
  obtain ⟨eF13, eA13⟩ := hp13
  have c13 := c12.uF (f := 6900) (z := 0) 5 0 0 hb12 rfl (by decide +kernel) (by decide +kernel)
  have c14 := c13.uF (f := 6002) (z := (S 19 : Int)) 5 2 0 hb12 rfl (by decide +kernel) (by decide +kernel)
  rw [← eF13, ← eA13] at c14
  intro N15 eN15
  have c15 := c14.pfE (f := 620) 3 5 hb5 hb12 (by decide +kernel) (by decide) (by decide +kernel) eN15
  intro b16 N16 F16 eb16 eN16 eF16
  obtain ⟨hb16, c16⟩ := c15.objE 20 3 6 [6003] (by decide) (by decide +kernel) eb16 eN16 eF16
  refine ⟨_, sJ2_init (c16.o1 hb16 (by decide +kernel)), fun F17 A17 hp17 => ?_⟩
  obtain ⟨eF17, eA17⟩ := hp17
  have c17 := c16.uF (f := 6900) (z := 0) 6 0 0 hb16 rfl (by decide +kernel) (by decide +kernel)
  have c18 := c17.uF (f := 6002) (z := (S 19 : Int)) 6 2 0 hb16 rfl (by decide +kernel) (by decide +kernel)
  rw [← eF17, ← eA17] at c18
  intro N19 eN19
  have c19 := c18.pfE (f := 623) 3 6 hb5 hb16 (by decide +kernel) (by decide) (by decide +kernel) eN19
  intro b20 N20 F20 eb20 eN20 eF20
  obtain ⟨hb20, c20⟩ := c19.objE 20 3 7 [6003] (by decide) (by decide +kernel) eb20 eN20 eF20
  refine ⟨_, sJ2_init (c20.o1 hb20 (by decide +kernel)), fun F21 A21 hp21 => ?_⟩
  obtain ⟨eF21, eA21⟩ := hp21
  have c21 := c20.uF (f := 6900) (z := 0) 7 0 0 hb20 rfl (by decide +kernel) (by decide +kernel)
  have c22 := c21.uF (f := 6002) (z := (S 19 : Int)) 7 2 0 hb20 rfl (by decide +kernel) (by decide +kernel)
  rw [← eF21, ← eA21] at c22
  intro N23 eN23
  have c23 := c22.pfE (f := 626) 3 7 hb5 hb20 (by decide +kernel) (by decide) (by decide +kernel) eN23
  intro b24 N24 F24 eb24 eN24 eF24
  obtain ⟨hb24, c24⟩ := c23.objE 20 3 8 [6003] (by decide) (by decide +kernel) eb24 eN24 eF24
  refine ⟨_, sJ2_init (c24.o1 hb24 (by decide +kernel)), fun F25 A25 hp25 => ?_⟩
  obtain ⟨eF25, eA25⟩ := hp25
  have c25 := c24.uF (f := 6900) (z := 0) 8 0 0 hb24 rfl (by decide +kernel) (by decide +kernel)
  have c26 := c25.uF (f := 6002) (z := (S 19 : Int)) 8 2 0 hb24 rfl (by decide +kernel) (by decide +kernel)
  rw [← eF25, ← eA25] at c26
  intro N27 eN27
  have c27 := c26.pfE (f := 629) 3 8 hb5 hb24 (by decide +kernel) (by decide) (by decide +kernel) eN27
  intro b28 N28 F28 eb28 eN28 eF28
  obtain ⟨hb28, c28⟩ := c27.objE 20 3 9 [6003] (by decide) (by decide +kernel) eb28 eN28 eF28
  refine ⟨_, sJ2_init (c28.o1 hb28 (by decide +kernel)), fun F29 A29 hp29 => ?_⟩
  obtain ⟨eF29, eA29⟩ := hp29
  have c29 := c28.uF (f := 6900) (z := 0) 9 0 0 hb28 rfl (by decide +kernel) (by decide +kernel)
  have c30 := c29.uF (f := 6002) (z := (S 19 : Int)) 9 2 0 hb28 rfl (by decide +kernel) (by decide +kernel)
  rw [← eF29, ← eA29] at c30
  intro N31 eN31
  have c31 := c30.pfE (f := 632) 3 9 hb5 hb28 (by decide +kernel) (by decide) (by decide +kernel) eN31
  intro F32 eF32
  have c32 := c31.uFE (f := 311) 0 1 (3) ho (by rw [hb5]; rfl) (by decide +kernel) (by decide +kernel) eF32
  intro F33 eF33
  have c33 := c32.uFE (f := 315) 0 0 (-1) ho rfl (by decide +kernel) (by decide +kernel) eF33
  intro F34 eF34
  have c34 := c33.uFE (f := 319) 0 0 (1) ho rfl (by decide +kernel) (by decide +kernel) eF34
  intro b35 N35 F35 eb35 eN35 eF35
  obtain ⟨hb35, c35⟩ := c34.objE 20 3 10 [6003] (by decide) (by decide +kernel) eb35 eN35 eF35
  refine ⟨_, sJ2_init (c35.o1 hb35 (by decide +kernel)), fun F36 A36 hp36 => ?_⟩
  obtain ⟨eF36, eA36⟩ := hp36
  have c36 := c35.uF (f := 6900) (z := 0) 10 0 0 hb35 rfl (by decide +kernel) (by decide +kernel)
  have c37 := c36.uF (f := 6002) (z := (S 19 : Int)) 10 2 0 hb35 rfl (by decide +kernel) (by decide +kernel)
  rw [← eF36, ← eA36] at c37
  intro N38 eN38
  have c38 := c37.pfE (f := 323) 0 10 ho hb35 (by decide +kernel) (by decide) (by decide +kernel) eN38
  intro b39 N39 F39 eb39 eN39 eF39
  obtain ⟨hb39, c39⟩ := c38.objE 3 5 11 [] (by decide) (by decide +kernel) eb39 eN39 eF39
  refine ⟨_, kX2_init (p := 0) 11 c39 hb39 rfl (by decide +kernel) (by decide +kernel), fun N40 F40 A40 c40 => ?_⟩
  intro N41 eN41
  have c41 := c40.pfE (f := 326) 0 11 ho hb39 (by decide +kernel) (by decide) (by decide +kernel) eN41
  intro b42 N42 F42 eb42 eN42 eF42
  obtain ⟨hb42, c42⟩ := c41.objE 5 4 14 [] (by decide) (by decide +kernel) eb42 eN42 eF42
  refine ⟨_, kX4_init (p := 0) 14 c42 hb42 rfl (by decide +kernel) (by decide +kernel) (by decide +kernel) (by decide +kernel), fun N43 F43 A43 c43 => ?_⟩
  intro N44 eN44
  have c44 := c43.pfE (f := 329) 0 14 ho hb42 (by decide +kernel) (by decide) (by decide +kernel) eN44
  intro b45 N45 F45 eb45 eN45 eF45
  obtain ⟨hb45, c45⟩ := c44.objE 6 5 53 [] (by decide) (by decide +kernel) eb45 eN45 eF45
  refine ⟨_, kX5_init (p := 0) 53 c45 hb45 rfl (by decide +kernel) (by decide +kernel) (by decide +kernel) (by decide +kernel), fun N46 F46 A46 c46 => ?_⟩
  intro N47 eN47
  have c47 := c46.pfE (f := 335) 0 53 ho hb45 (by decide +kernel) (by decide) (by decide +kernel) eN47
  intro b48 N48 F48 eb48 eN48 eF48
  obtain ⟨hb48, c48⟩ := c47.objE 7 6 87 [] (by decide) (by decide +kernel) eb48 eN48 eF48
  refine ⟨_, ?_, fun _ _ _ h => h⟩
  unfold wqX6_init
  refine ⟨c48.o1 hb48 (by decide +kernel), ?_⟩
  intro N49 eN49
  have c49 := c48.pfE (f := 2117) 87 0 hb48 (rfl : jnx N = jnx N + 0) (by decide +kernel) (by decide) (by decide +kernel) eN49
  intro b50 N50 F50 eb50 eN50 eF50
  obtain ⟨hb50, c50⟩ := c49.objE 4 3 88 [] (by decide) (by decide +kernel) eb50 eN50 eF50
  refine ⟨_, kX3_init 88 c50 hb50 (by decide +kernel) (by decide +kernel), fun N51 F51 A51 c51 => ?_⟩
  intro N52 eN52
  have c52 := c51.pfE (f := 2102) 87 88 hb48 hb50 (by decide +kernel) (by decide) (by decide +kernel) eN52
  intro b53 N53 F53 eb53 eN53 eF53
  obtain ⟨hb53, c53⟩ := c52.objE 4 3 90 [] (by decide) (by decide +kernel) eb53 eN53 eF53
  refine ⟨_, kX3_init 90 c53 hb53 (by decide +kernel) (by decide +kernel), fun N54 F54 A54 c54 => ?_⟩
  intro N55 eN55
  have c55 := c54.pfE (f := 2105) 87 90 hb48 hb53 (by decide +kernel) (by decide) (by decide +kernel) eN55
  intro N56 eN56
  have c56 := c55.pfE (f := 338) 0 87 ho hb48 (by decide +kernel) (by decide) (by decide +kernel) eN56
  intro b57 N57 F57 eb57 eN57 eF57
  obtain ⟨hb57, c57⟩ := c56.objE 8 7 92 [] (by decide) (by decide +kernel) eb57 eN57 eF57
  refine ⟨_, ?_, fun _ _ _ h => h⟩
  unfold wqX7_init
  refine ⟨c57.o1 hb57 (by decide +kernel), ?_⟩
  intro N58 eN58
  have c58 := c57.pfE (f := 2420) 92 0 hb57 (rfl : jnx N = jnx N + 0) (by decide +kernel) (by decide) (by decide +kernel) eN58
  intro b59 N59 F59 eb59 eN59 eF59
  obtain ⟨hb59, c59⟩ := c58.objE 4 3 93 [] (by decide) (by decide +kernel) eb59 eN59 eF59
  refine ⟨_, kX3_init 93 c59 hb59 (by decide +kernel) (by decide +kernel), fun N60 F60 A60 c60 => ?_⟩
  intro N61 eN61
  have c61 := c60.pfE (f := 2402) 92 93 hb57 hb59 (by decide +kernel) (by decide) (by decide +kernel) eN61
  intro b62 N62 F62 A62 eb62 eN62 eF62 eA62
  obtain ⟨hb62, c62⟩ := c61.arrE 102 8 95 (by decide) (by decide +kernel) eb62 eN62 eF62 eA62
  intro N63 eN63
  have c63 := c62.pfE (f := 2405) 92 95 hb57 hb62 (by decide +kernel) (by decide) (by decide +kernel) eN63
  intro b64 N64 F64 A64 eb64 eN64 eF64 eA64
  obtain ⟨hb64, c64⟩ := c63.arrE 102 8 96 (by decide) (by decide +kernel) eb64 eN64 eF64 eA64
  intro N65 eN65
  have c65 := c64.pfE (f := 2408) 92 96 hb57 hb64 (by decide +kernel) (by decide) (by decide +kernel) eN65
  intro N66 eN66
  have c66 := c65.pfE (f := 341) 0 92 ho hb57 (by decide +kernel) (by decide) (by decide +kernel) eN66
  intro b67 N67 F67 eb67 eN67 eF67
  obtain ⟨hb67, c67⟩ := c66.objE 9 5 97 [] (by decide) (by decide +kernel) eb67 eN67 eF67
  refine ⟨_, ?_, fun _ _ _ h => h⟩
  unfold wqX8_init
  refine ⟨c67.o1 hb67 (by decide +kernel), ?_⟩
  intro N68 eN68
  have c68 := c67.pfE (f := 2714) 97 0 hb67 (rfl : jnx N = jnx N + 0) (by decide +kernel) (by decide) (by decide +kernel) eN68
  intro b69 N69 F69 eb69 eN69 eF69
  obtain ⟨hb69, c69⟩ := c68.objE 5 4 98 [] (by decide) (by decide +kernel) eb69 eN69 eF69
  have lk := (c69.2.2.2.1 (2714, 97, 0) (by decide +kernel)).2
  refine ⟨_, kX4_init (p := 0) 98 c69 hb69 (by rw [hb67]; exact lk) (by decide +kernel) (by decide +kernel) (by decide +kernel) (by decide +kernel), fun N70 F70 A70 c70 => ?_⟩
  intro N71 eN71
  have c71 := c70.pfE (f := 2702) 97 98 hb67 hb69 (by decide +kernel) (by decide) (by decide +kernel) eN71
  intro b72 N72 F72 A72 eb72 eN72 eF72 eA72
  obtain ⟨hb72, c72⟩ := c71.arrE 113 12 137 (by decide) (by decide +kernel) eb72 eN72 eF72 eA72
  intro N73 eN73
  have c73 := c72.pfE (f := 2705) 97 137 hb67 hb72 (by decide +kernel) (by decide) (by decide +kernel) eN73
  intro N74 eN74
  have c74 := c73.pfE (f := 344) 0 97 ho hb67 (by decide +kernel) (by decide) (by decide +kernel) eN74
  intro b75 N75 F75 eb75 eN75 eF75
  obtain ⟨hb75, c75⟩ := c74.objE 4 3 138 [] (by decide) (by decide +kernel) eb75 eN75 eF75
  refine ⟨_, kX3_init 138 c75 hb75 (by decide +kernel) (by decide +kernel), fun N76 F76 A76 c76 => ?_⟩
  intro N77 eN77
  have c77 := c76.pfE (f := 347) 0 138 ho hb75 (by decide +kernel) (by decide) (by decide +kernel) eN77
  intro b78 N78 F78 eb78 eN78 eF78
  obtain ⟨hb78, c78⟩ := c77.objE 21 4 140 [7209] (by decide) (by decide +kernel) eb78 eN78 eF78
  refine ⟨_, ?_, fun _ _ _ h => h⟩
  unfold wqJ4_init
  refine ⟨_, ?_, fun _ _ _ h => h⟩
  unfold wqJ3_init
  refine ⟨fun w => absurd w (by decide), fun _ => ⟨16, rfl, by decide, ?_⟩⟩
  intro b79 N79 F79 A79 eb79 eN79 eF79 eA79
  obtain ⟨hb79, c79⟩ := c78.arrE 108 16 141 (by decide) (by decide +kernel) eb79 eN79 eF79 eA79
  refine ⟨c79.o1 hb78 (by decide +kernel), ?_⟩
  intro F80 eF80
  have c80 := c79.uFE (f := 7202) 140 1 (141) hb78 (by rw [hb79]; rfl) (by decide +kernel) (by decide +kernel) eF80
  intro F81 eF81
  have c81 := c80.uFE (f := 7203) 140 0 (0) hb78 rfl (by decide +kernel) (by decide +kernel) eF81
  intro N82 eN82
  have c82 := c81.pfE (f := 350) 0 140 ho hb78 (by decide +kernel) (by decide) (by decide +kernel) eN82
  exact c82
