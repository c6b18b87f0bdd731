set_option maxRecDepth 100000
set_option linter.unusedVariables false
/-! walks of the component and of JDK methods: printed by gen/walkc.py -/
/-- ChildSays.law(II)I -/
def wqX0_law (o : Nat) (a1 : Int) (a2 : Int) (N : jSh) (F : jFl) (A : jAr) (Q : Int → jFl → jAr → Prop) : Prop :=
  ∃ (P1 : Int → Prop), wqX0_lawOf o a1 N F A P1 ∧
  ∀ z3, P1 z3 →
  ((¬ z3 < 0) →
    (a2 = 0 →
      ∃ b9 : Nat, z3 = (b9 : Int) ∧
      jtg N b9 = 17 ∧
      ∃ b12 : Nat, jfn N 5102 b9 = (b12 : Int) ∧
      jtg N b12 = 4 ∧
      Q (F 1203 b12) F A) ∧
    (a2 = 1 →
      ∃ b15 : Nat, z3 = (b15 : Int) ∧
      jtg N b15 = 17 ∧
      ∃ b18 : Nat, jfn N 5102 b15 = (b18 : Int) ∧
      jtg N b18 = 4 ∧
      Q (F 1206 b18) F A) ∧
    (a2 = 2 →
      ∃ b21 : Nat, z3 = (b21 : Int) ∧
      jtg N b21 = 17 ∧
      ∀ z25 : Int, z25 = (if (F 5103 b21) = 0 then (0 : Int) else 1) →
      Q z25 F A) ∧
    (a2 = 3 →
      ∃ b27 : Nat, F 311 o = (b27 : Int) ∧
      jtg N b27 = 2 ∧
      ∃ b30 : Nat, jfn N 629 b27 = (b30 : Int) ∧
      jtg N b30 = 20 ∧
      ∃ (P33 : Int → Prop), wqJ2_indexOf b30 z3 N F A P33 ∧
      ∀ z35, P33 z35 →
      Q z35 F A) ∧
    (a2 = 4 →
      ∃ b40 : Nat, z3 = (b40 : Int) ∧
      jtg N b40 = 17 ∧
      ∃ b43 : Nat, jfn N 5102 b40 = (b43 : Int) ∧
      jtg N b43 = 4 ∧
      ∃ (P46 : Int → Prop), wqX3_beats b43 N F A P46 ∧
      ∀ z48, P46 z48 →
      Q z48 F A) ∧
    (a2 = 5 →
      ∃ b53 : Nat, z3 = (b53 : Int) ∧
      jtg N b53 = 17 ∧
      (F 5103 b53 = 0 ∨ F 5103 b53 = 1) ∧
      ∃ (P57 : Int → jFl → jAr → Prop), wqX0_byMany o (jfn N 5102 b53) (F 5103 b53) N F A P57 ∧
      ∀ z59 F60 A61, P57 z59 F60 A61 →
      Q z59 F60 A61) ∧
    (¬ a2 = 0 → ¬ a2 = 1 → ¬ a2 = 2 → ¬ a2 = 3 → ¬ a2 = 4 → ¬ a2 = 5 →
      ∀ v66 : Int, jWr v66 (a2 - 10) →
      ∃ b67 : Nat, z3 = (b67 : Int) ∧
      jtg N b67 = 17 ∧
      ∃ b70 : Nat, jfn N 5102 b67 = (b70 : Int) ∧
      jtg N b70 = 4 ∧
      ∃ (P73 : Int → Prop), wqX3_size b70 N F A P73 ∧
      ∀ z75, P73 z75 →
      jR (z75 - 1) ∧
      ∃ (P81 : Int → Prop), wqX0_isIn v66 0 (z75 - 1) N F A P81 ∧
      ∀ z83, P81 z83 →
      ((z83 = 0) →
        Q (-1) F A) ∧
      ((¬ (z83 = 0)) →
        ∃ b89 : Nat, jfn N 1202 b70 = (b89 : Int) ∧
        jtg N b89 = 107 ∧
        ((0 : Int) ≤ a2 - 10 ∧ (a2 - 10 : Int) < (jln N b89 : Int)) ∧
        ∃ b93 : Nat, A b89 (a2 - 10) = (b93 : Int) ∧
        jtg N b93 = 14 ∧
        Q (jfn N 3903 b93) F A))) ∧
  ((z3 < 0) →
    Q (-1) F A)
theorem vX0_law {G : jG} {l : Launch} {d : Nat} {N : jSh} {F : jFl} {A : jAr} {o : Nat} {a1 a2 : Int} {Q : Int → jFl → jAr → Prop} (hd : 6 ≤ d) (hW : jWg G N F A) (ht : jtg N o = 1) (ra1 : jR a1) (ra2 : jR a2) (h : wqX0_law o a1 a2 N F A Q) : jCall G l d mX0_law [vR (o : Int), vI a1, vI a2] N F A (cmI G N Q) := by
  unfold wqX0_law at h
  refine jCall.of (by decide) rfl (ls := [vR (o : Int), vI a1, vI a2, jD]) (by simp only [jent_R, jent_I, jent_L, jent_nil]; exact Nat.le_of_ble_eq_true rfl) (by simp only [jloc, jent_R, jent_I, jent_L, jent_nil]; rfl) ?_
  refine r_aload_n dX0_law_0 rfl ?_
  refine j_iload_n dX0_law_1 rfl ?_
  obtain ⟨P1, hp2, h⟩ := h
  refine r_invV (ci := 1) (As := [vI a1]) (rest := []) dX0_law_2 lkX0_239 rfl ht rfl rfl (vX0_lawOf (d := 5) (Nat.le_of_ble_eq_true rfl) hW ht ra1 hp2) rfl rfl (Nat.le_of_ble_eq_true rfl) (Nat.le_trans (Nat.le_of_ble_eq_true rfl) hd) (jkpR fun z3 p6 r7 => ?_)
  have h := h z3 p6
  refine r_astore_n dX0_law_5 rfl ?_
  refine r_aload_n dX0_law_6 rfl ?_
  obtain ⟨h1, h2⟩ := h
  refine r_ifnonnull 12 dX0_law_7 rfl (fun q8 => ?_) (fun q8 => ?_)
  · have h := h1 q8
    clear h1 h2
    refine j_iload_n dX0_law_12 rfl ?_
    obtain ⟨h1, h⟩ := h
    by_cases q96 : a2 = 0
    · refine j_tableIn (off := 39) 52 dX0_law_13 ra2 (by rw [q96]; decide) (by rw [q96]; decide) (by rw [q96]; rfl) rfl ?_
      have h := h1 q96
      clear h1
      refine r_aload_n dX0_law_52 rfl ?_
      obtain ⟨b9, hz10, h⟩ := h
      obtain ⟨t11, h⟩ := h
      refine r_gRF dX0_law_53 flX0_243_17 hz10 t11 rfl ?_
      obtain ⟨b12, hz13, h⟩ := h
      obtain ⟨t14, h⟩ := h
      refine r_gI dX0_law_56 flX0_296_4 hz13 t14 rfl ?_
      exact j_iret dX0_law_59 rfl ⟨_, rfl, rfl, hW, h, (hW.fi rfl)⟩
    clear h1
    obtain ⟨h1, h⟩ := h
    by_cases q97 : a2 = 1
    · refine j_tableIn (off := 47) 60 dX0_law_13 ra2 (by rw [q97]; decide) (by rw [q97]; decide) (by rw [q97]; rfl) rfl ?_
      have h := h1 q97
      clear h1
      refine r_aload_n dX0_law_60 rfl ?_
      obtain ⟨b15, hz16, h⟩ := h
      obtain ⟨t17, h⟩ := h
      refine r_gRF dX0_law_61 flX0_243_17 hz16 t17 rfl ?_
      obtain ⟨b18, hz19, h⟩ := h
      obtain ⟨t20, h⟩ := h
      refine r_gI dX0_law_64 flX0_299_4 hz19 t20 rfl ?_
      exact j_iret dX0_law_67 rfl ⟨_, rfl, rfl, hW, h, (hW.fi rfl)⟩
    clear h1
    obtain ⟨h1, h⟩ := h
    by_cases q98 : a2 = 2
    · refine j_tableIn (off := 55) 68 dX0_law_13 ra2 (by rw [q98]; decide) (by rw [q98]; decide) (by rw [q98]; rfl) rfl ?_
      have h := h1 q98
      clear h1
      refine r_aload_n dX0_law_68 rfl ?_
      obtain ⟨b21, hz22, h⟩ := h
      obtain ⟨t23, h⟩ := h
      refine r_gI dX0_law_69 flX0_302_17 hz22 t23 rfl ?_
      have jn26 : ∀ z25 : Int, z25 = (if (F 5103 b21) = 0 then (0 : Int) else 1) → J G l d mX0_law 80 [vR (o : Int), vI a1, vI a2, vR z3] [vI z25] N F A (cmI G N Q) := by
        intro z25 ez25
        have h := h z25 ez25
        exact j_iret dX0_law_80 rfl ⟨_, rfl, rfl, hW, h, (ez25 ▸ jR_ite (by decide) (by decide))⟩
      clear h
      refine j_if_eq 79 dX0_law_72 rfl (hW.fi rfl) (fun q24 => ?_) (fun q24 => ?_)
      · refine j_iconst dX0_law_79 ?_
        exact jn26 _ (if_pos q24).symm
      · refine j_iconst dX0_law_75 ?_
        refine j_goto 80 dX0_law_76 rfl ?_
        exact jn26 _ (if_neg q24).symm
    clear h1
    obtain ⟨h1, h⟩ := h
    by_cases q99 : a2 = 3
    · refine j_tableIn (off := 68) 81 dX0_law_13 ra2 (by rw [q99]; decide) (by rw [q99]; decide) (by rw [q99]; rfl) rfl ?_
      have h := h1 q99
      clear h1
      refine r_aload_n dX0_law_81 rfl ?_
      refine r_gR dX0_law_82 flX0_20_1 rfl ht rfl ?_
      obtain ⟨b27, hz28, h⟩ := h
      obtain ⟨t29, h⟩ := h
      refine r_gRF dX0_law_85 flX0_305_2 hz28 t29 rfl ?_
      refine r_aload_n dX0_law_88 rfl ?_
      obtain ⟨b30, hz31, h⟩ := h
      obtain ⟨t32, h⟩ := h
      obtain ⟨P33, hp34, h⟩ := h
      refine r_invV (ci := 20) (As := [vR z3]) (rest := []) dX0_law_89 lkX0_308 hz31 t32 rfl rfl (vJ2_indexOf (d := 4) (Nat.le_of_ble_eq_true rfl) hW t32  hp34) rfl rfl (Nat.le_of_ble_eq_true rfl) (Nat.le_trans (Nat.le_of_ble_eq_true rfl) hd) (jkpI fun z35 p38 r39 => ?_)
      have h := h z35 p38
      exact j_iret dX0_law_92 rfl ⟨_, rfl, rfl, hW, h, r39⟩
    clear h1
    obtain ⟨h1, h⟩ := h
    by_cases q100 : a2 = 4
    · refine j_tableIn (off := 80) 93 dX0_law_13 ra2 (by rw [q100]; decide) (by rw [q100]; decide) (by rw [q100]; rfl) rfl ?_
      have h := h1 q100
      clear h1
      refine r_aload_n dX0_law_93 rfl ?_
      obtain ⟨b40, hz41, h⟩ := h
      obtain ⟨t42, h⟩ := h
      refine r_gRF dX0_law_94 flX0_243_17 hz41 t42 rfl ?_
      obtain ⟨b43, hz44, h⟩ := h
      obtain ⟨t45, h⟩ := h
      obtain ⟨P46, hp47, h⟩ := h
      refine r_invV (ci := 4) (As := []) (rest := []) dX0_law_97 lkX0_312 hz44 t45 rfl rfl (vX3_beats (d := 3) (Nat.le_of_ble_eq_true rfl) hW t45  hp47) rfl rfl (Nat.le_of_ble_eq_true rfl) (Nat.le_trans (Nat.le_of_ble_eq_true rfl) hd) (jkpI fun z48 p51 r52 => ?_)
      have h := h z48 p51
      exact j_iret dX0_law_100 rfl ⟨_, rfl, rfl, hW, h, r52⟩
    clear h1
    obtain ⟨h1, h⟩ := h
    by_cases q101 : a2 = 5
    · refine j_tableIn (off := 88) 101 dX0_law_13 ra2 (by rw [q101]; decide) (by rw [q101]; decide) (by rw [q101]; rfl) rfl ?_
      have h := h1 q101
      clear h1
      refine r_aload_n dX0_law_101 rfl ?_
      refine r_aload_n dX0_law_102 rfl ?_
      obtain ⟨b53, hz54, h⟩ := h
      obtain ⟨t55, h⟩ := h
      refine r_gRF dX0_law_103 flX0_243_17 hz54 t55 rfl ?_
      refine r_aload_n dX0_law_106 rfl ?_
      refine r_gI dX0_law_107 flX0_302_17 hz54 t55 rfl ?_
      obtain ⟨b56, h⟩ := h
      obtain ⟨P57, hp58, h⟩ := h
      refine r_invV (ci := 1) (As := [vR (jfn N 5102 b53), vI (F 5103 b53)]) (rest := []) dX0_law_110 lkX0_314 rfl ht rfl rfl (vX0_byMany (d := 5) (Nat.le_of_ble_eq_true rfl) hW ht b56 hp58) rfl rfl (Nat.le_of_ble_eq_true rfl) (Nat.le_trans (Nat.le_of_ble_eq_true rfl) hd) (ckmI fun z59 F60 A61 hW62 p64 r65 => ?_)
      have h := h z59 F60 A61 p64
      exact j_iret dX0_law_113 rfl ⟨_, rfl, rfl, hW62, h, r65⟩
    clear h1
    have h := h q96 q97 q98 q99 q100 q101
    refine j_tableOut 114 dX0_law_13 ra2 (by omega) rfl ?_
    refine j_iload_n dX0_law_114 rfl ?_
    refine j_bipush dX0_law_115 ?_
    refine j_isub dX0_law_117 ?_
    obtain ⟨v66, wv66⟩ := jWr_ex (a2 - 10)
    have h := h v66 wv66
    refine j_i2lw dX0_law_118 wv66 ?_
    refine j_lconst 0 rfl dX0_law_119 ?_
    refine r_aload_n dX0_law_120 rfl ?_
    obtain ⟨b67, hz68, h⟩ := h
    obtain ⟨t69, h⟩ := h
    refine r_gRF dX0_law_121 flX0_243_17 hz68 t69 rfl ?_
    obtain ⟨b70, hz71, h⟩ := h
    obtain ⟨t72, h⟩ := h
    obtain ⟨P73, hp74, h⟩ := h
    refine r_invV (ci := 4) (As := []) (rest := [vL 0, vL v66]) dX0_law_124 lkX0_318 hz71 t72 rfl rfl (vX3_size (d := 2) (Nat.le_of_ble_eq_true rfl) hW t72  hp74) rfl rfl (Nat.le_of_ble_eq_true rfl) (Nat.le_trans (Nat.le_of_ble_eq_true rfl) hd) (jkpI fun z75 p78 r79 => ?_)
    have h := h z75 p78
    refine j_iconst dX0_law_127 ?_
    refine j_isub dX0_law_128 ?_
    obtain ⟨r80, h⟩ := h
    refine j_i2l dX0_law_129 r80 ?_
    obtain ⟨P81, hp82, h⟩ := h
    refine r_invS (As := [vL v66, vL 0, vL (z75 - 1)]) (rest := []) dX0_law_130 lkX0_124 (vX0_isIn (d := 2) (Nat.le_of_ble_eq_true rfl) hW (jR_L wv66.1) (by decide) (jR_L r80) hp82) rfl rfl (Nat.le_of_ble_eq_true rfl) (Nat.le_trans (Nat.le_of_ble_eq_true rfl) hd) (jkpB fun z83 p86 r87 => ?_)
    have h := h z83 p86
    obtain ⟨h1, h2⟩ := h
    refine j_if_eq 154 dX0_law_133 rfl (jR_b r87) (fun q88 => ?_) (fun q88 => ?_)
    · have h := h1 q88
      clear h1 h2
      refine j_iconst dX0_law_154 ?_
      exact j_iret dX0_law_155 rfl ⟨_, rfl, rfl, hW, h, (by decide)⟩
    · have h := h2 q88
      clear h1 h2
      refine r_aload_n dX0_law_136 rfl ?_
      refine r_gRF dX0_law_137 flX0_243_17 hz68 t69 rfl ?_
      refine r_gRF dX0_law_140 flX0_319_4 hz71 t72 rfl ?_
      refine j_iload_n dX0_law_143 rfl ?_
      refine j_bipush dX0_law_144 ?_
      refine j_isub dX0_law_146 ?_
      obtain ⟨b89, hz90, h⟩ := h
      obtain ⟨t91, h⟩ := h
      obtain ⟨c92, h⟩ := h
      refine r_aald dX0_law_147 hz90 t91 rfl rfl c92 ?_
      obtain ⟨b93, hz94, h⟩ := h
      obtain ⟨t95, h⟩ := h
      refine r_gIF dX0_law_148 flX0_323_14 hz94 t95 rfl ?_
      refine j_goto 155 dX0_law_151 rfl ?_
      exact j_iret dX0_law_155 rfl ⟨_, rfl, rfl, hW, h, (hW.ni rfl (by decide))⟩
  · have h := h2 q8
    clear h1 h2
    refine j_iconst dX0_law_10 ?_
    exact j_iret dX0_law_11 rfl ⟨_, rfl, rfl, hW, h, (by decide)⟩
/-- ChildSays.meaning(I)I -/
def wqX0_meaning (S : Nat → Nat) (o : Nat) (a1 : Int) (N : jSh) (F : jFl) (A : jAr) (Q : Int → Prop) : Prop :=
  ∃ (P1 : Int → Prop), wqX0_lawOf o a1 N F A P1 ∧
  ∀ z3, P1 z3 →
  ((¬ z3 < 0) →
    ∃ b9 : Nat, z3 = (b9 : Int) ∧
    jtg N b9 = 17 ∧
    ∃ b12 : Nat, jfn N 5102 b9 = (b12 : Int) ∧
    jtg N b12 = 4 ∧
    ∃ (P15 : Int → Prop), wqX3_meaning b12 N F A P15 ∧
    ∀ z17, P15 z17 →
    Q z17) ∧
  ((z3 < 0) →
    Q 1000000000)
theorem vX0_meaning {G : jG} {l : Launch} {d : Nat} {N : jSh} {F : jFl} {A : jAr} {o : Nat} {a1 : Int} {Q : Int → Prop} (hd : 6 ≤ d) (hW : jWg G N F A) (ht : jtg N o = 1) (ra1 : jR a1) (h : wqX0_meaning (gS G) o a1 N F A Q) : jCall G l d mX0_meaning [vR (o : Int), vI a1] N F A (jpI N F A Q) := by
  unfold wqX0_meaning at h
  refine jCall.of (by decide) rfl (ls := [vR (o : Int), vI a1, jD]) (by simp only [jent_R, jent_I, jent_L, jent_nil]; exact Nat.le_of_ble_eq_true rfl) (by simp only [jloc, jent_R, jent_I, jent_L, jent_nil]; rfl) ?_
  refine r_aload_n dX0_meaning_0 rfl ?_
  refine j_iload_n dX0_meaning_1 rfl ?_
  obtain ⟨P1, hp2, h⟩ := h
  refine r_invV (ci := 1) (As := [vI a1]) (rest := []) dX0_meaning_2 lkX0_239 rfl ht rfl rfl (vX0_lawOf (d := 5) (Nat.le_of_ble_eq_true rfl) hW ht ra1 hp2) rfl rfl (Nat.le_of_ble_eq_true rfl) (Nat.le_trans (Nat.le_of_ble_eq_true rfl) hd) (jkpR fun z3 p6 r7 => ?_)
  have h := h z3 p6
  refine r_astore_n dX0_meaning_5 rfl ?_
  refine r_aload_n dX0_meaning_6 rfl ?_
  obtain ⟨h1, h2⟩ := h
  refine r_ifnonnull 16 dX0_meaning_7 rfl (fun q8 => ?_) (fun q8 => ?_)
  · have h := h1 q8
    clear h1 h2
    refine r_aload_n dX0_meaning_16 rfl ?_
    obtain ⟨b9, hz10, h⟩ := h
    obtain ⟨t11, h⟩ := h
    refine r_gRF dX0_meaning_17 flX0_243_17 hz10 t11 rfl ?_
    obtain ⟨b12, hz13, h⟩ := h
    obtain ⟨t14, h⟩ := h
    obtain ⟨P15, hp16, h⟩ := h
    refine r_invV (ci := 4) (As := []) (rest := []) dX0_meaning_20 lkX0_507 hz13 t14 rfl rfl (vX3_meaning (d := 3) (Nat.le_of_ble_eq_true rfl) hW t14  hp16) rfl rfl (Nat.le_of_ble_eq_true rfl) (Nat.le_trans (Nat.le_of_ble_eq_true rfl) hd) (jkpI fun z17 p20 r21 => ?_)
    have h := h z17 p20
    exact j_iret dX0_meaning_23 rfl ⟨_, rfl, rfl, rfl, rfl, h, r21⟩
  · have h := h2 q8
    clear h1 h2
    refine j_ldcw (n := 1000000000) dX0_meaning_10 q1777 ?_
    refine j_goto 23 dX0_meaning_13 rfl ?_
    exact j_iret dX0_meaning_23 rfl ⟨_, rfl, rfl, rfl, rfl, h, (by decide)⟩
/-- ChildSays.octet(I)I -/
def wqX0_octet (S : Nat → Nat) (o : Nat) (a1 : Int) (N : jSh) (F : jFl) (A : jAr) (Q : Int → Prop) : Prop :=
  ∃ b1 : Nat, jfn N 350 o = (b1 : Int) ∧
  jtg N b1 = 21 ∧
  ∃ (P4 : Int → Prop), wqJ4_length b1 N F A P4 ∧
  ∀ z6, P4 z6 →
  jR (z6 - 1) ∧
  ∃ (P12 : Int → Prop), wqX0_isIn a1 0 (z6 - 1) N F A P12 ∧
  ∀ z14, P12 z14 →
  ((z14 = 0) →
    Q (-1)) ∧
  ((¬ (z14 = 0)) →
    ∃ (P20 : Int → Prop), wqJ4_charAt S b1 a1 N F A P20 ∧
    ∀ z22, P20 z22 →
    Q z22)
theorem vX0_octet {G : jG} {l : Launch} {d : Nat} {N : jSh} {F : jFl} {A : jAr} {o : Nat} {a1 : Int} {Q : Int → Prop} (hd : 6 ≤ d) (hW : jWg G N F A) (ht : jtg N o = 1) (ra1 : jR a1) (h : wqX0_octet (gS G) o a1 N F A Q) : jCall G l d mX0_octet [vR (o : Int), vI a1] N F A (jpI N F A Q) := by
  unfold wqX0_octet at h
  refine jCall.of (by decide) rfl (ls := [vR (o : Int), vI a1]) (by simp only [jent_R, jent_I, jent_L, jent_nil]; exact Nat.le_of_ble_eq_true rfl) (by simp only [jloc, jent_R, jent_I, jent_L, jent_nil]; rfl) ?_
  refine j_iload_n dX0_octet_0 rfl ?_
  refine j_i2l dX0_octet_1 ra1 ?_
  refine j_lconst 0 rfl dX0_octet_2 ?_
  refine r_aload_n dX0_octet_3 rfl ?_
  refine r_gRF dX0_octet_4 flX0_93_1 rfl ht rfl ?_
  obtain ⟨b1, hz2, h⟩ := h
  obtain ⟨t3, h⟩ := h
  obtain ⟨P4, hp5, h⟩ := h
  refine r_invV (ci := 21) (As := []) (rest := [vL 0, vL a1]) dX0_octet_7 lkX0_530 hz2 t3 rfl rfl (vJ4_length (d := 3) (Nat.le_of_ble_eq_true rfl) hW t3  hp5) rfl rfl (Nat.le_of_ble_eq_true rfl) (Nat.le_trans (Nat.le_of_ble_eq_true rfl) hd) (jkpI fun z6 p9 r10 => ?_)
  have h := h z6 p9
  refine j_iconst dX0_octet_10 ?_
  refine j_isub dX0_octet_11 ?_
  obtain ⟨r11, h⟩ := h
  refine j_i2l dX0_octet_12 r11 ?_
  obtain ⟨P12, hp13, h⟩ := h
  refine r_invS (As := [vL a1, vL 0, vL (z6 - 1)]) (rest := []) dX0_octet_13 lkX0_124 (vX0_isIn (d := 2) (Nat.le_of_ble_eq_true rfl) hW (jR_L ra1) (by decide) (jR_L r11) hp13) rfl rfl (Nat.le_of_ble_eq_true rfl) (Nat.le_trans (Nat.le_of_ble_eq_true rfl) hd) (jkpB fun z14 p17 r18 => ?_)
  have h := h z14 p17
  obtain ⟨h1, h2⟩ := h
  refine j_if_eq 30 dX0_octet_16 rfl (jR_b r18) (fun q19 => ?_) (fun q19 => ?_)
  · have h := h1 q19
    clear h1 h2
    refine j_iconst dX0_octet_30 ?_
    exact j_iret dX0_octet_31 rfl ⟨_, rfl, rfl, rfl, rfl, h, (by decide)⟩
  · have h := h2 q19
    clear h1 h2
    refine r_aload_n dX0_octet_19 rfl ?_
    refine r_gRF dX0_octet_20 flX0_93_1 rfl ht rfl ?_
    refine j_iload_n dX0_octet_23 rfl ?_
    obtain ⟨P20, hp21, h⟩ := h
    refine r_invV (ci := 21) (As := [vI a1]) (rest := []) dX0_octet_24 lkX0_535 hz2 t3 rfl rfl (vJ4_charAt (d := 5) (Nat.le_of_ble_eq_true rfl) hW t3 ra1 hp21) rfl rfl (Nat.le_of_ble_eq_true rfl) (Nat.le_trans (Nat.le_of_ble_eq_true rfl) hd) (jkpC fun z22 p25 r26 => ?_)
    have h := h z22 p25
    refine j_goto 31 dX0_octet_27 rfl ?_
    exact j_iret dX0_octet_31 rfl ⟨_, rfl, rfl, rfl, rfl, h, (jR_c r26)⟩
/-- ChildSays.rows(LChildSays$Child;LChildSays$Law;III)I -/
def wqX0_rows : Nat → Nat → Int → Int → Int → Int → Int → jSh → jFl → jAr → (Int → jFl → jAr → Prop) → Prop
  | 0, _, _, _, _, _, _, _, _, _, _ => False
  | n + 1, o, a1, a2, a3, a4, a5, N, F, A, Q =>
  ∃ b1 : Nat, a2 = (b1 : Int) ∧
  jtg N b1 = 17 ∧
  ∃ b4 : Nat, jfn N 5102 b1 = (b4 : Int) ∧
  jtg N b4 = 4 ∧
  ((¬ a3 = (F 1203 b4)) →
    ∃ (I14 : Int → Int → jFl → jAr → Prop) (m15 : Int → Int → jFl → jAr → Nat), I14 0 0 F A ∧ ∀ (v8 : Int) (v9 : Int) (F10 : jFl) (A11 : jAr), I14 v8 v9 F10 A11 →
      ∃ b16 : Nat, F10 311 o = (b16 : Int) ∧
      jtg N b16 = 2 ∧
      ∃ b19 : Nat, jfn N 617 b16 = (b19 : Int) ∧
      jtg N b19 = 20 ∧
      ∃ (P22 : Int → Prop), wqJ2_size b19 N F10 A11 P22 ∧
      ∀ z24, P22 z24 →
      ((z24 ≤ v9) →
        Q v8 F10 A11) ∧
      ((¬ (z24 ≤ v9)) →
        ((¬ a3 = a4) →
          ∃ b31 : Nat, a1 = (b31 : Int) ∧
          jtg N b31 = 16 ∧
          ∃ b34 : Nat, jfn N 4814 b31 = (b34 : Int) ∧
          jtg N b34 = 107 ∧
          ((0 : Int) ≤ v9 ∧ (v9 : Int) < (jln N b34 : Int)) ∧
          ∃ b38 : Nat, jfn N 1202 b4 = (b38 : Int) ∧
          jtg N b38 = 107 ∧
          ((0 : Int) ≤ a3 ∧ (a3 : Int) < (jln N b38 : Int)) ∧
          (((A11 b34 v9 = A11 b38 a3 ∨ (A11 b34 v9 < 0 ∧ A11 b38 a3 < 0))) →
            ∃ b43 : Nat, jfn N 347 o = (b43 : Int) ∧
            jtg N b43 = 4 ∧
            ∃ (P46 : Int → Prop), wqJ2_get b19 v9 N F10 A11 P46 ∧
            ∀ z48, P46 z48 →
            jcst N "ChildSays$Word" z48 ∧
            ∃ b54 : Nat, jfn N 1202 b43 = (b54 : Int) ∧
            jtg N b54 = 107 ∧
            jfn N 0 b54 = 1 ∧
            ((0 : Int) ≤ a3 ∧ (a3 : Int) < (jln N b54 : Int)) ∧
            jast N "ChildSays$Word" z48 ∧
            ∀ A59 : jAr, A59 = upA A11 b54 a3 z48 →
            jR (a3 + 1) ∧
            ∃ (P63 : Int → jFl → jAr → Prop), wqX0_rows n o a1 a2 (a3 + 1) a4 a5 N F10 A59 P63 ∧
            ∀ z65 F66 A67, P63 z65 F66 A67 →
            jR (v8 + z65) ∧
            ∀ v73 : Int, v73 = v8 + z65 →
            jR (v9 + 1) ∧
            I14 v73 (v9 + 1) F66 A67 ∧ m15 v73 (v9 + 1) F66 A67 < m15 v8 v9 F10 A11) ∧
          ((¬ ((A11 b34 v9 = A11 b38 a3 ∨ (A11 b34 v9 < 0 ∧ A11 b38 a3 < 0)))) →
            jR (v9 + 1) ∧
            I14 v8 (v9 + 1) F10 A11 ∧ m15 v8 (v9 + 1) F10 A11 < m15 v8 v9 F10 A11)) ∧
        ((a3 = a4) →
          ((¬ v9 = a5) →
            jR (v9 + 1) ∧
            I14 v8 (v9 + 1) F10 A11 ∧ m15 v8 (v9 + 1) F10 A11 < m15 v8 v9 F10 A11) ∧
          ((v9 = a5) →
            ∃ b78 : Nat, a1 = (b78 : Int) ∧
            jtg N b78 = 16 ∧
            ∃ b81 : Nat, jfn N 4814 b78 = (b81 : Int) ∧
            jtg N b81 = 107 ∧
            ((0 : Int) ≤ v9 ∧ (v9 : Int) < (jln N b81 : Int)) ∧
            ∃ b85 : Nat, jfn N 1202 b4 = (b85 : Int) ∧
            jtg N b85 = 107 ∧
            ((0 : Int) ≤ a3 ∧ (a3 : Int) < (jln N b85 : Int)) ∧
            (((A11 b81 v9 = A11 b85 a3 ∨ (A11 b81 v9 < 0 ∧ A11 b85 a3 < 0))) →
              ∃ b90 : Nat, jfn N 347 o = (b90 : Int) ∧
              jtg N b90 = 4 ∧
              ∃ (P93 : Int → Prop), wqJ2_get b19 v9 N F10 A11 P93 ∧
              ∀ z95, P93 z95 →
              jcst N "ChildSays$Word" z95 ∧
              ∃ b101 : Nat, jfn N 1202 b90 = (b101 : Int) ∧
              jtg N b101 = 107 ∧
              jfn N 0 b101 = 1 ∧
              ((0 : Int) ≤ a3 ∧ (a3 : Int) < (jln N b101 : Int)) ∧
              jast N "ChildSays$Word" z95 ∧
              ∀ A106 : jAr, A106 = upA A11 b101 a3 z95 →
              jR (a3 + 1) ∧
              ∃ (P110 : Int → jFl → jAr → Prop), wqX0_rows n o a1 a2 (a3 + 1) a4 a5 N F10 A106 P110 ∧
              ∀ z112 F113 A114, P110 z112 F113 A114 →
              jR (v8 + z112) ∧
              ∀ v120 : Int, v120 = v8 + z112 →
              jR (v9 + 1) ∧
              I14 v120 (v9 + 1) F113 A114 ∧ m15 v120 (v9 + 1) F113 A114 < m15 v8 v9 F10 A11) ∧
            ((¬ ((A11 b81 v9 = A11 b85 a3 ∨ (A11 b81 v9 < 0 ∧ A11 b85 a3 < 0)))) →
              jR (v9 + 1) ∧
              I14 v8 (v9 + 1) F10 A11 ∧ m15 v8 (v9 + 1) F10 A11 < m15 v8 v9 F10 A11))))) ∧
  ((a3 = (F 1203 b4)) →
    ∃ (P123 : Int → jFl → jAr → Prop), wqX0_isSaidSo o a1 a2 N F A P123 ∧
    ∀ z125 F126 A127, P123 z125 F126 A127 →
    ∀ z133 : Int, z133 = (if z125 = 0 then (0 : Int) else 1) →
    Q z133 F126 A127)
theorem vX0_rows {G : jG} {l : Launch} : ∀ (n : Nat) {d : Nat} {N : jSh} {F : jFl} {A : jAr} {o : Nat} {a1 a2 a3 a4 a5 : Int} {Q : Int → jFl → jAr → Prop}, 6 + n ≤ d → jWg G N F A → jtg N o = 1 → jR a3 → jR a4 → jR a5 → wqX0_rows n o a1 a2 a3 a4 a5 N F A Q → jCall G l d mX0_rows [vR (o : Int), vR a1, vR a2, vI a3, vI a4, vI a5] N F A (cmI G N Q) := by
  intro n
  induction n with
  | zero => intros; rename_i h; exact absurd h (by unfold wqX0_rows; exact id)
  | succ n ihn =>
    intro d N F A o a1 a2 a3 a4 a5 Q hd hW ht ra3 ra4 ra5 h
    unfold wqX0_rows at h
    refine jCall.of (by decide) rfl (ls := [vR (o : Int), vR a1, vR a2, vI a3, vI a4, vI a5, jD, jD]) (by simp only [jent_R, jent_I, jent_L, jent_nil]; exact Nat.le_of_ble_eq_true rfl) (by simp only [jloc, jent_R, jent_I, jent_L, jent_nil]; rfl) ?_
    refine j_iload_n dX0_rows_0 rfl ?_
    refine r_aload_n dX0_rows_1 rfl ?_
    obtain ⟨b1, hz2, h⟩ := h
    obtain ⟨t3, h⟩ := h
    refine r_gRF dX0_rows_2 flX0_243_17 hz2 t3 rfl ?_
    obtain ⟨b4, hz5, h⟩ := h
    obtain ⟨t6, h⟩ := h
    refine r_gI dX0_rows_5 flX0_296_4 hz5 t6 rfl ?_
    obtain ⟨h1, h2⟩ := h
    refine j_icmp_ne 26 dX0_rows_8 rfl ra3 (hW.fi rfl) (fun q7 => ?_) (fun q7 => ?_)
    · have h := h1 q7
      clear h1 h2
      refine j_iconst dX0_rows_26 ?_
      refine j_istore dX0_rows_27 rfl ?_
      refine j_iconst dX0_rows_29 ?_
      refine j_istore dX0_rows_30 rfl ?_
      obtain ⟨I14, m15, h0, hs⟩ := h
      have lp : ∀ (n : Nat) (v8 : Int) (v9 : Int) (F10 : jFl) (A11 : jAr), m15 v8 v9 F10 A11 < n → jWg G N F10 A11 → jR v8 → jR v9 → I14 v8 v9 F10 A11 → J G l d mX0_rows 32 [vR (o : Int), vR a1, vR a2, vI a3, vI a4, vI a5, vI v8, vI v9] [] N F10 A11 (cmI G N Q) := by
        intro nI14
        induction nI14 with
        | zero =>
          intro v8 v9 F10 A11 hmu
          exact absurd hmu (Nat.not_lt_zero _)
        | succ nI14 ihI14 =>
          intro v8 v9 F10 A11 hmuI14 hW12 rv8 rv9 hI
          have h := hs v8 v9 F10 A11 hI
          refine j_iload dX0_rows_32 rfl ?_
          refine r_aload_n dX0_rows_34 rfl ?_
          refine r_gR dX0_rows_35 flX0_20_1 rfl ht rfl ?_
          obtain ⟨b16, hz17, h⟩ := h
          obtain ⟨t18, h⟩ := h
          refine r_gRF dX0_rows_38 flX0_197_2 hz17 t18 rfl ?_
          obtain ⟨b19, hz20, h⟩ := h
          obtain ⟨t21, h⟩ := h
          obtain ⟨P22, hp23, h⟩ := h
          refine r_invV (ci := 20) (As := []) (rest := [vI v9]) dX0_rows_41 lkX0_128 hz20 t21 rfl rfl (vJ2_size (d := 2) (Nat.le_of_ble_eq_true rfl) hW12 t21  hp23) rfl rfl (Nat.le_of_ble_eq_true rfl) (by omega) (jkpI fun z24 p27 r28 => ?_)
          have h := h z24 p27
          obtain ⟨h1, h2⟩ := h
          refine j_icmp_ge 130 dX0_rows_44 rfl rv9 r28 (fun q29 => ?_) (fun q29 => ?_)
          · have h := h1 q29
            clear h1 h2
            refine j_iload dX0_rows_130 rfl ?_
            exact j_iret dX0_rows_132 rfl ⟨_, rfl, rfl, hW12, h, rv8⟩
          · have h := h2 q29
            clear h1 h2
            refine j_iload_n dX0_rows_47 rfl ?_
            refine j_iload dX0_rows_48 rfl ?_
            obtain ⟨h1, h2⟩ := h
            refine j_icmp_ne 60 dX0_rows_50 rfl ra3 ra4 (fun q30 => ?_) (fun q30 => ?_)
            · have h := h1 q30
              clear h1 h2
              refine r_aload_n dX0_rows_60 rfl ?_
              obtain ⟨b31, hz32, h⟩ := h
              obtain ⟨t33, h⟩ := h
              refine r_gRF dX0_rows_61 flX0_332_16 hz32 t33 rfl ?_
              refine j_iload dX0_rows_64 rfl ?_
              obtain ⟨b34, hz35, h⟩ := h
              obtain ⟨t36, h⟩ := h
              obtain ⟨c37, h⟩ := h
              refine r_aald dX0_rows_66 hz35 t36 rfl rfl c37 ?_
              refine r_aload_n dX0_rows_67 rfl ?_
              refine r_gRF dX0_rows_68 flX0_243_17 hz2 t3 rfl ?_
              refine r_gRF dX0_rows_71 flX0_319_4 hz5 t6 rfl ?_
              refine j_iload_n dX0_rows_74 rfl ?_
              obtain ⟨b38, hz39, h⟩ := h
              obtain ⟨t40, h⟩ := h
              obtain ⟨c41, h⟩ := h
              refine r_aald dX0_rows_75 hz39 t40 rfl rfl c41 ?_
              obtain ⟨h1, h2⟩ := h
              refine r_acmp_eq 82 dX0_rows_76 rfl (fun q42 => ?_) (fun q42 => ?_)
              · have h := h1 q42
                clear h1 h2
                refine r_aload_n dX0_rows_82 rfl ?_
                refine r_gRF dX0_rows_83 flX0_86_1 rfl ht rfl ?_
                obtain ⟨b43, hz44, h⟩ := h
                obtain ⟨t45, h⟩ := h
                refine r_gRF dX0_rows_86 flX0_319_4 hz44 t45 rfl ?_
                refine j_iload_n dX0_rows_89 rfl ?_
                refine r_aload_n dX0_rows_90 rfl ?_
                refine r_gR dX0_rows_91 flX0_20_1 rfl ht rfl ?_
                refine r_gRF dX0_rows_94 flX0_197_2 hz17 t18 rfl ?_
                refine j_iload dX0_rows_97 rfl ?_
                obtain ⟨P46, hp47, h⟩ := h
                refine r_invV (ci := 20) (As := [vI v9]) (rest := [vI a3, vR (jfn N 1202 b43)]) dX0_rows_99 lkX0_132 hz20 t21 rfl rfl (vJ2_get (d := 4) (Nat.le_of_ble_eq_true rfl) hW12 t21 rv9 hp47) rfl rfl (Nat.le_of_ble_eq_true rfl) (by omega) (jkpR fun z48 p51 r52 => ?_)
                have h := h z48 p51
                obtain ⟨j53, h⟩ := h
                refine r_chk dX0_rows_102 q1294 j53 ?_
                obtain ⟨b54, hz55, h⟩ := h
                obtain ⟨t56, h⟩ := h
                obtain ⟨w57, h⟩ := h
                obtain ⟨c58, h⟩ := h
                obtain ⟨j61, h⟩ := h
                refine c_aast hW12 dX0_rows_105 hz55 t56 rfl w57 c58 j61 rfl fun A59 eA59 hW60 => ?_
                have h := h A59 eA59
                refine j_iload dX0_rows_106 rfl ?_
                refine r_aload_n dX0_rows_108 rfl ?_
                refine r_aload_n dX0_rows_109 rfl ?_
                refine r_aload_n dX0_rows_110 rfl ?_
                refine j_iload_n dX0_rows_111 rfl ?_
                refine j_iconst dX0_rows_112 ?_
                refine j_iadd dX0_rows_113 ?_
                refine j_iload dX0_rows_114 rfl ?_
                refine j_iload dX0_rows_116 rfl ?_
                obtain ⟨r62, h⟩ := h
                obtain ⟨P63, hp64, h⟩ := h
                refine r_invV (ci := 1) (As := [vR a1, vR a2, vI (a3 + 1), vI a4, vI a5]) (rest := [vI v8]) dX0_rows_118 lkX0_502 rfl ht rfl rfl (ihn (d := 6 + n) (Nat.le_refl _) hW60 ht r62 ra4 ra5 hp64) rfl rfl (Nat.le_of_ble_eq_true rfl) hd (ckmI fun z65 F66 A67 hW68 p70 r71 => ?_)
                have h := h z65 F66 A67 p70
                refine j_iadd dX0_rows_121 ?_
                obtain ⟨r72, h⟩ := h
                obtain ⟨v73, ev73⟩ : ∃ x : Int, x = v8 + z65 := ⟨_, rfl⟩
                have h := h v73 ev73
                refine jnmI (e := ev73) ?_
                refine j_istore dX0_rows_122 rfl ?_
                obtain ⟨r74, h⟩ := h
                refine j_iinc dX0_rows_124 rfl rfl ?_
                refine j_goto 32 dX0_rows_127 rfl ?_
                exact J.wk (((((((((jWk.nil).eq).eq).eq).eq).eq).eq).eq).eq) (ihI14 _ _ _ _ (Nat.lt_of_lt_of_le h.2 (Nat.le_of_lt_succ hmuI14)) hW68 (ev73 ▸ r72) r74 h.1)
              · have h := h2 q42
                clear h1 h2
                refine j_goto 124 dX0_rows_79 rfl ?_
                obtain ⟨r75, h⟩ := h
                refine j_iinc dX0_rows_124 rfl rfl ?_
                refine j_goto 32 dX0_rows_127 rfl ?_
                exact J.wk (((((((((jWk.nil).eq).eq).eq).eq).eq).eq).eq).eq) (ihI14 _ _ _ _ (Nat.lt_of_lt_of_le h.2 (Nat.le_of_lt_succ hmuI14)) hW12 rv8 r75 h.1)
            · have h := h2 (Classical.not_not.mp q30)
              clear h1 h2
              refine j_iload dX0_rows_53 rfl ?_
              refine j_iload dX0_rows_55 rfl ?_
              obtain ⟨h1, h2⟩ := h
              refine j_icmp_ne 124 dX0_rows_57 rfl rv9 ra5 (fun q76 => ?_) (fun q76 => ?_)
              · have h := h1 q76
                clear h1 h2
                obtain ⟨r77, h⟩ := h
                refine j_iinc dX0_rows_124 rfl rfl ?_
                refine j_goto 32 dX0_rows_127 rfl ?_
                exact J.wk (((((((((jWk.nil).eq).eq).eq).eq).eq).eq).eq).eq) (ihI14 _ _ _ _ (Nat.lt_of_lt_of_le h.2 (Nat.le_of_lt_succ hmuI14)) hW12 rv8 r77 h.1)
              · have h := h2 (Classical.not_not.mp q76)
                clear h1 h2
                refine r_aload_n dX0_rows_60 rfl ?_
                obtain ⟨b78, hz79, h⟩ := h
                obtain ⟨t80, h⟩ := h
                refine r_gRF dX0_rows_61 flX0_332_16 hz79 t80 rfl ?_
                refine j_iload dX0_rows_64 rfl ?_
                obtain ⟨b81, hz82, h⟩ := h
                obtain ⟨t83, h⟩ := h
                obtain ⟨c84, h⟩ := h
                refine r_aald dX0_rows_66 hz82 t83 rfl rfl c84 ?_
                refine r_aload_n dX0_rows_67 rfl ?_
                refine r_gRF dX0_rows_68 flX0_243_17 hz2 t3 rfl ?_
                refine r_gRF dX0_rows_71 flX0_319_4 hz5 t6 rfl ?_
                refine j_iload_n dX0_rows_74 rfl ?_
                obtain ⟨b85, hz86, h⟩ := h
                obtain ⟨t87, h⟩ := h
                obtain ⟨c88, h⟩ := h
                refine r_aald dX0_rows_75 hz86 t87 rfl rfl c88 ?_
                obtain ⟨h1, h2⟩ := h
                refine r_acmp_eq 82 dX0_rows_76 rfl (fun q89 => ?_) (fun q89 => ?_)
                · have h := h1 q89
                  clear h1 h2
                  refine r_aload_n dX0_rows_82 rfl ?_
                  refine r_gRF dX0_rows_83 flX0_86_1 rfl ht rfl ?_
                  obtain ⟨b90, hz91, h⟩ := h
                  obtain ⟨t92, h⟩ := h
                  refine r_gRF dX0_rows_86 flX0_319_4 hz91 t92 rfl ?_
                  refine j_iload_n dX0_rows_89 rfl ?_
                  refine r_aload_n dX0_rows_90 rfl ?_
                  refine r_gR dX0_rows_91 flX0_20_1 rfl ht rfl ?_
                  refine r_gRF dX0_rows_94 flX0_197_2 hz17 t18 rfl ?_
                  refine j_iload dX0_rows_97 rfl ?_
                  obtain ⟨P93, hp94, h⟩ := h
                  refine r_invV (ci := 20) (As := [vI v9]) (rest := [vI a3, vR (jfn N 1202 b90)]) dX0_rows_99 lkX0_132 hz20 t21 rfl rfl (vJ2_get (d := 4) (Nat.le_of_ble_eq_true rfl) hW12 t21 rv9 hp94) rfl rfl (Nat.le_of_ble_eq_true rfl) (by omega) (jkpR fun z95 p98 r99 => ?_)
                  have h := h z95 p98
                  obtain ⟨j100, h⟩ := h
                  refine r_chk dX0_rows_102 q1294 j100 ?_
                  obtain ⟨b101, hz102, h⟩ := h
                  obtain ⟨t103, h⟩ := h
                  obtain ⟨w104, h⟩ := h
                  obtain ⟨c105, h⟩ := h
                  obtain ⟨j108, h⟩ := h
                  refine c_aast hW12 dX0_rows_105 hz102 t103 rfl w104 c105 j108 rfl fun A106 eA106 hW107 => ?_
                  have h := h A106 eA106
                  refine j_iload dX0_rows_106 rfl ?_
                  refine r_aload_n dX0_rows_108 rfl ?_
                  refine r_aload_n dX0_rows_109 rfl ?_
                  refine r_aload_n dX0_rows_110 rfl ?_
                  refine j_iload_n dX0_rows_111 rfl ?_
                  refine j_iconst dX0_rows_112 ?_
                  refine j_iadd dX0_rows_113 ?_
                  refine j_iload dX0_rows_114 rfl ?_
                  refine j_iload dX0_rows_116 rfl ?_
                  obtain ⟨r109, h⟩ := h
                  obtain ⟨P110, hp111, h⟩ := h
                  refine r_invV (ci := 1) (As := [vR a1, vR a2, vI (a3 + 1), vI a4, vI a5]) (rest := [vI v8]) dX0_rows_118 lkX0_502 rfl ht rfl rfl (ihn (d := 6 + n) (Nat.le_refl _) hW107 ht r109 ra4 ra5 hp111) rfl rfl (Nat.le_of_ble_eq_true rfl) hd (ckmI fun z112 F113 A114 hW115 p117 r118 => ?_)
                  have h := h z112 F113 A114 p117
                  refine j_iadd dX0_rows_121 ?_
                  obtain ⟨r119, h⟩ := h
                  obtain ⟨v120, ev120⟩ : ∃ x : Int, x = v8 + z112 := ⟨_, rfl⟩
                  have h := h v120 ev120
                  refine jnmI (e := ev120) ?_
                  refine j_istore dX0_rows_122 rfl ?_
                  obtain ⟨r121, h⟩ := h
                  refine j_iinc dX0_rows_124 rfl rfl ?_
                  refine j_goto 32 dX0_rows_127 rfl ?_
                  exact J.wk (((((((((jWk.nil).eq).eq).eq).eq).eq).eq).eq).eq) (ihI14 _ _ _ _ (Nat.lt_of_lt_of_le h.2 (Nat.le_of_lt_succ hmuI14)) hW115 (ev120 ▸ r119) r121 h.1)
                · have h := h2 q89
                  clear h1 h2
                  refine j_goto 124 dX0_rows_79 rfl ?_
                  obtain ⟨r122, h⟩ := h
                  refine j_iinc dX0_rows_124 rfl rfl ?_
                  refine j_goto 32 dX0_rows_127 rfl ?_
                  exact J.wk (((((((((jWk.nil).eq).eq).eq).eq).eq).eq).eq).eq) (ihI14 _ _ _ _ (Nat.lt_of_lt_of_le h.2 (Nat.le_of_lt_succ hmuI14)) hW12 rv8 r122 h.1)
      exact J.wk (((((((((jWk.nil).eq).eq).eq).eq).eq).eq).eq).eq) (lp _ _ _ _ _ (Nat.lt_succ_self _) hW (by decide) (by decide) h0)
    · have h := h2 (Classical.not_not.mp q7)
      clear h1 h2
      refine r_aload_n dX0_rows_11 rfl ?_
      refine r_aload_n dX0_rows_12 rfl ?_
      refine r_aload_n dX0_rows_13 rfl ?_
      obtain ⟨P123, hp124, h⟩ := h
      refine r_invV (ci := 1) (As := [vR a1, vR a2]) (rest := []) dX0_rows_14 lkX0_498 rfl ht rfl rfl (vX0_isSaidSo (d := 5) (Nat.le_of_ble_eq_true rfl) hW ht  hp124) rfl rfl (Nat.le_of_ble_eq_true rfl) (by omega) (ckmB fun z125 F126 A127 hW128 p130 r131 => ?_)
      have h := h z125 F126 A127 p130
      have jn134 : ∀ z133 : Int, z133 = (if z125 = 0 then (0 : Int) else 1) → J G l d mX0_rows 25 [vR (o : Int), vR a1, vR a2, vI a3, vI a4, vI a5, jD, jD] [vI z133] N F126 A127 (cmI G N Q) := by
        intro z133 ez133
        have h := h z133 ez133
        exact j_iret dX0_rows_25 rfl ⟨_, rfl, rfl, hW128, h, (ez133 ▸ jR_ite (by decide) (by decide))⟩
      clear h
      refine j_if_eq 24 dX0_rows_17 rfl (jR_b r131) (fun q132 => ?_) (fun q132 => ?_)
      · refine j_iconst dX0_rows_24 ?_
        exact jn134 _ (if_pos q132).symm
      · refine j_iconst dX0_rows_20 ?_
        refine j_goto 25 dX0_rows_21 rfl ?_
        exact jn134 _ (if_neg q132).symm
/-- ChildSays.standingOf(I)LChildSays$Law; -/
def wqX0_standingOf (o : Nat) (a1 : Int) (N : jSh) (F : jFl) (A : jAr) (Q : Int → Prop) : Prop :=
  ∃ (P1 : Int → Prop), wqX0_lawOf o a1 N F A P1 ∧
  ∀ z3, P1 z3 →
  ((z3 < 0) →
    Q (-1)) ∧
  ((¬ (z3 < 0)) →
    ∃ b9 : Nat, z3 = (b9 : Int) ∧
    jtg N b9 = 17 ∧
    ∃ b12 : Nat, jfn N 5102 b9 = (b12 : Int) ∧
    jtg N b12 = 4 ∧
    ∃ (P15 : Int → Prop), wqX3_isOne b12 N F A P15 ∧
    ∀ z17, P15 z17 →
    ((¬ z17 = 0) →
      Q z3) ∧
    ((z17 = 0) →
      Q (-1)))
theorem vX0_standingOf {G : jG} {l : Launch} {d : Nat} {N : jSh} {F : jFl} {A : jAr} {o : Nat} {a1 : Int} {Q : Int → Prop} (hd : 6 ≤ d) (hW : jWg G N F A) (ht : jtg N o = 1) (ra1 : jR a1) (h : wqX0_standingOf o a1 N F A Q) : jCall G l d mX0_standingOf [vR (o : Int), vI a1] N F A (jpR N F A Q) := by
  unfold wqX0_standingOf at h
  refine jCall.of (by decide) rfl (ls := [vR (o : Int), vI a1, jD]) (by simp only [jent_R, jent_I, jent_L, jent_nil]; exact Nat.le_of_ble_eq_true rfl) (by simp only [jloc, jent_R, jent_I, jent_L, jent_nil]; rfl) ?_
  refine r_aload_n dX0_standingOf_0 rfl ?_
  refine j_iload_n dX0_standingOf_1 rfl ?_
  obtain ⟨P1, hp2, h⟩ := h
  refine r_invV (ci := 1) (As := [vI a1]) (rest := []) dX0_standingOf_2 lkX0_239 rfl ht rfl rfl (vX0_lawOf (d := 5) (Nat.le_of_ble_eq_true rfl) hW ht ra1 hp2) rfl rfl (Nat.le_of_ble_eq_true rfl) (Nat.le_trans (Nat.le_of_ble_eq_true rfl) hd) (jkpR fun z3 p6 r7 => ?_)
  have h := h z3 p6
  refine r_astore_n dX0_standingOf_5 rfl ?_
  refine r_aload_n dX0_standingOf_6 rfl ?_
  obtain ⟨h1, h2⟩ := h
  refine r_ifnull 20 dX0_standingOf_7 rfl (fun q8 => ?_) (fun q8 => ?_)
  · have h := h1 q8
    clear h1 h2
    refine r_null dX0_standingOf_20 ?_
    refine j_goto 25 dX0_standingOf_21 rfl ?_
    exact r_aret dX0_standingOf_25 rfl (Or.inl ⟨_, rfl⟩) ⟨_, rfl, rfl, rfl, rfl, h, trivial⟩
  · have h := h2 q8
    clear h1 h2
    refine r_aload_n dX0_standingOf_10 rfl ?_
    obtain ⟨b9, hz10, h⟩ := h
    obtain ⟨t11, h⟩ := h
    refine r_gRF dX0_standingOf_11 flX0_243_17 hz10 t11 rfl ?_
    obtain ⟨b12, hz13, h⟩ := h
    obtain ⟨t14, h⟩ := h
    obtain ⟨P15, hp16, h⟩ := h
    refine r_invV (ci := 4) (As := []) (rest := []) dX0_standingOf_14 lkX0_246 hz13 t14 rfl rfl (vX3_isOne (d := 2) (Nat.le_of_ble_eq_true rfl) hW t14  hp16) rfl rfl (Nat.le_of_ble_eq_true rfl) (Nat.le_trans (Nat.le_of_ble_eq_true rfl) hd) (jkpB fun z17 p20 r21 => ?_)
    have h := h z17 p20
    obtain ⟨h1, h2⟩ := h
    refine j_if_ne 24 dX0_standingOf_17 rfl (jR_b r21) (fun q22 => ?_) (fun q22 => ?_)
    · have h := h1 q22
      clear h1 h2
      refine r_aload_n dX0_standingOf_24 rfl ?_
      exact r_aret dX0_standingOf_25 rfl (Or.inl ⟨_, rfl⟩) ⟨_, rfl, rfl, rfl, rfl, h, trivial⟩
    · have h := h2 (Classical.not_not.mp q22)
      clear h1 h2
      refine r_null dX0_standingOf_20 ?_
      refine j_goto 25 dX0_standingOf_21 rfl ?_
      exact r_aret dX0_standingOf_25 rfl (Or.inl ⟨_, rfl⟩) ⟨_, rfl, rfl, rfl, rfl, h, trivial⟩
/-- ChildSays.stands(LChildSays$Law;LChildSays$Child;)Z -/
def wqX0_stands (o : Nat) (a1 : Int) (a2 : Int) (N : jSh) (F : jFl) (A : jAr) (Q : Int → jFl → jAr → Prop) : Prop :=
  ∃ b1 : Nat, a1 = (b1 : Int) ∧
  jtg N b1 = 17 ∧
  ∃ b4 : Nat, jfn N 5102 b1 = (b4 : Int) ∧
  jtg N b4 = 4 ∧
  ∃ (P7 : Int → Prop), wqX3_isOne b4 N F A P7 ∧
  ∀ z9, P7 z9 →
  ((z9 = 0) →
    Q 0 F A) ∧
  ((¬ (z9 = 0)) →
    ∃ b15 : Nat, jfn N 326 o = (b15 : Int) ∧
    jtg N b15 = 3 ∧
    ∃ (P18 : Int → jFl → jAr → Prop), wqX2_of b15 a2 a1 N F A P18 ∧
    ∀ z20 F21 A22, P18 z20 F21 A22 →
    ∃ b27 : Nat, z20 = (b27 : Int) ∧
    jtg N b27 = 3 ∧
    ∀ z31 : Int, z31 = (if ¬ (F21 903 b27) = 0 then (0 : Int) else 1) →
    Q z31 F21 A22)
theorem vX0_stands {G : jG} {l : Launch} {d : Nat} {N : jSh} {F : jFl} {A : jAr} {o : Nat} {a1 a2 : Int} {Q : Int → jFl → jAr → Prop} (hd : 6 ≤ d) (hW : jWg G N F A) (ht : jtg N o = 1) (h : wqX0_stands o a1 a2 N F A Q) : jCall G l d mX0_stands [vR (o : Int), vR a1, vR a2] N F A (cmB G N Q) := by
  unfold wqX0_stands at h
  refine jCall.of (by decide) rfl (ls := [vR (o : Int), vR a1, vR a2]) (by simp only [jent_R, jent_I, jent_L, jent_nil]; exact Nat.le_of_ble_eq_true rfl) (by simp only [jloc, jent_R, jent_I, jent_L, jent_nil]; rfl) ?_
  refine r_aload_n dX0_stands_0 rfl ?_
  obtain ⟨b1, hz2, h⟩ := h
  obtain ⟨t3, h⟩ := h
  refine r_gRF dX0_stands_1 flX0_243_17 hz2 t3 rfl ?_
  obtain ⟨b4, hz5, h⟩ := h
  obtain ⟨t6, h⟩ := h
  obtain ⟨P7, hp8, h⟩ := h
  refine r_invV (ci := 4) (As := []) (rest := []) dX0_stands_4 lkX0_246 hz5 t6 rfl rfl (vX3_isOne (d := 2) (Nat.le_of_ble_eq_true rfl) hW t6  hp8) rfl rfl (Nat.le_of_ble_eq_true rfl) (Nat.le_trans (Nat.le_of_ble_eq_true rfl) hd) (jkpB fun z9 p12 r13 => ?_)
  have h := h z9 p12
  obtain ⟨h1, h2⟩ := h
  refine j_if_eq 29 dX0_stands_7 rfl (jR_b r13) (fun q14 => ?_) (fun q14 => ?_)
  · have h := h1 q14
    clear h1 h2
    refine j_iconst dX0_stands_29 ?_
    exact j_zret dX0_stands_30 rfl (nr_bool (by decide)) ⟨_, rfl, rfl, hW, h, (by decide)⟩
  · have h := h2 q14
    clear h1 h2
    refine r_aload_n dX0_stands_10 rfl ?_
    refine r_gRF dX0_stands_11 flX0_44_1 rfl ht rfl ?_
    refine r_aload_n dX0_stands_14 rfl ?_
    refine r_aload_n dX0_stands_15 rfl ?_
    obtain ⟨b15, hz16, h⟩ := h
    obtain ⟨t17, h⟩ := h
    obtain ⟨P18, hp19, h⟩ := h
    refine r_invV (ci := 3) (As := [vR a2, vR a1]) (rest := []) dX0_stands_16 lkX0_339 hz16 t17 rfl rfl (vX2_of (d := 5) (Nat.le_of_ble_eq_true rfl) hW t17  hp19) rfl rfl (Nat.le_of_ble_eq_true rfl) (Nat.le_trans (Nat.le_of_ble_eq_true rfl) hd) (ckmR fun z20 F21 A22 hW23 p25 r26 => ?_)
    have h := h z20 F21 A22 p25
    obtain ⟨b27, hz28, h⟩ := h
    obtain ⟨t29, h⟩ := h
    refine r_gI dX0_stands_19 flX0_343_3 hz28 t29 rfl ?_
    have jn32 : ∀ z31 : Int, z31 = (if ¬ (F21 903 b27) = 0 then (0 : Int) else 1) → J G l d mX0_stands 30 [vR (o : Int), vR a1, vR a2] [vI z31] N F21 A22 (cmB G N Q) := by
      intro z31 ez31
      have h := h z31 ez31
      exact j_zret dX0_stands_30 rfl (nr_bool (ez31 ▸ jB_ite (by decide) (by decide))) ⟨_, rfl, rfl, hW23, h, (ez31 ▸ jB_ite (by decide) (by decide))⟩
    clear h
    refine j_if_ne 29 dX0_stands_22 rfl (hW23.fi rfl) (fun q30 => ?_) (fun q30 => ?_)
    · refine j_iconst dX0_stands_29 ?_
      exact jn32 _ (if_pos q30).symm
    · refine j_iconst dX0_stands_25 ?_
      refine j_goto 30 dX0_stands_26 rfl ?_
      exact jn32 _ (if_neg q30).symm
/-- ChildSays.word(II)I -/
def wqX0_word (o : Nat) (a1 : Int) (a2 : Int) (N : jSh) (F : jFl) (A : jAr) (Q : Int → Prop) : Prop :=
  ∃ (P1 : Int → Prop), wqX0_wordOf o a1 N F A P1 ∧
  ∀ z3, P1 z3 →
  ((¬ z3 < 0) →
    ∃ (I12 : Int → Int → Prop) (m13 : Int → Int → Nat), I12 0 0 ∧ ∀ (v9 : Int) (v10 : Int), I12 v9 v10 →
      ∃ b14 : Nat, F 311 o = (b14 : Int) ∧
      jtg N b14 = 2 ∧
      ∃ b17 : Nat, jfn N 626 b14 = (b17 : Int) ∧
      jtg N b17 = 20 ∧
      ∃ (P20 : Int → Prop), wqJ2_size b17 N F A P20 ∧
      ∀ z22, P20 z22 →
      ((z22 ≤ v10) →
        (a2 = 0 →
          ∃ b28 : Nat, z3 = (b28 : Int) ∧
          jtg N b28 = 14 ∧
          Q (F 4200 b28)) ∧
        (a2 = 1 →
          ∃ b31 : Nat, z3 = (b31 : Int) ∧
          jtg N b31 = 14 ∧
          Q (F 4203 b31)) ∧
        (a2 = 2 →
          ∃ b34 : Nat, z3 = (b34 : Int) ∧
          jtg N b34 = 14 ∧
          Q (F 4206 b34)) ∧
        (a2 = 3 →
          ∃ b37 : Nat, z3 = (b37 : Int) ∧
          jtg N b37 = 14 ∧
          Q (F 4209 b37)) ∧
        (a2 = 4 →
          ∃ b40 : Nat, z3 = (b40 : Int) ∧
          jtg N b40 = 14 ∧
          ∀ z44 : Int, z44 = (if (F 4212 b40) = 0 then (0 : Int) else 1) →
          Q z44) ∧
        (a2 = 5 →
          Q v9) ∧
        (¬ a2 = 0 → ¬ a2 = 1 → ¬ a2 = 2 → ¬ a2 = 3 → ¬ a2 = 4 → ¬ a2 = 5 →
          Q (-1))) ∧
      ((¬ (z22 ≤ v10)) →
        ∃ (P52 : Int → Prop), wqJ2_get b17 v10 N F A P52 ∧
        ∀ z54, P52 z54 →
        jcst N "ChildSays$Law" z54 ∧
        ∃ b60 : Nat, z54 = (b60 : Int) ∧
        jtg N b60 = 17 ∧
        ∃ b63 : Nat, jfn N 5102 b60 = (b63 : Int) ∧
        jtg N b63 = 4 ∧
        ∃ (P66 : Int → Prop), wqX3_has b63 z3 N F A P66 ∧
        ∀ z68, P66 z68 →
        ((z68 = 0) →
          jR (v10 + 1) ∧
          I12 v9 (v10 + 1) ∧ m13 v9 (v10 + 1) < m13 v9 v10) ∧
        ((¬ (z68 = 0)) →
          jR (v9 + 1) ∧
          jR (v10 + 1) ∧
          I12 (v9 + 1) (v10 + 1) ∧ m13 (v9 + 1) (v10 + 1) < m13 v9 v10))) ∧
  ((z3 < 0) →
    Q (-1))
theorem vX0_word {G : jG} {l : Launch} {d : Nat} {N : jSh} {F : jFl} {A : jAr} {o : Nat} {a1 a2 : Int} {Q : Int → Prop} (hd : 6 ≤ d) (hW : jWg G N F A) (ht : jtg N o = 1) (ra1 : jR a1) (ra2 : jR a2) (h : wqX0_word o a1 a2 N F A Q) : jCall G l d mX0_word [vR (o : Int), vI a1, vI a2] N F A (jpI N F A Q) := by
  unfold wqX0_word at h
  refine jCall.of (by decide) rfl (ls := [vR (o : Int), vI a1, vI a2, jD, jD, jD]) (by simp only [jent_R, jent_I, jent_L, jent_nil]; exact Nat.le_of_ble_eq_true rfl) (by simp only [jloc, jent_R, jent_I, jent_L, jent_nil]; rfl) ?_
  refine r_aload_n dX0_word_0 rfl ?_
  refine j_iload_n dX0_word_1 rfl ?_
  obtain ⟨P1, hp2, h⟩ := h
  refine r_invV (ci := 1) (As := [vI a1]) (rest := []) dX0_word_2 lkX0_249 rfl ht rfl rfl (vX0_wordOf (d := 5) (Nat.le_of_ble_eq_true rfl) hW ht ra1 hp2) rfl rfl (Nat.le_of_ble_eq_true rfl) (Nat.le_trans (Nat.le_of_ble_eq_true rfl) hd) (jkpR fun z3 p6 r7 => ?_)
  have h := h z3 p6
  refine r_astore_n dX0_word_5 rfl ?_
  refine r_aload_n dX0_word_6 rfl ?_
  obtain ⟨h1, h2⟩ := h
  refine r_ifnonnull 12 dX0_word_7 rfl (fun q8 => ?_) (fun q8 => ?_)
  · have h := h1 q8
    clear h1 h2
    refine j_iconst dX0_word_12 ?_
    refine j_istore dX0_word_13 (jokR rfl (Nat.le_of_ble_eq_true rfl)) ?_
    refine j_iconst dX0_word_15 ?_
    refine j_istore dX0_word_16 rfl ?_
    obtain ⟨I12, m13, h0, hs⟩ := h
    have lp : ∀ (n : Nat) (v9 : Int) (v10 : Int), m13 v9 v10 < n → jR v9 → jR v10 → I12 v9 v10 → J G l d mX0_word 18 [vR (o : Int), jD, vI a2, vR z3, vI v9, vI v10] [] N F A (jpI N F A Q) := by
      intro nI12
      induction nI12 with
      | zero =>
        intro v9 v10 hmu
        exact absurd hmu (Nat.not_lt_zero _)
      | succ nI12 ihI12 =>
        intro v9 v10 hmuI12 rv9 rv10 hI
        have h := hs v9 v10 hI
        refine j_iload dX0_word_18 rfl ?_
        refine r_aload_n dX0_word_20 rfl ?_
        refine r_gR dX0_word_21 flX0_20_1 rfl ht rfl ?_
        obtain ⟨b14, hz15, h⟩ := h
        obtain ⟨t16, h⟩ := h
        refine r_gRF dX0_word_24 flX0_206_2 hz15 t16 rfl ?_
        obtain ⟨b17, hz18, h⟩ := h
        obtain ⟨t19, h⟩ := h
        obtain ⟨P20, hp21, h⟩ := h
        refine r_invV (ci := 20) (As := []) (rest := [vI v10]) dX0_word_27 lkX0_128 hz18 t19 rfl rfl (vJ2_size (d := 2) (Nat.le_of_ble_eq_true rfl) hW t19  hp21) rfl rfl (Nat.le_of_ble_eq_true rfl) (Nat.le_trans (Nat.le_of_ble_eq_true rfl) hd) (jkpI fun z22 p25 r26 => ?_)
        have h := h z22 p25
        obtain ⟨h1, h2⟩ := h
        refine j_icmp_ge 67 dX0_word_30 rfl rv10 r26 (fun q27 => ?_) (fun q27 => ?_)
        · have h := h1 q27
          clear h1 h2
          refine j_iload_n dX0_word_67 rfl ?_
          obtain ⟨h1, h⟩ := h
          by_cases q46 : a2 = 0
          · refine j_tableIn (off := 40) 108 dX0_word_68 ra2 (by rw [q46]; decide) (by rw [q46]; decide) (by rw [q46]; rfl) rfl ?_
            have h := h1 q46
            clear h1
            refine r_aload_n dX0_word_108 rfl ?_
            obtain ⟨b28, hz29, h⟩ := h
            obtain ⟨t30, h⟩ := h
            refine r_gI dX0_word_109 flX0_257_14 hz29 t30 rfl ?_
            exact j_iret dX0_word_112 rfl ⟨_, rfl, rfl, rfl, rfl, h, (hW.fi rfl)⟩
          clear h1
          obtain ⟨h1, h⟩ := h
          by_cases q47 : a2 = 1
          · refine j_tableIn (off := 45) 113 dX0_word_68 ra2 (by rw [q47]; decide) (by rw [q47]; decide) (by rw [q47]; rfl) rfl ?_
            have h := h1 q47
            clear h1
            refine r_aload_n dX0_word_113 rfl ?_
            obtain ⟨b31, hz32, h⟩ := h
            obtain ⟨t33, h⟩ := h
            refine r_gI dX0_word_114 flX0_260_14 hz32 t33 rfl ?_
            exact j_iret dX0_word_117 rfl ⟨_, rfl, rfl, rfl, rfl, h, (hW.fi rfl)⟩
          clear h1
          obtain ⟨h1, h⟩ := h
          by_cases q48 : a2 = 2
          · refine j_tableIn (off := 50) 118 dX0_word_68 ra2 (by rw [q48]; decide) (by rw [q48]; decide) (by rw [q48]; rfl) rfl ?_
            have h := h1 q48
            clear h1
            refine r_aload_n dX0_word_118 rfl ?_
            obtain ⟨b34, hz35, h⟩ := h
            obtain ⟨t36, h⟩ := h
            refine r_gI dX0_word_119 flX0_263_14 hz35 t36 rfl ?_
            exact j_iret dX0_word_122 rfl ⟨_, rfl, rfl, rfl, rfl, h, (hW.fi rfl)⟩
          clear h1
          obtain ⟨h1, h⟩ := h
          by_cases q49 : a2 = 3
          · refine j_tableIn (off := 55) 123 dX0_word_68 ra2 (by rw [q49]; decide) (by rw [q49]; decide) (by rw [q49]; rfl) rfl ?_
            have h := h1 q49
            clear h1
            refine r_aload_n dX0_word_123 rfl ?_
            obtain ⟨b37, hz38, h⟩ := h
            obtain ⟨t39, h⟩ := h
            refine r_gI dX0_word_124 flX0_266_14 hz38 t39 rfl ?_
            exact j_iret dX0_word_127 rfl ⟨_, rfl, rfl, rfl, rfl, h, (hW.fi rfl)⟩
          clear h1
          obtain ⟨h1, h⟩ := h
          by_cases q50 : a2 = 4
          · refine j_tableIn (off := 60) 128 dX0_word_68 ra2 (by rw [q50]; decide) (by rw [q50]; decide) (by rw [q50]; rfl) rfl ?_
            have h := h1 q50
            clear h1
            refine r_aload_n dX0_word_128 rfl ?_
            obtain ⟨b40, hz41, h⟩ := h
            obtain ⟨t42, h⟩ := h
            refine r_gI dX0_word_129 flX0_269_14 hz41 t42 rfl ?_
            have jn45 : ∀ z44 : Int, z44 = (if (F 4212 b40) = 0 then (0 : Int) else 1) → J G l d mX0_word 140 [vR (o : Int), jD, vI a2, vR z3, vI v9, vI v10] [vI z44] N F A (jpI N F A Q) := by
              intro z44 ez44
              have h := h z44 ez44
              exact j_iret dX0_word_140 rfl ⟨_, rfl, rfl, rfl, rfl, h, (ez44 ▸ jR_ite (by decide) (by decide))⟩
            clear h
            refine j_if_eq 139 dX0_word_132 rfl (hW.fi rfl) (fun q43 => ?_) (fun q43 => ?_)
            · refine j_iconst dX0_word_139 ?_
              exact jn45 _ (if_pos q43).symm
            · refine j_iconst dX0_word_135 ?_
              refine j_goto 140 dX0_word_136 rfl ?_
              exact jn45 _ (if_neg q43).symm
          clear h1
          obtain ⟨h1, h⟩ := h
          by_cases q51 : a2 = 5
          · refine j_tableIn (off := 73) 141 dX0_word_68 ra2 (by rw [q51]; decide) (by rw [q51]; decide) (by rw [q51]; rfl) rfl ?_
            have h := h1 q51
            clear h1
            refine j_iload dX0_word_141 rfl ?_
            exact j_iret dX0_word_143 rfl ⟨_, rfl, rfl, rfl, rfl, h, rv9⟩
          clear h1
          have h := h q46 q47 q48 q49 q50 q51
          refine j_tableOut 144 dX0_word_68 ra2 (by omega) rfl ?_
          refine j_iconst dX0_word_144 ?_
          exact j_iret dX0_word_145 rfl ⟨_, rfl, rfl, rfl, rfl, h, (by decide)⟩
        · have h := h2 q27
          clear h1 h2
          refine r_aload_n dX0_word_33 rfl ?_
          refine r_gR dX0_word_34 flX0_20_1 rfl ht rfl ?_
          refine r_gRF dX0_word_37 flX0_206_2 hz15 t16 rfl ?_
          refine j_iload dX0_word_40 rfl ?_
          obtain ⟨P52, hp53, h⟩ := h
          refine r_invV (ci := 20) (As := [vI v10]) (rest := []) dX0_word_42 lkX0_132 hz18 t19 rfl rfl (vJ2_get (d := 4) (Nat.le_of_ble_eq_true rfl) hW t19 rv10 hp53) rfl rfl (Nat.le_of_ble_eq_true rfl) (Nat.le_trans (Nat.le_of_ble_eq_true rfl) hd) (jkpR fun z54 p57 r58 => ?_)
          have h := h z54 p57
          obtain ⟨j59, h⟩ := h
          refine r_chk dX0_word_45 q1295 j59 ?_
          obtain ⟨b60, hz61, h⟩ := h
          obtain ⟨t62, h⟩ := h
          refine r_gRF dX0_word_48 flX0_243_17 hz61 t62 rfl ?_
          refine r_aload_n dX0_word_51 rfl ?_
          obtain ⟨b63, hz64, h⟩ := h
          obtain ⟨t65, h⟩ := h
          obtain ⟨P66, hp67, h⟩ := h
          refine r_invV (ci := 4) (As := [vR z3]) (rest := []) dX0_word_52 lkX0_253 hz64 t65 rfl rfl (vX3_has (d := 3) (Nat.le_of_ble_eq_true rfl) hW t65  hp67) rfl rfl (Nat.le_of_ble_eq_true rfl) (Nat.le_trans (Nat.le_of_ble_eq_true rfl) hd) (jkpB fun z68 p71 r72 => ?_)
          have h := h z68 p71
          obtain ⟨h1, h2⟩ := h
          refine j_if_eq 61 dX0_word_55 rfl (jR_b r72) (fun q73 => ?_) (fun q73 => ?_)
          · have h := h1 q73
            clear h1 h2
            obtain ⟨r74, h⟩ := h
            refine j_iinc dX0_word_61 rfl rfl ?_
            refine j_goto 18 dX0_word_64 rfl ?_
            exact J.wk (((((((jWk.nil).eq).eq).eq).eq).no).eq) (ihI12 _ _ (Nat.lt_of_lt_of_le h.2 (Nat.le_of_lt_succ hmuI12)) rv9 r74 h.1)
          · have h := h2 q73
            clear h1 h2
            obtain ⟨r75, h⟩ := h
            refine j_iinc dX0_word_58 rfl (jokR rfl (Nat.le_of_ble_eq_true rfl)) ?_
            obtain ⟨r76, h⟩ := h
            refine j_iinc dX0_word_61 rfl rfl ?_
            refine j_goto 18 dX0_word_64 rfl ?_
            exact J.wk (((((((jWk.nil).eq).eq).eq).eq).no).eq) (ihI12 _ _ (Nat.lt_of_lt_of_le h.2 (Nat.le_of_lt_succ hmuI12)) r75 r76 h.1)
    exact J.wk (((((((jWk.nil).eq).eq).eq).eq).no).eq) (lp _ _ _ (Nat.lt_succ_self _) (by decide) (by decide) h0)
  · have h := h2 q8
    clear h1 h2
    refine j_iconst dX0_word_10 ?_
    exact j_iret dX0_word_11 rfl ⟨_, rfl, rfl, rfl, rfl, h, (by decide)⟩
/-- ChildSays$Child.learns(LChildSays$Town;)V -/
def wqX15_learns (o : Nat) (a1 : Int) (N : jSh) (F : jFl) (A : jAr) (Q : jFl → jAr → Prop) : Prop :=
  ∃ (I5 : Int → jAr → Prop) (m6 : Int → jAr → Nat), I5 0 A ∧ ∀ (v1 : Int) (A2 : jAr), I5 v1 A2 →
    ∃ b7 : Nat, a1 = (b7 : Int) ∧
    jtg N b7 = 2 ∧
    ∃ b10 : Nat, jfn N 617 b7 = (b10 : Int) ∧
    jtg N b10 = 20 ∧
    ∃ (P13 : Int → Prop), wqJ2_size b10 N F A2 P13 ∧
    ∀ z15, P13 z15 →
    ((z15 ≤ v1) →
      Q F A2) ∧
    ((¬ (z15 ≤ v1)) →
      ∃ (P21 : Int → Prop), wqJ2_get b10 v1 N F A2 P21 ∧
      ∀ z23, P21 z23 →
      jcst N "ChildSays$Word" z23 ∧
      ∃ b29 : Nat, jfn N 4802 o = (b29 : Int) ∧
      jtg N b29 = 15 ∧
      ∃ (P32 : Int → Prop), wqX14_heard b29 z23 N F A2 P32 ∧
      ∀ z34, P32 z34 →
      ∃ (P39 : Int → Prop), wqX15_nearest o z34 a1 N F A2 P39 ∧
      ∀ z41, P39 z41 →
      ∃ b46 : Nat, jfn N 4814 o = (b46 : Int) ∧
      jtg N b46 = 107 ∧
      jfn N 0 b46 = 1 ∧
      ((0 : Int) ≤ v1 ∧ (v1 : Int) < (jln N b46 : Int)) ∧
      jast N "ChildSays$Word" z41 ∧
      ∀ A51 : jAr, A51 = upA A2 b46 v1 z41 →
      jR (v1 + 1) ∧
      I5 (v1 + 1) A51 ∧ m6 (v1 + 1) A51 < m6 v1 A2)
theorem vX15_learns {G : jG} {l : Launch} {d : Nat} {N : jSh} {F : jFl} {A : jAr} {o : Nat} {a1 : Int} {Q : jFl → jAr → Prop} (hd : 6 ≤ d) (hW : jWg G N F A) (ht : jtg N o = 16) (h : wqX15_learns o a1 N F A Q) : jCall G l d mX15_learns [vR (o : Int), vR a1] N F A (cmV G N Q) := by
  unfold wqX15_learns at h
  refine jCall.of (by decide) rfl (ls := [vR (o : Int), vR a1, jD]) (by simp only [jent_R, jent_I, jent_L, jent_nil]; exact Nat.le_of_ble_eq_true rfl) (by simp only [jloc, jent_R, jent_I, jent_L, jent_nil]; rfl) ?_
  refine j_iconst dX15_learns_0 ?_
  refine j_istore_n dX15_learns_1 (jokR rfl (Nat.le_of_ble_eq_true rfl)) ?_
  obtain ⟨I5, m6, h0, hs⟩ := h
  have lp : ∀ (n : Nat) (v1 : Int) (A2 : jAr), m6 v1 A2 < n → jWg G N F A2 → jR v1 → I5 v1 A2 → J G l d mX15_learns 2 [vR (o : Int), vR a1, vI v1] [] N F A2 (cmV G N Q) := by
    intro nI5
    induction nI5 with
    | zero =>
      intro v1 A2 hmu
      exact absurd hmu (Nat.not_lt_zero _)
    | succ nI5 ihI5 =>
      intro v1 A2 hmuI5 hW3 rv1 hI
      have h := hs v1 A2 hI
      refine j_iload_n dX15_learns_2 rfl ?_
      refine r_aload_n dX15_learns_3 rfl ?_
      obtain ⟨b7, hz8, h⟩ := h
      obtain ⟨t9, h⟩ := h
      refine r_gRF dX15_learns_4 flX15_25_2 hz8 t9 rfl ?_
      obtain ⟨b10, hz11, h⟩ := h
      obtain ⟨t12, h⟩ := h
      obtain ⟨P13, hp14, h⟩ := h
      refine r_invV (ci := 20) (As := []) (rest := [vI v1]) dX15_learns_7 lkX15_31 hz11 t12 rfl rfl (vJ2_size (d := 2) (Nat.le_of_ble_eq_true rfl) hW3 t12  hp14) rfl rfl (Nat.le_of_ble_eq_true rfl) (Nat.le_trans (Nat.le_of_ble_eq_true rfl) hd) (jkpI fun z15 p18 r19 => ?_)
      have h := h z15 p18
      obtain ⟨h1, h2⟩ := h
      refine j_icmp_ge 48 dX15_learns_10 rfl rv1 r19 (fun q20 => ?_) (fun q20 => ?_)
      · have h := h1 q20
        clear h1 h2
        exact j_vret dX15_learns_48 rfl ⟨rfl, rfl, hW3, h⟩
      · have h := h2 q20
        clear h1 h2
        refine r_aload_n dX15_learns_13 rfl ?_
        refine r_gRF dX15_learns_14 flX15_17_16 rfl ht rfl ?_
        refine j_iload_n dX15_learns_17 rfl ?_
        refine r_aload_n dX15_learns_18 rfl ?_
        refine r_aload_n dX15_learns_19 rfl ?_
        refine r_gRF dX15_learns_20 flX15_21_16 rfl ht rfl ?_
        refine r_aload_n dX15_learns_23 rfl ?_
        refine r_gRF dX15_learns_24 flX15_25_2 hz8 t9 rfl ?_
        refine j_iload_n dX15_learns_27 rfl ?_
        obtain ⟨P21, hp22, h⟩ := h
        refine r_invV (ci := 20) (As := [vI v1]) (rest := [vR (jfn N 4802 o), vR (o : Int), vI v1, vR (jfn N 4814 o)]) dX15_learns_28 lkX15_37 hz11 t12 rfl rfl (vJ2_get (d := 4) (Nat.le_of_ble_eq_true rfl) hW3 t12 rv1 hp22) rfl rfl (Nat.le_of_ble_eq_true rfl) (Nat.le_trans (Nat.le_of_ble_eq_true rfl) hd) (jkpR fun z23 p26 r27 => ?_)
        have h := h z23 p26
        obtain ⟨j28, h⟩ := h
        refine r_chk dX15_learns_31 q1088 j28 ?_
        obtain ⟨b29, hz30, h⟩ := h
        obtain ⟨t31, h⟩ := h
        obtain ⟨P32, hp33, h⟩ := h
        refine r_invV (ci := 15) (As := [vR z23]) (rest := [vR (o : Int), vI v1, vR (jfn N 4814 o)]) dX15_learns_34 lkX15_41 hz30 t31 rfl rfl (vX14_heard (d := 2) (Nat.le_of_ble_eq_true rfl) hW3 t31  hp33) rfl rfl (Nat.le_of_ble_eq_true rfl) (Nat.le_trans (Nat.le_of_ble_eq_true rfl) hd) (jkpR fun z34 p37 r38 => ?_)
        have h := h z34 p37
        refine r_aload_n dX15_learns_37 rfl ?_
        obtain ⟨P39, hp40, h⟩ := h
        refine r_invV (ci := 16) (As := [vR z34, vR a1]) (rest := [vI v1, vR (jfn N 4814 o)]) dX15_learns_38 lkX15_47 rfl ht rfl rfl (vX15_nearest (d := 5) (Nat.le_of_ble_eq_true rfl) hW3 ht  hp40) rfl rfl (Nat.le_of_ble_eq_true rfl) (Nat.le_trans (Nat.le_of_ble_eq_true rfl) hd) (jkpR fun z41 p44 r45 => ?_)
        have h := h z41 p44
        obtain ⟨b46, hz47, h⟩ := h
        obtain ⟨t48, h⟩ := h
        obtain ⟨w49, h⟩ := h
        obtain ⟨c50, h⟩ := h
        obtain ⟨j53, h⟩ := h
        refine c_aast hW3 dX15_learns_41 hz47 t48 rfl w49 c50 j53 rfl fun A51 eA51 hW52 => ?_
        have h := h A51 eA51
        obtain ⟨r54, h⟩ := h
        refine j_iinc dX15_learns_42 rfl (jokR rfl (Nat.le_of_ble_eq_true rfl)) ?_
        refine j_goto 2 dX15_learns_45 rfl ?_
        exact J.wk ((((jWk.nil).eq).eq).eq) (ihI5 _ _ (Nat.lt_of_lt_of_le h.2 (Nat.le_of_lt_succ hmuI5)) hW52 r54 h.1)
  exact J.wk ((((jWk.nil).eq).eq).eq) (lp _ _ _ (Nat.lt_succ_self _) hW (by decide) h0)
/-- ChildSays$Town.knows(Ljava/lang/String;)Z -/
def wqX1_knows (S : Nat → Nat) (o : Nat) (a1 : Int) (N : jSh) (F : jFl) (A : jAr) (Q : Int → Prop) : Prop :=
  ∃ (P1 : Int → Prop), wqX0_named S (jfn N 617 o) a1 N F A P1 ∧
  ∀ z3, P1 z3 →
  ((¬ z3 < 0) →
    Q 1) ∧
  ((z3 < 0) →
    ∃ (P9 : Int → Prop), wqX0_named S (jfn N 620 o) a1 N F A P9 ∧
    ∀ z11, P9 z11 →
    ((¬ z11 < 0) →
      Q 1) ∧
    ((z11 < 0) →
      ∃ (P17 : Int → Prop), wqX0_named S (jfn N 623 o) a1 N F A P17 ∧
      ∀ z19, P17 z19 →
      ((¬ z19 < 0) →
        Q 1) ∧
      ((z19 < 0) →
        ∃ (P25 : Int → Prop), wqX0_named S (jfn N 626 o) a1 N F A P25 ∧
        ∀ z27, P25 z27 →
        ∀ z33 : Int, z33 = (if z27 < 0 then (0 : Int) else 1) →
        Q z33)))
theorem vX1_knows {G : jG} {l : Launch} {d : Nat} {N : jSh} {F : jFl} {A : jAr} {o : Nat} {a1 : Int} {Q : Int → Prop} (hd : 6 ≤ d) (hW : jWg G N F A) (ht : jtg N o = 2) (h : wqX1_knows (gS G) o a1 N F A Q) : jCall G l d mX1_knows [vR (o : Int), vR a1] N F A (jpB N F A Q) := by
  unfold wqX1_knows at h
  refine jCall.of (by decide) rfl (ls := [vR (o : Int), vR a1]) (by simp only [jent_R, jent_I, jent_L, jent_nil]; exact Nat.le_of_ble_eq_true rfl) (by simp only [jloc, jent_R, jent_I, jent_L, jent_nil]; rfl) ?_
  refine r_aload_n dX1_knows_0 rfl ?_
  refine r_gRF dX1_knows_1 flX1_21_2 rfl ht rfl ?_
  refine r_aload_n dX1_knows_4 rfl ?_
  obtain ⟨P1, hp2, h⟩ := h
  refine r_invSN (As := [vR (jfn N 617 o), vR a1]) (rest := []) dX1_knows_5 lkX1_40 (vX0_named (d := 5) (Nat.le_of_ble_eq_true rfl) hW  hp2) rfl rfl (Nat.le_of_ble_eq_true rfl) (Nat.le_trans (Nat.le_of_ble_eq_true rfl) hd) (jkpR fun z3 p6 r7 => ?_)
  have h := h z3 p6
  obtain ⟨h1, h2⟩ := h
  refine r_ifnonnull 44 dX1_knows_8 rfl (fun q8 => ?_) (fun q8 => ?_)
  · have h := h1 q8
    clear h1 h2
    refine j_iconst dX1_knows_44 ?_
    refine j_goto 49 dX1_knows_45 rfl ?_
    exact j_zret dX1_knows_49 rfl (nr_bool (by decide)) ⟨_, rfl, rfl, rfl, rfl, h, (by decide)⟩
  · have h := h2 q8
    clear h1 h2
    refine r_aload_n dX1_knows_11 rfl ?_
    refine r_gRF dX1_knows_12 flX1_25_2 rfl ht rfl ?_
    refine r_aload_n dX1_knows_15 rfl ?_
    obtain ⟨P9, hp10, h⟩ := h
    refine r_invSN (As := [vR (jfn N 620 o), vR a1]) (rest := []) dX1_knows_16 lkX1_40 (vX0_named (d := 5) (Nat.le_of_ble_eq_true rfl) hW  hp10) rfl rfl (Nat.le_of_ble_eq_true rfl) (Nat.le_trans (Nat.le_of_ble_eq_true rfl) hd) (jkpR fun z11 p14 r15 => ?_)
    have h := h z11 p14
    obtain ⟨h1, h2⟩ := h
    refine r_ifnonnull 44 dX1_knows_19 rfl (fun q16 => ?_) (fun q16 => ?_)
    · have h := h1 q16
      clear h1 h2
      refine j_iconst dX1_knows_44 ?_
      refine j_goto 49 dX1_knows_45 rfl ?_
      exact j_zret dX1_knows_49 rfl (nr_bool (by decide)) ⟨_, rfl, rfl, rfl, rfl, h, (by decide)⟩
    · have h := h2 q16
      clear h1 h2
      refine r_aload_n dX1_knows_22 rfl ?_
      refine r_gRF dX1_knows_23 flX1_28_2 rfl ht rfl ?_
      refine r_aload_n dX1_knows_26 rfl ?_
      obtain ⟨P17, hp18, h⟩ := h
      refine r_invSN (As := [vR (jfn N 623 o), vR a1]) (rest := []) dX1_knows_27 lkX1_40 (vX0_named (d := 5) (Nat.le_of_ble_eq_true rfl) hW  hp18) rfl rfl (Nat.le_of_ble_eq_true rfl) (Nat.le_trans (Nat.le_of_ble_eq_true rfl) hd) (jkpR fun z19 p22 r23 => ?_)
      have h := h z19 p22
      obtain ⟨h1, h2⟩ := h
      refine r_ifnonnull 44 dX1_knows_30 rfl (fun q24 => ?_) (fun q24 => ?_)
      · have h := h1 q24
        clear h1 h2
        refine j_iconst dX1_knows_44 ?_
        refine j_goto 49 dX1_knows_45 rfl ?_
        exact j_zret dX1_knows_49 rfl (nr_bool (by decide)) ⟨_, rfl, rfl, rfl, rfl, h, (by decide)⟩
      · have h := h2 q24
        clear h1 h2
        refine r_aload_n dX1_knows_33 rfl ?_
        refine r_gRF dX1_knows_34 flX1_31_2 rfl ht rfl ?_
        refine r_aload_n dX1_knows_37 rfl ?_
        obtain ⟨P25, hp26, h⟩ := h
        refine r_invSN (As := [vR (jfn N 626 o), vR a1]) (rest := []) dX1_knows_38 lkX1_40 (vX0_named (d := 5) (Nat.le_of_ble_eq_true rfl) hW  hp26) rfl rfl (Nat.le_of_ble_eq_true rfl) (Nat.le_trans (Nat.le_of_ble_eq_true rfl) hd) (jkpR fun z27 p30 r31 => ?_)
        have h := h z27 p30
        have jn34 : ∀ z33 : Int, z33 = (if z27 < 0 then (0 : Int) else 1) → J G l d mX1_knows 49 [vR (o : Int), vR a1] [vI z33] N F A (jpB N F A Q) := by
          intro z33 ez33
          have h := h z33 ez33
          exact j_zret dX1_knows_49 rfl (nr_bool (ez33 ▸ jB_ite (by decide) (by decide))) ⟨_, rfl, rfl, rfl, rfl, h, (ez33 ▸ jB_ite (by decide) (by decide))⟩
        clear h
        refine r_ifnull 48 dX1_knows_41 rfl (fun q32 => ?_) (fun q32 => ?_)
        · refine j_iconst dX1_knows_48 ?_
          exact jn34 _ (if_pos q32).symm
        · refine j_iconst dX1_knows_44 ?_
          refine j_goto 49 dX1_knows_45 rfl ?_
          exact jn34 _ (if_neg q32).symm
/-- ChildSays$Sitting.saidBy(LChildSays$Child;)LChildSays$Sitting; -/
def wqX4_saidBy (o : Nat) (a1 : Int) (N : jSh) (F : jFl) (A : jAr) (Q : Int → jFl → jAr → Prop) : Prop :=
  ∃ (I7 : Int → Int → jFl → jAr → Prop) (m8 : Int → Int → jFl → jAr → Nat), I7 0 0 F A ∧ ∀ (v1 : Int) (v2 : Int) (F3 : jFl) (A4 : jAr), I7 v1 v2 F3 A4 →
    (((F3 1506 o) ≤ v2) →
      Q (o : Int) F3 A4) ∧
    ((¬ ((F3 1506 o) ≤ v2)) →
      ∃ b10 : Nat, jfn N 1505 o = (b10 : Int) ∧
      jtg N b10 = 113 ∧
      ((0 : Int) ≤ v2 ∧ (v2 : Int) < (jln N b10 : Int)) ∧
      ∃ (P14 : Int → Prop), wqX4_of o (A4 b10 v2) N F3 A4 P14 ∧
      ∀ z16, P14 z16 →
      ∃ b21 : Nat, jfn N 1511 o = (b21 : Int) ∧
      jtg N b21 = 1 ∧
      ∃ b24 : Nat, F3 311 b21 = (b24 : Int) ∧
      jtg N b24 = 2 ∧
      ((¬ v1 = (F3 603 b24)) →
        ((0 : Int) ≤ v2 ∧ (v2 : Int) < (jln N b10 : Int)) ∧
        ∃ b29 : Nat, z16 = (b29 : Int) ∧
        jtg N b29 = 3 ∧
        ∃ (P32 : Int → jFl → jAr → Prop), wqX2_of b29 a1 (A4 b10 v2) N F3 A4 P32 ∧
        ∀ z34 F35 A36, P32 z34 F35 A36 →
        ∃ b41 : Nat, z34 = (b41 : Int) ∧
        jtg N b41 = 3 ∧
        ((¬ (F35 903 b41) = 3) →
          jR (v1 + 1) ∧
          ∃ (P46 : jFl → jAr → Prop), wqX4_runs o z16 v2 N F35 A36 P46 ∧
          ∀ F49 A50, P46 F49 A50 →
          jR (v2 + 1) ∧
          I7 (v1 + 1) (v2 + 1) F49 A50 ∧ m8 (v1 + 1) (v2 + 1) F49 A50 < m8 v1 v2 F3 A4) ∧
        (((F35 903 b41) = 3) →
          jR (v2 + 1) ∧
          I7 v1 (v2 + 1) F35 A36 ∧ m8 v1 (v2 + 1) F35 A36 < m8 v1 v2 F3 A4)) ∧
      ((v1 = (F3 603 b24)) →
        ∃ b57 : Nat, z16 = (b57 : Int) ∧
        jtg N b57 = 3 ∧
        ∃ (P60 : Int → jFl → jAr → Prop), wqX2_lost b57 N F3 A4 P60 ∧
        ∀ z62 F63 A64, P60 z62 F63 A64 →
        jR (v2 + 1) ∧
        I7 v1 (v2 + 1) F63 A64 ∧ m8 v1 (v2 + 1) F63 A64 < m8 v1 v2 F3 A4))
theorem vX4_saidBy {G : jG} {l : Launch} {d : Nat} {N : jSh} {F : jFl} {A : jAr} {o : Nat} {a1 : Int} {Q : Int → jFl → jAr → Prop} (hd : 6 ≤ d) (hW : jWg G N F A) (ht : jtg N o = 5) (h : wqX4_saidBy o a1 N F A Q) : jCall G l d mX4_saidBy [vR (o : Int), vR a1] N F A (cmR G N Q) := by
  unfold wqX4_saidBy at h
  refine jCall.of (by decide) rfl (ls := [vR (o : Int), vR a1, jD, jD, jD]) (by simp only [jent_R, jent_I, jent_L, jent_nil]; exact Nat.le_of_ble_eq_true rfl) (by simp only [jloc, jent_R, jent_I, jent_L, jent_nil]; rfl) ?_
  refine j_iconst dX4_saidBy_0 ?_
  refine j_istore_n dX4_saidBy_1 (jokR rfl (Nat.le_of_ble_eq_true rfl)) ?_
  refine j_iconst dX4_saidBy_2 ?_
  refine j_istore_n dX4_saidBy_3 rfl ?_
  obtain ⟨I7, m8, h0, hs⟩ := h
  have lp : ∀ (n : Nat) (v1 : Int) (v2 : Int) (F3 : jFl) (A4 : jAr), m8 v1 v2 F3 A4 < n → jWg G N F3 A4 → jR v1 → jR v2 → I7 v1 v2 F3 A4 → J G l d mX4_saidBy 4 [vR (o : Int), vR a1, vI v1, vI v2, jD] [] N F3 A4 (cmR G N Q) := by
    intro nI7
    induction nI7 with
    | zero =>
      intro v1 v2 F3 A4 hmu
      exact absurd hmu (Nat.not_lt_zero _)
    | succ nI7 ihI7 =>
      intro v1 v2 F3 A4 hmuI7 hW5 rv1 rv2 hI
      have h := hs v1 v2 F3 A4 hI
      refine j_iload_n dX4_saidBy_4 rfl ?_
      refine r_aload_n dX4_saidBy_5 rfl ?_
      refine r_gI dX4_saidBy_6 flX4_34_5 rfl ht rfl ?_
      obtain ⟨h1, h2⟩ := h
      refine j_icmp_ge 85 dX4_saidBy_9 rfl rv2 (hW5.fi rfl) (fun q9 => ?_) (fun q9 => ?_)
      · have h := h1 q9
        clear h1 h2
        refine r_aload_n dX4_saidBy_85 rfl ?_
        exact r_aret dX4_saidBy_86 rfl (Or.inl ⟨_, rfl⟩) ⟨_, rfl, rfl, hW5, h, trivial⟩
      · have h := h2 q9
        clear h1 h2
        refine r_aload_n dX4_saidBy_12 rfl ?_
        refine r_aload_n dX4_saidBy_13 rfl ?_
        refine r_gRF dX4_saidBy_14 flX4_23_5 rfl ht rfl ?_
        refine j_iload_n dX4_saidBy_17 rfl ?_
        obtain ⟨b10, hz11, h⟩ := h
        obtain ⟨t12, h⟩ := h
        obtain ⟨c13, h⟩ := h
        refine r_aald dX4_saidBy_18 hz11 t12 rfl rfl c13 ?_
        obtain ⟨P14, hp15, h⟩ := h
        refine r_invV (ci := 5) (As := [vR (A4 b10 v2)]) (rest := []) dX4_saidBy_19 lkX4_70 rfl ht rfl rfl (vX4_of (d := 2) (Nat.le_of_ble_eq_true rfl) hW5 ht  hp15) rfl rfl (Nat.le_of_ble_eq_true rfl) (Nat.le_trans (Nat.le_of_ble_eq_true rfl) hd) (jkpR fun z16 p19 r20 => ?_)
        have h := h z16 p19
        refine r_astore dX4_saidBy_22 rfl ?_
        refine j_iload_n dX4_saidBy_24 rfl ?_
        refine r_aload_n dX4_saidBy_25 rfl ?_
        refine r_gRF dX4_saidBy_26 flX4_3_5 rfl ht rfl ?_
        obtain ⟨b21, hz22, h⟩ := h
        obtain ⟨t23, h⟩ := h
        refine r_gRN dX4_saidBy_29 flX4_37_1 hz22 t23 rfl ?_
        obtain ⟨b24, hz25, h⟩ := h
        obtain ⟨t26, h⟩ := h
        refine r_gI dX4_saidBy_32 flX4_74_2 hz25 t26 rfl ?_
        obtain ⟨h1, h2⟩ := h
        refine j_icmp_ne 47 dX4_saidBy_35 rfl rv1 (hW5.fi rfl) (fun q27 => ?_) (fun q27 => ?_)
        · have h := h1 q27
          clear h1 h2
          refine r_aload dX4_saidBy_47 rfl ?_
          refine r_aload_n dX4_saidBy_49 rfl ?_
          refine r_aload_n dX4_saidBy_50 rfl ?_
          refine r_gRF dX4_saidBy_51 flX4_23_5 rfl ht rfl ?_
          refine j_iload_n dX4_saidBy_54 rfl ?_
          obtain ⟨c28, h⟩ := h
          refine r_aald dX4_saidBy_55 hz11 t12 rfl rfl c28 ?_
          obtain ⟨b29, hz30, h⟩ := h
          obtain ⟨t31, h⟩ := h
          obtain ⟨P32, hp33, h⟩ := h
          refine r_invV (ci := 3) (As := [vR a1, vR (A4 b10 v2)]) (rest := []) dX4_saidBy_56 lkX4_81 hz30 t31 rfl rfl (vX2_of (d := 5) (Nat.le_of_ble_eq_true rfl) hW5 t31  hp33) rfl rfl (Nat.le_of_ble_eq_true rfl) (Nat.le_trans (Nat.le_of_ble_eq_true rfl) hd) (ckmR fun z34 F35 A36 hW37 p39 r40 => ?_)
          have h := h z34 F35 A36 p39
          obtain ⟨b41, hz42, h⟩ := h
          obtain ⟨t43, h⟩ := h
          refine r_gI dX4_saidBy_59 flX4_84_3 hz42 t43 rfl ?_
          refine j_iconst dX4_saidBy_62 ?_
          obtain ⟨h1, h2⟩ := h
          refine j_icmp_ne 69 dX4_saidBy_63 rfl (hW37.fi rfl) (by decide) (fun q44 => ?_) (fun q44 => ?_)
          · have h := h1 q44
            clear h1 h2
            obtain ⟨r45, h⟩ := h
            refine j_iinc dX4_saidBy_69 rfl (jokR rfl (Nat.le_of_ble_eq_true rfl)) ?_
            refine r_aload_n dX4_saidBy_72 rfl ?_
            refine r_aload dX4_saidBy_73 rfl ?_
            refine j_iload_n dX4_saidBy_75 rfl ?_
            obtain ⟨P46, hp47, h⟩ := h
            refine r_invV (ci := 5) (As := [vR z16, vI v2]) (rest := []) dX4_saidBy_76 lkX4_87 rfl ht rfl rfl (vX4_runs (d := 4) (Nat.le_of_ble_eq_true rfl) hW37 ht rv2 hp47) rfl rfl (Nat.le_of_ble_eq_true rfl) (Nat.le_trans (Nat.le_of_ble_eq_true rfl) hd) (ckmV fun F49 A50 hW51 p53 => ?_)
            have h := h F49 A50 p53
            obtain ⟨r55, h⟩ := h
            refine j_iinc dX4_saidBy_79 rfl rfl ?_
            refine j_goto 4 dX4_saidBy_82 rfl ?_
            exact J.wk ((((((jWk.nil).no).eq).eq).eq).eq) (ihI7 _ _ _ _ (Nat.lt_of_lt_of_le h.2 (Nat.le_of_lt_succ hmuI7)) hW51 r45 r55 h.1)
          · have h := h2 (Classical.not_not.mp q44)
            clear h1 h2
            refine j_goto 79 dX4_saidBy_66 rfl ?_
            obtain ⟨r56, h⟩ := h
            refine j_iinc dX4_saidBy_79 rfl rfl ?_
            refine j_goto 4 dX4_saidBy_82 rfl ?_
            exact J.wk ((((((jWk.nil).no).eq).eq).eq).eq) (ihI7 _ _ _ _ (Nat.lt_of_lt_of_le h.2 (Nat.le_of_lt_succ hmuI7)) hW37 rv1 r56 h.1)
        · have h := h2 (Classical.not_not.mp q27)
          clear h1 h2
          refine r_aload dX4_saidBy_38 rfl ?_
          obtain ⟨b57, hz58, h⟩ := h
          obtain ⟨t59, h⟩ := h
          obtain ⟨P60, hp61, h⟩ := h
          refine r_invV (ci := 3) (As := []) (rest := []) dX4_saidBy_40 lkX4_77 hz58 t59 rfl rfl (vX2_lost (d := 3) (Nat.le_of_ble_eq_true rfl) hW5 t59  hp61) rfl rfl (Nat.le_of_ble_eq_true rfl) (Nat.le_trans (Nat.le_of_ble_eq_true rfl) hd) (ckmR fun z62 F63 A64 hW65 p67 r68 => ?_)
          have h := h z62 F63 A64 p67
          refine j_pop dX4_saidBy_43 (vR_cat _) ?_
          refine j_goto 79 dX4_saidBy_44 rfl ?_
          obtain ⟨r69, h⟩ := h
          refine j_iinc dX4_saidBy_79 rfl rfl ?_
          refine j_goto 4 dX4_saidBy_82 rfl ?_
          exact J.wk ((((((jWk.nil).no).eq).eq).eq).eq) (ihI7 _ _ _ _ (Nat.lt_of_lt_of_le h.2 (Nat.le_of_lt_succ hmuI7)) hW65 rv1 r69 h.1)
  exact J.wk ((((((jWk.nil).no).eq).eq).eq).eq) (lp _ _ _ _ _ (Nat.lt_succ_self _) hW (by decide) (by decide) h0)
