set_option maxRecDepth 100000
set_option linter.unusedVariables false
/-! walks of ChildSaysModel: printed by gen/walk.py -/
/-- has(I)I -/
def wpX9_has (o : Nat) (a1 : Int) (F : jFl) (A : jAr) (Q : Int → Prop) : Prop :=
  (a1 = 0 →
    (0 ≤ F 3039 o ∧ F 3039 o < 2) ∧
    Q (A (o + 2) (F 3039 o))) ∧
  (a1 = 1 →
    (0 ≤ F 3039 o ∧ F 3039 o < 2) ∧
    Q (A (o + 9) (F 3039 o))) ∧
  (a1 = 2 →
    (0 ≤ F 3039 o ∧ F 3039 o < 2) ∧
    Q (A (o + 12) (F 3039 o))) ∧
  (a1 = 3 →
    (0 ≤ F 3039 o ∧ F 3039 o < 2) ∧
    Q (A (o + 17) (F 3039 o))) ∧
  (a1 = 4 →
    ∃ P5 : Int → Prop, wpX9_standing o 0 F A P5 ∧ ∀ z7, P5 z7 →
    Q z7) ∧
  (a1 = 5 →
    (0 ≤ F 3039 o ∧ F 3039 o < 2) ∧
    Q (A (o + 23) (F 3039 o))) ∧
  (a1 = 6 →
    (0 ≤ F 3039 o ∧ F 3039 o < 2) ∧
    Q (A (o + 24) (F 3039 o))) ∧
  (a1 = 7 →
    (0 ≤ F 3039 o ∧ F 3039 o < 2) ∧
    Q (A (o + 25) (F 3039 o))) ∧
  (a1 = 8 →
    Q (A (o + 28) 0)) ∧
  (a1 = 9 →
    Q (A (o + 34) 0)) ∧
  (a1 = 10 →
    Q (F 3156 o)) ∧
  (a1 = 11 →
    jR (F 3160 o) ∧
    Q (F 3160 o)) ∧
  (¬ a1 = 0 → ¬ a1 = 1 → ¬ a1 = 2 → ¬ a1 = 3 → ¬ a1 = 4 → ¬ a1 = 5 → ¬ a1 = 6 → ¬ a1 = 7 → ¬ a1 = 8 → ¬ a1 = 9 → ¬ a1 = 10 → ¬ a1 = 11 →
    Q (-1))
theorem wX9_has {G : jG} {l : Launch} {d : Nat} {N : jSh} {o : Nat} {F : jFl} {A : jAr} {a1 : Int} {Q : Int → Prop} (hd : 3 ≤ d) (hM : mShape G N o) (hW : jWf N F A) (ra1 : jR a1) (h : wpX9_has o a1 F A Q) : jCall G l d mX9_has [.ref o, vI a1] N F A (jpI N F A Q) := by
  refine jCall.of (ls := [.ref o, vI a1]) (by decide) rfl (Nat.le_of_ble_eq_true rfl) rfl ?_
  unfold wpX9_has at h
  refine j_iload_n dX9_has_0 rfl ?_
  obtain ⟨h1, h⟩ := h
  by_cases q16 : a1 = 0
  · refine j_tableIn (off := 63) 64 dX9_has_1 ra1 (by rw [q16]; decide) (by rw [q16]; decide) (by rw [q16]; rfl) rfl ?_
    have h := h1 q16
    clear h1
    refine j_aload_n dX9_has_64 rfl ?_
    refine j_getFR dX9_has_65 flX9_54_10 hM.1 rfl (mf_words hM) ?_
    refine j_aload_n dX9_has_68 rfl ?_
    refine j_getI dX9_has_69 flX9_51_10 hM.1 rfl ?_
    obtain ⟨c1, h⟩ := h
    refine j_iald (n := 2) dX9_has_72 (mt_words hM) (ml_words hM) c1 ?_
    exact j_iret dX9_has_73 rfl ⟨_, rfl, rfl, rfl, rfl, h, (hW.ai (mt_words hM) rfl)⟩
  clear h1
  obtain ⟨h1, h⟩ := h
  by_cases q17 : a1 = 1
  · refine j_tableIn (off := 73) 74 dX9_has_1 ra1 (by rw [q17]; decide) (by rw [q17]; decide) (by rw [q17]; rfl) rfl ?_
    have h := h1 q17
    clear h1
    refine j_aload_n dX9_has_74 rfl ?_
    refine j_getFR dX9_has_75 flX9_76_10 hM.1 rfl (mf_streets hM) ?_
    refine j_aload_n dX9_has_78 rfl ?_
    refine j_getI dX9_has_79 flX9_51_10 hM.1 rfl ?_
    obtain ⟨c2, h⟩ := h
    refine j_iald (n := 2) dX9_has_82 (mt_streets hM) (ml_streets hM) c2 ?_
    exact j_iret dX9_has_83 rfl ⟨_, rfl, rfl, rfl, rfl, h, (hW.ai (mt_streets hM) rfl)⟩
  clear h1
  obtain ⟨h1, h⟩ := h
  by_cases q18 : a1 = 2
  · refine j_tableIn (off := 83) 84 dX9_has_1 ra1 (by rw [q18]; decide) (by rw [q18]; decide) (by rw [q18]; rfl) rfl ?_
    have h := h1 q18
    clear h1
    refine j_aload_n dX9_has_84 rfl ?_
    refine j_getFR dX9_has_85 flX9_85_10 hM.1 rfl (mf_children hM) ?_
    refine j_aload_n dX9_has_88 rfl ?_
    refine j_getI dX9_has_89 flX9_51_10 hM.1 rfl ?_
    obtain ⟨c3, h⟩ := h
    refine j_iald (n := 2) dX9_has_92 (mt_children hM) (ml_children hM) c3 ?_
    exact j_iret dX9_has_93 rfl ⟨_, rfl, rfl, rfl, rfl, h, (hW.ai (mt_children hM) rfl)⟩
  clear h1
  obtain ⟨h1, h⟩ := h
  by_cases q19 : a1 = 3
  · refine j_tableIn (off := 93) 94 dX9_has_1 ra1 (by rw [q19]; decide) (by rw [q19]; decide) (by rw [q19]; rfl) rfl ?_
    have h := h1 q19
    clear h1
    refine j_aload_n dX9_has_94 rfl ?_
    refine j_getFR dX9_has_95 flX9_100_10 hM.1 rfl (mf_laws hM) ?_
    refine j_aload_n dX9_has_98 rfl ?_
    refine j_getI dX9_has_99 flX9_51_10 hM.1 rfl ?_
    obtain ⟨c4, h⟩ := h
    refine j_iald (n := 2) dX9_has_102 (mt_laws hM) (ml_laws hM) c4 ?_
    exact j_iret dX9_has_103 rfl ⟨_, rfl, rfl, rfl, rfl, h, (hW.ai (mt_laws hM) rfl)⟩
  clear h1
  obtain ⟨h1, h⟩ := h
  by_cases q20 : a1 = 4
  · refine j_tableIn (off := 103) 104 dX9_has_1 ra1 (by rw [q20]; decide) (by rw [q20]; decide) (by rw [q20]; rfl) rfl ?_
    have h := h1 q20
    clear h1
    refine j_aload_n dX9_has_104 rfl ?_
    refine j_iconst dX9_has_105 ?_
    obtain ⟨P5, hp6, h⟩ := h
    refine j_invV (As := [vI 0]) (rest := []) dX9_has_106 lkX9_463 hM.1 rfl rfl (wX9_standing (d := 2) (Nat.le_of_ble_eq_true rfl) hM hW (by decide) hp6) rfl rfl (Nat.le_of_ble_eq_true rfl) (Nat.le_trans (Nat.le_of_ble_eq_true rfl) hd) (jkpI fun z7 p8 r9 => ?_)
    have h := h z7 p8
    exact j_iret dX9_has_109 rfl ⟨_, rfl, rfl, rfl, rfl, h, r9⟩
  clear h1
  obtain ⟨h1, h⟩ := h
  by_cases q21 : a1 = 5
  · refine j_tableIn (off := 109) 110 dX9_has_1 ra1 (by rw [q21]; decide) (by rw [q21]; decide) (by rw [q21]; rfl) rfl ?_
    have h := h1 q21
    clear h1
    refine j_aload_n dX9_has_110 rfl ?_
    refine j_getFR dX9_has_111 flX9_118_10 hM.1 rfl (mf_head hM) ?_
    refine j_aload_n dX9_has_114 rfl ?_
    refine j_getI dX9_has_115 flX9_51_10 hM.1 rfl ?_
    obtain ⟨c10, h⟩ := h
    refine j_iald (n := 2) dX9_has_118 (mt_head hM) (ml_head hM) c10 ?_
    exact j_iret dX9_has_119 rfl ⟨_, rfl, rfl, rfl, rfl, h, (hW.ai (mt_head hM) rfl)⟩
  clear h1
  obtain ⟨h1, h⟩ := h
  by_cases q22 : a1 = 6
  · refine j_tableIn (off := 119) 120 dX9_has_1 ra1 (by rw [q22]; decide) (by rw [q22]; decide) (by rw [q22]; rfl) rfl ?_
    have h := h1 q22
    clear h1
    refine j_aload_n dX9_has_120 rfl ?_
    refine j_getFR dX9_has_121 flX9_121_10 hM.1 rfl (mf_mend hM) ?_
    refine j_aload_n dX9_has_124 rfl ?_
    refine j_getI dX9_has_125 flX9_51_10 hM.1 rfl ?_
    obtain ⟨c11, h⟩ := h
    refine j_iald (n := 2) dX9_has_128 (mt_mend hM) (ml_mend hM) c11 ?_
    exact j_iret dX9_has_129 rfl ⟨_, rfl, rfl, rfl, rfl, h, (hW.ai (mt_mend hM) rfl)⟩
  clear h1
  obtain ⟨h1, h⟩ := h
  by_cases q23 : a1 = 7
  · refine j_tableIn (off := 129) 130 dX9_has_1 ra1 (by rw [q23]; decide) (by rw [q23]; decide) (by rw [q23]; rfl) rfl ?_
    have h := h1 q23
    clear h1
    refine j_aload_n dX9_has_130 rfl ?_
    refine j_getFR dX9_has_131 flX9_124_10 hM.1 rfl (mf_tune hM) ?_
    refine j_aload_n dX9_has_134 rfl ?_
    refine j_getI dX9_has_135 flX9_51_10 hM.1 rfl ?_
    obtain ⟨c12, h⟩ := h
    refine j_iald (n := 2) dX9_has_138 (mt_tune hM) (ml_tune hM) c12 ?_
    exact j_iret dX9_has_139 rfl ⟨_, rfl, rfl, rfl, rfl, h, (hW.ai (mt_tune hM) rfl)⟩
  clear h1
  obtain ⟨h1, h⟩ := h
  by_cases q24 : a1 = 8
  · refine j_tableIn (off := 139) 140 dX9_has_1 ra1 (by rw [q24]; decide) (by rw [q24]; decide) (by rw [q24]; rfl) rfl ?_
    have h := h1 q24
    clear h1
    refine j_aload_n dX9_has_140 rfl ?_
    refine j_getFR dX9_has_141 flX9_142_10 hM.1 rfl (mf_year hM) ?_
    refine j_iconst dX9_has_144 ?_
    refine j_iald (n := 22) dX9_has_145 (mt_year hM) (ml_year hM) (by decide) ?_
    exact j_iret dX9_has_146 rfl ⟨_, rfl, rfl, rfl, rfl, h, (hW.ai (mt_year hM) rfl)⟩
  clear h1
  obtain ⟨h1, h⟩ := h
  by_cases q25 : a1 = 9
  · refine j_tableIn (off := 146) 147 dX9_has_1 ra1 (by rw [q25]; decide) (by rw [q25]; decide) (by rw [q25]; rfl) rfl ?_
    have h := h1 q25
    clear h1
    refine j_aload_n dX9_has_147 rfl ?_
    refine j_getFR dX9_has_148 flX9_160_10 hM.1 rfl (mf_bookMany hM) ?_
    refine j_iconst dX9_has_151 ?_
    refine j_iald (n := 22) dX9_has_152 (mt_bookMany hM) (ml_bookMany hM) (by decide) ?_
    exact j_iret dX9_has_153 rfl ⟨_, rfl, rfl, rfl, rfl, h, (hW.ai (mt_bookMany hM) rfl)⟩
  clear h1
  obtain ⟨h1, h⟩ := h
  by_cases q26 : a1 = 10
  · refine j_tableIn (off := 153) 154 dX9_has_1 ra1 (by rw [q26]; decide) (by rw [q26]; decide) (by rw [q26]; rfl) rfl ?_
    have h := h1 q26
    clear h1
    refine j_aload_n dX9_has_154 rfl ?_
    refine j_getI dX9_has_155 flX9_169_10 hM.1 rfl ?_
    exact j_iret dX9_has_158 rfl ⟨_, rfl, rfl, rfl, rfl, h, (hW.fi rfl)⟩
  clear h1
  obtain ⟨h1, h⟩ := h
  by_cases q27 : a1 = 11
  · refine j_tableIn (off := 158) 159 dX9_has_1 ra1 (by rw [q27]; decide) (by rw [q27]; decide) (by rw [q27]; rfl) rfl ?_
    have h := h1 q27
    clear h1
    refine j_aload_n dX9_has_159 rfl ?_
    refine j_getL dX9_has_160 flX9_172_10 hM.1 rfl ?_
    refine j_l2i dX9_has_163 ?_
    obtain ⟨r15, h⟩ := h
    exact j_iret dX9_has_164 rfl ⟨_, rfl, rfl, rfl, rfl, h, r15⟩
  clear h1
  have h := h q16 q17 q18 q19 q20 q21 q22 q23 q24 q25 q26 q27
  refine j_tableOut 165 dX9_has_1 ra1 (by omega) rfl ?_
  refine j_iconst dX9_has_165 ?_
  exact j_iret dX9_has_166 rfl ⟨_, rfl, rfl, rfl, rfl, h, (by decide)⟩
/-- hears(IIZ)I -/
def wpX9_hears (o : Nat) (a1 : Int) (a2 : Int) (a3 : Int) (F : jFl) (A : jAr) (Q : Int → Prop) : Prop :=
  ∃ P1 : Int → Prop, wpX9_isChild o a1 F A P1 ∧ ∀ z3, P1 z3 →
  ((z3 = 0) →
    Q (-1)) ∧
  (¬ (z3 = 0) →
    ∃ P7 : Int → Prop, wpX9_isWordOf o a2 F A P7 ∧ ∀ z9, P7 z9 →
    ((¬ z9 = 0) →
      ((a3 = 0) →
        ∃ P14 : Int → Prop, wpX9_heardBy o a1 a2 F A P14 ∧ ∀ z16, P14 z16 →
        Q z16) ∧
      (¬ (a3 = 0) →
        ∃ P19 : Int → Prop, wpX9_saidBy o a1 a2 F A P19 ∧ ∀ z21, P19 z21 →
        Q z21)) ∧
    (¬ (¬ z9 = 0) →
      Q (-1)))
theorem wX9_hears {G : jG} {l : Launch} {d : Nat} {N : jSh} {o : Nat} {F : jFl} {A : jAr} {a1 a2 a3 : Int} {Q : Int → Prop} (hd : 3 ≤ d) (hM : mShape G N o) (hW : jWf N F A) (ra1 : jR a1) (ra2 : jR a2) (ba3 : a3 = 0 ∨ a3 = 1) (h : wpX9_hears o a1 a2 a3 F A Q) : jCall G l d mX9_hears [.ref o, vI a1, vI a2, vI a3] N F A (jpI N F A Q) := by
  refine jCall.of (ls := [.ref o, vI a1, vI a2, vI a3]) (by decide) rfl (Nat.le_of_ble_eq_true rfl) rfl ?_
  unfold wpX9_hears at h
  refine j_aload_n dX9_hears_0 rfl ?_
  refine j_iload_n dX9_hears_1 rfl ?_
  obtain ⟨P1, hp2, h⟩ := h
  refine j_invV (As := [vI a1]) (rest := []) dX9_hears_2 lkX9_420 hM.1 rfl rfl (wX9_isChild (d := 1) (Nat.le_of_ble_eq_true rfl) hM hW ra1 hp2) rfl rfl (Nat.le_of_ble_eq_true rfl) (Nat.le_trans (Nat.le_of_ble_eq_true rfl) hd) (jkpB fun z3 p4 r5 => ?_)
  have h := h z3 p4
  obtain ⟨h1, h2⟩ := h
  refine j_if_eq 16 dX9_hears_5 rfl (jR_b r5) (fun q6 => ?_) (fun q6 => ?_)
  · have h := h1 q6
    clear h1 h2
    refine j_iconst dX9_hears_16 ?_
    refine j_goto 39 dX9_hears_17 rfl ?_
    exact j_iret dX9_hears_39 rfl ⟨_, rfl, rfl, rfl, rfl, h, (by decide)⟩
  · have h := h2 q6
    clear h1 h2
    refine j_aload_n dX9_hears_8 rfl ?_
    refine j_iload_n dX9_hears_9 rfl ?_
    obtain ⟨P7, hp8, h⟩ := h
    refine j_invV (As := [vI a2]) (rest := []) dX9_hears_10 lkX9_409 hM.1 rfl rfl (wX9_isWordOf (d := 1) (Nat.le_of_ble_eq_true rfl) hM hW ra2 hp8) rfl rfl (Nat.le_of_ble_eq_true rfl) (Nat.le_trans (Nat.le_of_ble_eq_true rfl) hd) (jkpB fun z9 p10 r11 => ?_)
    have h := h z9 p10
    obtain ⟨h1, h2⟩ := h
    refine j_if_ne 20 dX9_hears_13 rfl (jR_b r11) (fun q12 => ?_) (fun q12 => ?_)
    · have h := h1 q12
      clear h1 h2
      refine j_iload_n dX9_hears_20 rfl ?_
      obtain ⟨h1, h2⟩ := h
      refine j_if_eq 33 dX9_hears_21 rfl (jR_b ba3) (fun q13 => ?_) (fun q13 => ?_)
      · have h := h1 q13
        clear h1 h2
        refine j_aload_n dX9_hears_33 rfl ?_
        refine j_iload_n dX9_hears_34 rfl ?_
        refine j_iload_n dX9_hears_35 rfl ?_
        obtain ⟨P14, hp15, h⟩ := h
        refine j_invV (As := [vI a1, vI a2]) (rest := []) dX9_hears_36 lkX9_415 hM.1 rfl rfl (wX9_heardBy (d := 1) (Nat.le_of_ble_eq_true rfl) hM hW ra1 ra2 hp15) rfl rfl (Nat.le_of_ble_eq_true rfl) (Nat.le_trans (Nat.le_of_ble_eq_true rfl) hd) (jkpI fun z16 p17 r18 => ?_)
        have h := h z16 p17
        exact j_iret dX9_hears_39 rfl ⟨_, rfl, rfl, rfl, rfl, h, r18⟩
      · have h := h2 q13
        clear h1 h2
        refine j_aload_n dX9_hears_24 rfl ?_
        refine j_iload_n dX9_hears_25 rfl ?_
        refine j_iload_n dX9_hears_26 rfl ?_
        obtain ⟨P19, hp20, h⟩ := h
        refine j_invV (As := [vI a1, vI a2]) (rest := []) dX9_hears_27 lkX9_423 hM.1 rfl rfl (wX9_saidBy (d := 2) (Nat.le_of_ble_eq_true rfl) hM hW ra1 ra2 hp20) rfl rfl (Nat.le_of_ble_eq_true rfl) (Nat.le_trans (Nat.le_of_ble_eq_true rfl) hd) (jkpI fun z21 p22 r23 => ?_)
        have h := h z21 p22
        refine j_goto 39 dX9_hears_30 rfl ?_
        exact j_iret dX9_hears_39 rfl ⟨_, rfl, rfl, rfl, rfl, h, r23⟩
    · have h := h2 q12
      clear h1 h2
      refine j_iconst dX9_hears_16 ?_
      refine j_goto 39 dX9_hears_17 rfl ?_
      exact j_iret dX9_hears_39 rfl ⟨_, rfl, rfl, rfl, rfl, h, (by decide)⟩
/-- isImage(I)Z -/
def wpX9_isImage (o : Nat) (a1 : Int) (F : jFl) (A : jAr) (Q : Int → Prop) : Prop :=
  ((a1 < 4) →
    Q 0) ∧
  (¬ (a1 < 4) →
    ((0 : Int) ≤ 8 ∧ (8 : Int) < 32) ∧
    (((0 : Int) ≤ (A (o + 1) 0) * 2 ^ 8 ∧ ((A (o + 1) 0) * 2 ^ 8 : Int) ≤ 2147483647) ∧ ((0 : Int) ≤ A (o + 1) 1 ∧ (A (o + 1) 1 : Int) ≤ 2147483647)) ∧
    jR (jor ((A (o + 1) 0) * 2 ^ 8) (A (o + 1) 1)) ∧
    ((9999 < (jor ((A (o + 1) 0) * 2 ^ 8) (A (o + 1) 1))) →
      Q 0) ∧
    (¬ (9999 < (jor ((A (o + 1) 0) * 2 ^ 8) (A (o + 1) 1))) →
      (0 ≤ F 3039 o ∧ F 3039 o < 2) ∧
      ((¬ (A (o + 1) 2) = (A (o + 17) (F 3039 o))) →
        Q 0) ∧
      (¬ (¬ (A (o + 1) 2) = (A (o + 17) (F 3039 o))) →
        (0 ≤ F 3039 o ∧ F 3039 o < 2) ∧
        jR (4 + (A (o + 17) (F 3039 o))) ∧
        (((4 + (A (o + 17) (F 3039 o))) ≤ a1) →
          ∃ (I16 : Int → Int → Prop) (m17 : Int → Int → Nat), I16 71 0 ∧ ∀ (v14 : Int) (v15 : Int), I16 v14 v15 →
            jR (a1 - 1) ∧
            (((a1 - 1) ≤ v15) →
              (0 ≤ a1 - 1 ∧ a1 - 1 < 1800) ∧
              (((A (o + 1) (a1 - 1)) = v14) →
                ∃ (I23 : Int → Prop) (m24 : Int → Nat), I23 0 ∧ ∀ (v22 : Int), I23 v22 →
                  (0 ≤ F 3039 o ∧ F 3039 o < 2) ∧
                  (((A (o + 17) (F 3039 o)) ≤ v22) →
                    (0 ≤ F 3039 o ∧ F 3039 o < 2) ∧
                    jR (3 + (A (o + 17) (F 3039 o))) ∧
                    ∀ v29 : Int, v29 = 3 + (A (o + 17) (F 3039 o)) →
                    ∃ (I32 : Int → Int → Prop) (m33 : Int → Int → Nat), I32 v29 0 ∧ ∀ (v30 : Int) (v31 : Int), I32 v30 v31 →
                      (0 ≤ F 3039 o ∧ F 3039 o < 2) ∧
                      ∃ K36 : Prop, (
                        K36 →
                        jR (a1 - 1) ∧
                        ∀ z41 : Int, z41 = (if ¬ v30 = (a1 - 1) then 0 else 1) →
                        Q z41) ∧
                      (((A (o + 17) (F 3039 o)) ≤ v31) →
                        K36 ) ∧
                      (¬ ((A (o + 17) (F 3039 o)) ≤ v31) →
                        ((v30 = (-1)) →
                          K36 ) ∧
                        (¬ (v30 = (-1)) →
                          jR (a1 - 1) ∧
                          ∃ P45 : Int → Prop, wpX9_lawOn o v30 (a1 - 1) F A P45 ∧ ∀ z47, P45 z47 →
                          jR (v31 + 1) ∧
                          I32 z47 (v31 + 1) ∧ m33 z47 (v31 + 1) < m33 v30 v31))) ∧
                  (¬ ((A (o + 17) (F 3039 o)) ≤ v22) →
                    (0 ≤ 3 + v22 ∧ 3 + v22 < 1800) ∧
                    ∃ P52 : Int → Prop, wpX9_isLaw o (A (o + 1) (3 + v22)) F A P52 ∧ ∀ z54, P52 z54 →
                    ((¬ z54 = 0) →
                      ∃ (I59 : Int → Prop) (m60 : Int → Nat), I59 0 ∧ ∀ (v58 : Int), I59 v58 →
                        ((v22 ≤ v58) →
                          jR (v22 + 1) ∧
                          I23 (v22 + 1) ∧ m24 (v22 + 1) < m24 v22) ∧
                        (¬ (v22 ≤ v58) →
                          (0 ≤ 3 + v58 ∧ 3 + v58 < 1800) ∧
                          (0 ≤ 3 + v22 ∧ 3 + v22 < 1800) ∧
                          ((¬ (A (o + 1) (3 + v58)) = (A (o + 1) (3 + v22))) →
                            jR (v58 + 1) ∧
                            I59 (v58 + 1) ∧ m60 (v58 + 1) < m60 v58) ∧
                          (¬ (¬ (A (o + 1) (3 + v58)) = (A (o + 1) (3 + v22))) →
                            Q 0))) ∧
                    (¬ (¬ z54 = 0) →
                      Q 0))) ∧
              (¬ ((A (o + 1) (a1 - 1)) = v14) →
                Q 0)) ∧
            (¬ ((a1 - 1) ≤ v15) →
              (0 ≤ v15 ∧ v15 < 1800) ∧
              (((0 : Int) ≤ (3 * v14) + (A (o + 1) v15) ∧ ((3 * v14) + (A (o + 1) v15) : Int) ≤ 2147483647) ∧ ((0 : Int) < 253 ∧ (253 : Int) ≤ 2147483647)) ∧
              jR (((3 * v14) + (A (o + 1) v15)) % 253) ∧
              ∀ v70 : Int, v70 = ((3 * v14) + (A (o + 1) v15)) % 253 →
              jR (v15 + 1) ∧
              I16 v70 (v15 + 1) ∧ m17 v70 (v15 + 1) < m17 v14 v15)) ∧
        (¬ ((4 + (A (o + 17) (F 3039 o))) ≤ a1) →
          Q 0))))
theorem wX9_isImage {G : jG} {l : Launch} {d : Nat} {N : jSh} {o : Nat} {F : jFl} {A : jAr} {a1 : Int} {Q : Int → Prop} (hd : 3 ≤ d) (hM : mShape G N o) (hW : jWf N F A) (ra1 : jR a1) (h : wpX9_isImage o a1 F A Q) : jCall G l d mX9_isImage [.ref o, vI a1] N F A (jpB N F A Q) := by
  refine jCall.of (ls := [.ref o, vI a1, jD, jD, jD]) (by decide) rfl (Nat.le_of_ble_eq_true rfl) rfl ?_
  unfold wpX9_isImage at h
  refine j_iload_n dX9_isImage_0 rfl ?_
  refine j_iconst dX9_isImage_1 ?_
  obtain ⟨h1, h2⟩ := h
  refine j_icmp_lt 60 dX9_isImage_2 rfl ra1 (by decide) (fun q1 => ?_) (fun q1 => ?_)
  · have h := h1 q1
    clear h1 h2
    refine j_iconst dX9_isImage_60 ?_
    exact j_zret dX9_isImage_61 rfl (nr_bool (by decide)) ⟨_, rfl, rfl, rfl, rfl, h, (by decide)⟩
  · have h := h2 q1
    clear h1 h2
    refine j_aload_n dX9_isImage_5 rfl ?_
    refine j_getFR dX9_isImage_6 flX9_7_10 hM.1 rfl (mf_tape hM) ?_
    refine j_iconst dX9_isImage_9 ?_
    refine j_iald (n := 1800) dX9_isImage_10 (mt_tape hM) (ml_tape hM) (by decide) ?_
    refine j_bipush dX9_isImage_11 ?_
    obtain ⟨c3, h⟩ := h
    refine j_ishl dX9_isImage_13 c3 ?_
    refine j_aload_n dX9_isImage_14 rfl ?_
    refine j_getFR dX9_isImage_15 flX9_7_10 hM.1 rfl (mf_tape hM) ?_
    refine j_iconst dX9_isImage_18 ?_
    refine j_iald (n := 1800) dX9_isImage_19 (mt_tape hM) (ml_tape hM) (by decide) ?_
    obtain ⟨c5, h⟩ := h
    refine j_ior dX9_isImage_20 c5.1 c5.2 ?_
    refine j_sipush dX9_isImage_21 ?_
    obtain ⟨r6, h⟩ := h
    obtain ⟨h1, h2⟩ := h
    refine j_icmp_gt 60 dX9_isImage_24 rfl r6 (by decide) (fun q7 => ?_) (fun q7 => ?_)
    · have h := h1 q7
      clear h1 h2
      refine j_iconst dX9_isImage_60 ?_
      exact j_zret dX9_isImage_61 rfl (nr_bool (by decide)) ⟨_, rfl, rfl, rfl, rfl, h, (by decide)⟩
    · have h := h2 q7
      clear h1 h2
      refine j_aload_n dX9_isImage_27 rfl ?_
      refine j_getFR dX9_isImage_28 flX9_7_10 hM.1 rfl (mf_tape hM) ?_
      refine j_iconst dX9_isImage_31 ?_
      refine j_iald (n := 1800) dX9_isImage_32 (mt_tape hM) (ml_tape hM) (by decide) ?_
      refine j_aload_n dX9_isImage_33 rfl ?_
      refine j_getFR dX9_isImage_34 flX9_100_10 hM.1 rfl (mf_laws hM) ?_
      refine j_aload_n dX9_isImage_37 rfl ?_
      refine j_getI dX9_isImage_38 flX9_51_10 hM.1 rfl ?_
      obtain ⟨c9, h⟩ := h
      refine j_iald (n := 2) dX9_isImage_41 (mt_laws hM) (ml_laws hM) c9 ?_
      obtain ⟨h1, h2⟩ := h
      refine j_icmp_ne 60 dX9_isImage_42 rfl (hW.ai (mt_tape hM) rfl) (hW.ai (mt_laws hM) rfl) (fun q10 => ?_) (fun q10 => ?_)
      · have h := h1 q10
        clear h1 h2
        refine j_iconst dX9_isImage_60 ?_
        exact j_zret dX9_isImage_61 rfl (nr_bool (by decide)) ⟨_, rfl, rfl, rfl, rfl, h, (by decide)⟩
      · have h := h2 q10
        clear h1 h2
        refine j_iload_n dX9_isImage_45 rfl ?_
        refine j_iconst dX9_isImage_46 ?_
        refine j_aload_n dX9_isImage_47 rfl ?_
        refine j_getFR dX9_isImage_48 flX9_100_10 hM.1 rfl (mf_laws hM) ?_
        refine j_aload_n dX9_isImage_51 rfl ?_
        refine j_getI dX9_isImage_52 flX9_51_10 hM.1 rfl ?_
        obtain ⟨c11, h⟩ := h
        refine j_iald (n := 2) dX9_isImage_55 (mt_laws hM) (ml_laws hM) c11 ?_
        refine j_iadd dX9_isImage_56 ?_
        obtain ⟨r12, h⟩ := h
        obtain ⟨h1, h2⟩ := h
        refine j_icmp_ge 62 dX9_isImage_57 rfl ra1 r12 (fun q13 => ?_) (fun q13 => ?_)
        · have h := h1 q13
          clear h1 h2
          refine j_bipush dX9_isImage_62 ?_
          refine j_istore_n dX9_isImage_64 rfl ?_
          refine j_iconst dX9_isImage_65 ?_
          refine j_istore_n dX9_isImage_66 rfl ?_
          obtain ⟨I16, m17, h0, hs⟩ := h
          have lp : ∀ (n : Nat) (v14 : Int) (v15 : Int), m17 v14 v15 < n → jR v14 → jR v15 → I16 v14 v15 → J G l d mX9_isImage 67 [.ref o, vI a1, vI v14, vI v15, jD] [] N F A (jpB N F A Q) := by
            intro nI16
            induction nI16 with
            | zero =>
              intro v14 v15 hmu
              exact absurd hmu (Nat.not_lt_zero _)
            | succ nI16 ihI16 =>
              intro v14 v15 hmuI16 rv14 rv15 hI
              have h := hs v14 v15 hI
              refine j_iload_n dX9_isImage_67 rfl ?_
              refine j_iload_n dX9_isImage_68 rfl ?_
              refine j_iconst dX9_isImage_69 ?_
              refine j_isub dX9_isImage_70 ?_
              obtain ⟨r18, h⟩ := h
              obtain ⟨h1, h2⟩ := h
              refine j_icmp_ge 95 dX9_isImage_71 rfl rv15 r18 (fun q19 => ?_) (fun q19 => ?_)
              · have h := h1 q19
                clear h1 h2
                refine j_aload_n dX9_isImage_95 rfl ?_
                refine j_getFR dX9_isImage_96 flX9_7_10 hM.1 rfl (mf_tape hM) ?_
                refine j_iload_n dX9_isImage_99 rfl ?_
                refine j_iconst dX9_isImage_100 ?_
                refine j_isub dX9_isImage_101 ?_
                obtain ⟨c20, h⟩ := h
                refine j_iald (n := 1800) dX9_isImage_102 (mt_tape hM) (ml_tape hM) c20 ?_
                refine j_iload_n dX9_isImage_103 rfl ?_
                obtain ⟨h1, h2⟩ := h
                refine j_icmp_eq 109 dX9_isImage_104 rfl (hW.ai (mt_tape hM) rfl) rv14 (fun q21 => ?_) (fun q21 => ?_)
                · have h := h1 q21
                  clear h1 h2
                  refine j_iconst dX9_isImage_109 ?_
                  refine j_istore_n dX9_isImage_110 rfl ?_
                  obtain ⟨I23, m24, h0, hs⟩ := h
                  have lp : ∀ (n : Nat) (v22 : Int), m24 v22 < n → jR v22 → I23 v22 → J G l d mX9_isImage 111 [.ref o, vI a1, jD, vI v22, jD] [] N F A (jpB N F A Q) := by
                    intro nI23
                    induction nI23 with
                    | zero =>
                      intro v22 hmu
                      exact absurd hmu (Nat.not_lt_zero _)
                    | succ nI23 ihI23 =>
                      intro v22 hmuI23 rv22 hI
                      have h := hs v22 hI
                      refine j_iload_n dX9_isImage_111 rfl ?_
                      refine j_aload_n dX9_isImage_112 rfl ?_
                      refine j_getFR dX9_isImage_113 flX9_100_10 hM.1 rfl (mf_laws hM) ?_
                      refine j_aload_n dX9_isImage_116 rfl ?_
                      refine j_getI dX9_isImage_117 flX9_51_10 hM.1 rfl ?_
                      obtain ⟨c25, h⟩ := h
                      refine j_iald (n := 2) dX9_isImage_120 (mt_laws hM) (ml_laws hM) c25 ?_
                      obtain ⟨h1, h2⟩ := h
                      refine j_icmp_ge 184 dX9_isImage_121 rfl rv22 (hW.ai (mt_laws hM) rfl) (fun q26 => ?_) (fun q26 => ?_)
                      · have h := h1 q26
                        clear h1 h2
                        refine j_iconst dX9_isImage_184 ?_
                        refine j_aload_n dX9_isImage_185 rfl ?_
                        refine j_getFR dX9_isImage_186 flX9_100_10 hM.1 rfl (mf_laws hM) ?_
                        refine j_aload_n dX9_isImage_189 rfl ?_
                        refine j_getI dX9_isImage_190 flX9_51_10 hM.1 rfl ?_
                        obtain ⟨c27, h⟩ := h
                        refine j_iald (n := 2) dX9_isImage_193 (mt_laws hM) (ml_laws hM) c27 ?_
                        refine j_iadd dX9_isImage_194 ?_
                        obtain ⟨r28, h⟩ := h
                        obtain ⟨v29, ev29⟩ : ∃ x : Int, x = 3 + (A (o + 17) (F 3039 o)) := ⟨_, rfl⟩
                        have h := h v29 ev29
                        refine jnmI (e := ev29) ?_
                        refine j_istore_n dX9_isImage_195 rfl ?_
                        refine j_iconst dX9_isImage_196 ?_
                        refine j_istore dX9_isImage_197 rfl ?_
                        obtain ⟨I32, m33, h0, hs⟩ := h
                        have lp : ∀ (n : Nat) (v30 : Int) (v31 : Int), m33 v30 v31 < n → jR v30 → jR v31 → I32 v30 v31 → J G l d mX9_isImage 199 [.ref o, vI a1, jD, vI v30, vI v31] [] N F A (jpB N F A Q) := by
                          intro nI32
                          induction nI32 with
                          | zero =>
                            intro v30 v31 hmu
                            exact absurd hmu (Nat.not_lt_zero _)
                          | succ nI32 ihI32 =>
                            intro v30 v31 hmuI32 rv30 rv31 hI
                            have h := hs v30 v31 hI
                            refine j_iload dX9_isImage_199 rfl ?_
                            refine j_aload_n dX9_isImage_201 rfl ?_
                            refine j_getFR dX9_isImage_202 flX9_100_10 hM.1 rfl (mf_laws hM) ?_
                            refine j_aload_n dX9_isImage_205 rfl ?_
                            refine j_getI dX9_isImage_206 flX9_51_10 hM.1 rfl ?_
                            obtain ⟨c34, h⟩ := h
                            refine j_iald (n := 2) dX9_isImage_209 (mt_laws hM) (ml_laws hM) c34 ?_
                            obtain ⟨K36, hK38, h⟩ := h
                            have jn37 : K36  → J G l d mX9_isImage 233 [.ref o, vI a1, jD, vI v30, jD] [] N F A (jpB N F A Q) := by
                              intro   h
                              have h := hK38  h
                              refine j_iload_n dX9_isImage_233 rfl ?_
                              refine j_iload_n dX9_isImage_234 rfl ?_
                              refine j_iconst dX9_isImage_235 ?_
                              refine j_isub dX9_isImage_236 ?_
                              obtain ⟨r39, h⟩ := h
                              have jn42 : ∀ z41 : Int, z41 = (if ¬ v30 = (a1 - 1) then 0 else 1) → J G l d mX9_isImage 245 [.ref o, vI a1, jD, vI v30, jD] [vI z41] N F A (jpB N F A Q) := by
                                intro z41 ez41
                                have h := h z41 ez41
                                exact j_zret dX9_isImage_245 rfl (nr_bool (ez41 ▸ (jB_ite (by decide) (by decide)))) ⟨_, rfl, rfl, rfl, rfl, h, (ez41 ▸ (jB_ite (by decide) (by decide)))⟩
                              clear h
                              refine j_icmp_ne 244 dX9_isImage_237 rfl rv30 r39 (fun q40 => ?_) (fun q40 => ?_)
                              · refine j_iconst dX9_isImage_244 ?_
                                exact jn42 _ ((if_pos q40).symm)
                              · refine j_iconst dX9_isImage_240 ?_
                                refine j_goto 245 dX9_isImage_241 rfl ?_
                                exact jn42 _ ((if_neg q40).symm)
                            obtain ⟨h1, h2⟩ := h
                            refine j_icmp_ge 233 dX9_isImage_210 rfl rv31 (hW.ai (mt_laws hM) rfl) (fun q35 => ?_) (fun q35 => ?_)
                            · have h := h1 q35
                              clear h1 h2
                              exact J.wk ((((((jWk.nil).no).eq).no).eq).eq) (jn37   h)
                            · have h := h2 q35
                              clear h1 h2
                              refine j_iload_n dX9_isImage_213 rfl ?_
                              refine j_iconst dX9_isImage_214 ?_
                              obtain ⟨h1, h2⟩ := h
                              refine j_icmp_eq 233 dX9_isImage_215 rfl rv30 (by decide) (fun q43 => ?_) (fun q43 => ?_)
                              · have h := h1 q43
                                clear h1 h2
                                exact J.wk ((((((jWk.nil).no).eq).no).eq).eq) (jn37   h)
                              · have h := h2 q43
                                clear h1 h2
                                refine j_aload_n dX9_isImage_218 rfl ?_
                                refine j_iload_n dX9_isImage_219 rfl ?_
                                refine j_iload_n dX9_isImage_220 rfl ?_
                                refine j_iconst dX9_isImage_221 ?_
                                refine j_isub dX9_isImage_222 ?_
                                obtain ⟨r44, h⟩ := h
                                obtain ⟨P45, hp46, h⟩ := h
                                refine j_invV (As := [vI v30, vI (a1 - 1)]) (rest := []) dX9_isImage_223 lkX9_558 hM.1 rfl rfl (wX9_lawOn (d := 2) (Nat.le_of_ble_eq_true rfl) hM hW rv30 r44 hp46) rfl rfl (Nat.le_of_ble_eq_true rfl) (Nat.le_trans (Nat.le_of_ble_eq_true rfl) hd) (jkpI fun z47 p48 r49 => ?_)
                                have h := h z47 p48
                                refine j_istore_n dX9_isImage_226 rfl ?_
                                obtain ⟨r50, h⟩ := h
                                refine j_iinc dX9_isImage_227 rfl rfl ?_
                                refine j_goto 199 dX9_isImage_230 rfl ?_
                                exact J.wk ((((((jWk.nil).eq).eq).no).eq).eq) (ihI32 _ _ (Nat.lt_of_lt_of_le h.2 (Nat.le_of_lt_succ hmuI32)) r49 r50 h.1)
                        exact J.wk ((((((jWk.nil).eq).eq).no).eq).eq) (lp _ _ _ (Nat.lt_succ_self _) (ev29 ▸ r28) (by decide) h0)
                      · have h := h2 q26
                        clear h1 h2
                        refine j_aload_n dX9_isImage_124 rfl ?_
                        refine j_aload_n dX9_isImage_125 rfl ?_
                        refine j_getFR dX9_isImage_126 flX9_7_10 hM.1 rfl (mf_tape hM) ?_
                        refine j_iconst dX9_isImage_129 ?_
                        refine j_iload_n dX9_isImage_130 rfl ?_
                        refine j_iadd dX9_isImage_131 ?_
                        obtain ⟨c51, h⟩ := h
                        refine j_iald (n := 1800) dX9_isImage_132 (mt_tape hM) (ml_tape hM) c51 ?_
                        obtain ⟨P52, hp53, h⟩ := h
                        refine j_invV (As := [vI (A (o + 1) (3 + v22))]) (rest := []) dX9_isImage_133 lkX9_396 hM.1 rfl rfl (wX9_isLaw (d := 1) (Nat.le_of_ble_eq_true rfl) hM hW (hW.ai (mt_tape hM) rfl) hp53) rfl rfl (Nat.le_of_ble_eq_true rfl) (Nat.le_trans (Nat.le_of_ble_eq_true rfl) hd) (jkpB fun z54 p55 r56 => ?_)
                        have h := h z54 p55
                        obtain ⟨h1, h2⟩ := h
                        refine j_if_ne 141 dX9_isImage_136 rfl (jR_b r56) (fun q57 => ?_) (fun q57 => ?_)
                        · have h := h1 q57
                          clear h1 h2
                          refine j_iconst dX9_isImage_141 ?_
                          refine j_istore dX9_isImage_142 rfl ?_
                          obtain ⟨I59, m60, h0, hs⟩ := h
                          have lp : ∀ (n : Nat) (v58 : Int), m60 v58 < n → jR v58 → I59 v58 → J G l d mX9_isImage 144 [.ref o, vI a1, jD, vI v22, vI v58] [] N F A (jpB N F A Q) := by
                            intro nI59
                            induction nI59 with
                            | zero =>
                              intro v58 hmu
                              exact absurd hmu (Nat.not_lt_zero _)
                            | succ nI59 ihI59 =>
                              intro v58 hmuI59 rv58 hI
                              have h := hs v58 hI
                              refine j_iload dX9_isImage_144 rfl ?_
                              refine j_iload_n dX9_isImage_146 rfl ?_
                              obtain ⟨h1, h2⟩ := h
                              refine j_icmp_ge 178 dX9_isImage_147 rfl rv58 rv22 (fun q61 => ?_) (fun q61 => ?_)
                              · have h := h1 q61
                                clear h1 h2
                                obtain ⟨r62, h⟩ := h
                                refine j_iinc dX9_isImage_178 rfl rfl ?_
                                refine j_goto 111 dX9_isImage_181 rfl ?_
                                exact J.wk ((((((jWk.nil).no).eq).no).eq).eq) (ihI23 _ (Nat.lt_of_lt_of_le h.2 (Nat.le_of_lt_succ hmuI23)) r62 h.1)
                              · have h := h2 q61
                                clear h1 h2
                                refine j_aload_n dX9_isImage_150 rfl ?_
                                refine j_getFR dX9_isImage_151 flX9_7_10 hM.1 rfl (mf_tape hM) ?_
                                refine j_iconst dX9_isImage_154 ?_
                                refine j_iload dX9_isImage_155 rfl ?_
                                refine j_iadd dX9_isImage_157 ?_
                                obtain ⟨c63, h⟩ := h
                                refine j_iald (n := 1800) dX9_isImage_158 (mt_tape hM) (ml_tape hM) c63 ?_
                                refine j_aload_n dX9_isImage_159 rfl ?_
                                refine j_getFR dX9_isImage_160 flX9_7_10 hM.1 rfl (mf_tape hM) ?_
                                refine j_iconst dX9_isImage_163 ?_
                                refine j_iload_n dX9_isImage_164 rfl ?_
                                refine j_iadd dX9_isImage_165 ?_
                                obtain ⟨c64, h⟩ := h
                                refine j_iald (n := 1800) dX9_isImage_166 (mt_tape hM) (ml_tape hM) c64 ?_
                                obtain ⟨h1, h2⟩ := h
                                refine j_icmp_ne 172 dX9_isImage_167 rfl (hW.ai (mt_tape hM) rfl) (hW.ai (mt_tape hM) rfl) (fun q65 => ?_) (fun q65 => ?_)
                                · have h := h1 q65
                                  clear h1 h2
                                  obtain ⟨r66, h⟩ := h
                                  refine j_iinc dX9_isImage_172 rfl rfl ?_
                                  refine j_goto 144 dX9_isImage_175 rfl ?_
                                  exact J.wk ((((((jWk.nil).eq).eq).no).eq).eq) (ihI59 _ (Nat.lt_of_lt_of_le h.2 (Nat.le_of_lt_succ hmuI59)) r66 h.1)
                                · have h := h2 q65
                                  clear h1 h2
                                  refine j_iconst dX9_isImage_170 ?_
                                  exact j_zret dX9_isImage_171 rfl (nr_bool (by decide)) ⟨_, rfl, rfl, rfl, rfl, h, (by decide)⟩
                          exact J.wk ((((((jWk.nil).eq).eq).no).eq).eq) (lp _ _ (Nat.lt_succ_self _) (by decide) h0)
                        · have h := h2 q57
                          clear h1 h2
                          refine j_iconst dX9_isImage_139 ?_
                          exact j_zret dX9_isImage_140 rfl (nr_bool (by decide)) ⟨_, rfl, rfl, rfl, rfl, h, (by decide)⟩
                  exact J.wk ((((((jWk.nil).no).eq).no).eq).eq) (lp _ _ (Nat.lt_succ_self _) (by decide) h0)
                · have h := h2 q21
                  clear h1 h2
                  refine j_iconst dX9_isImage_107 ?_
                  exact j_zret dX9_isImage_108 rfl (nr_bool (by decide)) ⟨_, rfl, rfl, rfl, rfl, h, (by decide)⟩
              · have h := h2 q19
                clear h1 h2
                refine j_iconst dX9_isImage_74 ?_
                refine j_iload_n dX9_isImage_75 rfl ?_
                refine j_imul dX9_isImage_76 ?_
                refine j_aload_n dX9_isImage_77 rfl ?_
                refine j_getFR dX9_isImage_78 flX9_7_10 hM.1 rfl (mf_tape hM) ?_
                refine j_iload_n dX9_isImage_81 rfl ?_
                obtain ⟨c67, h⟩ := h
                refine j_iald (n := 1800) dX9_isImage_82 (mt_tape hM) (ml_tape hM) c67 ?_
                refine j_iadd dX9_isImage_83 ?_
                refine j_sipush dX9_isImage_84 ?_
                obtain ⟨c68, h⟩ := h
                refine j_irem dX9_isImage_87 c68.1 c68.2 ?_
                obtain ⟨r69, h⟩ := h
                obtain ⟨v70, ev70⟩ : ∃ x : Int, x = ((3 * v14) + (A (o + 1) v15)) % 253 := ⟨_, rfl⟩
                have h := h v70 ev70
                refine jnmI (e := ev70) ?_
                refine j_istore_n dX9_isImage_88 rfl ?_
                obtain ⟨r71, h⟩ := h
                refine j_iinc dX9_isImage_89 rfl rfl ?_
                refine j_goto 67 dX9_isImage_92 rfl ?_
                exact J.wk ((((((jWk.nil).no).eq).eq).eq).eq) (ihI16 _ _ (Nat.lt_of_lt_of_le h.2 (Nat.le_of_lt_succ hmuI16)) (ev70 ▸ r69) r71 h.1)
          exact J.wk ((((((jWk.nil).no).eq).eq).eq).eq) (lp _ _ _ (Nat.lt_succ_self _) (by decide) (by decide) h0)
        · have h := h2 q13
          clear h1 h2
          refine j_iconst dX9_isImage_60 ?_
          exact j_zret dX9_isImage_61 rfl (nr_bool (by decide)) ⟨_, rfl, rfl, rfl, rfl, h, (by decide)⟩
/-- meaning(I)I -/
def wpX9_meaning (o : Nat) (a1 : Int) (F : jFl) (A : jAr) (Q : Int → jFl → jAr → Prop) : Prop :=
  ∃ P1 : Int → Prop, wpX9_isLaw o a1 F A P1 ∧ ∀ z3, P1 z3 →
  ((¬ z3 = 0) →
    ∃ P7 : jFl → jAr → Prop, wpX9_loads o 0 a1 F A P7 ∧ ∀ F10 A11, P7 F10 A11 →
    ∃ P15 : jFl → jAr → Prop, wpX9_saysAsTold o F10 A11 P15 ∧ ∀ F18 A19, P15 F18 A19 →
    ∃ P23 : Int → Prop, wpX9_saidMeans o F18 A19 P23 ∧ ∀ z25, P23 z25 →
    Q z25 F18 A19) ∧
  (¬ (¬ z3 = 0) →
    Q 1000000000 F A)
theorem wX9_meaning {G : jG} {l : Launch} {d : Nat} {N : jSh} {o : Nat} {F : jFl} {A : jAr} {a1 : Int} {Q : Int → jFl → jAr → Prop} (hd : 3 ≤ d) (hM : mShape G N o) (hW : jWf N F A) (ra1 : jR a1) (h : wpX9_meaning o a1 F A Q) : jCall G l d mX9_meaning [.ref o, vI a1] N F A (jmI N Q) := by
  refine jCall.of (ls := [.ref o, vI a1]) (by decide) rfl (Nat.le_of_ble_eq_true rfl) rfl ?_
  unfold wpX9_meaning at h
  refine j_aload_n dX9_meaning_0 rfl ?_
  refine j_iload_n dX9_meaning_1 rfl ?_
  obtain ⟨P1, hp2, h⟩ := h
  refine j_invV (As := [vI a1]) (rest := []) dX9_meaning_2 lkX9_396 hM.1 rfl rfl (wX9_isLaw (d := 1) (Nat.le_of_ble_eq_true rfl) hM hW ra1 hp2) rfl rfl (Nat.le_of_ble_eq_true rfl) (Nat.le_trans (Nat.le_of_ble_eq_true rfl) hd) (jkpB fun z3 p4 r5 => ?_)
  have h := h z3 p4
  obtain ⟨h1, h2⟩ := h
  refine j_if_ne 12 dX9_meaning_5 rfl (jR_b r5) (fun q6 => ?_) (fun q6 => ?_)
  · have h := h1 q6
    clear h1 h2
    refine j_aload_n dX9_meaning_12 rfl ?_
    refine j_iconst dX9_meaning_13 ?_
    refine j_iload_n dX9_meaning_14 rfl ?_
    obtain ⟨P7, hp8, h⟩ := h
    refine j_invV (As := [vI 0, vI a1]) (rest := []) dX9_meaning_15 lkX9_432 hM.1 rfl rfl (wX9_loads (d := 1) (Nat.le_of_ble_eq_true rfl) hM hW (by decide) ra1 hp8) rfl rfl (Nat.le_of_ble_eq_true rfl) (Nat.le_trans (Nat.le_of_ble_eq_true rfl) hd) (jkmV fun F10 A11 hW12 p13 => ?_)
    have h := h F10 A11 p13
    refine j_aload_n dX9_meaning_18 rfl ?_
    obtain ⟨P15, hp16, h⟩ := h
    refine j_invV (As := []) (rest := []) dX9_meaning_19 lkX9_500 hM.1 rfl rfl (wX9_saysAsTold (d := 1) (Nat.le_of_ble_eq_true rfl) hM hW12  hp16) rfl rfl (Nat.le_of_ble_eq_true rfl) (Nat.le_trans (Nat.le_of_ble_eq_true rfl) hd) (jkmV fun F18 A19 hW20 p21 => ?_)
    have h := h F18 A19 p21
    refine j_aload_n dX9_meaning_22 rfl ?_
    obtain ⟨P23, hp24, h⟩ := h
    refine j_invV (As := []) (rest := []) dX9_meaning_23 lkX9_549 hM.1 rfl rfl (wX9_saidMeans (d := 2) (Nat.le_of_ble_eq_true rfl) hM hW20  hp24) rfl rfl (Nat.le_of_ble_eq_true rfl) (Nat.le_trans (Nat.le_of_ble_eq_true rfl) hd) (jkpI fun z25 p26 r27 => ?_)
    have h := h z25 p26
    exact j_iret dX9_meaning_26 rfl ⟨_, rfl, rfl, hW20, h, r27⟩
  · have h := h2 q6
    clear h1 h2
    refine j_ldcw (n := 1000000000) dX9_meaning_8 q2646 ?_
    exact j_iret dX9_meaning_11 rfl ⟨_, rfl, rfl, hW, h, (by decide)⟩
/-- sing(IZ)Z -/
def wpX9_sing (o : Nat) (a1 : Int) (a2 : Int) (F : jFl) (A : jAr) (Q : Int → jFl → jAr → Prop) : Prop :=
  ∃ P1 : Int → Prop, wpX9_isLaw o a1 F A P1 ∧ ∀ z3, P1 z3 →
  ((z3 = 0) →
    ∃ P7 : Int → jFl → jAr → Prop, wpX9_refuses o 2 F A P7 ∧ ∀ z9 F10 A11, P7 z9 F10 A11 →
    ∀ z16 : Int, z16 = (if z9 < 0 then 0 else 1) →
    Q z16 F10 A11) ∧
  (¬ (z3 = 0) →
    (0 ≤ a1 ∧ a1 < 264) ∧
    ∀ z20 : Int, z20 = (if ¬ (A (o + 32) a1) = 1 then 0 else 1) →
    ((¬ z20 = a2) →
      ∃ P23 : jFl → jAr → Prop, wpX9_keeps o F A P23 ∧ ∀ F26 A27, P23 F26 A27 →
      ∀ z32 : Int, z32 = (if a2 = 0 then 0 else 1) →
      (0 ≤ a1 ∧ a1 < 264) ∧
      ∀ A35 : jAr, A35 = upA A27 (o + 32) a1 z32 →
      Q 1 F26 A35) ∧
    (¬ (¬ z20 = a2) →
      ∃ P37 : Int → jFl → jAr → Prop, wpX9_refuses o 2 F A P37 ∧ ∀ z39 F40 A41, P37 z39 F40 A41 →
      ∀ z46 : Int, z46 = (if z39 < 0 then 0 else 1) →
      Q z46 F40 A41))
theorem wX9_sing {G : jG} {l : Launch} {d : Nat} {N : jSh} {o : Nat} {F : jFl} {A : jAr} {a1 a2 : Int} {Q : Int → jFl → jAr → Prop} (hd : 3 ≤ d) (hM : mShape G N o) (hW : jWf N F A) (ra1 : jR a1) (ba2 : a2 = 0 ∨ a2 = 1) (h : wpX9_sing o a1 a2 F A Q) : jCall G l d mX9_sing [.ref o, vI a1, vI a2] N F A (jmB N Q) := by
  refine jCall.of (ls := [.ref o, vI a1, vI a2]) (by decide) rfl (Nat.le_of_ble_eq_true rfl) rfl ?_
  unfold wpX9_sing at h
  refine j_aload_n dX9_sing_0 rfl ?_
  refine j_iload_n dX9_sing_1 rfl ?_
  obtain ⟨P1, hp2, h⟩ := h
  refine j_invV (As := [vI a1]) (rest := []) dX9_sing_2 lkX9_396 hM.1 rfl rfl (wX9_isLaw (d := 1) (Nat.le_of_ble_eq_true rfl) hM hW ra1 hp2) rfl rfl (Nat.le_of_ble_eq_true rfl) (Nat.le_trans (Nat.le_of_ble_eq_true rfl) hd) (jkpB fun z3 p4 r5 => ?_)
  have h := h z3 p4
  obtain ⟨h1, h2⟩ := h
  refine j_if_eq 27 dX9_sing_5 rfl (jR_b r5) (fun q6 => ?_) (fun q6 => ?_)
  · have h := h1 q6
    clear h1 h2
    refine j_aload_n dX9_sing_27 rfl ?_
    refine j_iconst dX9_sing_28 ?_
    obtain ⟨P7, hp8, h⟩ := h
    refine j_invV (As := [vI 2]) (rest := []) dX9_sing_29 lkX9_254 hM.1 rfl rfl (wX9_refuses (d := 1) (Nat.le_of_ble_eq_true rfl) hM hW (by decide) hp8) rfl rfl (Nat.le_of_ble_eq_true rfl) (Nat.le_trans (Nat.le_of_ble_eq_true rfl) hd) (jkmI fun z9 F10 A11 hW12 p13 r14 => ?_)
    have h := h z9 F10 A11 p13
    have jn17 : ∀ z16 : Int, z16 = (if z9 < 0 then 0 else 1) → J G l d mX9_sing 40 [.ref o, vI a1, vI a2] [vI z16] N F10 A11 (jmB N Q) := by
      intro z16 ez16
      have h := h z16 ez16
      exact j_zret dX9_sing_40 rfl (nr_bool (ez16 ▸ (jB_ite (by decide) (by decide)))) ⟨_, rfl, rfl, hW12, h, (ez16 ▸ (jB_ite (by decide) (by decide)))⟩
    clear h
    refine j_if_lt 39 dX9_sing_32 rfl r14 (fun q15 => ?_) (fun q15 => ?_)
    · refine j_iconst dX9_sing_39 ?_
      exact jn17 _ ((if_pos q15).symm)
    · refine j_iconst dX9_sing_35 ?_
      refine j_goto 40 dX9_sing_36 rfl ?_
      exact jn17 _ ((if_neg q15).symm)
  · have h := h2 q6
    clear h1 h2
    refine j_aload_n dX9_sing_8 rfl ?_
    refine j_getFR dX9_sing_9 flX9_154_10 hM.1 rfl (mf_sung hM) ?_
    refine j_iload_n dX9_sing_12 rfl ?_
    obtain ⟨c18, h⟩ := h
    refine j_iald (n := 264) dX9_sing_13 (mt_sung hM) (ml_sung hM) c18 ?_
    refine j_iconst dX9_sing_14 ?_
    have jn21 : ∀ z20 : Int, z20 = (if ¬ (A (o + 32) a1) = 1 then 0 else 1) → J G l d mX9_sing 23 [.ref o, vI a1, vI a2] [vI z20] N F A (jmB N Q) := by
      intro z20 ez20
      have h := h z20 ez20
      refine j_iload_n dX9_sing_23 rfl ?_
      obtain ⟨h1, h2⟩ := h
      refine j_icmp_ne 41 dX9_sing_24 rfl (ez20 ▸ (jR_ite (by decide) (by decide))) (jR_b ba2) (fun q22 => ?_) (fun q22 => ?_)
      · have h := h1 q22
        clear h1 h2
        refine j_aload_n dX9_sing_41 rfl ?_
        obtain ⟨P23, hp24, h⟩ := h
        refine j_invV (As := []) (rest := []) dX9_sing_42 lkX9_457 hM.1 rfl rfl (wX9_keeps (d := 2) (Nat.le_of_ble_eq_true rfl) hM hW  hp24) rfl rfl (Nat.le_of_ble_eq_true rfl) (Nat.le_trans (Nat.le_of_ble_eq_true rfl) hd) (jkmV fun F26 A27 hW28 p29 => ?_)
        have h := h F26 A27 p29
        refine j_aload_n dX9_sing_45 rfl ?_
        refine j_getFR dX9_sing_46 flX9_154_10 hM.1 rfl (mf_sung hM) ?_
        refine j_iload_n dX9_sing_49 rfl ?_
        refine j_iload_n dX9_sing_50 rfl ?_
        have jn33 : ∀ z32 : Int, z32 = (if a2 = 0 then 0 else 1) → J G l d mX9_sing 59 [.ref o, vI a1, vI a2] [vI z32, vI a1, .ref (o + 32)] N F26 A27 (jmB N Q) := by
          intro z32 ez32
          have h := h z32 ez32
          obtain ⟨c34, h⟩ := h
          refine j_iast (n := 264) dX9_sing_59 (mt_sung hM) (Nat.le_trans hM.2.1 (Nat.le_add_right _ _)) (ml_sung hM) c34 ?_
          obtain ⟨A35, eA35⟩ : ∃ x : jAr, x = upA A27 (o + 32) a1 z32 := ⟨_, rfl⟩
          have hW36 : jWf N F26 A35 := eA35 ▸ jWf_A (i := a1) (z := z32) hW28 (mt_sung hM) (jRk_0 rfl (ez32 ▸ (jR_ite (by decide) (by decide))))
          refine jnmA (e := eA35) ?_
          have h := h A35 eA35
          refine j_iconst dX9_sing_60 ?_
          exact j_zret dX9_sing_61 rfl (nr_bool (by decide)) ⟨_, rfl, rfl, hW36, h, (by decide)⟩
        clear h
        refine j_if_eq 58 dX9_sing_51 rfl (jR_b ba2) (fun q31 => ?_) (fun q31 => ?_)
        · refine j_iconst dX9_sing_58 ?_
          exact jn33 _ ((if_pos q31).symm)
        · refine j_iconst dX9_sing_54 ?_
          refine j_goto 59 dX9_sing_55 rfl ?_
          exact jn33 _ ((if_neg q31).symm)
      · have h := h2 q22
        clear h1 h2
        refine j_aload_n dX9_sing_27 rfl ?_
        refine j_iconst dX9_sing_28 ?_
        obtain ⟨P37, hp38, h⟩ := h
        refine j_invV (As := [vI 2]) (rest := []) dX9_sing_29 lkX9_254 hM.1 rfl rfl (wX9_refuses (d := 1) (Nat.le_of_ble_eq_true rfl) hM hW (by decide) hp38) rfl rfl (Nat.le_of_ble_eq_true rfl) (Nat.le_trans (Nat.le_of_ble_eq_true rfl) hd) (jkmI fun z39 F40 A41 hW42 p43 r44 => ?_)
        have h := h z39 F40 A41 p43
        have jn47 : ∀ z46 : Int, z46 = (if z39 < 0 then 0 else 1) → J G l d mX9_sing 40 [.ref o, vI a1, vI a2] [vI z46] N F40 A41 (jmB N Q) := by
          intro z46 ez46
          have h := h z46 ez46
          exact j_zret dX9_sing_40 rfl (nr_bool (ez46 ▸ (jB_ite (by decide) (by decide)))) ⟨_, rfl, rfl, hW42, h, (ez46 ▸ (jB_ite (by decide) (by decide)))⟩
        clear h
        refine j_if_lt 39 dX9_sing_32 rfl r44 (fun q45 => ?_) (fun q45 => ?_)
        · refine j_iconst dX9_sing_39 ?_
          exact jn47 _ ((if_pos q45).symm)
        · refine j_iconst dX9_sing_35 ?_
          refine j_goto 40 dX9_sing_36 rfl ?_
          exact jn47 _ ((if_neg q45).symm)
    clear h
    refine j_icmp_ne 22 dX9_sing_15 rfl (hW.ai (mt_sung hM) rfl) (by decide) (fun q19 => ?_) (fun q19 => ?_)
    · refine j_iconst dX9_sing_22 ?_
      exact jn21 _ ((if_pos q19).symm)
    · refine j_iconst dX9_sing_18 ?_
      refine j_goto 23 dX9_sing_19 rfl ?_
      exact jn21 _ ((if_neg q19).symm)
/-- swap(II)Z -/
def wpX9_swap (o : Nat) (a1 : Int) (a2 : Int) (F : jFl) (A : jAr) (Q : Int → jFl → jAr → Prop) : Prop :=
  ∃ P1 : Int → Prop, wpX9_isLaw o a1 F A P1 ∧ ∀ z3, P1 z3 →
  ((z3 = 0) →
    ∃ P7 : Int → jFl → jAr → Prop, wpX9_refuses o 3 F A P7 ∧ ∀ z9 F10 A11, P7 z9 F10 A11 →
    ∀ z16 : Int, z16 = (if z9 < 0 then 0 else 1) →
    Q z16 F10 A11) ∧
  (¬ (z3 = 0) →
    ∃ P18 : Int → Prop, wpX9_isLaw o a2 F A P18 ∧ ∀ z20, P18 z20 →
    ((z20 = 0) →
      ∃ P24 : Int → jFl → jAr → Prop, wpX9_refuses o 3 F A P24 ∧ ∀ z26 F27 A28, P24 z26 F27 A28 →
      ∀ z33 : Int, z33 = (if z26 < 0 then 0 else 1) →
      Q z33 F27 A28) ∧
    (¬ (z20 = 0) →
      ((¬ a1 = a2) →
        ∃ P36 : jFl → jAr → Prop, wpX9_keeps o F A P36 ∧ ∀ F39 A40, P36 F39 A40 →
        (0 ≤ a1 ∧ a1 < 264) ∧
        ∀ v45 : Int, v45 = A40 (o + 29) a1 →
        (0 ≤ a2 ∧ a2 < 264) ∧
        (0 ≤ a1 ∧ a1 < 264) ∧
        ∀ A48 : jAr, A48 = upA A40 (o + 29) a1 (A40 (o + 29) a2) →
        (0 ≤ a2 ∧ a2 < 264) ∧
        ∀ A51 : jAr, A51 = upA A48 (o + 29) a2 v45 →
        Q 1 F39 A51) ∧
      (¬ (¬ a1 = a2) →
        ∃ P53 : Int → jFl → jAr → Prop, wpX9_refuses o 3 F A P53 ∧ ∀ z55 F56 A57, P53 z55 F56 A57 →
        ∀ z62 : Int, z62 = (if z55 < 0 then 0 else 1) →
        Q z62 F56 A57)))
theorem wX9_swap {G : jG} {l : Launch} {d : Nat} {N : jSh} {o : Nat} {F : jFl} {A : jAr} {a1 a2 : Int} {Q : Int → jFl → jAr → Prop} (hd : 3 ≤ d) (hM : mShape G N o) (hW : jWf N F A) (ra1 : jR a1) (ra2 : jR a2) (h : wpX9_swap o a1 a2 F A Q) : jCall G l d mX9_swap [.ref o, vI a1, vI a2] N F A (jmB N Q) := by
  refine jCall.of (ls := [.ref o, vI a1, vI a2, jD]) (by decide) rfl (Nat.le_of_ble_eq_true rfl) rfl ?_
  unfold wpX9_swap at h
  refine j_aload_n dX9_swap_0 rfl ?_
  refine j_iload_n dX9_swap_1 rfl ?_
  obtain ⟨P1, hp2, h⟩ := h
  refine j_invV (As := [vI a1]) (rest := []) dX9_swap_2 lkX9_396 hM.1 rfl rfl (wX9_isLaw (d := 1) (Nat.le_of_ble_eq_true rfl) hM hW ra1 hp2) rfl rfl (Nat.le_of_ble_eq_true rfl) (Nat.le_trans (Nat.le_of_ble_eq_true rfl) hd) (jkpB fun z3 p4 r5 => ?_)
  have h := h z3 p4
  obtain ⟨h1, h2⟩ := h
  refine j_if_eq 21 dX9_swap_5 rfl (jR_b r5) (fun q6 => ?_) (fun q6 => ?_)
  · have h := h1 q6
    clear h1 h2
    refine j_aload_n dX9_swap_21 rfl ?_
    refine j_iconst dX9_swap_22 ?_
    obtain ⟨P7, hp8, h⟩ := h
    refine j_invV (As := [vI 3]) (rest := []) dX9_swap_23 lkX9_254 hM.1 rfl rfl (wX9_refuses (d := 1) (Nat.le_of_ble_eq_true rfl) hM hW (by decide) hp8) rfl rfl (Nat.le_of_ble_eq_true rfl) (Nat.le_trans (Nat.le_of_ble_eq_true rfl) hd) (jkmI fun z9 F10 A11 hW12 p13 r14 => ?_)
    have h := h z9 F10 A11 p13
    have jn17 : ∀ z16 : Int, z16 = (if z9 < 0 then 0 else 1) → J G l d mX9_swap 34 [.ref o, vI a1, vI a2, jD] [vI z16] N F10 A11 (jmB N Q) := by
      intro z16 ez16
      have h := h z16 ez16
      exact j_zret dX9_swap_34 rfl (nr_bool (ez16 ▸ (jB_ite (by decide) (by decide)))) ⟨_, rfl, rfl, hW12, h, (ez16 ▸ (jB_ite (by decide) (by decide)))⟩
    clear h
    refine j_if_lt 33 dX9_swap_26 rfl r14 (fun q15 => ?_) (fun q15 => ?_)
    · refine j_iconst dX9_swap_33 ?_
      exact jn17 _ ((if_pos q15).symm)
    · refine j_iconst dX9_swap_29 ?_
      refine j_goto 34 dX9_swap_30 rfl ?_
      exact jn17 _ ((if_neg q15).symm)
  · have h := h2 q6
    clear h1 h2
    refine j_aload_n dX9_swap_8 rfl ?_
    refine j_iload_n dX9_swap_9 rfl ?_
    obtain ⟨P18, hp19, h⟩ := h
    refine j_invV (As := [vI a2]) (rest := []) dX9_swap_10 lkX9_396 hM.1 rfl rfl (wX9_isLaw (d := 1) (Nat.le_of_ble_eq_true rfl) hM hW ra2 hp19) rfl rfl (Nat.le_of_ble_eq_true rfl) (Nat.le_trans (Nat.le_of_ble_eq_true rfl) hd) (jkpB fun z20 p21 r22 => ?_)
    have h := h z20 p21
    obtain ⟨h1, h2⟩ := h
    refine j_if_eq 21 dX9_swap_13 rfl (jR_b r22) (fun q23 => ?_) (fun q23 => ?_)
    · have h := h1 q23
      clear h1 h2
      refine j_aload_n dX9_swap_21 rfl ?_
      refine j_iconst dX9_swap_22 ?_
      obtain ⟨P24, hp25, h⟩ := h
      refine j_invV (As := [vI 3]) (rest := []) dX9_swap_23 lkX9_254 hM.1 rfl rfl (wX9_refuses (d := 1) (Nat.le_of_ble_eq_true rfl) hM hW (by decide) hp25) rfl rfl (Nat.le_of_ble_eq_true rfl) (Nat.le_trans (Nat.le_of_ble_eq_true rfl) hd) (jkmI fun z26 F27 A28 hW29 p30 r31 => ?_)
      have h := h z26 F27 A28 p30
      have jn34 : ∀ z33 : Int, z33 = (if z26 < 0 then 0 else 1) → J G l d mX9_swap 34 [.ref o, vI a1, vI a2, jD] [vI z33] N F27 A28 (jmB N Q) := by
        intro z33 ez33
        have h := h z33 ez33
        exact j_zret dX9_swap_34 rfl (nr_bool (ez33 ▸ (jB_ite (by decide) (by decide)))) ⟨_, rfl, rfl, hW29, h, (ez33 ▸ (jB_ite (by decide) (by decide)))⟩
      clear h
      refine j_if_lt 33 dX9_swap_26 rfl r31 (fun q32 => ?_) (fun q32 => ?_)
      · refine j_iconst dX9_swap_33 ?_
        exact jn34 _ ((if_pos q32).symm)
      · refine j_iconst dX9_swap_29 ?_
        refine j_goto 34 dX9_swap_30 rfl ?_
        exact jn34 _ ((if_neg q32).symm)
    · have h := h2 q23
      clear h1 h2
      refine j_iload_n dX9_swap_16 rfl ?_
      refine j_iload_n dX9_swap_17 rfl ?_
      obtain ⟨h1, h2⟩ := h
      refine j_icmp_ne 35 dX9_swap_18 rfl ra1 ra2 (fun q35 => ?_) (fun q35 => ?_)
      · have h := h1 q35
        clear h1 h2
        refine j_aload_n dX9_swap_35 rfl ?_
        obtain ⟨P36, hp37, h⟩ := h
        refine j_invV (As := []) (rest := []) dX9_swap_36 lkX9_457 hM.1 rfl rfl (wX9_keeps (d := 2) (Nat.le_of_ble_eq_true rfl) hM hW  hp37) rfl rfl (Nat.le_of_ble_eq_true rfl) (Nat.le_trans (Nat.le_of_ble_eq_true rfl) hd) (jkmV fun F39 A40 hW41 p42 => ?_)
        have h := h F39 A40 p42
        refine j_aload_n dX9_swap_39 rfl ?_
        refine j_getFR dX9_swap_40 flX9_145_10 hM.1 rfl (mf_orderOf hM) ?_
        refine j_iload_n dX9_swap_43 rfl ?_
        obtain ⟨c44, h⟩ := h
        refine j_iald (n := 264) dX9_swap_44 (mt_orderOf hM) (ml_orderOf hM) c44 ?_
        obtain ⟨v45, ev45⟩ : ∃ x : Int, x = A40 (o + 29) a1 := ⟨_, rfl⟩
        have h := h v45 ev45
        refine jnmI (e := ev45) ?_
        refine j_istore_n dX9_swap_45 rfl ?_
        refine j_aload_n dX9_swap_46 rfl ?_
        refine j_getFR dX9_swap_47 flX9_145_10 hM.1 rfl (mf_orderOf hM) ?_
        refine j_iload_n dX9_swap_50 rfl ?_
        refine j_aload_n dX9_swap_51 rfl ?_
        refine j_getFR dX9_swap_52 flX9_145_10 hM.1 rfl (mf_orderOf hM) ?_
        refine j_iload_n dX9_swap_55 rfl ?_
        obtain ⟨c46, h⟩ := h
        refine j_iald (n := 264) dX9_swap_56 (mt_orderOf hM) (ml_orderOf hM) c46 ?_
        obtain ⟨c47, h⟩ := h
        refine j_iast (n := 264) dX9_swap_57 (mt_orderOf hM) (Nat.le_trans hM.2.1 (Nat.le_add_right _ _)) (ml_orderOf hM) c47 ?_
        obtain ⟨A48, eA48⟩ : ∃ x : jAr, x = upA A40 (o + 29) a1 (A40 (o + 29) a2) := ⟨_, rfl⟩
        have hW49 : jWf N F39 A48 := eA48 ▸ jWf_A (i := a1) (z := A40 (o + 29) a2) hW41 (mt_orderOf hM) (jRk_0 rfl (hW41.ai (mt_orderOf hM) rfl))
        refine jnmA (e := eA48) ?_
        have h := h A48 eA48
        refine j_aload_n dX9_swap_58 rfl ?_
        refine j_getFR dX9_swap_59 flX9_145_10 hM.1 rfl (mf_orderOf hM) ?_
        refine j_iload_n dX9_swap_62 rfl ?_
        refine j_iload_n dX9_swap_63 rfl ?_
        obtain ⟨c50, h⟩ := h
        refine j_iast (n := 264) dX9_swap_64 (mt_orderOf hM) (Nat.le_trans hM.2.1 (Nat.le_add_right _ _)) (ml_orderOf hM) c50 ?_
        obtain ⟨A51, eA51⟩ : ∃ x : jAr, x = upA A48 (o + 29) a2 v45 := ⟨_, rfl⟩
        have hW52 : jWf N F39 A51 := eA51 ▸ jWf_A (i := a2) (z := v45) hW49 (mt_orderOf hM) (jRk_0 rfl (ev45 ▸ (hW41.ai (mt_orderOf hM) rfl)))
        refine jnmA (e := eA51) ?_
        have h := h A51 eA51
        refine j_iconst dX9_swap_65 ?_
        exact j_zret dX9_swap_66 rfl (nr_bool (by decide)) ⟨_, rfl, rfl, hW52, h, (by decide)⟩
      · have h := h2 q35
        clear h1 h2
        refine j_aload_n dX9_swap_21 rfl ?_
        refine j_iconst dX9_swap_22 ?_
        obtain ⟨P53, hp54, h⟩ := h
        refine j_invV (As := [vI 3]) (rest := []) dX9_swap_23 lkX9_254 hM.1 rfl rfl (wX9_refuses (d := 1) (Nat.le_of_ble_eq_true rfl) hM hW (by decide) hp54) rfl rfl (Nat.le_of_ble_eq_true rfl) (Nat.le_trans (Nat.le_of_ble_eq_true rfl) hd) (jkmI fun z55 F56 A57 hW58 p59 r60 => ?_)
        have h := h z55 F56 A57 p59
        have jn63 : ∀ z62 : Int, z62 = (if z55 < 0 then 0 else 1) → J G l d mX9_swap 34 [.ref o, vI a1, vI a2, jD] [vI z62] N F56 A57 (jmB N Q) := by
          intro z62 ez62
          have h := h z62 ez62
          exact j_zret dX9_swap_34 rfl (nr_bool (ez62 ▸ (jB_ite (by decide) (by decide)))) ⟨_, rfl, rfl, hW58, h, (ez62 ▸ (jB_ite (by decide) (by decide)))⟩
        clear h
        refine j_if_lt 33 dX9_swap_26 rfl r60 (fun q61 => ?_) (fun q61 => ?_)
        · refine j_iconst dX9_swap_33 ?_
          exact jn63 _ ((if_pos q61).symm)
        · refine j_iconst dX9_swap_29 ?_
          refine j_goto 34 dX9_swap_30 rfl ?_
          exact jn63 _ ((if_neg q61).symm)
/-- pairAt(IZ)I -/
def wpX9_pairAt (o : Nat) (a1 : Int) (a2 : Int) (F : jFl) (A : jAr) (Q : Int → Prop) : Prop :=
  ∃ (I3 : Int → Int → Prop) (m4 : Int → Int → Nat), I3 0 0 ∧ ∀ (v1 : Int) (v2 : Int), I3 v1 v2 →
    (0 ≤ F 3039 o ∧ F 3039 o < 2) ∧
    (((A (o + 17) (F 3039 o)) ≤ v2) →
      Q (-1)) ∧
    (¬ ((A (o + 17) (F 3039 o)) ≤ v2) →
      jR (v2 + 1) ∧
      ∀ v8 : Int, v8 = v2 + 1 →
      ∃ (I11 : Int → Int → Prop) (m12 : Int → Int → Nat), I11 v1 v8 ∧ ∀ (v9 : Int) (v10 : Int), I11 v9 v10 →
        (0 ≤ F 3039 o ∧ F 3039 o < 2) ∧
        (((A (o + 17) (F 3039 o)) ≤ v10) →
          jR (v2 + 1) ∧
          I3 v9 (v2 + 1) ∧ m4 v9 (v2 + 1) < m4 v1 v2) ∧
        (¬ ((A (o + 17) (F 3039 o)) ≤ v10) →
          ((a2 = 0) →
            ∃ P17 : Int → Prop, wpX9_isAgainst o v2 v10 F A P17 ∧ ∀ z19, P17 z19 →
            ((¬ z19 = 0) →
              ((¬ v9 = a1) →
                jR (v9 + 1) ∧
                jR (v10 + 1) ∧
                I11 (v9 + 1) (v10 + 1) ∧ m12 (v9 + 1) (v10 + 1) < m12 v9 v10) ∧
              (¬ (¬ v9 = a1) →
                jR ((100 * v2) + v10) ∧
                Q ((100 * v2) + v10))) ∧
            (¬ (¬ z19 = 0) →
              jR (v10 + 1) ∧
              I11 v9 (v10 + 1) ∧ m12 v9 (v10 + 1) < m12 v9 v10)) ∧
          (¬ (a2 = 0) →
            ∃ P28 : Int → Prop, wpX9_isApart o v2 v10 F A P28 ∧ ∀ z30, P28 z30 →
            ((¬ z30 = 0) →
              ((¬ v9 = a1) →
                jR (v9 + 1) ∧
                jR (v10 + 1) ∧
                I11 (v9 + 1) (v10 + 1) ∧ m12 (v9 + 1) (v10 + 1) < m12 v9 v10) ∧
              (¬ (¬ v9 = a1) →
                jR ((100 * v2) + v10) ∧
                Q ((100 * v2) + v10))) ∧
            (¬ (¬ z30 = 0) →
              jR (v10 + 1) ∧
              I11 v9 (v10 + 1) ∧ m12 v9 (v10 + 1) < m12 v9 v10))))
theorem wX9_pairAt {G : jG} {l : Launch} {d : Nat} {N : jSh} {o : Nat} {F : jFl} {A : jAr} {a1 a2 : Int} {Q : Int → Prop} (hd : 4 ≤ d) (hM : mShape G N o) (hW : jWf N F A) (ra1 : jR a1) (ba2 : a2 = 0 ∨ a2 = 1) (h : wpX9_pairAt o a1 a2 F A Q) : jCall G l d mX9_pairAt [.ref o, vI a1, vI a2] N F A (jpI N F A Q) := by
  refine jCall.of (ls := [.ref o, vI a1, vI a2, jD, jD, jD]) (by decide) rfl (Nat.le_of_ble_eq_true rfl) rfl ?_
  unfold wpX9_pairAt at h
  refine j_iconst dX9_pairAt_0 ?_
  refine j_istore_n dX9_pairAt_1 rfl ?_
  refine j_iconst dX9_pairAt_2 ?_
  refine j_istore dX9_pairAt_3 rfl ?_
  obtain ⟨I3, m4, h0, hs⟩ := h
  have lp : ∀ (n : Nat) (v1 : Int) (v2 : Int), m4 v1 v2 < n → jR v1 → jR v2 → I3 v1 v2 → J G l d mX9_pairAt 5 [.ref o, vI a1, vI a2, vI v1, vI v2, jD] [] N F A (jpI N F A Q) := by
    intro nI3
    induction nI3 with
    | zero =>
      intro v1 v2 hmu
      exact absurd hmu (Nat.not_lt_zero _)
    | succ nI3 ihI3 =>
      intro v1 v2 hmuI3 rv1 rv2 hI
      have h := hs v1 v2 hI
      refine j_iload dX9_pairAt_5 rfl ?_
      refine j_aload_n dX9_pairAt_7 rfl ?_
      refine j_getFR dX9_pairAt_8 flX9_100_10 hM.1 rfl (mf_laws hM) ?_
      refine j_aload_n dX9_pairAt_11 rfl ?_
      refine j_getI dX9_pairAt_12 flX9_51_10 hM.1 rfl ?_
      obtain ⟨c5, h⟩ := h
      refine j_iald (n := 2) dX9_pairAt_15 (mt_laws hM) (ml_laws hM) c5 ?_
      obtain ⟨h1, h2⟩ := h
      refine j_icmp_ge 100 dX9_pairAt_16 rfl rv2 (hW.ai (mt_laws hM) rfl) (fun q6 => ?_) (fun q6 => ?_)
      · have h := h1 q6
        clear h1 h2
        refine j_iconst dX9_pairAt_100 ?_
        exact j_iret dX9_pairAt_101 rfl ⟨_, rfl, rfl, rfl, rfl, h, (by decide)⟩
      · have h := h2 q6
        clear h1 h2
        refine j_iload dX9_pairAt_19 rfl ?_
        refine j_iconst dX9_pairAt_21 ?_
        refine j_iadd dX9_pairAt_22 ?_
        obtain ⟨r7, h⟩ := h
        obtain ⟨v8, ev8⟩ : ∃ x : Int, x = v2 + 1 := ⟨_, rfl⟩
        have h := h v8 ev8
        refine jnmI (e := ev8) ?_
        refine j_istore dX9_pairAt_23 rfl ?_
        obtain ⟨I11, m12, h0, hs⟩ := h
        have lp : ∀ (n : Nat) (v9 : Int) (v10 : Int), m12 v9 v10 < n → jR v9 → jR v10 → I11 v9 v10 → J G l d mX9_pairAt 25 [.ref o, vI a1, vI a2, vI v9, vI v2, vI v10] [] N F A (jpI N F A Q) := by
          intro nI11
          induction nI11 with
          | zero =>
            intro v9 v10 hmu
            exact absurd hmu (Nat.not_lt_zero _)
          | succ nI11 ihI11 =>
            intro v9 v10 hmuI11 rv9 rv10 hI
            have h := hs v9 v10 hI
            refine j_iload dX9_pairAt_25 rfl ?_
            refine j_aload_n dX9_pairAt_27 rfl ?_
            refine j_getFR dX9_pairAt_28 flX9_100_10 hM.1 rfl (mf_laws hM) ?_
            refine j_aload_n dX9_pairAt_31 rfl ?_
            refine j_getI dX9_pairAt_32 flX9_51_10 hM.1 rfl ?_
            obtain ⟨c13, h⟩ := h
            refine j_iald (n := 2) dX9_pairAt_35 (mt_laws hM) (ml_laws hM) c13 ?_
            obtain ⟨h1, h2⟩ := h
            refine j_icmp_ge 94 dX9_pairAt_36 rfl rv10 (hW.ai (mt_laws hM) rfl) (fun q14 => ?_) (fun q14 => ?_)
            · have h := h1 q14
              clear h1 h2
              obtain ⟨r15, h⟩ := h
              refine j_iinc dX9_pairAt_94 rfl rfl ?_
              refine j_goto 5 dX9_pairAt_97 rfl ?_
              exact J.wk (((((((jWk.nil).no).eq).eq).eq).eq).eq) (ihI3 _ _ (Nat.lt_of_lt_of_le h.2 (Nat.le_of_lt_succ hmuI3)) rv9 r15 h.1)
            · have h := h2 q14
              clear h1 h2
              refine j_iload_n dX9_pairAt_39 rfl ?_
              obtain ⟨h1, h2⟩ := h
              refine j_if_eq 57 dX9_pairAt_40 rfl (jR_b ba2) (fun q16 => ?_) (fun q16 => ?_)
              · have h := h1 q16
                clear h1 h2
                refine j_aload_n dX9_pairAt_57 rfl ?_
                refine j_iload dX9_pairAt_58 rfl ?_
                refine j_iload dX9_pairAt_60 rfl ?_
                obtain ⟨P17, hp18, h⟩ := h
                refine j_invV (As := [vI v2, vI v10]) (rest := []) dX9_pairAt_62 lkX9_541 hM.1 rfl rfl (wX9_isAgainst (d := 3) (Nat.le_of_ble_eq_true rfl) hM hW rv2 rv10 hp18) rfl rfl (Nat.le_of_ble_eq_true rfl) (Nat.le_trans (Nat.le_of_ble_eq_true rfl) hd) (jkpB fun z19 p20 r21 => ?_)
                have h := h z19 p20
                obtain ⟨h1, h2⟩ := h
                refine j_if_ne 71 dX9_pairAt_65 rfl (jR_b r21) (fun q22 => ?_) (fun q22 => ?_)
                · have h := h1 q22
                  clear h1 h2
                  refine j_iload_n dX9_pairAt_71 rfl ?_
                  refine j_iload_n dX9_pairAt_72 rfl ?_
                  obtain ⟨h1, h2⟩ := h
                  refine j_icmp_ne 85 dX9_pairAt_73 rfl rv9 ra1 (fun q23 => ?_) (fun q23 => ?_)
                  · have h := h1 q23
                    clear h1 h2
                    obtain ⟨r24, h⟩ := h
                    refine j_iinc dX9_pairAt_85 rfl rfl ?_
                    obtain ⟨r25, h⟩ := h
                    refine j_iinc dX9_pairAt_88 rfl rfl ?_
                    refine j_goto 25 dX9_pairAt_91 rfl ?_
                    exact J.wk (((((((jWk.nil).eq).eq).eq).eq).eq).eq) (ihI11 _ _ (Nat.lt_of_lt_of_le h.2 (Nat.le_of_lt_succ hmuI11)) r24 r25 h.1)
                  · have h := h2 q23
                    clear h1 h2
                    refine j_bipush dX9_pairAt_76 ?_
                    refine j_iload dX9_pairAt_78 rfl ?_
                    refine j_imul dX9_pairAt_80 ?_
                    refine j_iload dX9_pairAt_81 rfl ?_
                    refine j_iadd dX9_pairAt_83 ?_
                    obtain ⟨r26, h⟩ := h
                    exact j_iret dX9_pairAt_84 rfl ⟨_, rfl, rfl, rfl, rfl, h, r26⟩
                · have h := h2 q22
                  clear h1 h2
                  refine j_goto 88 dX9_pairAt_68 rfl ?_
                  obtain ⟨r27, h⟩ := h
                  refine j_iinc dX9_pairAt_88 rfl rfl ?_
                  refine j_goto 25 dX9_pairAt_91 rfl ?_
                  exact J.wk (((((((jWk.nil).eq).eq).eq).eq).eq).eq) (ihI11 _ _ (Nat.lt_of_lt_of_le h.2 (Nat.le_of_lt_succ hmuI11)) rv9 r27 h.1)
              · have h := h2 q16
                clear h1 h2
                refine j_aload_n dX9_pairAt_43 rfl ?_
                refine j_iload dX9_pairAt_44 rfl ?_
                refine j_iload dX9_pairAt_46 rfl ?_
                obtain ⟨P28, hp29, h⟩ := h
                refine j_invV (As := [vI v2, vI v10]) (rest := []) dX9_pairAt_48 lkX9_538 hM.1 rfl rfl (wX9_isApart (d := 2) (Nat.le_of_ble_eq_true rfl) hM hW rv2 rv10 hp29) rfl rfl (Nat.le_of_ble_eq_true rfl) (Nat.le_trans (Nat.le_of_ble_eq_true rfl) hd) (jkpB fun z30 p31 r32 => ?_)
                have h := h z30 p31
                obtain ⟨h1, h2⟩ := h
                refine j_if_ne 71 dX9_pairAt_51 rfl (jR_b r32) (fun q33 => ?_) (fun q33 => ?_)
                · have h := h1 q33
                  clear h1 h2
                  refine j_iload_n dX9_pairAt_71 rfl ?_
                  refine j_iload_n dX9_pairAt_72 rfl ?_
                  obtain ⟨h1, h2⟩ := h
                  refine j_icmp_ne 85 dX9_pairAt_73 rfl rv9 ra1 (fun q34 => ?_) (fun q34 => ?_)
                  · have h := h1 q34
                    clear h1 h2
                    obtain ⟨r35, h⟩ := h
                    refine j_iinc dX9_pairAt_85 rfl rfl ?_
                    obtain ⟨r36, h⟩ := h
                    refine j_iinc dX9_pairAt_88 rfl rfl ?_
                    refine j_goto 25 dX9_pairAt_91 rfl ?_
                    exact J.wk (((((((jWk.nil).eq).eq).eq).eq).eq).eq) (ihI11 _ _ (Nat.lt_of_lt_of_le h.2 (Nat.le_of_lt_succ hmuI11)) r35 r36 h.1)
                  · have h := h2 q34
                    clear h1 h2
                    refine j_bipush dX9_pairAt_76 ?_
                    refine j_iload dX9_pairAt_78 rfl ?_
                    refine j_imul dX9_pairAt_80 ?_
                    refine j_iload dX9_pairAt_81 rfl ?_
                    refine j_iadd dX9_pairAt_83 ?_
                    obtain ⟨r37, h⟩ := h
                    exact j_iret dX9_pairAt_84 rfl ⟨_, rfl, rfl, rfl, rfl, h, r37⟩
                · have h := h2 q33
                  clear h1 h2
                  refine j_goto 88 dX9_pairAt_54 rfl ?_
                  obtain ⟨r38, h⟩ := h
                  refine j_iinc dX9_pairAt_88 rfl rfl ?_
                  refine j_goto 25 dX9_pairAt_91 rfl ?_
                  exact J.wk (((((((jWk.nil).eq).eq).eq).eq).eq).eq) (ihI11 _ _ (Nat.lt_of_lt_of_le h.2 (Nat.le_of_lt_succ hmuI11)) rv9 r38 h.1)
        exact J.wk (((((((jWk.nil).eq).eq).eq).eq).eq).eq) (lp _ _ _ (Nat.lt_succ_self _) rv1 (ev8 ▸ r7) h0)
  exact J.wk (((((((jWk.nil).no).eq).eq).eq).eq).eq) (lp _ _ _ (Nat.lt_succ_self _) (by decide) (by decide) h0)
