set_option maxRecDepth 100000
set_option linter.unusedVariables false
/-! walks of ChildSaysModel: printed by gen/walk.py -/
/-- harm(I)I -/
def wpX9_harm (o : Nat) (a1 : Int) (F : jFl) (A : jAr) (Q : Int → jFl → jAr → Prop) : Prop :=
  ∃ P1 : Int → Prop, wpX9_isChild o a1 F A P1 ∧ ∀ z3, P1 z3 →
  ((¬ z3 = 0) →
    ∃ P7 : Int → jFl → jAr → Prop, wpX9_sitsNow o a1 F A P7 ∧ ∀ z9 F10 A11, P7 z9 F10 A11 →
    ∃ (I20 : Int → Int → jFl → jAr → Prop) (m21 : Int → Int → jFl → jAr → Nat), I20 0 0 F10 A11 ∧ ∀ (v15 : Int) (v16 : Int) (F17 : jFl) (A18 : jAr), I20 v15 v16 F17 A18 →
      (((F17 3192 o) ≤ v16) →
        Q v15 F17 A18) ∧
      (¬ ((F17 3192 o) ≤ v16) →
        (0 ≤ v16 ∧ v16 < 12) ∧
        ∀ v24 : Int, v24 = A18 (o + 38) v16 →
        ∃ P25 : jFl → jAr → Prop, wpX9_loads o 0 v24 F17 A18 P25 ∧ ∀ F28 A29, P25 F28 A29 →
        ∃ P33 : jFl → jAr → Prop, wpX9_saysAsTold o F28 A29 P33 ∧ ∀ F36 A37, P33 F36 A37 →
        ∃ P41 : Int → Prop, wpX9_saidMeans o F36 A37 P41 ∧ ∀ z43, P41 z43 →
        (0 ≤ v24 ∧ v24 < 12) ∧
        ∀ F47 : jFl, F47 = upF F36 3177 o (A37 (o + 40) v24) →
        (0 ≤ v24 ∧ v24 < 12) ∧
        ∀ F50 : jFl, F50 = upF F47 3180 o (A37 (o + 41) v24) →
        ∃ (I55 : Int → jAr → Prop) (m56 : Int → jAr → Nat), I55 0 A37 ∧ ∀ (v52 : Int) (A53 : jAr), I55 v52 A53 →
          ((12 ≤ v52) →
            ∃ P58 : Int → Prop, wpX9_saidMeans o F50 A53 P58 ∧ ∀ z60, P58 z60 →
            jR (z43 - z60) ∧
            ∀ v64 : Int, v64 = z43 - z60 →
            ∀ z66 : Int, z66 = (if 0 ≤ v64 then v64 else -v64) →
            jR (v15 + z66) ∧
            ∀ v69 : Int, v69 = v15 + z66 →
            jR (v16 + 1) ∧
            I20 v69 (v16 + 1) F50 A53 ∧ m21 v69 (v16 + 1) F50 A53 < m21 v15 v16 F17 A18) ∧
          (¬ (12 ≤ v52) →
            (0 ≤ (12 * v24) + v52 ∧ (12 * v24) + v52 < 144) ∧
            (0 ≤ v52 ∧ v52 < 12) ∧
            ∀ A73 : jAr, A73 = upA A53 (o + 37) v52 (A53 (o + 42) ((12 * v24) + v52)) →
            jR (v52 + 1) ∧
            I55 (v52 + 1) A73 ∧ m56 (v52 + 1) A73 < m56 v52 A53))) ∧
  (¬ (¬ z3 = 0) →
    Q (-1) F A)
theorem wX9_harm {G : jG} {l : Launch} {d : Nat} {N : jSh} {o : Nat} {F : jFl} {A : jAr} {a1 : Int} {Q : Int → jFl → jAr → Prop} (hd : 6 ≤ d) (hM : mShape G N o) (hW : jWf N F A) (ra1 : jR a1) (h : wpX9_harm o a1 F A Q) : jCall G l d mX9_harm [.ref o, vI a1] N F A (jmI N Q) := by
  refine jCall.of (ls := [.ref o, vI a1, jD, jD, jD, jD, jD]) (by decide) rfl (Nat.le_of_ble_eq_true rfl) rfl ?_
  unfold wpX9_harm at h
  refine j_aload_n dX9_harm_0 rfl ?_
  refine j_iload_n dX9_harm_1 rfl ?_
  obtain ⟨P1, hp2, h⟩ := h
  refine j_invV (As := [vI a1]) (rest := []) dX9_harm_2 lkX9_420 hM.1 rfl rfl (wX9_isChild (d := 1) (Nat.le_of_ble_eq_true rfl) hM hW ra1 hp2) rfl rfl (Nat.le_of_ble_eq_true rfl) (Nat.le_trans (Nat.le_of_ble_eq_true rfl) hd) (jkpB fun z3 p4 r5 => ?_)
  have h := h z3 p4
  obtain ⟨h1, h2⟩ := h
  refine j_if_ne 10 dX9_harm_5 rfl (jR_b r5) (fun q6 => ?_) (fun q6 => ?_)
  · have h := h1 q6
    clear h1 h2
    refine j_aload_n dX9_harm_10 rfl ?_
    refine j_iload_n dX9_harm_11 rfl ?_
    obtain ⟨P7, hp8, h⟩ := h
    refine j_invV (As := [vI a1]) (rest := []) dX9_harm_12 lkX9_447 hM.1 rfl rfl (wX9_sitsNow (d := 5) (Nat.le_of_ble_eq_true rfl) hM hW ra1 hp8) rfl rfl (Nat.le_of_ble_eq_true rfl) (Nat.le_trans (Nat.le_of_ble_eq_true rfl) hd) (jkmB fun z9 F10 A11 hW12 p13 r14 => ?_)
    have h := h z9 F10 A11 p13
    refine j_pop dX9_harm_15 rfl ?_
    refine j_iconst dX9_harm_16 ?_
    refine j_istore_n dX9_harm_17 rfl ?_
    refine j_iconst dX9_harm_18 ?_
    refine j_istore_n dX9_harm_19 rfl ?_
    obtain ⟨I20, m21, h0, hs⟩ := h
    have lp : ∀ (n : Nat) (v15 : Int) (v16 : Int) (F17 : jFl) (A18 : jAr), m21 v15 v16 F17 A18 < n → jWf N F17 A18 → jR v15 → jR v16 → I20 v15 v16 F17 A18 → J G l d mX9_harm 20 [.ref o, jD, vI v15, vI v16, jD, jD, jD] [] N F17 A18 (jmI N Q) := by
      intro nI20
      induction nI20 with
      | zero =>
        intro v15 v16 F17 A18 hmu
        exact absurd hmu (Nat.not_lt_zero _)
      | succ nI20 ihI20 =>
        intro v15 v16 F17 A18 hmuI20 hW19 rv15 rv16 hI
        have h := hs v15 v16 F17 A18 hI
        refine j_iload_n dX9_harm_20 rfl ?_
        refine j_aload_n dX9_harm_21 rfl ?_
        refine j_getI dX9_harm_22 flX9_206_10 hM.1 rfl ?_
        obtain ⟨h1, h2⟩ := h
        refine j_icmp_ge 142 dX9_harm_25 rfl rv16 (hW19.fi rfl) (fun q22 => ?_) (fun q22 => ?_)
        · have h := h1 q22
          clear h1 h2
          refine j_iload_n dX9_harm_142 rfl ?_
          exact j_iret dX9_harm_143 rfl ⟨_, rfl, rfl, hW19, h, rv15⟩
        · have h := h2 q22
          clear h1 h2
          refine j_aload_n dX9_harm_28 rfl ?_
          refine j_getFR dX9_harm_29 flX9_203_10 hM.1 rfl (mf_seat hM) ?_
          refine j_iload_n dX9_harm_32 rfl ?_
          obtain ⟨c23, h⟩ := h
          refine j_iald (n := 12) dX9_harm_33 (mt_seat hM) (ml_seat hM) c23 ?_
          obtain ⟨v24, ev24⟩ : ∃ x : Int, x = A18 (o + 38) v16 := ⟨_, rfl⟩
          have h := h v24 ev24
          refine jnmI (e := ev24) ?_
          refine j_istore dX9_harm_34 rfl ?_
          refine j_aload_n dX9_harm_36 rfl ?_
          refine j_iconst dX9_harm_37 ?_
          refine j_iload dX9_harm_38 rfl ?_
          obtain ⟨P25, hp26, h⟩ := h
          refine j_invV (As := [vI 0, vI v24]) (rest := []) dX9_harm_40 lkX9_432 hM.1 rfl rfl (wX9_loads (d := 1) (Nat.le_of_ble_eq_true rfl) hM hW19 (by decide) (ev24 ▸ (hW19.ai (mt_seat hM) rfl)) hp26) rfl rfl (Nat.le_of_ble_eq_true rfl) (Nat.le_trans (Nat.le_of_ble_eq_true rfl) hd) (jkmV fun F28 A29 hW30 p31 => ?_)
          have h := h F28 A29 p31
          refine j_aload_n dX9_harm_43 rfl ?_
          obtain ⟨P33, hp34, h⟩ := h
          refine j_invV (As := []) (rest := []) dX9_harm_44 lkX9_500 hM.1 rfl rfl (wX9_saysAsTold (d := 1) (Nat.le_of_ble_eq_true rfl) hM hW30  hp34) rfl rfl (Nat.le_of_ble_eq_true rfl) (Nat.le_trans (Nat.le_of_ble_eq_true rfl) hd) (jkmV fun F36 A37 hW38 p39 => ?_)
          have h := h F36 A37 p39
          refine j_aload_n dX9_harm_47 rfl ?_
          obtain ⟨P41, hp42, h⟩ := h
          refine j_invV (As := []) (rest := []) dX9_harm_48 lkX9_549 hM.1 rfl rfl (wX9_saidMeans (d := 2) (Nat.le_of_ble_eq_true rfl) hM hW38  hp42) rfl rfl (Nat.le_of_ble_eq_true rfl) (Nat.le_trans (Nat.le_of_ble_eq_true rfl) hd) (jkpI fun z43 p44 r45 => ?_)
          have h := h z43 p44
          refine j_istore dX9_harm_51 rfl ?_
          refine j_aload_n dX9_harm_53 rfl ?_
          refine j_aload_n dX9_harm_54 rfl ?_
          refine j_getFR dX9_harm_55 flX9_212_10 hM.1 rfl (mf_sitMain hM) ?_
          refine j_iload dX9_harm_58 rfl ?_
          obtain ⟨c46, h⟩ := h
          refine j_iald (n := 12) dX9_harm_60 (mt_sitMain hM) (ml_sitMain hM) c46 ?_
          refine j_putI dX9_harm_61 flX9_191_10 hM.1 hM.2.1 rfl ?_
          obtain ⟨F47, eF47⟩ : ∃ x : jFl, x = upF F36 3177 o (A37 (o + 40) v24) := ⟨_, rfl⟩
          have hW48 : jWf N F47 A37 := eF47 ▸ jWf_F (f := 3177) (a := o) (z := A37 (o + 40) v24) hW38 (jRk_0 rfl (hW38.ai (mt_sitMain hM) rfl))
          refine jnmF (e := eF47) ?_
          have h := h F47 eF47
          refine j_aload_n dX9_harm_64 rfl ?_
          refine j_aload_n dX9_harm_65 rfl ?_
          refine j_getFR dX9_harm_66 flX9_215_10 hM.1 rfl (mf_sitExcept hM) ?_
          refine j_iload dX9_harm_69 rfl ?_
          obtain ⟨c49, h⟩ := h
          refine j_iald (n := 12) dX9_harm_71 (mt_sitExcept hM) (ml_sitExcept hM) c49 ?_
          refine j_putI dX9_harm_72 flX9_194_10 hM.1 hM.2.1 rfl ?_
          obtain ⟨F50, eF50⟩ : ∃ x : jFl, x = upF F47 3180 o (A37 (o + 41) v24) := ⟨_, rfl⟩
          have hW51 : jWf N F50 A37 := eF50 ▸ jWf_F (f := 3180) (a := o) (z := A37 (o + 41) v24) hW48 (jRk_0 rfl (hW48.ai (mt_sitExcept hM) rfl))
          refine jnmF (e := eF50) ?_
          have h := h F50 eF50
          refine j_iconst dX9_harm_75 ?_
          refine j_istore dX9_harm_76 rfl ?_
          obtain ⟨I55, m56, h0, hs⟩ := h
          have lp : ∀ (n : Nat) (v52 : Int) (A53 : jAr), m56 v52 A53 < n → jWf N F50 A53 → jR v52 → I55 v52 A53 → J G l d mX9_harm 78 [.ref o, jD, vI v15, vI v16, vI v24, vI z43, vI v52] [] N F50 A53 (jmI N Q) := by
            intro nI55
            induction nI55 with
            | zero =>
              intro v52 A53 hmu
              exact absurd hmu (Nat.not_lt_zero _)
            | succ nI55 ihI55 =>
              intro v52 A53 hmuI55 hW54 rv52 hI
              have h := hs v52 A53 hI
              refine j_iload dX9_harm_78 rfl ?_
              refine j_bipush dX9_harm_80 ?_
              obtain ⟨h1, h2⟩ := h
              refine j_icmp_ge 111 dX9_harm_82 rfl rv52 (by decide) (fun q57 => ?_) (fun q57 => ?_)
              · have h := h1 q57
                clear h1 h2
                refine j_iload dX9_harm_111 rfl ?_
                refine j_aload_n dX9_harm_113 rfl ?_
                obtain ⟨P58, hp59, h⟩ := h
                refine j_invV (As := []) (rest := [vI z43]) dX9_harm_114 lkX9_549 hM.1 rfl rfl (wX9_saidMeans (d := 2) (Nat.le_of_ble_eq_true rfl) hM hW54  hp59) rfl rfl (Nat.le_of_ble_eq_true rfl) (Nat.le_trans (Nat.le_of_ble_eq_true rfl) hd) (jkpI fun z60 p61 r62 => ?_)
                have h := h z60 p61
                refine j_isub dX9_harm_117 ?_
                obtain ⟨r63, h⟩ := h
                obtain ⟨v64, ev64⟩ : ∃ x : Int, x = z43 - z60 := ⟨_, rfl⟩
                have h := h v64 ev64
                refine jnmI (e := ev64) ?_
                refine j_istore dX9_harm_118 rfl ?_
                refine j_iload_n dX9_harm_120 rfl ?_
                refine j_iload dX9_harm_121 rfl ?_
                have jn67 : ∀ z66 : Int, z66 = (if 0 ≤ v64 then v64 else -v64) → J G l d mX9_harm 134 [.ref o, jD, vI v15, vI v16, vI v24, vI z43, vI v64] [vI z66, vI v15] N F50 A53 (jmI N Q) := by
                  intro z66 ez66
                  have h := h z66 ez66
                  refine j_iadd dX9_harm_134 ?_
                  obtain ⟨r68, h⟩ := h
                  obtain ⟨v69, ev69⟩ : ∃ x : Int, x = v15 + z66 := ⟨_, rfl⟩
                  have h := h v69 ev69
                  refine jnmI (e := ev69) ?_
                  refine j_istore_n dX9_harm_135 rfl ?_
                  obtain ⟨r70, h⟩ := h
                  refine j_iinc dX9_harm_136 rfl rfl ?_
                  refine j_goto 20 dX9_harm_139 rfl ?_
                  exact J.wk ((((((((jWk.nil).no).no).no).eq).eq).no).eq) (ihI20 _ _ _ _ (Nat.lt_of_lt_of_le h.2 (Nat.le_of_lt_succ hmuI20)) hW54 (ev69 ▸ r68) r70 h.1)
                clear h
                refine j_if_ge 132 dX9_harm_123 rfl (ev64 ▸ r63) (fun q65 => ?_) (fun q65 => ?_)
                · refine j_iload dX9_harm_132 rfl ?_
                  exact jn67 _ ((if_pos q65).symm)
                · refine j_iload dX9_harm_126 rfl ?_
                  refine j_ineg dX9_harm_128 ?_
                  refine j_goto 134 dX9_harm_129 rfl ?_
                  exact jn67 _ ((if_neg q65).symm)
              · have h := h2 q57
                clear h1 h2
                refine j_aload_n dX9_harm_85 rfl ?_
                refine j_getFR dX9_harm_86 flX9_188_10 hM.1 rfl (mf_said hM) ?_
                refine j_iload dX9_harm_89 rfl ?_
                refine j_aload_n dX9_harm_91 rfl ?_
                refine j_getFR dX9_harm_92 flX9_218_10 hM.1 rfl (mf_sitRow hM) ?_
                refine j_bipush dX9_harm_95 ?_
                refine j_iload dX9_harm_97 rfl ?_
                refine j_imul dX9_harm_99 ?_
                refine j_iload dX9_harm_100 rfl ?_
                refine j_iadd dX9_harm_102 ?_
                obtain ⟨c71, h⟩ := h
                refine j_iald (n := 144) dX9_harm_103 (mt_sitRow hM) (ml_sitRow hM) c71 ?_
                obtain ⟨c72, h⟩ := h
                refine j_iast (n := 12) dX9_harm_104 (mt_said hM) (Nat.le_trans hM.2.1 (Nat.le_add_right _ _)) (ml_said hM) c72 ?_
                obtain ⟨A73, eA73⟩ : ∃ x : jAr, x = upA A53 (o + 37) v52 (A53 (o + 42) ((12 * v24) + v52)) := ⟨_, rfl⟩
                have hW74 : jWf N F50 A73 := eA73 ▸ jWf_A (i := v52) (z := A53 (o + 42) ((12 * v24) + v52)) hW54 (mt_said hM) (jRk_0 rfl (hW54.ai (mt_sitRow hM) rfl))
                refine jnmA (e := eA73) ?_
                have h := h A73 eA73
                obtain ⟨r75, h⟩ := h
                refine j_iinc dX9_harm_105 rfl rfl ?_
                refine j_goto 78 dX9_harm_108 rfl ?_
                exact J.wk ((((((((jWk.nil).eq).eq).eq).eq).eq).no).eq) (ihI55 _ _ (Nat.lt_of_lt_of_le h.2 (Nat.le_of_lt_succ hmuI55)) hW74 r75 h.1)
          exact J.wk ((((((((jWk.nil).eq).eq).eq).eq).eq).no).eq) (lp _ _ _ (Nat.lt_succ_self _) hW51 (by decide) h0)
    exact J.wk ((((((((jWk.nil).no).no).no).eq).eq).no).eq) (lp _ _ _ _ _ (Nat.lt_succ_self _) hW12 (by decide) (by decide) h0)
  · have h := h2 q6
    clear h1 h2
    refine j_iconst dX9_harm_8 ?_
    exact j_iret dX9_harm_9 rfl ⟨_, rfl, rfl, hW, h, (by decide)⟩
/-- law(II)I -/
def wpX9_law (o : Nat) (a1 : Int) (a2 : Int) (F : jFl) (A : jAr) (Q : Int → jFl → jAr → Prop) : Prop :=
  ∃ P1 : Int → Prop, wpX9_isLaw o a1 F A P1 ∧ ∀ z3, P1 z3 →
  ((¬ z3 = 0) →
    (0 ≤ a1 ∧ a1 < 264) ∧
    (0 ≤ a1 ∧ a1 < 264) ∧
    jR ((9 + (A (o + 30) a1)) + (A (o + 31) a1)) ∧
    ∃ P10 : Int → Prop, wpX9_is o a2 10 ((9 + (A (o + 30) a1)) + (A (o + 31) a1)) F A P10 ∧ ∀ z12, P10 z12 →
    ((z12 = 0) →
      (a2 = 0 →
        (0 ≤ a1 ∧ a1 < 264) ∧
        Q (A (o + 30) a1) F A) ∧
      (a2 = 1 →
        (0 ≤ a1 ∧ a1 < 264) ∧
        Q (A (o + 31) a1) F A) ∧
      (a2 = 2 →
        (0 ≤ a1 ∧ a1 < 264) ∧
        Q (A (o + 32) a1) F A) ∧
      (a2 = 3 →
        ∃ (I20 : Int → Prop) (m21 : Int → Nat), I20 0 ∧ ∀ (v19 : Int), I20 v19 →
          (0 ≤ v19 ∧ v19 < 264) ∧
          (((A (o + 29) v19) = a1) →
            Q v19 F A) ∧
          (¬ ((A (o + 29) v19) = a1) →
            jR (v19 + 1) ∧
            I20 (v19 + 1) ∧ m21 (v19 + 1) < m21 v19)) ∧
      (a2 = 4 →
        ∃ (I27 : Int → Int → Prop) (m28 : Int → Int → Nat), I27 0 0 ∧ ∀ (v25 : Int) (v26 : Int), I27 v25 v26 →
          (0 ≤ a1 ∧ a1 < 264) ∧
          (0 ≤ a1 ∧ a1 < 264) ∧
          jR ((A (o + 30) a1) + (A (o + 31) a1)) ∧
          ((((A (o + 30) a1) + (A (o + 31) a1)) ≤ v26) →
            Q v25 F A) ∧
          (¬ (((A (o + 30) a1) + (A (o + 31) a1)) ≤ v26) →
            (0 ≤ (12 * a1) + v26 ∧ (12 * a1) + v26 < 3168) ∧
            (0 ≤ (24 * (F 3039 o)) + (A (o + 33) ((12 * a1) + v26)) ∧ (24 * (F 3039 o)) + (A (o + 33) ((12 * a1) + v26)) < 48) ∧
            jR (v25 + (A (o + 4) ((24 * (F 3039 o)) + (A (o + 33) ((12 * a1) + v26))))) ∧
            ∀ v36 : Int, v36 = v25 + (A (o + 4) ((24 * (F 3039 o)) + (A (o + 33) ((12 * a1) + v26)))) →
            jR (v26 + 1) ∧
            I27 v36 (v26 + 1) ∧ m28 v36 (v26 + 1) < m28 v25 v26)) ∧
      (a2 = 5 →
        ∃ P38 : Int → Prop, wpX9_stands o 0 a1 F A P38 ∧ ∀ z40, P38 z40 →
        ((z40 = 0) →
          Q 0 F A) ∧
        (¬ (z40 = 0) →
          ∃ P44 : Int → jFl → jAr → Prop, wpX9_childrenOf o a1 F A P44 ∧ ∀ z46 F47 A48, P44 z46 F47 A48 →
          Q z46 F47 A48)) ∧
      (¬ a2 = 0 → ¬ a2 = 1 → ¬ a2 = 2 → ¬ a2 = 3 → ¬ a2 = 4 → ¬ a2 = 5 →
        Q (-1) F A)) ∧
    (¬ (z12 = 0) →
      (0 ≤ ((12 * a1) + a2) - 10 ∧ ((12 * a1) + a2) - 10 < 3168) ∧
      Q (A (o + 33) (((12 * a1) + a2) - 10)) F A)) ∧
  (¬ (¬ z3 = 0) →
    Q (-1) F A)
theorem wX9_law {G : jG} {l : Launch} {d : Nat} {N : jSh} {o : Nat} {F : jFl} {A : jAr} {a1 a2 : Int} {Q : Int → jFl → jAr → Prop} (hd : 6 ≤ d) (hM : mShape G N o) (hW : jWf N F A) (ra1 : jR a1) (ra2 : jR a2) (h : wpX9_law o a1 a2 F A Q) : jCall G l d mX9_law [.ref o, vI a1, vI a2] N F A (jmI N Q) := by
  refine jCall.of (ls := [.ref o, vI a1, vI a2, jD, jD]) (by decide) rfl (Nat.le_of_ble_eq_true rfl) rfl ?_
  unfold wpX9_law at h
  refine j_aload_n dX9_law_0 rfl ?_
  refine j_iload_n dX9_law_1 rfl ?_
  obtain ⟨P1, hp2, h⟩ := h
  refine j_invV (As := [vI a1]) (rest := []) dX9_law_2 lkX9_396 hM.1 rfl rfl (wX9_isLaw (d := 1) (Nat.le_of_ble_eq_true rfl) hM hW ra1 hp2) rfl rfl (Nat.le_of_ble_eq_true rfl) (Nat.le_trans (Nat.le_of_ble_eq_true rfl) hd) (jkpB fun z3 p4 r5 => ?_)
  have h := h z3 p4
  obtain ⟨h1, h2⟩ := h
  refine j_if_ne 10 dX9_law_5 rfl (jR_b r5) (fun q6 => ?_) (fun q6 => ?_)
  · have h := h1 q6
    clear h1 h2
    refine j_iload_n dX9_law_10 rfl ?_
    refine j_bipush dX9_law_11 ?_
    refine j_bipush dX9_law_13 ?_
    refine j_aload_n dX9_law_15 rfl ?_
    refine j_getFR dX9_law_16 flX9_148_10 hM.1 rfl (mf_main hM) ?_
    refine j_iload_n dX9_law_19 rfl ?_
    obtain ⟨c7, h⟩ := h
    refine j_iald (n := 264) dX9_law_20 (mt_main hM) (ml_main hM) c7 ?_
    refine j_iadd dX9_law_21 ?_
    refine j_aload_n dX9_law_22 rfl ?_
    refine j_getFR dX9_law_23 flX9_151_10 hM.1 rfl (mf_except hM) ?_
    refine j_iload_n dX9_law_26 rfl ?_
    obtain ⟨c8, h⟩ := h
    refine j_iald (n := 264) dX9_law_27 (mt_except hM) (ml_except hM) c8 ?_
    refine j_iadd dX9_law_28 ?_
    obtain ⟨r9, h⟩ := h
    obtain ⟨P10, hp11, h⟩ := h
    refine j_invS (As := [vI a2, vI 10, vI ((9 + (A (o + 30) a1)) + (A (o + 31) a1))]) (rest := []) dX9_law_29 lkX9_324 (wX9_is (d := 1) (Nat.le_of_ble_eq_true rfl) hM hW ra2 (by decide) r9 hp11) rfl rfl (Nat.le_of_ble_eq_true rfl) (Nat.le_trans (Nat.le_of_ble_eq_true rfl) hd) (jkpB fun z12 p13 r14 => ?_)
    have h := h z12 p13
    obtain ⟨h1, h2⟩ := h
    refine j_if_eq 50 dX9_law_32 rfl (jR_b r14) (fun q15 => ?_) (fun q15 => ?_)
    · have h := h1 q15
      clear h1 h2
      refine j_iconst dX9_law_50 ?_
      refine j_istore_n dX9_law_51 rfl ?_
      refine j_iload_n dX9_law_52 rfl ?_
      obtain ⟨h1, h⟩ := h
      by_cases q52 : a2 = 0
      · refine j_tableIn (off := 39) 92 dX9_law_53 ra2 (by rw [q52]; decide) (by rw [q52]; decide) (by rw [q52]; rfl) rfl ?_
        have h := h1 q52
        clear h1
        refine j_aload_n dX9_law_92 rfl ?_
        refine j_getFR dX9_law_93 flX9_148_10 hM.1 rfl (mf_main hM) ?_
        refine j_iload_n dX9_law_96 rfl ?_
        obtain ⟨c16, h⟩ := h
        refine j_iald (n := 264) dX9_law_97 (mt_main hM) (ml_main hM) c16 ?_
        exact j_iret dX9_law_98 rfl ⟨_, rfl, rfl, hW, h, (hW.ai (mt_main hM) rfl)⟩
      clear h1
      obtain ⟨h1, h⟩ := h
      by_cases q53 : a2 = 1
      · refine j_tableIn (off := 46) 99 dX9_law_53 ra2 (by rw [q53]; decide) (by rw [q53]; decide) (by rw [q53]; rfl) rfl ?_
        have h := h1 q53
        clear h1
        refine j_aload_n dX9_law_99 rfl ?_
        refine j_getFR dX9_law_100 flX9_151_10 hM.1 rfl (mf_except hM) ?_
        refine j_iload_n dX9_law_103 rfl ?_
        obtain ⟨c17, h⟩ := h
        refine j_iald (n := 264) dX9_law_104 (mt_except hM) (ml_except hM) c17 ?_
        exact j_iret dX9_law_105 rfl ⟨_, rfl, rfl, hW, h, (hW.ai (mt_except hM) rfl)⟩
      clear h1
      obtain ⟨h1, h⟩ := h
      by_cases q54 : a2 = 2
      · refine j_tableIn (off := 53) 106 dX9_law_53 ra2 (by rw [q54]; decide) (by rw [q54]; decide) (by rw [q54]; rfl) rfl ?_
        have h := h1 q54
        clear h1
        refine j_aload_n dX9_law_106 rfl ?_
        refine j_getFR dX9_law_107 flX9_154_10 hM.1 rfl (mf_sung hM) ?_
        refine j_iload_n dX9_law_110 rfl ?_
        obtain ⟨c18, h⟩ := h
        refine j_iald (n := 264) dX9_law_111 (mt_sung hM) (ml_sung hM) c18 ?_
        exact j_iret dX9_law_112 rfl ⟨_, rfl, rfl, hW, h, (hW.ai (mt_sung hM) rfl)⟩
      clear h1
      obtain ⟨h1, h⟩ := h
      by_cases q55 : a2 = 3
      · refine j_tableIn (off := 60) 113 dX9_law_53 ra2 (by rw [q55]; decide) (by rw [q55]; decide) (by rw [q55]; rfl) rfl ?_
        have h := h1 q55
        clear h1
        obtain ⟨I20, m21, h0, hs⟩ := h
        have lp : ∀ (n : Nat) (v19 : Int), m21 v19 < n → jR v19 → I20 v19 → J G l d mX9_law 113 [.ref o, vI a1, jD, vI v19, jD] [] N F A (jmI N Q) := by
          intro nI20
          induction nI20 with
          | zero =>
            intro v19 hmu
            exact absurd hmu (Nat.not_lt_zero _)
          | succ nI20 ihI20 =>
            intro v19 hmuI20 rv19 hI
            have h := hs v19 hI
            refine j_aload_n dX9_law_113 rfl ?_
            refine j_getFR dX9_law_114 flX9_145_10 hM.1 rfl (mf_orderOf hM) ?_
            refine j_iload_n dX9_law_117 rfl ?_
            obtain ⟨c22, h⟩ := h
            refine j_iald (n := 264) dX9_law_118 (mt_orderOf hM) (ml_orderOf hM) c22 ?_
            refine j_iload_n dX9_law_119 rfl ?_
            obtain ⟨h1, h2⟩ := h
            refine j_icmp_eq 129 dX9_law_120 rfl (hW.ai (mt_orderOf hM) rfl) ra1 (fun q23 => ?_) (fun q23 => ?_)
            · have h := h1 q23
              clear h1 h2
              refine j_iload_n dX9_law_129 rfl ?_
              exact j_iret dX9_law_130 rfl ⟨_, rfl, rfl, hW, h, rv19⟩
            · have h := h2 q23
              clear h1 h2
              obtain ⟨r24, h⟩ := h
              refine j_iinc dX9_law_123 rfl rfl ?_
              refine j_goto 113 dX9_law_126 rfl ?_
              exact J.wk ((((((jWk.nil).no).eq).no).eq).eq) (ihI20 _ (Nat.lt_of_lt_of_le h.2 (Nat.le_of_lt_succ hmuI20)) r24 h.1)
        exact J.wk ((((((jWk.nil).no).eq).no).eq).eq) (lp _ _ (Nat.lt_succ_self _) (by decide) h0)
      clear h1
      obtain ⟨h1, h⟩ := h
      by_cases q56 : a2 = 4
      · refine j_tableIn (off := 78) 131 dX9_law_53 ra2 (by rw [q56]; decide) (by rw [q56]; decide) (by rw [q56]; rfl) rfl ?_
        have h := h1 q56
        clear h1
        refine j_iconst dX9_law_131 ?_
        refine j_istore dX9_law_132 rfl ?_
        obtain ⟨I27, m28, h0, hs⟩ := h
        have lp : ∀ (n : Nat) (v25 : Int) (v26 : Int), m28 v25 v26 < n → jR v25 → jR v26 → I27 v25 v26 → J G l d mX9_law 134 [.ref o, vI a1, jD, vI v25, vI v26] [] N F A (jmI N Q) := by
          intro nI27
          induction nI27 with
          | zero =>
            intro v25 v26 hmu
            exact absurd hmu (Nat.not_lt_zero _)
          | succ nI27 ihI27 =>
            intro v25 v26 hmuI27 rv25 rv26 hI
            have h := hs v25 v26 hI
            refine j_iload dX9_law_134 rfl ?_
            refine j_aload_n dX9_law_136 rfl ?_
            refine j_getFR dX9_law_137 flX9_148_10 hM.1 rfl (mf_main hM) ?_
            refine j_iload_n dX9_law_140 rfl ?_
            obtain ⟨c29, h⟩ := h
            refine j_iald (n := 264) dX9_law_141 (mt_main hM) (ml_main hM) c29 ?_
            refine j_aload_n dX9_law_142 rfl ?_
            refine j_getFR dX9_law_143 flX9_151_10 hM.1 rfl (mf_except hM) ?_
            refine j_iload_n dX9_law_146 rfl ?_
            obtain ⟨c30, h⟩ := h
            refine j_iald (n := 264) dX9_law_147 (mt_except hM) (ml_except hM) c30 ?_
            refine j_iadd dX9_law_148 ?_
            obtain ⟨r31, h⟩ := h
            obtain ⟨h1, h2⟩ := h
            refine j_icmp_ge 186 dX9_law_149 rfl rv26 r31 (fun q32 => ?_) (fun q32 => ?_)
            · have h := h1 q32
              clear h1 h2
              refine j_iload_n dX9_law_186 rfl ?_
              exact j_iret dX9_law_187 rfl ⟨_, rfl, rfl, hW, h, rv25⟩
            · have h := h2 q32
              clear h1 h2
              refine j_iload_n dX9_law_152 rfl ?_
              refine j_aload_n dX9_law_153 rfl ?_
              refine j_getFR dX9_law_154 flX9_61_10 hM.1 rfl (mf_beats hM) ?_
              refine j_bipush dX9_law_157 ?_
              refine j_aload_n dX9_law_159 rfl ?_
              refine j_getI dX9_law_160 flX9_51_10 hM.1 rfl ?_
              refine j_imul dX9_law_163 ?_
              refine j_aload_n dX9_law_164 rfl ?_
              refine j_getFR dX9_law_165 flX9_157_10 hM.1 rfl (mf_rows hM) ?_
              refine j_bipush dX9_law_168 ?_
              refine j_iload_n dX9_law_170 rfl ?_
              refine j_imul dX9_law_171 ?_
              refine j_iload dX9_law_172 rfl ?_
              refine j_iadd dX9_law_174 ?_
              obtain ⟨c33, h⟩ := h
              refine j_iald (n := 3168) dX9_law_175 (mt_rows hM) (ml_rows hM) c33 ?_
              refine j_iadd dX9_law_176 ?_
              obtain ⟨c34, h⟩ := h
              refine j_iald (n := 48) dX9_law_177 (mt_beats hM) (ml_beats hM) c34 ?_
              refine j_iadd dX9_law_178 ?_
              obtain ⟨r35, h⟩ := h
              obtain ⟨v36, ev36⟩ : ∃ x : Int, x = v25 + (A (o + 4) ((24 * (F 3039 o)) + (A (o + 33) ((12 * a1) + v26)))) := ⟨_, rfl⟩
              have h := h v36 ev36
              refine jnmI (e := ev36) ?_
              refine j_istore_n dX9_law_179 rfl ?_
              obtain ⟨r37, h⟩ := h
              refine j_iinc dX9_law_180 rfl rfl ?_
              refine j_goto 134 dX9_law_183 rfl ?_
              exact J.wk ((((((jWk.nil).eq).eq).no).eq).eq) (ihI27 _ _ (Nat.lt_of_lt_of_le h.2 (Nat.le_of_lt_succ hmuI27)) (ev36 ▸ r35) r37 h.1)
        exact J.wk ((((((jWk.nil).eq).eq).no).eq).eq) (lp _ _ _ (Nat.lt_succ_self _) (by decide) (by decide) h0)
      clear h1
      obtain ⟨h1, h⟩ := h
      by_cases q57 : a2 = 5
      · refine j_tableIn (off := 135) 188 dX9_law_53 ra2 (by rw [q57]; decide) (by rw [q57]; decide) (by rw [q57]; rfl) rfl ?_
        have h := h1 q57
        clear h1
        refine j_aload_n dX9_law_188 rfl ?_
        refine j_iconst dX9_law_189 ?_
        refine j_iload_n dX9_law_190 rfl ?_
        obtain ⟨P38, hp39, h⟩ := h
        refine j_invV (As := [vI 0, vI a1]) (rest := []) dX9_law_191 lkX9_399 hM.1 rfl rfl (wX9_stands (d := 1) (Nat.le_of_ble_eq_true rfl) hM hW (by decide) ra1 hp39) rfl rfl (Nat.le_of_ble_eq_true rfl) (Nat.le_trans (Nat.le_of_ble_eq_true rfl) hd) (jkpB fun z40 p41 r42 => ?_)
        have h := h z40 p41
        obtain ⟨h1, h2⟩ := h
        refine j_if_eq 205 dX9_law_194 rfl (jR_b r42) (fun q43 => ?_) (fun q43 => ?_)
        · have h := h1 q43
          clear h1 h2
          refine j_iconst dX9_law_205 ?_
          exact j_iret dX9_law_206 rfl ⟨_, rfl, rfl, hW, h, (by decide)⟩
        · have h := h2 q43
          clear h1 h2
          refine j_aload_n dX9_law_197 rfl ?_
          refine j_iload_n dX9_law_198 rfl ?_
          obtain ⟨P44, hp45, h⟩ := h
          refine j_invV (As := [vI a1]) (rest := []) dX9_law_199 lkX9_488 hM.1 rfl rfl (wX9_childrenOf (d := 5) (Nat.le_of_ble_eq_true rfl) hM hW ra1 hp45) rfl rfl (Nat.le_of_ble_eq_true rfl) (Nat.le_trans (Nat.le_of_ble_eq_true rfl) hd) (jkmI fun z46 F47 A48 hW49 p50 r51 => ?_)
          have h := h z46 F47 A48 p50
          refine j_goto 206 dX9_law_202 rfl ?_
          exact j_iret dX9_law_206 rfl ⟨_, rfl, rfl, hW49, h, r51⟩
      clear h1
      have h := h q52 q53 q54 q55 q56 q57
      refine j_tableOut 207 dX9_law_53 ra2 (by omega) rfl ?_
      refine j_iconst dX9_law_207 ?_
      exact j_iret dX9_law_208 rfl ⟨_, rfl, rfl, hW, h, (by decide)⟩
    · have h := h2 q15
      clear h1 h2
      refine j_aload_n dX9_law_35 rfl ?_
      refine j_getFR dX9_law_36 flX9_157_10 hM.1 rfl (mf_rows hM) ?_
      refine j_bipush dX9_law_39 ?_
      refine j_iload_n dX9_law_41 rfl ?_
      refine j_imul dX9_law_42 ?_
      refine j_iload_n dX9_law_43 rfl ?_
      refine j_iadd dX9_law_44 ?_
      refine j_bipush dX9_law_45 ?_
      refine j_isub dX9_law_47 ?_
      obtain ⟨c58, h⟩ := h
      refine j_iald (n := 3168) dX9_law_48 (mt_rows hM) (ml_rows hM) c58 ?_
      exact j_iret dX9_law_49 rfl ⟨_, rfl, rfl, hW, h, (hW.ai (mt_rows hM) rfl)⟩
  · have h := h2 q6
    clear h1 h2
    refine j_iconst dX9_law_8 ?_
    exact j_iret dX9_law_9 rfl ⟨_, rfl, rfl, hW, h, (by decide)⟩
/-- odds(I)I -/
def wpX9_odds (o : Nat) (a1 : Int) (F : jFl) (A : jAr) (Q : Int → jFl → jAr → Prop) : Prop :=
  ∃ P1 : Int → Prop, wpX9_isStanding o a1 F A P1 ∧ ∀ z3, P1 z3 →
  ((z3 = 0) →
    Q (-1) F A) ∧
  (¬ (z3 = 0) →
    (0 ≤ F 3039 o ∧ F 3039 o < 2) ∧
    (((A (o + 12) (F 3039 o)) ≤ 0) →
      Q (-1) F A) ∧
    (¬ ((A (o + 12) (F 3039 o)) ≤ 0) →
      ∃ P9 : Int → jFl → jAr → Prop, wpX9_childrenOf o a1 F A P9 ∧ ∀ z11 F12 A13, P9 z11 F12 A13 →
      (0 ≤ F12 3039 o ∧ F12 3039 o < 2) ∧
      (((0 : Int) ≤ 1000 * z11 ∧ (1000 * z11 : Int) ≤ 2147483647) ∧ ((0 : Int) < A13 (o + 12) (F12 3039 o) ∧ (A13 (o + 12) (F12 3039 o) : Int) ≤ 2147483647)) ∧
      jR ((1000 * z11) / (A13 (o + 12) (F12 3039 o))) ∧
      Q ((1000 * z11) / (A13 (o + 12) (F12 3039 o))) F12 A13))
theorem wX9_odds {G : jG} {l : Launch} {d : Nat} {N : jSh} {o : Nat} {F : jFl} {A : jAr} {a1 : Int} {Q : Int → jFl → jAr → Prop} (hd : 6 ≤ d) (hM : mShape G N o) (hW : jWf N F A) (ra1 : jR a1) (h : wpX9_odds o a1 F A Q) : jCall G l d mX9_odds [.ref o, vI a1] N F A (jmI N Q) := by
  refine jCall.of (ls := [.ref o, vI a1]) (by decide) rfl (Nat.le_of_ble_eq_true rfl) rfl ?_
  unfold wpX9_odds at h
  refine j_aload_n dX9_odds_0 rfl ?_
  refine j_iload_n dX9_odds_1 rfl ?_
  obtain ⟨P1, hp2, h⟩ := h
  refine j_invV (As := [vI a1]) (rest := []) dX9_odds_2 lkX9_429 hM.1 rfl rfl (wX9_isStanding (d := 2) (Nat.le_of_ble_eq_true rfl) hM hW ra1 hp2) rfl rfl (Nat.le_of_ble_eq_true rfl) (Nat.le_trans (Nat.le_of_ble_eq_true rfl) hd) (jkpB fun z3 p4 r5 => ?_)
  have h := h z3 p4
  obtain ⟨h1, h2⟩ := h
  refine j_if_eq 42 dX9_odds_5 rfl (jR_b r5) (fun q6 => ?_) (fun q6 => ?_)
  · have h := h1 q6
    clear h1 h2
    refine j_iconst dX9_odds_42 ?_
    exact j_iret dX9_odds_43 rfl ⟨_, rfl, rfl, hW, h, (by decide)⟩
  · have h := h2 q6
    clear h1 h2
    refine j_aload_n dX9_odds_8 rfl ?_
    refine j_getFR dX9_odds_9 flX9_85_10 hM.1 rfl (mf_children hM) ?_
    refine j_aload_n dX9_odds_12 rfl ?_
    refine j_getI dX9_odds_13 flX9_51_10 hM.1 rfl ?_
    obtain ⟨c7, h⟩ := h
    refine j_iald (n := 2) dX9_odds_16 (mt_children hM) (ml_children hM) c7 ?_
    obtain ⟨h1, h2⟩ := h
    refine j_if_le 42 dX9_odds_17 rfl (hW.ai (mt_children hM) rfl) (fun q8 => ?_) (fun q8 => ?_)
    · have h := h1 q8
      clear h1 h2
      refine j_iconst dX9_odds_42 ?_
      exact j_iret dX9_odds_43 rfl ⟨_, rfl, rfl, hW, h, (by decide)⟩
    · have h := h2 q8
      clear h1 h2
      refine j_sipush dX9_odds_20 ?_
      refine j_aload_n dX9_odds_23 rfl ?_
      refine j_iload_n dX9_odds_24 rfl ?_
      obtain ⟨P9, hp10, h⟩ := h
      refine j_invV (As := [vI a1]) (rest := [vI 1000]) dX9_odds_25 lkX9_488 hM.1 rfl rfl (wX9_childrenOf (d := 5) (Nat.le_of_ble_eq_true rfl) hM hW ra1 hp10) rfl rfl (Nat.le_of_ble_eq_true rfl) (Nat.le_trans (Nat.le_of_ble_eq_true rfl) hd) (jkmI fun z11 F12 A13 hW14 p15 r16 => ?_)
      have h := h z11 F12 A13 p15
      refine j_imul dX9_odds_28 ?_
      refine j_aload_n dX9_odds_29 rfl ?_
      refine j_getFR dX9_odds_30 flX9_85_10 hM.1 rfl (mf_children hM) ?_
      refine j_aload_n dX9_odds_33 rfl ?_
      refine j_getI dX9_odds_34 flX9_51_10 hM.1 rfl ?_
      obtain ⟨c17, h⟩ := h
      refine j_iald (n := 2) dX9_odds_37 (mt_children hM) (ml_children hM) c17 ?_
      obtain ⟨c18, h⟩ := h
      refine j_idiv dX9_odds_38 c18.1 c18.2 ?_
      refine j_goto 43 dX9_odds_39 rfl ?_
      obtain ⟨r19, h⟩ := h
      exact j_iret dX9_odds_43 rfl ⟨_, rfl, rfl, hW14, h, r19⟩
/-- yearGoes(I)V -/
def wpX9_yearGoes (o : Nat) (a1 : Int) (F : jFl) (A : jAr) (Q : jFl → jAr → Prop) : Prop :=
  (0 ≤ a1 ∧ a1 < 22) ∧
  (0 ≤ a1 ∧ a1 < 22) ∧
  jR ((A (o + 28) a1) + 1) ∧
  ∀ A4 : jAr, A4 = upA A (o + 28) a1 ((A (o + 28) a1) + 1) →
  (0 ≤ a1 ∧ a1 < 22) ∧
  (((0 : Int) ≤ A4 (o + 28) a1 ∧ (A4 (o + 28) a1 : Int) ≤ 2147483647) ∧ ((0 : Int) < 9 ∧ (9 : Int) ≤ 2147483647)) ∧
  jR ((A4 (o + 28) a1) % 9) ∧
  ((¬ ((A4 (o + 28) a1) % 9) = 0) →
    Q F A4) ∧
  (¬ (¬ ((A4 (o + 28) a1) % 9) = 0) →
    (0 ≤ F 3039 o ∧ F 3039 o < 2) ∧
    (((A4 (o + 12) (F 3039 o)) ≤ 0) →
      Q F A4) ∧
    (¬ ((A4 (o + 12) (F 3039 o)) ≤ 0) →
      (0 ≤ F 3039 o ∧ F 3039 o < 2) ∧
      ∃ P13 : Int → jFl → jAr → Prop, wpX9_draw o (A4 (o + 12) (F 3039 o)) F A4 P13 ∧ ∀ z15 F16 A17, P13 z15 F16 A17 →
      ∃ P21 : jFl → jAr → Prop, wpX9_renews o a1 z15 F16 A17 P21 ∧ ∀ F24 A25, P21 F24 A25 →
      Q F24 A25))
theorem wX9_yearGoes {G : jG} {l : Launch} {d : Nat} {N : jSh} {o : Nat} {F : jFl} {A : jAr} {a1 : Int} {Q : jFl → jAr → Prop} (hd : 6 ≤ d) (hM : mShape G N o) (hW : jWf N F A) (ra1 : jR a1) (h : wpX9_yearGoes o a1 F A Q) : jCall G l d mX9_yearGoes [.ref o, vI a1] N F A (jmV N Q) := by
  refine jCall.of (ls := [.ref o, vI a1]) (by decide) rfl (Nat.le_of_ble_eq_true rfl) rfl ?_
  unfold wpX9_yearGoes at h
  refine j_aload_n dX9_yearGoes_0 rfl ?_
  refine j_getFR dX9_yearGoes_1 flX9_142_10 hM.1 rfl (mf_year hM) ?_
  refine j_iload_n dX9_yearGoes_4 rfl ?_
  refine j_dup2 dX9_yearGoes_5 rfl rfl ?_
  obtain ⟨c1, h⟩ := h
  refine j_iald (n := 22) dX9_yearGoes_6 (mt_year hM) (ml_year hM) c1 ?_
  refine j_iconst dX9_yearGoes_7 ?_
  refine j_iadd dX9_yearGoes_8 ?_
  obtain ⟨c2, h⟩ := h
  obtain ⟨r3, h⟩ := h
  refine j_iast (n := 22) dX9_yearGoes_9 (mt_year hM) (Nat.le_trans hM.2.1 (Nat.le_add_right _ _)) (ml_year hM) c2 ?_
  obtain ⟨A4, eA4⟩ : ∃ x : jAr, x = upA A (o + 28) a1 ((A (o + 28) a1) + 1) := ⟨_, rfl⟩
  have hW5 : jWf N F A4 := eA4 ▸ jWf_A (i := a1) (z := (A (o + 28) a1) + 1) hW (mt_year hM) (jRk_0 rfl r3)
  refine jnmA (e := eA4) ?_
  have h := h A4 eA4
  refine j_aload_n dX9_yearGoes_10 rfl ?_
  refine j_getFR dX9_yearGoes_11 flX9_142_10 hM.1 rfl (mf_year hM) ?_
  refine j_iload_n dX9_yearGoes_14 rfl ?_
  obtain ⟨c6, h⟩ := h
  refine j_iald (n := 22) dX9_yearGoes_15 (mt_year hM) (ml_year hM) c6 ?_
  refine j_bipush dX9_yearGoes_16 ?_
  obtain ⟨c7, h⟩ := h
  refine j_irem dX9_yearGoes_18 c7.1 c7.2 ?_
  obtain ⟨r8, h⟩ := h
  obtain ⟨h1, h2⟩ := h
  refine j_if_ne 52 dX9_yearGoes_19 rfl r8 (fun q9 => ?_) (fun q9 => ?_)
  · have h := h1 q9
    clear h1 h2
    exact j_vret dX9_yearGoes_52 rfl ⟨rfl, rfl, hW5, h⟩
  · have h := h2 q9
    clear h1 h2
    refine j_aload_n dX9_yearGoes_22 rfl ?_
    refine j_getFR dX9_yearGoes_23 flX9_85_10 hM.1 rfl (mf_children hM) ?_
    refine j_aload_n dX9_yearGoes_26 rfl ?_
    refine j_getI dX9_yearGoes_27 flX9_51_10 hM.1 rfl ?_
    obtain ⟨c10, h⟩ := h
    refine j_iald (n := 2) dX9_yearGoes_30 (mt_children hM) (ml_children hM) c10 ?_
    obtain ⟨h1, h2⟩ := h
    refine j_if_le 52 dX9_yearGoes_31 rfl (hW5.ai (mt_children hM) rfl) (fun q11 => ?_) (fun q11 => ?_)
    · have h := h1 q11
      clear h1 h2
      exact j_vret dX9_yearGoes_52 rfl ⟨rfl, rfl, hW5, h⟩
    · have h := h2 q11
      clear h1 h2
      refine j_aload_n dX9_yearGoes_34 rfl ?_
      refine j_iload_n dX9_yearGoes_35 rfl ?_
      refine j_aload_n dX9_yearGoes_36 rfl ?_
      refine j_aload_n dX9_yearGoes_37 rfl ?_
      refine j_getFR dX9_yearGoes_38 flX9_85_10 hM.1 rfl (mf_children hM) ?_
      refine j_aload_n dX9_yearGoes_41 rfl ?_
      refine j_getI dX9_yearGoes_42 flX9_51_10 hM.1 rfl ?_
      obtain ⟨c12, h⟩ := h
      refine j_iald (n := 2) dX9_yearGoes_45 (mt_children hM) (ml_children hM) c12 ?_
      obtain ⟨P13, hp14, h⟩ := h
      refine j_invV (As := [vI (A4 (o + 12) (F 3039 o))]) (rest := [vI a1, .ref o]) dX9_yearGoes_46 lkX9_474 hM.1 rfl rfl (wX9_draw (d := 1) (Nat.le_of_ble_eq_true rfl) hM hW5 (hW5.ai (mt_children hM) rfl) hp14) rfl rfl (Nat.le_of_ble_eq_true rfl) (Nat.le_trans (Nat.le_of_ble_eq_true rfl) hd) (jkmI fun z15 F16 A17 hW18 p19 r20 => ?_)
      have h := h z15 F16 A17 p19
      obtain ⟨P21, hp22, h⟩ := h
      refine j_invV (As := [vI a1, vI z15]) (rest := []) dX9_yearGoes_49 lkX9_460 hM.1 rfl rfl (wX9_renews (d := 5) (Nat.le_of_ble_eq_true rfl) hM hW18 ra1 r20 hp22) rfl rfl (Nat.le_of_ble_eq_true rfl) (Nat.le_trans (Nat.le_of_ble_eq_true rfl) hd) (jkmV fun F24 A25 hW26 p27 => ?_)
      have h := h F24 A25 p27
      exact j_vret dX9_yearGoes_52 rfl ⟨rfl, rfl, hW26, h⟩
/-- sits(III)I -/
def wpX9_sits (o : Nat) (a1 : Int) (a2 : Int) (a3 : Int) (F : jFl) (A : jAr) (Q : Int → jFl → jAr → Prop) : Prop :=
  ∃ P1 : Int → Prop, wpX9_isChild o a1 F A P1 ∧ ∀ z3, P1 z3 →
  ((z3 = 0) →
    Q (-1) F A) ∧
  (¬ (z3 = 0) →
    ∃ P7 : Int → Prop, wpX9_isStanding o a2 F A P7 ∧ ∀ z9, P7 z9 →
    ((¬ z9 = 0) →
      ∃ P13 : Int → jFl → jAr → Prop, wpX9_sitsNow o a1 F A P13 ∧ ∀ z15 F16 A17, P13 z15 F16 A17 →
      (0 ≤ a2 ∧ a2 < 12) ∧
      (0 ≤ a2 ∧ a2 < 12) ∧
      jR ((A17 (o + 40) a2) + (A17 (o + 41) a2)) ∧
      ∀ v24 : Int, v24 = (A17 (o + 40) a2) + (A17 (o + 41) a2) →
      ((¬ a3 = (-1)) →
        ((¬ a3 = 20) →
          jR (v24 - 1) ∧
          ∃ P28 : Int → Prop, wpX9_is o a3 0 (v24 - 1) F16 A17 P28 ∧ ∀ z30, P28 z30 →
          ((z30 = 0) →
            Q (-1) F16 A17) ∧
          (¬ (z30 = 0) →
            (0 ≤ (12 * a2) + a3 ∧ (12 * a2) + a3 < 144) ∧
            Q (A17 (o + 42) ((12 * a2) + a3)) F16 A17)) ∧
        (¬ (¬ a3 = 20) →
          Q v24 F16 A17)) ∧
      (¬ (¬ a3 = (-1)) →
        (0 ≤ a2 ∧ a2 < 12) ∧
        Q (A17 (o + 39) a2) F16 A17)) ∧
    (¬ (¬ z9 = 0) →
      Q (-1) F A))
theorem wX9_sits {G : jG} {l : Launch} {d : Nat} {N : jSh} {o : Nat} {F : jFl} {A : jAr} {a1 a2 a3 : Int} {Q : Int → jFl → jAr → Prop} (hd : 6 ≤ d) (hM : mShape G N o) (hW : jWf N F A) (ra1 : jR a1) (ra2 : jR a2) (ra3 : jR a3) (h : wpX9_sits o a1 a2 a3 F A Q) : jCall G l d mX9_sits [.ref o, vI a1, vI a2, vI a3] N F A (jmI N Q) := by
  refine jCall.of (ls := [.ref o, vI a1, vI a2, vI a3, jD]) (by decide) rfl (Nat.le_of_ble_eq_true rfl) rfl ?_
  unfold wpX9_sits at h
  refine j_aload_n dX9_sits_0 rfl ?_
  refine j_iload_n dX9_sits_1 rfl ?_
  obtain ⟨P1, hp2, h⟩ := h
  refine j_invV (As := [vI a1]) (rest := []) dX9_sits_2 lkX9_420 hM.1 rfl rfl (wX9_isChild (d := 1) (Nat.le_of_ble_eq_true rfl) hM hW ra1 hp2) rfl rfl (Nat.le_of_ble_eq_true rfl) (Nat.le_trans (Nat.le_of_ble_eq_true rfl) hd) (jkpB fun z3 p4 r5 => ?_)
  have h := h z3 p4
  obtain ⟨h1, h2⟩ := h
  refine j_if_eq 16 dX9_sits_5 rfl (jR_b r5) (fun q6 => ?_) (fun q6 => ?_)
  · have h := h1 q6
    clear h1 h2
    refine j_iconst dX9_sits_16 ?_
    exact j_iret dX9_sits_17 rfl ⟨_, rfl, rfl, hW, h, (by decide)⟩
  · have h := h2 q6
    clear h1 h2
    refine j_aload_n dX9_sits_8 rfl ?_
    refine j_iload_n dX9_sits_9 rfl ?_
    obtain ⟨P7, hp8, h⟩ := h
    refine j_invV (As := [vI a2]) (rest := []) dX9_sits_10 lkX9_429 hM.1 rfl rfl (wX9_isStanding (d := 2) (Nat.le_of_ble_eq_true rfl) hM hW ra2 hp8) rfl rfl (Nat.le_of_ble_eq_true rfl) (Nat.le_trans (Nat.le_of_ble_eq_true rfl) hd) (jkpB fun z9 p10 r11 => ?_)
    have h := h z9 p10
    obtain ⟨h1, h2⟩ := h
    refine j_if_ne 18 dX9_sits_13 rfl (jR_b r11) (fun q12 => ?_) (fun q12 => ?_)
    · have h := h1 q12
      clear h1 h2
      refine j_aload_n dX9_sits_18 rfl ?_
      refine j_iload_n dX9_sits_19 rfl ?_
      obtain ⟨P13, hp14, h⟩ := h
      refine j_invV (As := [vI a1]) (rest := []) dX9_sits_20 lkX9_447 hM.1 rfl rfl (wX9_sitsNow (d := 5) (Nat.le_of_ble_eq_true rfl) hM hW ra1 hp14) rfl rfl (Nat.le_of_ble_eq_true rfl) (Nat.le_trans (Nat.le_of_ble_eq_true rfl) hd) (jkmB fun z15 F16 A17 hW18 p19 r20 => ?_)
      have h := h z15 F16 A17 p19
      refine j_pop dX9_sits_23 rfl ?_
      refine j_aload_n dX9_sits_24 rfl ?_
      refine j_getFR dX9_sits_25 flX9_212_10 hM.1 rfl (mf_sitMain hM) ?_
      refine j_iload_n dX9_sits_28 rfl ?_
      obtain ⟨c21, h⟩ := h
      refine j_iald (n := 12) dX9_sits_29 (mt_sitMain hM) (ml_sitMain hM) c21 ?_
      refine j_aload_n dX9_sits_30 rfl ?_
      refine j_getFR dX9_sits_31 flX9_215_10 hM.1 rfl (mf_sitExcept hM) ?_
      refine j_iload_n dX9_sits_34 rfl ?_
      obtain ⟨c22, h⟩ := h
      refine j_iald (n := 12) dX9_sits_35 (mt_sitExcept hM) (ml_sitExcept hM) c22 ?_
      refine j_iadd dX9_sits_36 ?_
      obtain ⟨r23, h⟩ := h
      obtain ⟨v24, ev24⟩ : ∃ x : Int, x = (A17 (o + 40) a2) + (A17 (o + 41) a2) := ⟨_, rfl⟩
      have h := h v24 ev24
      refine jnmI (e := ev24) ?_
      refine j_istore dX9_sits_37 rfl ?_
      refine j_iload_n dX9_sits_39 rfl ?_
      refine j_iconst dX9_sits_40 ?_
      obtain ⟨h1, h2⟩ := h
      refine j_icmp_ne 53 dX9_sits_41 rfl ra3 (by decide) (fun q25 => ?_) (fun q25 => ?_)
      · have h := h1 q25
        clear h1 h2
        refine j_iload_n dX9_sits_53 rfl ?_
        refine j_bipush dX9_sits_54 ?_
        obtain ⟨h1, h2⟩ := h
        refine j_icmp_ne 64 dX9_sits_56 rfl ra3 (by decide) (fun q26 => ?_) (fun q26 => ?_)
        · have h := h1 q26
          clear h1 h2
          refine j_iload_n dX9_sits_64 rfl ?_
          refine j_iconst dX9_sits_65 ?_
          refine j_iload dX9_sits_66 rfl ?_
          refine j_iconst dX9_sits_68 ?_
          refine j_isub dX9_sits_69 ?_
          obtain ⟨r27, h⟩ := h
          obtain ⟨P28, hp29, h⟩ := h
          refine j_invS (As := [vI a3, vI 0, vI (v24 - 1)]) (rest := []) dX9_sits_70 lkX9_324 (wX9_is (d := 1) (Nat.le_of_ble_eq_true rfl) hM hW18 ra3 (by decide) r27 hp29) rfl rfl (Nat.le_of_ble_eq_true rfl) (Nat.le_trans (Nat.le_of_ble_eq_true rfl) hd) (jkpB fun z30 p31 r32 => ?_)
          have h := h z30 p31
          obtain ⟨h1, h2⟩ := h
          refine j_if_eq 90 dX9_sits_73 rfl (jR_b r32) (fun q33 => ?_) (fun q33 => ?_)
          · have h := h1 q33
            clear h1 h2
            refine j_iconst dX9_sits_90 ?_
            exact j_iret dX9_sits_91 rfl ⟨_, rfl, rfl, hW18, h, (by decide)⟩
          · have h := h2 q33
            clear h1 h2
            refine j_aload_n dX9_sits_76 rfl ?_
            refine j_getFR dX9_sits_77 flX9_218_10 hM.1 rfl (mf_sitRow hM) ?_
            refine j_bipush dX9_sits_80 ?_
            refine j_iload_n dX9_sits_82 rfl ?_
            refine j_imul dX9_sits_83 ?_
            refine j_iload_n dX9_sits_84 rfl ?_
            refine j_iadd dX9_sits_85 ?_
            obtain ⟨c34, h⟩ := h
            refine j_iald (n := 144) dX9_sits_86 (mt_sitRow hM) (ml_sitRow hM) c34 ?_
            refine j_goto 91 dX9_sits_87 rfl ?_
            exact j_iret dX9_sits_91 rfl ⟨_, rfl, rfl, hW18, h, (hW18.ai (mt_sitRow hM) rfl)⟩
        · have h := h2 q26
          clear h1 h2
          refine j_iload dX9_sits_59 rfl ?_
          refine j_goto 91 dX9_sits_61 rfl ?_
          exact j_iret dX9_sits_91 rfl ⟨_, rfl, rfl, hW18, h, (ev24 ▸ r23)⟩
      · have h := h2 q25
        clear h1 h2
        refine j_aload_n dX9_sits_44 rfl ?_
        refine j_getFR dX9_sits_45 flX9_209_10 hM.1 rfl (mf_sitKind hM) ?_
        refine j_iload_n dX9_sits_48 rfl ?_
        obtain ⟨c35, h⟩ := h
        refine j_iald (n := 12) dX9_sits_49 (mt_sitKind hM) (ml_sitKind hM) c35 ?_
        refine j_goto 91 dX9_sits_50 rfl ?_
        exact j_iret dX9_sits_91 rfl ⟨_, rfl, rfl, hW18, h, (hW18.ai (mt_sitKind hM) rfl)⟩
    · have h := h2 q12
      clear h1 h2
      refine j_iconst dX9_sits_16 ?_
      exact j_iret dX9_sits_17 rfl ⟨_, rfl, rfl, hW, h, (by decide)⟩
/-- sitting(II)I -/
def wpX9_sitting (o : Nat) (a1 : Int) (a2 : Int) (F : jFl) (A : jAr) (Q : Int → jFl → jAr → Prop) : Prop :=
  ∃ P1 : Int → Prop, wpX9_isChild o a1 F A P1 ∧ ∀ z3, P1 z3 →
  ((z3 = 0) →
    Q (-1) F A) ∧
  (¬ (z3 = 0) →
    ∃ P7 : Int → Prop, wpX9_is o a2 0 4 F A P7 ∧ ∀ z9, P7 z9 →
    ((¬ z9 = 0) →
      ∃ P13 : Int → jFl → jAr → Prop, wpX9_sitsNow o a1 F A P13 ∧ ∀ z15 F16 A17, P13 z15 F16 A17 →
      ∃ (I23 : Int → Int → Prop) (m24 : Int → Int → Nat), I23 0 0 ∧ ∀ (v21 : Int) (v22 : Int), I23 v21 v22 →
        (((F16 3192 o) ≤ v22) →
          Q v21 F16 A17) ∧
        (¬ ((F16 3192 o) ≤ v22) →
          (0 ≤ v22 ∧ v22 < 12) ∧
          (0 ≤ A17 (o + 38) v22 ∧ A17 (o + 38) v22 < 12) ∧
          ∀ z29 : Int, z29 = (if ¬ (A17 (o + 39) (A17 (o + 38) v22)) = a2 then 0 else 1) →
          jR (v21 + z29) ∧
          ∀ v32 : Int, v32 = v21 + z29 →
          jR (v22 + 1) ∧
          I23 v32 (v22 + 1) ∧ m24 v32 (v22 + 1) < m24 v21 v22)) ∧
    (¬ (¬ z9 = 0) →
      Q (-1) F A))
theorem wX9_sitting {G : jG} {l : Launch} {d : Nat} {N : jSh} {o : Nat} {F : jFl} {A : jAr} {a1 a2 : Int} {Q : Int → jFl → jAr → Prop} (hd : 6 ≤ d) (hM : mShape G N o) (hW : jWf N F A) (ra1 : jR a1) (ra2 : jR a2) (h : wpX9_sitting o a1 a2 F A Q) : jCall G l d mX9_sitting [.ref o, vI a1, vI a2] N F A (jmI N Q) := by
  refine jCall.of (ls := [.ref o, vI a1, vI a2, jD, jD]) (by decide) rfl (Nat.le_of_ble_eq_true rfl) rfl ?_
  unfold wpX9_sitting at h
  refine j_aload_n dX9_sitting_0 rfl ?_
  refine j_iload_n dX9_sitting_1 rfl ?_
  obtain ⟨P1, hp2, h⟩ := h
  refine j_invV (As := [vI a1]) (rest := []) dX9_sitting_2 lkX9_420 hM.1 rfl rfl (wX9_isChild (d := 1) (Nat.le_of_ble_eq_true rfl) hM hW ra1 hp2) rfl rfl (Nat.le_of_ble_eq_true rfl) (Nat.le_trans (Nat.le_of_ble_eq_true rfl) hd) (jkpB fun z3 p4 r5 => ?_)
  have h := h z3 p4
  obtain ⟨h1, h2⟩ := h
  refine j_if_eq 17 dX9_sitting_5 rfl (jR_b r5) (fun q6 => ?_) (fun q6 => ?_)
  · have h := h1 q6
    clear h1 h2
    refine j_iconst dX9_sitting_17 ?_
    exact j_iret dX9_sitting_18 rfl ⟨_, rfl, rfl, hW, h, (by decide)⟩
  · have h := h2 q6
    clear h1 h2
    refine j_iload_n dX9_sitting_8 rfl ?_
    refine j_iconst dX9_sitting_9 ?_
    refine j_iconst dX9_sitting_10 ?_
    obtain ⟨P7, hp8, h⟩ := h
    refine j_invS (As := [vI a2, vI 0, vI 4]) (rest := []) dX9_sitting_11 lkX9_324 (wX9_is (d := 1) (Nat.le_of_ble_eq_true rfl) hM hW ra2 (by decide) (by decide) hp8) rfl rfl (Nat.le_of_ble_eq_true rfl) (Nat.le_trans (Nat.le_of_ble_eq_true rfl) hd) (jkpB fun z9 p10 r11 => ?_)
    have h := h z9 p10
    obtain ⟨h1, h2⟩ := h
    refine j_if_ne 19 dX9_sitting_14 rfl (jR_b r11) (fun q12 => ?_) (fun q12 => ?_)
    · have h := h1 q12
      clear h1 h2
      refine j_aload_n dX9_sitting_19 rfl ?_
      refine j_iload_n dX9_sitting_20 rfl ?_
      obtain ⟨P13, hp14, h⟩ := h
      refine j_invV (As := [vI a1]) (rest := []) dX9_sitting_21 lkX9_447 hM.1 rfl rfl (wX9_sitsNow (d := 5) (Nat.le_of_ble_eq_true rfl) hM hW ra1 hp14) rfl rfl (Nat.le_of_ble_eq_true rfl) (Nat.le_trans (Nat.le_of_ble_eq_true rfl) hd) (jkmB fun z15 F16 A17 hW18 p19 r20 => ?_)
      have h := h z15 F16 A17 p19
      refine j_pop dX9_sitting_24 rfl ?_
      refine j_iconst dX9_sitting_25 ?_
      refine j_istore_n dX9_sitting_26 rfl ?_
      refine j_iconst dX9_sitting_27 ?_
      refine j_istore dX9_sitting_28 rfl ?_
      obtain ⟨I23, m24, h0, hs⟩ := h
      have lp : ∀ (n : Nat) (v21 : Int) (v22 : Int), m24 v21 v22 < n → jR v21 → jR v22 → I23 v21 v22 → J G l d mX9_sitting 30 [.ref o, jD, vI a2, vI v21, vI v22] [] N F16 A17 (jmI N Q) := by
        intro nI23
        induction nI23 with
        | zero =>
          intro v21 v22 hmu
          exact absurd hmu (Nat.not_lt_zero _)
        | succ nI23 ihI23 =>
          intro v21 v22 hmuI23 rv21 rv22 hI
          have h := hs v21 v22 hI
          refine j_iload dX9_sitting_30 rfl ?_
          refine j_aload_n dX9_sitting_32 rfl ?_
          refine j_getI dX9_sitting_33 flX9_206_10 hM.1 rfl ?_
          obtain ⟨h1, h2⟩ := h
          refine j_icmp_ge 69 dX9_sitting_36 rfl rv22 (hW18.fi rfl) (fun q25 => ?_) (fun q25 => ?_)
          · have h := h1 q25
            clear h1 h2
            refine j_iload_n dX9_sitting_69 rfl ?_
            exact j_iret dX9_sitting_70 rfl ⟨_, rfl, rfl, hW18, h, rv21⟩
          · have h := h2 q25
            clear h1 h2
            refine j_iload_n dX9_sitting_39 rfl ?_
            refine j_aload_n dX9_sitting_40 rfl ?_
            refine j_getFR dX9_sitting_41 flX9_209_10 hM.1 rfl (mf_sitKind hM) ?_
            refine j_aload_n dX9_sitting_44 rfl ?_
            refine j_getFR dX9_sitting_45 flX9_203_10 hM.1 rfl (mf_seat hM) ?_
            refine j_iload dX9_sitting_48 rfl ?_
            obtain ⟨c26, h⟩ := h
            refine j_iald (n := 12) dX9_sitting_50 (mt_seat hM) (ml_seat hM) c26 ?_
            obtain ⟨c27, h⟩ := h
            refine j_iald (n := 12) dX9_sitting_51 (mt_sitKind hM) (ml_sitKind hM) c27 ?_
            refine j_iload_n dX9_sitting_52 rfl ?_
            have jn30 : ∀ z29 : Int, z29 = (if ¬ (A17 (o + 39) (A17 (o + 38) v22)) = a2 then 0 else 1) → J G l d mX9_sitting 61 [.ref o, jD, vI a2, vI v21, vI v22] [vI z29, vI v21] N F16 A17 (jmI N Q) := by
              intro z29 ez29
              have h := h z29 ez29
              refine j_iadd dX9_sitting_61 ?_
              obtain ⟨r31, h⟩ := h
              obtain ⟨v32, ev32⟩ : ∃ x : Int, x = v21 + z29 := ⟨_, rfl⟩
              have h := h v32 ev32
              refine jnmI (e := ev32) ?_
              refine j_istore_n dX9_sitting_62 rfl ?_
              obtain ⟨r33, h⟩ := h
              refine j_iinc dX9_sitting_63 rfl rfl ?_
              refine j_goto 30 dX9_sitting_66 rfl ?_
              exact J.wk ((((((jWk.nil).eq).eq).eq).no).eq) (ihI23 _ _ (Nat.lt_of_lt_of_le h.2 (Nat.le_of_lt_succ hmuI23)) (ev32 ▸ r31) r33 h.1)
            clear h
            refine j_icmp_ne 60 dX9_sitting_53 rfl (hW18.ai (mt_sitKind hM) rfl) ra2 (fun q28 => ?_) (fun q28 => ?_)
            · refine j_iconst dX9_sitting_60 ?_
              exact jn30 _ ((if_pos q28).symm)
            · refine j_iconst dX9_sitting_56 ?_
              refine j_goto 61 dX9_sitting_57 rfl ?_
              exact jn30 _ ((if_neg q28).symm)
      exact J.wk ((((((jWk.nil).eq).eq).eq).no).eq) (lp _ _ _ (Nat.lt_succ_self _) (by decide) (by decide) h0)
    · have h := h2 q12
      clear h1 h2
      refine j_iconst dX9_sitting_17 ?_
      exact j_iret dX9_sitting_18 rfl ⟨_, rfl, rfl, hW, h, (by decide)⟩
/-- council(I)I -/
def wpX9_council (o : Nat) (a1 : Int) (F : jFl) (A : jAr) (Q : Int → jFl → jAr → Prop) : Prop :=
  ∃ P1 : Int → Prop, wpX9_isLaw o a1 F A P1 ∧ ∀ z3, P1 z3 →
  ((¬ z3 = 0) →
    ∀ F7 : jFl, F7 = upF F 3114 o (F 3039 o) →
    ∃ P9 : jFl → jAr → Prop, wpX9_takesTape o F7 A P9 ∧ ∀ F12 A13, P9 F12 A13 →
    ∃ P17 : jFl → jAr → Prop, wpX9_rowing o F12 A13 P17 ∧ ∀ F20 A21, P17 F20 A21 →
    ∃ P25 : jFl → jAr → Prop, wpX9_lex o F20 A21 P25 ∧ ∀ F28 A29, P25 F28 A29 →
    ∃ K37 : jFl → jAr → Prop, (
      ∀ (F34 : jFl) (A35 : jAr), K37 F34 A35 →
      ∀ F40 : jFl, F40 = upF F34 3030 o (F34 3024 o) →
      ∀ F42 : jFl, F42 = upF F40 3033 o (F40 3027 o) →
      (((F42 3024 o) ≤ 0) →
        ∃ P45 : jFl → jAr → Prop, wpX9_keeps o F42 A35 P45 ∧ ∀ F48 A49, P45 F48 A49 →
        (0 ≤ a1 ∧ a1 < 264) ∧
        ∀ A54 : jAr, A54 = upA A49 (o + 30) a1 (F48 3120 o) →
        (0 ≤ a1 ∧ a1 < 264) ∧
        ∀ A57 : jAr, A57 = upA A54 (o + 31) a1 (F48 3123 o) →
        ∃ (I62 : Int → jAr → Prop) (m63 : Int → jAr → Nat), I62 0 A57 ∧ ∀ (v59 : Int) (A60 : jAr), I62 v59 A60 →
          jR ((F48 3120 o) + (F48 3123 o)) ∧
          ((((F48 3120 o) + (F48 3123 o)) ≤ v59) →
            jR ((F48 3120 o) + (F48 3123 o)) ∧
            Q ((F48 3120 o) + (F48 3123 o)) F48 A60) ∧
          (¬ (((F48 3120 o) + (F48 3123 o)) ≤ v59) →
            (0 ≤ v59 ∧ v59 < 12) ∧
            (0 ≤ (12 * a1) + v59 ∧ (12 * a1) + v59 < 3168) ∧
            ∀ A69 : jAr, A69 = upA A60 (o + 33) ((12 * a1) + v59) (A60 (o + 26) v59) →
            jR (v59 + 1) ∧
            I62 (v59 + 1) A69 ∧ m63 (v59 + 1) A69 < m63 v59 A60)) ∧
      (¬ ((F42 3024 o) ≤ 0) →
        ∃ P72 : Int → jFl → jAr → Prop, wpX9_refuses o 2 F42 A35 P72 ∧ ∀ z74 F75 A76, P72 z74 F75 A76 →
        Q z74 F75 A76)) ∧
    ((¬ (F28 3024 o) = 0) →
      K37 F28 A29) ∧
    (¬ (¬ (F28 3024 o) = 0) →
      (((F28 3009 o) = 0) →
        K37 F28 A29) ∧
      (¬ ((F28 3009 o) = 0) →
        ∃ P81 : jFl → jAr → Prop, wpX9_blame o 1 (F28 3012 o) F28 A29 P81 ∧ ∀ F84 A85, P81 F84 A85 →
        K37 F84 A85))) ∧
  (¬ (¬ z3 = 0) →
    ∀ F89 : jFl, F89 = upF F 3003 o 0 →
    ∃ P91 : Int → jFl → jAr → Prop, wpX9_refuses o 2 F89 A P91 ∧ ∀ z93 F94 A95, P91 z93 F94 A95 →
    Q z93 F94 A95)
theorem wX9_council {G : jG} {l : Launch} {d : Nat} {N : jSh} {o : Nat} {F : jFl} {A : jAr} {a1 : Int} {Q : Int → jFl → jAr → Prop} (hd : 7 ≤ d) (hM : mShape G N o) (hW : jWf N F A) (ra1 : jR a1) (h : wpX9_council o a1 F A Q) : jCall G l d mX9_council [.ref o, vI a1] N F A (jmI N Q) := by
  refine jCall.of (ls := [.ref o, vI a1, jD]) (by decide) rfl (Nat.le_of_ble_eq_true rfl) rfl ?_
  unfold wpX9_council at h
  refine j_aload_n dX9_council_0 rfl ?_
  refine j_iload_n dX9_council_1 rfl ?_
  obtain ⟨P1, hp2, h⟩ := h
  refine j_invV (As := [vI a1]) (rest := []) dX9_council_2 lkX9_396 hM.1 rfl rfl (wX9_isLaw (d := 1) (Nat.le_of_ble_eq_true rfl) hM hW ra1 hp2) rfl rfl (Nat.le_of_ble_eq_true rfl) (Nat.le_trans (Nat.le_of_ble_eq_true rfl) hd) (jkpB fun z3 p4 r5 => ?_)
  have h := h z3 p4
  obtain ⟨h1, h2⟩ := h
  refine j_if_ne 19 dX9_council_5 rfl (jR_b r5) (fun q6 => ?_) (fun q6 => ?_)
  · have h := h1 q6
    clear h1 h2
    refine j_aload_n dX9_council_19 rfl ?_
    refine j_aload_n dX9_council_20 rfl ?_
    refine j_getI dX9_council_21 flX9_51_10 hM.1 rfl ?_
    refine j_putI dX9_council_24 flX9_127_10 hM.1 hM.2.1 rfl ?_
    obtain ⟨F7, eF7⟩ : ∃ x : jFl, x = upF F 3114 o (F 3039 o) := ⟨_, rfl⟩
    have hW8 : jWf N F7 A := eF7 ▸ jWf_F (f := 3114) (a := o) (z := F 3039 o) hW (jRk_0 rfl (hW.fi rfl))
    refine jnmF (e := eF7) ?_
    have h := h F7 eF7
    refine j_aload_n dX9_council_27 rfl ?_
    obtain ⟨P9, hp10, h⟩ := h
    refine j_invV (As := []) (rest := []) dX9_council_28 lkX9_384 hM.1 rfl rfl (wX9_takesTape (d := 3) (Nat.le_of_ble_eq_true rfl) hM hW8  hp10) rfl rfl (Nat.le_of_ble_eq_true rfl) (Nat.le_trans (Nat.le_of_ble_eq_true rfl) hd) (jkmV fun F12 A13 hW14 p15 => ?_)
    have h := h F12 A13 p15
    refine j_aload_n dX9_council_31 rfl ?_
    obtain ⟨P17, hp18, h⟩ := h
    refine j_invV (As := []) (rest := []) dX9_council_32 lkX9_364 hM.1 rfl rfl (wX9_rowing (d := 6) (Nat.le_of_ble_eq_true rfl) hM hW14  hp18) rfl rfl (Nat.le_of_ble_eq_true rfl) (Nat.le_trans (Nat.le_of_ble_eq_true rfl) hd) (jkmV fun F20 A21 hW22 p23 => ?_)
    have h := h F20 A21 p23
    refine j_aload_n dX9_council_35 rfl ?_
    obtain ⟨P25, hp26, h⟩ := h
    refine j_invV (As := []) (rest := []) dX9_council_36 lkX9_273 hM.1 rfl rfl (wX9_lex (d := 2) (Nat.le_of_ble_eq_true rfl) hM hW22  hp26) rfl rfl (Nat.le_of_ble_eq_true rfl) (Nat.le_trans (Nat.le_of_ble_eq_true rfl) hd) (jkmV fun F28 A29 hW30 p31 => ?_)
    have h := h F28 A29 p31
    refine j_aload_n dX9_council_39 rfl ?_
    refine j_getI dX9_council_40 flX9_36_10 hM.1 rfl ?_
    obtain ⟨K37, hK39, h⟩ := h
    have jn38 : ∀ (F34 : jFl) (A35 : jAr), jWf N F34 A35 → K37 F34 A35 → J G l d mX9_council 62 [.ref o, vI a1, jD] [] N F34 A35 (jmI N Q) := by
      intro F34 A35 hW36  h
      have h := hK39 F34 A35 h
      refine j_aload_n dX9_council_62 rfl ?_
      refine j_aload_n dX9_council_63 rfl ?_
      refine j_getI dX9_council_64 flX9_36_10 hM.1 rfl ?_
      refine j_putI dX9_council_67 flX9_42_10 hM.1 hM.2.1 rfl ?_
      obtain ⟨F40, eF40⟩ : ∃ x : jFl, x = upF F34 3030 o (F34 3024 o) := ⟨_, rfl⟩
      have hW41 : jWf N F40 A35 := eF40 ▸ jWf_F (f := 3030) (a := o) (z := F34 3024 o) hW36 (jRk_0 rfl (hW36.fi rfl))
      refine jnmF (e := eF40) ?_
      have h := h F40 eF40
      refine j_aload_n dX9_council_70 rfl ?_
      refine j_aload_n dX9_council_71 rfl ?_
      refine j_getI dX9_council_72 flX9_39_10 hM.1 rfl ?_
      refine j_putI dX9_council_75 flX9_45_10 hM.1 hM.2.1 rfl ?_
      obtain ⟨F42, eF42⟩ : ∃ x : jFl, x = upF F40 3033 o (F40 3027 o) := ⟨_, rfl⟩
      have hW43 : jWf N F42 A35 := eF42 ▸ jWf_F (f := 3033) (a := o) (z := F40 3027 o) hW41 (jRk_0 rfl (hW41.fi rfl))
      refine jnmF (e := eF42) ?_
      have h := h F42 eF42
      refine j_aload_n dX9_council_78 rfl ?_
      refine j_getI dX9_council_79 flX9_36_10 hM.1 rfl ?_
      obtain ⟨h1, h2⟩ := h
      refine j_if_le 91 dX9_council_82 rfl (hW43.fi rfl) (fun q44 => ?_) (fun q44 => ?_)
      · have h := h1 q44
        clear h1 h2
        refine j_aload_n dX9_council_91 rfl ?_
        obtain ⟨P45, hp46, h⟩ := h
        refine j_invV (As := []) (rest := []) dX9_council_92 lkX9_457 hM.1 rfl rfl (wX9_keeps (d := 2) (Nat.le_of_ble_eq_true rfl) hM hW43  hp46) rfl rfl (Nat.le_of_ble_eq_true rfl) (Nat.le_trans (Nat.le_of_ble_eq_true rfl) hd) (jkmV fun F48 A49 hW50 p51 => ?_)
        have h := h F48 A49 p51
        refine j_aload_n dX9_council_95 rfl ?_
        refine j_getFR dX9_council_96 flX9_148_10 hM.1 rfl (mf_main hM) ?_
        refine j_iload_n dX9_council_99 rfl ?_
        refine j_aload_n dX9_council_100 rfl ?_
        refine j_getI dX9_council_101 flX9_133_10 hM.1 rfl ?_
        obtain ⟨c53, h⟩ := h
        refine j_iast (n := 264) dX9_council_104 (mt_main hM) (Nat.le_trans hM.2.1 (Nat.le_add_right _ _)) (ml_main hM) c53 ?_
        obtain ⟨A54, eA54⟩ : ∃ x : jAr, x = upA A49 (o + 30) a1 (F48 3120 o) := ⟨_, rfl⟩
        have hW55 : jWf N F48 A54 := eA54 ▸ jWf_A (i := a1) (z := F48 3120 o) hW50 (mt_main hM) (jRk_0 rfl (hW50.fi rfl))
        refine jnmA (e := eA54) ?_
        have h := h A54 eA54
        refine j_aload_n dX9_council_105 rfl ?_
        refine j_getFR dX9_council_106 flX9_151_10 hM.1 rfl (mf_except hM) ?_
        refine j_iload_n dX9_council_109 rfl ?_
        refine j_aload_n dX9_council_110 rfl ?_
        refine j_getI dX9_council_111 flX9_136_10 hM.1 rfl ?_
        obtain ⟨c56, h⟩ := h
        refine j_iast (n := 264) dX9_council_114 (mt_except hM) (Nat.le_trans hM.2.1 (Nat.le_add_right _ _)) (ml_except hM) c56 ?_
        obtain ⟨A57, eA57⟩ : ∃ x : jAr, x = upA A54 (o + 31) a1 (F48 3123 o) := ⟨_, rfl⟩
        have hW58 : jWf N F48 A57 := eA57 ▸ jWf_A (i := a1) (z := F48 3123 o) hW55 (mt_except hM) (jRk_0 rfl (hW55.fi rfl))
        refine jnmA (e := eA57) ?_
        have h := h A57 eA57
        refine j_iconst dX9_council_115 ?_
        refine j_istore_n dX9_council_116 rfl ?_
        obtain ⟨I62, m63, h0, hs⟩ := h
        have lp : ∀ (n : Nat) (v59 : Int) (A60 : jAr), m63 v59 A60 < n → jWf N F48 A60 → jR v59 → I62 v59 A60 → J G l d mX9_council 117 [.ref o, vI a1, vI v59] [] N F48 A60 (jmI N Q) := by
          intro nI62
          induction nI62 with
          | zero =>
            intro v59 A60 hmu
            exact absurd hmu (Nat.not_lt_zero _)
          | succ nI62 ihI62 =>
            intro v59 A60 hmuI62 hW61 rv59 hI
            have h := hs v59 A60 hI
            refine j_iload_n dX9_council_117 rfl ?_
            refine j_aload_n dX9_council_118 rfl ?_
            refine j_getI dX9_council_119 flX9_133_10 hM.1 rfl ?_
            refine j_aload_n dX9_council_122 rfl ?_
            refine j_getI dX9_council_123 flX9_136_10 hM.1 rfl ?_
            refine j_iadd dX9_council_126 ?_
            obtain ⟨r64, h⟩ := h
            obtain ⟨h1, h2⟩ := h
            refine j_icmp_ge 153 dX9_council_127 rfl rv59 r64 (fun q65 => ?_) (fun q65 => ?_)
            · have h := h1 q65
              clear h1 h2
              refine j_aload_n dX9_council_153 rfl ?_
              refine j_getI dX9_council_154 flX9_133_10 hM.1 rfl ?_
              refine j_aload_n dX9_council_157 rfl ?_
              refine j_getI dX9_council_158 flX9_136_10 hM.1 rfl ?_
              refine j_iadd dX9_council_161 ?_
              obtain ⟨r66, h⟩ := h
              exact j_iret dX9_council_162 rfl ⟨_, rfl, rfl, hW61, h, r66⟩
            · have h := h2 q65
              clear h1 h2
              refine j_aload_n dX9_council_130 rfl ?_
              refine j_getFR dX9_council_131 flX9_157_10 hM.1 rfl (mf_rows hM) ?_
              refine j_bipush dX9_council_134 ?_
              refine j_iload_n dX9_council_136 rfl ?_
              refine j_imul dX9_council_137 ?_
              refine j_iload_n dX9_council_138 rfl ?_
              refine j_iadd dX9_council_139 ?_
              refine j_aload_n dX9_council_140 rfl ?_
              refine j_getFR dX9_council_141 flX9_130_10 hM.1 rfl (mf_readRow hM) ?_
              refine j_iload_n dX9_council_144 rfl ?_
              obtain ⟨c67, h⟩ := h
              refine j_iald (n := 12) dX9_council_145 (mt_readRow hM) (ml_readRow hM) c67 ?_
              obtain ⟨c68, h⟩ := h
              refine j_iast (n := 3168) dX9_council_146 (mt_rows hM) (Nat.le_trans hM.2.1 (Nat.le_add_right _ _)) (ml_rows hM) c68 ?_
              obtain ⟨A69, eA69⟩ : ∃ x : jAr, x = upA A60 (o + 33) ((12 * a1) + v59) (A60 (o + 26) v59) := ⟨_, rfl⟩
              have hW70 : jWf N F48 A69 := eA69 ▸ jWf_A (i := (12 * a1) + v59) (z := A60 (o + 26) v59) hW61 (mt_rows hM) (jRk_0 rfl (hW61.ai (mt_readRow hM) rfl))
              refine jnmA (e := eA69) ?_
              have h := h A69 eA69
              obtain ⟨r71, h⟩ := h
              refine j_iinc dX9_council_147 rfl rfl ?_
              refine j_goto 117 dX9_council_150 rfl ?_
              exact J.wk ((((jWk.nil).eq).eq).eq) (ihI62 _ _ (Nat.lt_of_lt_of_le h.2 (Nat.le_of_lt_succ hmuI62)) hW70 r71 h.1)
        exact J.wk ((((jWk.nil).eq).eq).eq) (lp _ _ _ (Nat.lt_succ_self _) hW58 (by decide) h0)
      · have h := h2 q44
        clear h1 h2
        refine j_aload_n dX9_council_85 rfl ?_
        refine j_iconst dX9_council_86 ?_
        obtain ⟨P72, hp73, h⟩ := h
        refine j_invV (As := [vI 2]) (rest := []) dX9_council_87 lkX9_254 hM.1 rfl rfl (wX9_refuses (d := 1) (Nat.le_of_ble_eq_true rfl) hM hW43 (by decide) hp73) rfl rfl (Nat.le_of_ble_eq_true rfl) (Nat.le_trans (Nat.le_of_ble_eq_true rfl) hd) (jkmI fun z74 F75 A76 hW77 p78 r79 => ?_)
        have h := h z74 F75 A76 p78
        exact j_iret dX9_council_90 rfl ⟨_, rfl, rfl, hW77, h, r79⟩
    obtain ⟨h1, h2⟩ := h
    refine j_if_ne 62 dX9_council_43 rfl (hW30.fi rfl) (fun q33 => ?_) (fun q33 => ?_)
    · have h := h1 q33
      clear h1 h2
      exact J.wk ((((jWk.nil).no).eq).eq) (jn38 _ _ hW30  h)
    · have h := h2 q33
      clear h1 h2
      refine j_aload_n dX9_council_46 rfl ?_
      refine j_getI dX9_council_47 flX9_20_10 hM.1 rfl ?_
      obtain ⟨h1, h2⟩ := h
      refine j_if_eq 62 dX9_council_50 rfl (hW30.fi rfl) (fun q80 => ?_) (fun q80 => ?_)
      · have h := h1 q80
        clear h1 h2
        exact J.wk ((((jWk.nil).no).eq).eq) (jn38 _ _ hW30  h)
      · have h := h2 q80
        clear h1 h2
        refine j_aload_n dX9_council_53 rfl ?_
        refine j_iconst dX9_council_54 ?_
        refine j_aload_n dX9_council_55 rfl ?_
        refine j_getI dX9_council_56 flX9_23_10 hM.1 rfl ?_
        obtain ⟨P81, hp82, h⟩ := h
        refine j_invV (As := [vI 1, vI (F28 3012 o)]) (rest := []) dX9_council_59 lkX9_262 hM.1 rfl rfl (wX9_blame (d := 1) (Nat.le_of_ble_eq_true rfl) hM hW30 (by decide) (hW30.fi rfl) hp82) rfl rfl (Nat.le_of_ble_eq_true rfl) (Nat.le_trans (Nat.le_of_ble_eq_true rfl) hd) (jkmV fun F84 A85 hW86 p87 => ?_)
        have h := h F84 A85 p87
        exact J.wk ((((jWk.nil).no).eq).eq) (jn38 _ _ hW86  h)
  · have h := h2 q6
    clear h1 h2
    refine j_aload_n dX9_council_8 rfl ?_
    refine j_iconst dX9_council_9 ?_
    refine j_putI dX9_council_10 flX9_13_10 hM.1 hM.2.1 rfl ?_
    obtain ⟨F89, eF89⟩ : ∃ x : jFl, x = upF F 3003 o 0 := ⟨_, rfl⟩
    have hW90 : jWf N F89 A := eF89 ▸ jWf_F (f := 3003) (a := o) (z := 0) hW (jRk_0 rfl (by decide))
    refine jnmF (e := eF89) ?_
    have h := h F89 eF89
    refine j_aload_n dX9_council_13 rfl ?_
    refine j_iconst dX9_council_14 ?_
    obtain ⟨P91, hp92, h⟩ := h
    refine j_invV (As := [vI 2]) (rest := []) dX9_council_15 lkX9_254 hM.1 rfl rfl (wX9_refuses (d := 1) (Nat.le_of_ble_eq_true rfl) hM hW90 (by decide) hp92) rfl rfl (Nat.le_of_ble_eq_true rfl) (Nat.le_trans (Nat.le_of_ble_eq_true rfl) hd) (jkmI fun z93 F94 A95 hW96 p97 r98 => ?_)
    have h := h z93 F94 A95 p97
    exact j_iret dX9_council_18 rfl ⟨_, rfl, rfl, hW96, h, r98⟩
/-- exchanged()I -/
def wpX9_exchanged (o : Nat) (F : jFl) (A : jAr) (Q : Int → jFl → jAr → Prop) : Prop :=
  ∀ F1 : jFl, F1 = upF F 3231 o 0 →
  ∃ P3 : Int → jFl → jAr → Prop, wpX9_goodness o F1 A P3 ∧ ∀ z5 F6 A7, P3 z5 F6 A7 →
  ∃ (I16 : Int → Int → jFl → jAr → Prop) (m17 : Int → Int → jFl → jAr → Nat), I16 z5 1 F6 A7 ∧ ∀ (v11 : Int) (v12 : Int) (F13 : jFl) (A14 : jAr), I16 v11 v12 F13 A14 →
    ((v12 = 0) →
      Q v11 F13 A14) ∧
    (¬ (v12 = 0) →
      ∃ (I26 : Int → Int → Int → Int → jFl → jAr → Prop) (m27 : Int → Int → Int → Int → jFl → jAr → Nat), I26 (-1) (-1) v11 0 F13 A14 ∧ ∀ (v19 : Int) (v20 : Int) (v21 : Int) (v22 : Int) (F23 : jFl) (A24 : jAr), I26 v19 v20 v21 v22 F23 A24 →
        (((F23 3222 o) ≤ v22) →
          ∀ z30 : Int, z30 = (if v19 = (-1) then 0 else 1) →
          ∃ K36 : jFl → jAr → Prop, (
            ∀ (F33 : jFl) (A34 : jAr), K36 F33 A34 →
            ∀ z40 : Int, z40 = (if z30 = 0 then 0 else 1) →
            jR ((F33 3231 o) + z40) ∧
            ∀ F43 : jFl, F43 = upF F33 3231 o ((F33 3231 o) + z40) →
            I16 v21 z30 F43 A34 ∧ m17 v21 z30 F43 A34 < m17 v11 v12 F13 A14) ∧
          ((z30 = 0) →
            K36 F23 A24) ∧
          (¬ (z30 = 0) →
            ∃ P45 : jFl → jAr → Prop, wpX9_changes o v19 v20 F23 A24 P45 ∧ ∀ F48 A49, P45 F48 A49 →
            K36 F48 A49)) ∧
        (¬ ((F23 3222 o) ≤ v22) →
          jR (v22 + 1) ∧
          ∀ v54 : Int, v54 = v22 + 1 →
          ∃ (I62 : Int → Int → Int → Int → jFl → jAr → Prop) (m63 : Int → Int → Int → Int → jFl → jAr → Nat), I62 v19 v20 v21 v54 F23 A24 ∧ ∀ (v55 : Int) (v56 : Int) (v57 : Int) (v58 : Int) (F59 : jFl) (A60 : jAr), I62 v55 v56 v57 v58 F59 A60 →
            (((F59 3222 o) ≤ v58) →
              jR (v22 + 1) ∧
              I26 v55 v56 v57 (v22 + 1) F59 A60 ∧ m27 v55 v56 v57 (v22 + 1) F59 A60 < m27 v19 v20 v21 v22 F23 A24) ∧
            (¬ ((F59 3222 o) ≤ v58) →
              ∃ P66 : jFl → jAr → Prop, wpX9_changes o v22 v58 F59 A60 P66 ∧ ∀ F69 A70, P66 F69 A70 →
              ∃ P74 : Int → jFl → jAr → Prop, wpX9_goodness o F69 A70 P74 ∧ ∀ z76 F77 A78, P74 z76 F77 A78 →
              ∃ P82 : jFl → jAr → Prop, wpX9_changes o v22 v58 F77 A78 P82 ∧ ∀ F85 A86, P82 F85 A86 →
              ((v57 < z76) →
                jR (v58 + 1) ∧
                I62 v22 v58 z76 (v58 + 1) F85 A86 ∧ m63 v22 v58 z76 (v58 + 1) F85 A86 < m63 v55 v56 v57 v58 F59 A60) ∧
              (¬ (v57 < z76) →
                jR (v58 + 1) ∧
                I62 v55 v56 v57 (v58 + 1) F85 A86 ∧ m63 v55 v56 v57 (v58 + 1) F85 A86 < m63 v55 v56 v57 v58 F59 A60))))
theorem wX9_exchanged {G : jG} {l : Launch} {d : Nat} {N : jSh} {o : Nat} {F : jFl} {A : jAr} {Q : Int → jFl → jAr → Prop} (hd : 7 ≤ d) (hM : mShape G N o) (hW : jWf N F A) (h : wpX9_exchanged o F A Q) : jCall G l d mX9_exchanged [.ref o] N F A (jmI N Q) := by
  refine jCall.of (ls := [.ref o, jD, jD, jD, jD, jD, jD, jD, jD]) (by decide) rfl (Nat.le_of_ble_eq_true rfl) rfl ?_
  unfold wpX9_exchanged at h
  refine j_aload_n dX9_exchanged_0 rfl ?_
  refine j_iconst dX9_exchanged_1 ?_
  refine j_putI dX9_exchanged_2 flX9_245_10 hM.1 hM.2.1 rfl ?_
  obtain ⟨F1, eF1⟩ : ∃ x : jFl, x = upF F 3231 o 0 := ⟨_, rfl⟩
  have hW2 : jWf N F1 A := eF1 ▸ jWf_F (f := 3231) (a := o) (z := 0) hW (jRk_0 rfl (by decide))
  refine jnmF (e := eF1) ?_
  have h := h F1 eF1
  refine j_aload_n dX9_exchanged_5 rfl ?_
  obtain ⟨P3, hp4, h⟩ := h
  refine j_invV (As := []) (rest := []) dX9_exchanged_6 lkX9_522 hM.1 rfl rfl (wX9_goodness (d := 6) (Nat.le_of_ble_eq_true rfl) hM hW2  hp4) rfl rfl (Nat.le_of_ble_eq_true rfl) (Nat.le_trans (Nat.le_of_ble_eq_true rfl) hd) (jkmI fun z5 F6 A7 hW8 p9 r10 => ?_)
  have h := h z5 F6 A7 p9
  refine j_istore_n dX9_exchanged_9 rfl ?_
  refine j_iconst dX9_exchanged_10 ?_
  refine j_istore_n dX9_exchanged_11 rfl ?_
  obtain ⟨I16, m17, h0, hs⟩ := h
  have lp : ∀ (n : Nat) (v11 : Int) (v12 : Int) (F13 : jFl) (A14 : jAr), m17 v11 v12 F13 A14 < n → jWf N F13 A14 → jR v11 → jR v12 → I16 v11 v12 F13 A14 → J G l d mX9_exchanged 12 [.ref o, vI v11, vI v12, jD, jD, jD, jD, jD, jD] [] N F13 A14 (jmI N Q) := by
    intro nI16
    induction nI16 with
    | zero =>
      intro v11 v12 F13 A14 hmu
      exact absurd hmu (Nat.not_lt_zero _)
    | succ nI16 ihI16 =>
      intro v11 v12 F13 A14 hmuI16 hW15 rv11 rv12 hI
      have h := hs v11 v12 F13 A14 hI
      refine j_iload_n dX9_exchanged_12 rfl ?_
      obtain ⟨h1, h2⟩ := h
      refine j_if_eq 152 dX9_exchanged_13 rfl rv12 (fun q18 => ?_) (fun q18 => ?_)
      · have h := h1 q18
        clear h1 h2
        refine j_iload_n dX9_exchanged_152 rfl ?_
        exact j_iret dX9_exchanged_153 rfl ⟨_, rfl, rfl, hW15, h, rv11⟩
      · have h := h2 q18
        clear h1 h2
        refine j_iconst dX9_exchanged_16 ?_
        refine j_istore_n dX9_exchanged_17 rfl ?_
        refine j_iconst dX9_exchanged_18 ?_
        refine j_istore dX9_exchanged_19 rfl ?_
        refine j_iload_n dX9_exchanged_21 rfl ?_
        refine j_istore dX9_exchanged_22 rfl ?_
        refine j_iconst dX9_exchanged_24 ?_
        refine j_istore dX9_exchanged_25 rfl ?_
        obtain ⟨I26, m27, h0, hs⟩ := h
        have lp : ∀ (n : Nat) (v19 : Int) (v20 : Int) (v21 : Int) (v22 : Int) (F23 : jFl) (A24 : jAr), m27 v19 v20 v21 v22 F23 A24 < n → jWf N F23 A24 → jR v19 → jR v20 → jR v21 → jR v22 → I26 v19 v20 v21 v22 F23 A24 → J G l d mX9_exchanged 27 [.ref o, jD, jD, vI v19, vI v20, vI v21, vI v22, jD, jD] [] N F23 A24 (jmI N Q) := by
          intro nI26
          induction nI26 with
          | zero =>
            intro v19 v20 v21 v22 F23 A24 hmu
            exact absurd hmu (Nat.not_lt_zero _)
          | succ nI26 ihI26 =>
            intro v19 v20 v21 v22 F23 A24 hmuI26 hW25 rv19 rv20 rv21 rv22 hI
            have h := hs v19 v20 v21 v22 F23 A24 hI
            refine j_iload dX9_exchanged_27 rfl ?_
            refine j_aload_n dX9_exchanged_29 rfl ?_
            refine j_getI dX9_exchanged_30 flX9_236_10 hM.1 rfl ?_
            obtain ⟨h1, h2⟩ := h
            refine j_icmp_ge 106 dX9_exchanged_33 rfl rv22 (hW25.fi rfl) (fun q28 => ?_) (fun q28 => ?_)
            · have h := h1 q28
              clear h1 h2
              refine j_iload_n dX9_exchanged_106 rfl ?_
              refine j_iconst dX9_exchanged_107 ?_
              have jn31 : ∀ z30 : Int, z30 = (if v19 = (-1) then 0 else 1) → J G l d mX9_exchanged 116 [.ref o, jD, jD, vI v19, vI v20, vI v21, vI v22, jD, jD] [vI z30] N F23 A24 (jmI N Q) := by
                intro z30 ez30
                have h := h z30 ez30
                refine j_istore_n dX9_exchanged_116 rfl ?_
                refine j_iload_n dX9_exchanged_117 rfl ?_
                obtain ⟨K36, hK38, h⟩ := h
                have jn37 : ∀ (F33 : jFl) (A34 : jAr), jWf N F33 A34 → K36 F33 A34 → J G l d mX9_exchanged 128 [.ref o, jD, vI z30, jD, jD, vI v21, jD, jD, jD] [] N F33 A34 (jmI N Q) := by
                  intro F33 A34 hW35  h
                  have h := hK38 F33 A34 h
                  refine j_aload_n dX9_exchanged_128 rfl ?_
                  refine j_dup dX9_exchanged_129 rfl ?_
                  refine j_getI dX9_exchanged_130 flX9_245_10 hM.1 rfl ?_
                  refine j_iload_n dX9_exchanged_133 rfl ?_
                  have jn41 : ∀ z40 : Int, z40 = (if z30 = 0 then 0 else 1) → J G l d mX9_exchanged 142 [.ref o, jD, vI z30, jD, jD, vI v21, jD, jD, jD] [vI z40, vI (F33 3231 o), .ref o] N F33 A34 (jmI N Q) := by
                    intro z40 ez40
                    have h := h z40 ez40
                    refine j_iadd dX9_exchanged_142 ?_
                    obtain ⟨r42, h⟩ := h
                    refine j_putI dX9_exchanged_143 flX9_245_10 hM.1 hM.2.1 rfl ?_
                    obtain ⟨F43, eF43⟩ : ∃ x : jFl, x = upF F33 3231 o ((F33 3231 o) + z40) := ⟨_, rfl⟩
                    have hW44 : jWf N F43 A34 := eF43 ▸ jWf_F (f := 3231) (a := o) (z := (F33 3231 o) + z40) hW35 (jRk_0 rfl r42)
                    refine jnmF (e := eF43) ?_
                    have h := h F43 eF43
                    refine j_iload dX9_exchanged_146 rfl ?_
                    refine j_istore_n dX9_exchanged_148 rfl ?_
                    refine j_goto 12 dX9_exchanged_149 rfl ?_
                    exact J.wk ((((((((((jWk.nil).no).no).no).no).no).no).eq).eq).eq) (ihI16 _ _ _ _ (Nat.lt_of_lt_of_le h.2 (Nat.le_of_lt_succ hmuI16)) hW44 rv21 (ez30 ▸ (jR_ite (by decide) (by decide))) h.1)
                  clear h
                  refine j_if_eq 141 dX9_exchanged_134 rfl (ez30 ▸ (jR_ite (by decide) (by decide))) (fun q39 => ?_) (fun q39 => ?_)
                  · refine j_iconst dX9_exchanged_141 ?_
                    exact jn41 _ ((if_pos q39).symm)
                  · refine j_iconst dX9_exchanged_137 ?_
                    refine j_goto 142 dX9_exchanged_138 rfl ?_
                    exact jn41 _ ((if_neg q39).symm)
                obtain ⟨h1, h2⟩ := h
                refine j_if_eq 128 dX9_exchanged_118 rfl (ez30 ▸ (jR_ite (by decide) (by decide))) (fun q32 => ?_) (fun q32 => ?_)
                · have h := h1 q32
                  clear h1 h2
                  exact J.wk ((((((((((jWk.nil).no).no).no).eq).no).no).eq).no).eq) (jn37 _ _ hW25  h)
                · have h := h2 q32
                  clear h1 h2
                  refine j_aload_n dX9_exchanged_121 rfl ?_
                  refine j_iload_n dX9_exchanged_122 rfl ?_
                  refine j_iload dX9_exchanged_123 rfl ?_
                  obtain ⟨P45, hp46, h⟩ := h
                  refine j_invV (As := [vI v19, vI v20]) (rest := []) dX9_exchanged_125 lkX9_506 hM.1 rfl rfl (wX9_changes (d := 1) (Nat.le_of_ble_eq_true rfl) hM hW25 rv19 rv20 hp46) rfl rfl (Nat.le_of_ble_eq_true rfl) (Nat.le_trans (Nat.le_of_ble_eq_true rfl) hd) (jkmV fun F48 A49 hW50 p51 => ?_)
                  have h := h F48 A49 p51
                  exact J.wk ((((((((((jWk.nil).no).no).no).eq).no).no).eq).no).eq) (jn37 _ _ hW50  h)
              clear h
              refine j_icmp_eq 115 dX9_exchanged_108 rfl rv19 (by decide) (fun q29 => ?_) (fun q29 => ?_)
              · refine j_iconst dX9_exchanged_115 ?_
                exact jn31 _ ((if_pos q29).symm)
              · refine j_iconst dX9_exchanged_111 ?_
                refine j_goto 116 dX9_exchanged_112 rfl ?_
                exact jn31 _ ((if_neg q29).symm)
            · have h := h2 q28
              clear h1 h2
              refine j_iload dX9_exchanged_36 rfl ?_
              refine j_iconst dX9_exchanged_38 ?_
              refine j_iadd dX9_exchanged_39 ?_
              obtain ⟨r53, h⟩ := h
              obtain ⟨v54, ev54⟩ : ∃ x : Int, x = v22 + 1 := ⟨_, rfl⟩
              have h := h v54 ev54
              refine jnmI (e := ev54) ?_
              refine j_istore dX9_exchanged_40 rfl ?_
              obtain ⟨I62, m63, h0, hs⟩ := h
              have lp : ∀ (n : Nat) (v55 : Int) (v56 : Int) (v57 : Int) (v58 : Int) (F59 : jFl) (A60 : jAr), m63 v55 v56 v57 v58 F59 A60 < n → jWf N F59 A60 → jR v55 → jR v56 → jR v57 → jR v58 → I62 v55 v56 v57 v58 F59 A60 → J G l d mX9_exchanged 42 [.ref o, jD, jD, vI v55, vI v56, vI v57, vI v22, vI v58, jD] [] N F59 A60 (jmI N Q) := by
                intro nI62
                induction nI62 with
                | zero =>
                  intro v55 v56 v57 v58 F59 A60 hmu
                  exact absurd hmu (Nat.not_lt_zero _)
                | succ nI62 ihI62 =>
                  intro v55 v56 v57 v58 F59 A60 hmuI62 hW61 rv55 rv56 rv57 rv58 hI
                  have h := hs v55 v56 v57 v58 F59 A60 hI
                  refine j_iload dX9_exchanged_42 rfl ?_
                  refine j_aload_n dX9_exchanged_44 rfl ?_
                  refine j_getI dX9_exchanged_45 flX9_236_10 hM.1 rfl ?_
                  obtain ⟨h1, h2⟩ := h
                  refine j_icmp_ge 100 dX9_exchanged_48 rfl rv58 (hW61.fi rfl) (fun q64 => ?_) (fun q64 => ?_)
                  · have h := h1 q64
                    clear h1 h2
                    obtain ⟨r65, h⟩ := h
                    refine j_iinc dX9_exchanged_100 rfl rfl ?_
                    refine j_goto 27 dX9_exchanged_103 rfl ?_
                    exact J.wk ((((((((((jWk.nil).no).no).eq).eq).eq).eq).no).no).eq) (ihI26 _ _ _ _ _ _ (Nat.lt_of_lt_of_le h.2 (Nat.le_of_lt_succ hmuI26)) hW61 rv55 rv56 rv57 r65 h.1)
                  · have h := h2 q64
                    clear h1 h2
                    refine j_aload_n dX9_exchanged_51 rfl ?_
                    refine j_iload dX9_exchanged_52 rfl ?_
                    refine j_iload dX9_exchanged_54 rfl ?_
                    obtain ⟨P66, hp67, h⟩ := h
                    refine j_invV (As := [vI v22, vI v58]) (rest := []) dX9_exchanged_56 lkX9_506 hM.1 rfl rfl (wX9_changes (d := 1) (Nat.le_of_ble_eq_true rfl) hM hW61 rv22 rv58 hp67) rfl rfl (Nat.le_of_ble_eq_true rfl) (Nat.le_trans (Nat.le_of_ble_eq_true rfl) hd) (jkmV fun F69 A70 hW71 p72 => ?_)
                    have h := h F69 A70 p72
                    refine j_aload_n dX9_exchanged_59 rfl ?_
                    obtain ⟨P74, hp75, h⟩ := h
                    refine j_invV (As := []) (rest := []) dX9_exchanged_60 lkX9_522 hM.1 rfl rfl (wX9_goodness (d := 6) (Nat.le_of_ble_eq_true rfl) hM hW71  hp75) rfl rfl (Nat.le_of_ble_eq_true rfl) (Nat.le_trans (Nat.le_of_ble_eq_true rfl) hd) (jkmI fun z76 F77 A78 hW79 p80 r81 => ?_)
                    have h := h z76 F77 A78 p80
                    refine j_istore dX9_exchanged_63 rfl ?_
                    refine j_aload_n dX9_exchanged_65 rfl ?_
                    refine j_iload dX9_exchanged_66 rfl ?_
                    refine j_iload dX9_exchanged_68 rfl ?_
                    obtain ⟨P82, hp83, h⟩ := h
                    refine j_invV (As := [vI v22, vI v58]) (rest := []) dX9_exchanged_70 lkX9_506 hM.1 rfl rfl (wX9_changes (d := 1) (Nat.le_of_ble_eq_true rfl) hM hW79 rv22 rv58 hp83) rfl rfl (Nat.le_of_ble_eq_true rfl) (Nat.le_trans (Nat.le_of_ble_eq_true rfl) hd) (jkmV fun F85 A86 hW87 p88 => ?_)
                    have h := h F85 A86 p88
                    refine j_iload dX9_exchanged_73 rfl ?_
                    refine j_iload dX9_exchanged_75 rfl ?_
                    obtain ⟨h1, h2⟩ := h
                    refine j_icmp_gt 83 dX9_exchanged_77 rfl r81 rv57 (fun q90 => ?_) (fun q90 => ?_)
                    · have h := h1 q90
                      clear h1 h2
                      refine j_iload dX9_exchanged_83 rfl ?_
                      refine j_istore dX9_exchanged_85 rfl ?_
                      refine j_iload dX9_exchanged_87 rfl ?_
                      refine j_istore_n dX9_exchanged_89 rfl ?_
                      refine j_iload dX9_exchanged_90 rfl ?_
                      refine j_istore dX9_exchanged_92 rfl ?_
                      obtain ⟨r91, h⟩ := h
                      refine j_iinc dX9_exchanged_94 rfl rfl ?_
                      refine j_goto 42 dX9_exchanged_97 rfl ?_
                      exact J.wk ((((((((((jWk.nil).no).eq).eq).eq).eq).eq).no).no).eq) (ihI62 _ _ _ _ _ _ (Nat.lt_of_lt_of_le h.2 (Nat.le_of_lt_succ hmuI62)) hW87 rv22 rv58 r81 r91 h.1)
                    · have h := h2 q90
                      clear h1 h2
                      refine j_goto 94 dX9_exchanged_80 rfl ?_
                      obtain ⟨r92, h⟩ := h
                      refine j_iinc dX9_exchanged_94 rfl rfl ?_
                      refine j_goto 42 dX9_exchanged_97 rfl ?_
                      exact J.wk ((((((((((jWk.nil).no).eq).eq).eq).eq).eq).no).no).eq) (ihI62 _ _ _ _ _ _ (Nat.lt_of_lt_of_le h.2 (Nat.le_of_lt_succ hmuI62)) hW87 rv55 rv56 rv57 r92 h.1)
              exact J.wk ((((((((((jWk.nil).no).eq).eq).eq).eq).eq).no).no).eq) (lp _ _ _ _ _ _ _ (Nat.lt_succ_self _) hW25 rv19 rv20 rv21 (ev54 ▸ r53) h0)
        exact J.wk ((((((((((jWk.nil).no).no).eq).eq).eq).eq).no).no).eq) (lp _ _ _ _ _ _ _ (Nat.lt_succ_self _) hW15 (by decide) (by decide) rv11 (by decide) h0)
  exact J.wk ((((((((((jWk.nil).no).no).no).no).no).no).eq).eq).eq) (lp _ _ _ _ _ (Nat.lt_succ_self _) hW8 r10 (by decide) h0)
