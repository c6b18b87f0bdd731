set_option maxRecDepth 100000
set_option linter.unusedVariables false
/-! walks of ChildSaysModel: printed by gen/walk.py -/
/-- wording()V -/
def wpX9_wording (o : Nat) (F : jFl) (A : jAr) (Q : jFl → jAr → Prop) : Prop :=
  (0 ≤ F 3114 o ∧ F 3114 o < 2) ∧
  ∀ z3 : Int, z3 = (if ¬ (A (o + 2) (F 3114 o)) = 24 then 0 else 1) →
  ∃ P5 : Int → jFl → jAr → Prop, wpX9_counts o z3 F A P5 ∧ ∀ z7 F8 A9, P5 z7 F8 A9 →
  ((¬ z7 = 0) →
    (0 ≤ F8 3114 o ∧ F8 3114 o < 2) ∧
    jR ((24 * (F8 3114 o)) + (A9 (o + 2) (F8 3114 o))) ∧
    ∀ v16 : Int, v16 = (24 * (F8 3114 o)) + (A9 (o + 2) (F8 3114 o)) →
    ∃ P17 : Int → jFl → jAr → Prop, wpX9_fresh o F8 A9 P17 ∧ ∀ z19 F20 A21, P17 z19 F20 A21 →
    (0 ≤ v16 ∧ v16 < 48) ∧
    ∀ A26 : jAr, A26 = upA A21 (o + 3) v16 z19 →
    ∃ P28 : jFl → jAr → Prop, wpX9_must o 422607680627 F20 A26 P28 ∧ ∀ F31 A32, P28 F31 A32 →
    ∃ P36 : Int → jFl → jAr → Prop, wpX9_number o 1 9 F31 A32 P36 ∧ ∀ z38 F39 A40, P36 z38 F39 A40 →
    (0 ≤ v16 ∧ v16 < 48) ∧
    ∀ A45 : jAr, A45 = upA A40 (o + 4) v16 z38 →
    ∃ P47 : jFl → jAr → Prop, wpX9_must o 126922548733043 F39 A45 P47 ∧ ∀ F50 A51, P47 F50 A51 →
    ∃ P55 : Int → jFl → jAr → Prop, wpX9_number o 0 9 F50 A51 P55 ∧ ∀ z57 F58 A59, P55 z57 F58 A59 →
    (0 ≤ v16 ∧ v16 < 48) ∧
    ∀ A64 : jAr, A64 = upA A59 (o + 5) v16 z57 →
    ∃ P66 : Int → jFl → jAr → Prop, wpX9_number o 0 9 F58 A64 P66 ∧ ∀ z68 F69 A70, P66 z68 F69 A70 →
    (0 ≤ v16 ∧ v16 < 48) ∧
    ∀ A75 : jAr, A75 = upA A70 (o + 6) v16 z68 →
    ∃ P77 : jFl → jAr → Prop, wpX9_must o 512970880104 F69 A75 P77 ∧ ∀ F80 A81, P77 F80 A81 →
    ∃ P85 : Int → jFl → jAr → Prop, wpX9_number o 0 99 F80 A81 P85 ∧ ∀ z87 F88 A89, P85 z87 F88 A89 →
    (0 ≤ v16 ∧ v16 < 48) ∧
    ∀ A94 : jAr, A94 = upA A89 (o + 7) v16 z87 →
    (0 ≤ v16 ∧ v16 < 48) ∧
    ∀ A97 : jAr, A97 = upA A94 (o + 8) v16 0 →
    ∃ K103 : jFl → jAr → Prop, (
      ∀ (F100 : jFl) (A101 : jAr), K103 F100 A101 →
      ((¬ (F100 3024 o) = 0) →
        Q F100 A101) ∧
      (¬ (¬ (F100 3024 o) = 0) →
        (0 ≤ F100 3114 o ∧ F100 3114 o < 2) ∧
        (0 ≤ F100 3114 o ∧ F100 3114 o < 2) ∧
        jR ((A101 (o + 2) (F100 3114 o)) + 1) ∧
        ∀ A110 : jAr, A110 = upA A101 (o + 2) (F100 3114 o) ((A101 (o + 2) (F100 3114 o)) + 1) →
        Q F100 A110)) ∧
    ((¬ (F88 3024 o) = 0) →
      K103 F88 A97) ∧
    (¬ (¬ (F88 3024 o) = 0) →
      ((¬ (F88 3036 o) = (-1)) →
        K103 F88 A97) ∧
      (¬ (¬ (F88 3036 o) = (-1)) →
        ∃ P113 : Int → Prop, wpX9_isWord o 474148660594 F88 A97 P113 ∧ ∀ z115, P113 z115 →
        ((z115 = 0) →
          K103 F88 A97) ∧
        (¬ (z115 = 0) →
          (0 ≤ v16 ∧ v16 < 48) ∧
          ∀ A120 : jAr, A120 = upA A97 (o + 8) v16 1 →
          ∃ P122 : jFl → jAr → Prop, wpX9_ahead o F88 A120 P122 ∧ ∀ F125 A126, P122 F125 A126 →
          K103 F125 A126)))) ∧
  (¬ (¬ z7 = 0) →
    Q F8 A9)
theorem wX9_wording {G : jG} {l : Launch} {d : Nat} {N : jSh} {o : Nat} {F : jFl} {A : jAr} {Q : jFl → jAr → Prop} (hd : 4 ≤ d) (hM : mShape G N o) (hW : jWf N F A) (h : wpX9_wording o F A Q) : jCall G l d mX9_wording [.ref o] N F A (jmV N Q) := by
  refine jCall.of (ls := [.ref o, jD]) (by decide) rfl (Nat.le_of_ble_eq_true rfl) rfl ?_
  unfold wpX9_wording at h
  refine j_aload_n dX9_wording_0 rfl ?_
  refine j_aload_n dX9_wording_1 rfl ?_
  refine j_getFR dX9_wording_2 flX9_54_10 hM.1 rfl (mf_words hM) ?_
  refine j_aload_n dX9_wording_5 rfl ?_
  refine j_getI dX9_wording_6 flX9_127_10 hM.1 rfl ?_
  obtain ⟨c1, h⟩ := h
  refine j_iald (n := 2) dX9_wording_9 (mt_words hM) (ml_words hM) c1 ?_
  refine j_bipush dX9_wording_10 ?_
  have jn4 : ∀ z3 : Int, z3 = (if ¬ (A (o + 2) (F 3114 o)) = 24 then 0 else 1) → J G l d mX9_wording 20 [.ref o, jD] [vI z3, .ref o] N F A (jmV N Q) := by
    intro z3 ez3
    have h := h z3 ez3
    obtain ⟨P5, hp6, h⟩ := h
    refine j_invV (As := [vI z3]) (rest := []) dX9_wording_20 lkX9_342 hM.1 rfl rfl (wX9_counts (d := 3) (Nat.le_of_ble_eq_true rfl) hM hW (ez3 ▸ (jB_ite (by decide) (by decide))) hp6) rfl rfl (Nat.le_of_ble_eq_true rfl) (Nat.le_trans (Nat.le_of_ble_eq_true rfl) hd) (jkmB fun z7 F8 A9 hW10 p11 r12 => ?_)
    have h := h z7 F8 A9 p11
    obtain ⟨h1, h2⟩ := h
    refine j_if_ne 27 dX9_wording_23 rfl (jR_b r12) (fun q13 => ?_) (fun q13 => ?_)
    · have h := h1 q13
      clear h1 h2
      refine j_bipush dX9_wording_27 ?_
      refine j_aload_n dX9_wording_29 rfl ?_
      refine j_getI dX9_wording_30 flX9_127_10 hM.1 rfl ?_
      refine j_imul dX9_wording_33 ?_
      refine j_aload_n dX9_wording_34 rfl ?_
      refine j_getFR dX9_wording_35 flX9_54_10 hM.1 rfl (mf_words hM) ?_
      refine j_aload_n dX9_wording_38 rfl ?_
      refine j_getI dX9_wording_39 flX9_127_10 hM.1 rfl ?_
      obtain ⟨c14, h⟩ := h
      refine j_iald (n := 2) dX9_wording_42 (mt_words hM) (ml_words hM) c14 ?_
      refine j_iadd dX9_wording_43 ?_
      obtain ⟨r15, h⟩ := h
      obtain ⟨v16, ev16⟩ : ∃ x : Int, x = (24 * (F8 3114 o)) + (A9 (o + 2) (F8 3114 o)) := ⟨_, rfl⟩
      have h := h v16 ev16
      refine jnmI (e := ev16) ?_
      refine j_istore_n dX9_wording_44 rfl ?_
      refine j_aload_n dX9_wording_45 rfl ?_
      refine j_getFR dX9_wording_46 flX9_57_10 hM.1 rfl (mf_wordName hM) ?_
      refine j_iload_n dX9_wording_49 rfl ?_
      refine j_aload_n dX9_wording_50 rfl ?_
      obtain ⟨P17, hp18, h⟩ := h
      refine j_invV (As := []) (rest := [vI v16, .ref (o + 3)]) dX9_wording_51 lkX9_346 hM.1 rfl rfl (wX9_fresh (d := 3) (Nat.le_of_ble_eq_true rfl) hM hW10  hp18) rfl rfl (Nat.le_of_ble_eq_true rfl) (Nat.le_trans (Nat.le_of_ble_eq_true rfl) hd) (jkmL fun z19 F20 A21 hW22 p23 r24 => ?_)
      have h := h z19 F20 A21 p23
      obtain ⟨c25, h⟩ := h
      refine j_last (n := 48) dX9_wording_54 (mt_wordName hM) (Nat.le_trans hM.2.1 (Nat.le_add_right _ _)) (ml_wordName hM) c25 ?_
      obtain ⟨A26, eA26⟩ : ∃ x : jAr, x = upA A21 (o + 3) v16 z19 := ⟨_, rfl⟩
      have hW27 : jWf N F20 A26 := eA26 ▸ jWf_A (i := v16) (z := z19) hW22 (mt_wordName hM) (jRk_1 rfl r24)
      refine jnmA (e := eA26) ?_
      have h := h A26 eA26
      refine j_aload_n dX9_wording_55 rfl ?_
      refine j_ldc2 (n := 422607680627) dX9_wording_56 q2238 ?_
      obtain ⟨P28, hp29, h⟩ := h
      refine j_invV (As := [vL 422607680627]) (rest := []) dX9_wording_59 lkX9_350 hM.1 rfl rfl (wX9_must (d := 3) (Nat.le_of_ble_eq_true rfl) hM hW27 (by decide) hp29) rfl rfl (Nat.le_of_ble_eq_true rfl) (Nat.le_trans (Nat.le_of_ble_eq_true rfl) hd) (jkmV fun F31 A32 hW33 p34 => ?_)
      have h := h F31 A32 p34
      refine j_aload_n dX9_wording_62 rfl ?_
      refine j_getFR dX9_wording_63 flX9_61_10 hM.1 rfl (mf_beats hM) ?_
      refine j_iload_n dX9_wording_66 rfl ?_
      refine j_aload_n dX9_wording_67 rfl ?_
      refine j_iconst dX9_wording_68 ?_
      refine j_bipush dX9_wording_69 ?_
      obtain ⟨P36, hp37, h⟩ := h
      refine j_invV (As := [vI 1, vI 9]) (rest := [vI v16, .ref (o + 4)]) dX9_wording_71 lkX9_354 hM.1 rfl rfl (wX9_number (d := 3) (Nat.le_of_ble_eq_true rfl) hM hW33 (by decide) (by decide) hp37) rfl rfl (Nat.le_of_ble_eq_true rfl) (Nat.le_trans (Nat.le_of_ble_eq_true rfl) hd) (jkmI fun z38 F39 A40 hW41 p42 r43 => ?_)
      have h := h z38 F39 A40 p42
      obtain ⟨c44, h⟩ := h
      refine j_iast (n := 48) dX9_wording_74 (mt_beats hM) (Nat.le_trans hM.2.1 (Nat.le_add_right _ _)) (ml_beats hM) c44 ?_
      obtain ⟨A45, eA45⟩ : ∃ x : jAr, x = upA A40 (o + 4) v16 z38 := ⟨_, rfl⟩
      have hW46 : jWf N F39 A45 := eA45 ▸ jWf_A (i := v16) (z := z38) hW41 (mt_beats hM) (jRk_0 rfl r43)
      refine jnmA (e := eA45) ?_
      have h := h A45 eA45
      refine j_aload_n dX9_wording_75 rfl ?_
      refine j_ldc2 (n := 126922548733043) dX9_wording_76 q2239 ?_
      obtain ⟨P47, hp48, h⟩ := h
      refine j_invV (As := [vL 126922548733043]) (rest := []) dX9_wording_79 lkX9_350 hM.1 rfl rfl (wX9_must (d := 3) (Nat.le_of_ble_eq_true rfl) hM hW46 (by decide) hp48) rfl rfl (Nat.le_of_ble_eq_true rfl) (Nat.le_trans (Nat.le_of_ble_eq_true rfl) hd) (jkmV fun F50 A51 hW52 p53 => ?_)
      have h := h F50 A51 p53
      refine j_aload_n dX9_wording_82 rfl ?_
      refine j_getFR dX9_wording_83 flX9_64_10 hM.1 rfl (mf_begins hM) ?_
      refine j_iload_n dX9_wording_86 rfl ?_
      refine j_aload_n dX9_wording_87 rfl ?_
      refine j_iconst dX9_wording_88 ?_
      refine j_bipush dX9_wording_89 ?_
      obtain ⟨P55, hp56, h⟩ := h
      refine j_invV (As := [vI 0, vI 9]) (rest := [vI v16, .ref (o + 5)]) dX9_wording_91 lkX9_354 hM.1 rfl rfl (wX9_number (d := 3) (Nat.le_of_ble_eq_true rfl) hM hW52 (by decide) (by decide) hp56) rfl rfl (Nat.le_of_ble_eq_true rfl) (Nat.le_trans (Nat.le_of_ble_eq_true rfl) hd) (jkmI fun z57 F58 A59 hW60 p61 r62 => ?_)
      have h := h z57 F58 A59 p61
      obtain ⟨c63, h⟩ := h
      refine j_iast (n := 48) dX9_wording_94 (mt_begins hM) (Nat.le_trans hM.2.1 (Nat.le_add_right _ _)) (ml_begins hM) c63 ?_
      obtain ⟨A64, eA64⟩ : ∃ x : jAr, x = upA A59 (o + 5) v16 z57 := ⟨_, rfl⟩
      have hW65 : jWf N F58 A64 := eA64 ▸ jWf_A (i := v16) (z := z57) hW60 (mt_begins hM) (jRk_0 rfl r62)
      refine jnmA (e := eA64) ?_
      have h := h A64 eA64
      refine j_aload_n dX9_wording_95 rfl ?_
      refine j_getFR dX9_wording_96 flX9_67_10 hM.1 rfl (mf_endsOn hM) ?_
      refine j_iload_n dX9_wording_99 rfl ?_
      refine j_aload_n dX9_wording_100 rfl ?_
      refine j_iconst dX9_wording_101 ?_
      refine j_bipush dX9_wording_102 ?_
      obtain ⟨P66, hp67, h⟩ := h
      refine j_invV (As := [vI 0, vI 9]) (rest := [vI v16, .ref (o + 6)]) dX9_wording_104 lkX9_354 hM.1 rfl rfl (wX9_number (d := 3) (Nat.le_of_ble_eq_true rfl) hM hW65 (by decide) (by decide) hp67) rfl rfl (Nat.le_of_ble_eq_true rfl) (Nat.le_trans (Nat.le_of_ble_eq_true rfl) hd) (jkmI fun z68 F69 A70 hW71 p72 r73 => ?_)
      have h := h z68 F69 A70 p72
      obtain ⟨c74, h⟩ := h
      refine j_iast (n := 48) dX9_wording_107 (mt_endsOn hM) (Nat.le_trans hM.2.1 (Nat.le_add_right _ _)) (ml_endsOn hM) c74 ?_
      obtain ⟨A75, eA75⟩ : ∃ x : jAr, x = upA A70 (o + 6) v16 z68 := ⟨_, rfl⟩
      have hW76 : jWf N F69 A75 := eA75 ▸ jWf_A (i := v16) (z := z68) hW71 (mt_endsOn hM) (jRk_0 rfl r73)
      refine jnmA (e := eA75) ?_
      have h := h A75 eA75
      refine j_aload_n dX9_wording_108 rfl ?_
      refine j_ldc2 (n := 512970880104) dX9_wording_109 q2240 ?_
      obtain ⟨P77, hp78, h⟩ := h
      refine j_invV (As := [vL 512970880104]) (rest := []) dX9_wording_112 lkX9_350 hM.1 rfl rfl (wX9_must (d := 3) (Nat.le_of_ble_eq_true rfl) hM hW76 (by decide) hp78) rfl rfl (Nat.le_of_ble_eq_true rfl) (Nat.le_trans (Nat.le_of_ble_eq_true rfl) hd) (jkmV fun F80 A81 hW82 p83 => ?_)
      have h := h F80 A81 p83
      refine j_aload_n dX9_wording_115 rfl ?_
      refine j_getFR dX9_wording_116 flX9_70_10 hM.1 rfl (mf_worth hM) ?_
      refine j_iload_n dX9_wording_119 rfl ?_
      refine j_aload_n dX9_wording_120 rfl ?_
      refine j_iconst dX9_wording_121 ?_
      refine j_bipush dX9_wording_122 ?_
      obtain ⟨P85, hp86, h⟩ := h
      refine j_invV (As := [vI 0, vI 99]) (rest := [vI v16, .ref (o + 7)]) dX9_wording_124 lkX9_354 hM.1 rfl rfl (wX9_number (d := 3) (Nat.le_of_ble_eq_true rfl) hM hW82 (by decide) (by decide) hp86) rfl rfl (Nat.le_of_ble_eq_true rfl) (Nat.le_trans (Nat.le_of_ble_eq_true rfl) hd) (jkmI fun z87 F88 A89 hW90 p91 r92 => ?_)
      have h := h z87 F88 A89 p91
      obtain ⟨c93, h⟩ := h
      refine j_iast (n := 48) dX9_wording_127 (mt_worth hM) (Nat.le_trans hM.2.1 (Nat.le_add_right _ _)) (ml_worth hM) c93 ?_
      obtain ⟨A94, eA94⟩ : ∃ x : jAr, x = upA A89 (o + 7) v16 z87 := ⟨_, rfl⟩
      have hW95 : jWf N F88 A94 := eA94 ▸ jWf_A (i := v16) (z := z87) hW90 (mt_worth hM) (jRk_0 rfl r92)
      refine jnmA (e := eA94) ?_
      have h := h A94 eA94
      refine j_aload_n dX9_wording_128 rfl ?_
      refine j_getFR dX9_wording_129 flX9_73_10 hM.1 rfl (mf_never hM) ?_
      refine j_iload_n dX9_wording_132 rfl ?_
      refine j_iconst dX9_wording_133 ?_
      obtain ⟨c96, h⟩ := h
      refine j_iast (n := 48) dX9_wording_134 (mt_never hM) (Nat.le_trans hM.2.1 (Nat.le_add_right _ _)) (ml_never hM) c96 ?_
      obtain ⟨A97, eA97⟩ : ∃ x : jAr, x = upA A94 (o + 8) v16 0 := ⟨_, rfl⟩
      have hW98 : jWf N F88 A97 := eA97 ▸ jWf_A (i := v16) (z := 0) hW95 (mt_never hM) (jRk_0 rfl (by decide))
      refine jnmA (e := eA97) ?_
      have h := h A97 eA97
      refine j_aload_n dX9_wording_135 rfl ?_
      refine j_getI dX9_wording_136 flX9_36_10 hM.1 rfl ?_
      obtain ⟨K103, hK105, h⟩ := h
      have jn104 : ∀ (F100 : jFl) (A101 : jAr), jWf N F100 A101 → K103 F100 A101 → J G l d mX9_wording 171 [.ref o, jD] [] N F100 A101 (jmV N Q) := by
        intro F100 A101 hW102  h
        have h := hK105 F100 A101 h
        refine j_aload_n dX9_wording_171 rfl ?_
        refine j_getI dX9_wording_172 flX9_36_10 hM.1 rfl ?_
        obtain ⟨h1, h2⟩ := h
        refine j_if_ne 191 dX9_wording_175 rfl (hW102.fi rfl) (fun q106 => ?_) (fun q106 => ?_)
        · have h := h1 q106
          clear h1 h2
          exact j_vret dX9_wording_191 rfl ⟨rfl, rfl, hW102, h⟩
        · have h := h2 q106
          clear h1 h2
          refine j_aload_n dX9_wording_178 rfl ?_
          refine j_getFR dX9_wording_179 flX9_54_10 hM.1 rfl (mf_words hM) ?_
          refine j_aload_n dX9_wording_182 rfl ?_
          refine j_getI dX9_wording_183 flX9_127_10 hM.1 rfl ?_
          refine j_dup2 dX9_wording_186 rfl rfl ?_
          obtain ⟨c107, h⟩ := h
          refine j_iald (n := 2) dX9_wording_187 (mt_words hM) (ml_words hM) c107 ?_
          refine j_iconst dX9_wording_188 ?_
          refine j_iadd dX9_wording_189 ?_
          obtain ⟨c108, h⟩ := h
          obtain ⟨r109, h⟩ := h
          refine j_iast (n := 2) dX9_wording_190 (mt_words hM) (Nat.le_trans hM.2.1 (Nat.le_add_right _ _)) (ml_words hM) c108 ?_
          obtain ⟨A110, eA110⟩ : ∃ x : jAr, x = upA A101 (o + 2) (F100 3114 o) ((A101 (o + 2) (F100 3114 o)) + 1) := ⟨_, rfl⟩
          have hW111 : jWf N F100 A110 := eA110 ▸ jWf_A (i := F100 3114 o) (z := (A101 (o + 2) (F100 3114 o)) + 1) hW102 (mt_words hM) (jRk_0 rfl r109)
          refine jnmA (e := eA110) ?_
          have h := h A110 eA110
          exact j_vret dX9_wording_191 rfl ⟨rfl, rfl, hW111, h⟩
      obtain ⟨h1, h2⟩ := h
      refine j_if_ne 171 dX9_wording_139 rfl (hW98.fi rfl) (fun q99 => ?_) (fun q99 => ?_)
      · have h := h1 q99
        clear h1 h2
        exact J.wk (((jWk.nil).no).eq) (jn104 _ _ hW98  h)
      · have h := h2 q99
        clear h1 h2
        refine j_aload_n dX9_wording_142 rfl ?_
        refine j_getI dX9_wording_143 flX9_48_10 hM.1 rfl ?_
        refine j_iconst dX9_wording_146 ?_
        obtain ⟨h1, h2⟩ := h
        refine j_icmp_ne 171 dX9_wording_147 rfl (hW98.fi rfl) (by decide) (fun q112 => ?_) (fun q112 => ?_)
        · have h := h1 q112
          clear h1 h2
          exact J.wk (((jWk.nil).no).eq) (jn104 _ _ hW98  h)
        · have h := h2 q112
          clear h1 h2
          refine j_aload_n dX9_wording_150 rfl ?_
          refine j_ldc2 (n := 474148660594) dX9_wording_151 q2241 ?_
          obtain ⟨P113, hp114, h⟩ := h
          refine j_invV (As := [vL 474148660594]) (rest := []) dX9_wording_154 lkX9_328 hM.1 rfl rfl (wX9_isWord (d := 1) (Nat.le_of_ble_eq_true rfl) hM hW98 (by decide) hp114) rfl rfl (Nat.le_of_ble_eq_true rfl) (Nat.le_trans (Nat.le_of_ble_eq_true rfl) hd) (jkpB fun z115 p116 r117 => ?_)
          have h := h z115 p116
          obtain ⟨h1, h2⟩ := h
          refine j_if_eq 171 dX9_wording_157 rfl (jR_b r117) (fun q118 => ?_) (fun q118 => ?_)
          · have h := h1 q118
            clear h1 h2
            exact J.wk (((jWk.nil).no).eq) (jn104 _ _ hW98  h)
          · have h := h2 q118
            clear h1 h2
            refine j_aload_n dX9_wording_160 rfl ?_
            refine j_getFR dX9_wording_161 flX9_73_10 hM.1 rfl (mf_never hM) ?_
            refine j_iload_n dX9_wording_164 rfl ?_
            refine j_iconst dX9_wording_165 ?_
            obtain ⟨c119, h⟩ := h
            refine j_iast (n := 48) dX9_wording_166 (mt_never hM) (Nat.le_trans hM.2.1 (Nat.le_add_right _ _)) (ml_never hM) c119 ?_
            obtain ⟨A120, eA120⟩ : ∃ x : jAr, x = upA A97 (o + 8) v16 1 := ⟨_, rfl⟩
            have hW121 : jWf N F88 A120 := eA120 ▸ jWf_A (i := v16) (z := 1) hW98 (mt_never hM) (jRk_0 rfl (by decide))
            refine jnmA (e := eA120) ?_
            have h := h A120 eA120
            refine j_aload_n dX9_wording_167 rfl ?_
            obtain ⟨P122, hp123, h⟩ := h
            refine j_invV (As := []) (rest := []) dX9_wording_168 lkX9_279 hM.1 rfl rfl (wX9_ahead (d := 2) (Nat.le_of_ble_eq_true rfl) hM hW121  hp123) rfl rfl (Nat.le_of_ble_eq_true rfl) (Nat.le_trans (Nat.le_of_ble_eq_true rfl) hd) (jkmV fun F125 A126 hW127 p128 => ?_)
            have h := h F125 A126 p128
            exact J.wk (((jWk.nil).no).eq) (jn104 _ _ hW127  h)
    · have h := h2 q13
      clear h1 h2
      exact j_vret dX9_wording_26 rfl ⟨rfl, rfl, hW10, h⟩
  clear h
  refine j_icmp_ne 19 dX9_wording_12 rfl (hW.ai (mt_words hM) rfl) (by decide) (fun q2 => ?_) (fun q2 => ?_)
  · refine j_iconst dX9_wording_19 ?_
    exact jn4 _ ((if_pos q2).symm)
  · refine j_iconst dX9_wording_15 ?_
    refine j_goto 20 dX9_wording_16 rfl ?_
    exact jn4 _ ((if_neg q2).symm)
/-- tell(II)I -/
def wpX9_tell (o : Nat) (a1 : Int) (a2 : Int) (F : jFl) (A : jAr) (Q : Int → jFl → jAr → Prop) : Prop :=
  ∃ P1 : Int → Prop, wpX9_isChild o a2 F A P1 ∧ ∀ z3, P1 z3 →
  ((z3 = 0) →
    ∃ P7 : Int → jFl → jAr → Prop, wpX9_refuses o 2 F A P7 ∧ ∀ z9 F10 A11, P7 z9 F10 A11 →
    Q z9 F10 A11) ∧
  (¬ (z3 = 0) →
    ∃ P15 : Int → Prop, wpX9_isStanding o a1 F A P15 ∧ ∀ z17, P15 z17 →
    ((¬ z17 = 0) →
      ∃ P21 : jFl → jAr → Prop, wpX9_keeps o F A P21 ∧ ∀ F24 A25, P21 F24 A25 →
      ∃ P29 : jFl → jAr → Prop, wpX9_loads o 0 a1 F24 A25 P29 ∧ ∀ F32 A33, P29 F32 A33 →
      ∃ P37 : jFl → jAr → Prop, wpX9_utters o a2 F32 A33 P37 ∧ ∀ F40 A41, P37 F40 A41 →
      ∀ v45 : Int, v45 = F40 3183 o →
      ∃ P46 : jFl → jAr → Prop, wpX9_becomesSaid o 0 a1 a2 v45 F40 A41 P46 ∧ ∀ F49 A50, P46 F49 A50 →
      Q v45 F49 A50) ∧
    (¬ (¬ z17 = 0) →
      ∃ P54 : Int → jFl → jAr → Prop, wpX9_refuses o 2 F A P54 ∧ ∀ z56 F57 A58, P54 z56 F57 A58 →
      Q z56 F57 A58))
theorem wX9_tell {G : jG} {l : Launch} {d : Nat} {N : jSh} {o : Nat} {F : jFl} {A : jAr} {a1 a2 : Int} {Q : Int → jFl → jAr → Prop} (hd : 4 ≤ d) (hM : mShape G N o) (hW : jWf N F A) (ra1 : jR a1) (ra2 : jR a2) (h : wpX9_tell o a1 a2 F A Q) : jCall G l d mX9_tell [.ref o, vI a1, vI a2] N F A (jmI N Q) := by
  refine jCall.of (ls := [.ref o, vI a1, vI a2, jD]) (by decide) rfl (Nat.le_of_ble_eq_true rfl) rfl ?_
  unfold wpX9_tell at h
  refine j_aload_n dX9_tell_0 rfl ?_
  refine j_iload_n dX9_tell_1 rfl ?_
  obtain ⟨P1, hp2, h⟩ := h
  refine j_invV (As := [vI a2]) (rest := []) dX9_tell_2 lkX9_420 hM.1 rfl rfl (wX9_isChild (d := 1) (Nat.le_of_ble_eq_true rfl) hM hW ra2 hp2) rfl rfl (Nat.le_of_ble_eq_true rfl) (Nat.le_trans (Nat.le_of_ble_eq_true rfl) hd) (jkpB fun z3 p4 r5 => ?_)
  have h := h z3 p4
  obtain ⟨h1, h2⟩ := h
  refine j_if_eq 16 dX9_tell_5 rfl (jR_b r5) (fun q6 => ?_) (fun q6 => ?_)
  · have h := h1 q6
    clear h1 h2
    refine j_aload_n dX9_tell_16 rfl ?_
    refine j_iconst dX9_tell_17 ?_
    obtain ⟨P7, hp8, h⟩ := h
    refine j_invV (As := [vI 2]) (rest := []) dX9_tell_18 lkX9_254 hM.1 rfl rfl (wX9_refuses (d := 1) (Nat.le_of_ble_eq_true rfl) hM hW (by decide) hp8) rfl rfl (Nat.le_of_ble_eq_true rfl) (Nat.le_trans (Nat.le_of_ble_eq_true rfl) hd) (jkmI fun z9 F10 A11 hW12 p13 r14 => ?_)
    have h := h z9 F10 A11 p13
    exact j_iret dX9_tell_21 rfl ⟨_, rfl, rfl, hW12, h, r14⟩
  · have h := h2 q6
    clear h1 h2
    refine j_aload_n dX9_tell_8 rfl ?_
    refine j_iload_n dX9_tell_9 rfl ?_
    obtain ⟨P15, hp16, h⟩ := h
    refine j_invV (As := [vI a1]) (rest := []) dX9_tell_10 lkX9_429 hM.1 rfl rfl (wX9_isStanding (d := 2) (Nat.le_of_ble_eq_true rfl) hM hW ra1 hp16) rfl rfl (Nat.le_of_ble_eq_true rfl) (Nat.le_trans (Nat.le_of_ble_eq_true rfl) hd) (jkpB fun z17 p18 r19 => ?_)
    have h := h z17 p18
    obtain ⟨h1, h2⟩ := h
    refine j_if_ne 22 dX9_tell_13 rfl (jR_b r19) (fun q20 => ?_) (fun q20 => ?_)
    · have h := h1 q20
      clear h1 h2
      refine j_aload_n dX9_tell_22 rfl ?_
      obtain ⟨P21, hp22, h⟩ := h
      refine j_invV (As := []) (rest := []) dX9_tell_23 lkX9_457 hM.1 rfl rfl (wX9_keeps (d := 2) (Nat.le_of_ble_eq_true rfl) hM hW  hp22) rfl rfl (Nat.le_of_ble_eq_true rfl) (Nat.le_trans (Nat.le_of_ble_eq_true rfl) hd) (jkmV fun F24 A25 hW26 p27 => ?_)
      have h := h F24 A25 p27
      refine j_aload_n dX9_tell_26 rfl ?_
      refine j_iconst dX9_tell_27 ?_
      refine j_iload_n dX9_tell_28 rfl ?_
      obtain ⟨P29, hp30, h⟩ := h
      refine j_invV (As := [vI 0, vI a1]) (rest := []) dX9_tell_29 lkX9_432 hM.1 rfl rfl (wX9_loads (d := 1) (Nat.le_of_ble_eq_true rfl) hM hW26 (by decide) ra1 hp30) rfl rfl (Nat.le_of_ble_eq_true rfl) (Nat.le_trans (Nat.le_of_ble_eq_true rfl) hd) (jkmV fun F32 A33 hW34 p35 => ?_)
      have h := h F32 A33 p35
      refine j_aload_n dX9_tell_32 rfl ?_
      refine j_iload_n dX9_tell_33 rfl ?_
      obtain ⟨P37, hp38, h⟩ := h
      refine j_invV (As := [vI a2]) (rest := []) dX9_tell_34 lkX9_435 hM.1 rfl rfl (wX9_utters (d := 3) (Nat.le_of_ble_eq_true rfl) hM hW34 ra2 hp38) rfl rfl (Nat.le_of_ble_eq_true rfl) (Nat.le_trans (Nat.le_of_ble_eq_true rfl) hd) (jkmV fun F40 A41 hW42 p43 => ?_)
      have h := h F40 A41 p43
      refine j_aload_n dX9_tell_37 rfl ?_
      refine j_getI dX9_tell_38 flX9_197_10 hM.1 rfl ?_
      obtain ⟨v45, ev45⟩ : ∃ x : Int, x = F40 3183 o := ⟨_, rfl⟩
      have h := h v45 ev45
      refine jnmI (e := ev45) ?_
      refine j_istore_n dX9_tell_41 rfl ?_
      refine j_aload_n dX9_tell_42 rfl ?_
      refine j_iconst dX9_tell_43 ?_
      refine j_iload_n dX9_tell_44 rfl ?_
      refine j_iload_n dX9_tell_45 rfl ?_
      refine j_iload_n dX9_tell_46 rfl ?_
      obtain ⟨P46, hp47, h⟩ := h
      refine j_invV (As := [vI 0, vI a1, vI a2, vI v45]) (rest := []) dX9_tell_47 lkX9_454 hM.1 rfl rfl (wX9_becomesSaid (d := 2) (Nat.le_of_ble_eq_true rfl) hM hW42 (by decide) ra1 ra2 (ev45 ▸ (hW42.fi rfl)) hp47) rfl rfl (Nat.le_of_ble_eq_true rfl) (Nat.le_trans (Nat.le_of_ble_eq_true rfl) hd) (jkmV fun F49 A50 hW51 p52 => ?_)
      have h := h F49 A50 p52
      refine j_iload_n dX9_tell_50 rfl ?_
      exact j_iret dX9_tell_51 rfl ⟨_, rfl, rfl, hW51, h, (ev45 ▸ (hW42.fi rfl))⟩
    · have h := h2 q20
      clear h1 h2
      refine j_aload_n dX9_tell_16 rfl ?_
      refine j_iconst dX9_tell_17 ?_
      obtain ⟨P54, hp55, h⟩ := h
      refine j_invV (As := [vI 2]) (rest := []) dX9_tell_18 lkX9_254 hM.1 rfl rfl (wX9_refuses (d := 1) (Nat.le_of_ble_eq_true rfl) hM hW (by decide) hp55) rfl rfl (Nat.le_of_ble_eq_true rfl) (Nat.le_trans (Nat.le_of_ble_eq_true rfl) hd) (jkmI fun z56 F57 A58 hW59 p60 r61 => ?_)
      have h := h z56 F57 A58 p60
      exact j_iret dX9_tell_21 rfl ⟨_, rfl, rfl, hW59, h, r61⟩
/-- against(I)I -/
def wpX9_against (o : Nat) (a1 : Int) (F : jFl) (A : jAr) (Q : Int → Prop) : Prop :=
  ∃ P1 : Int → Prop, wpX9_pairAt o a1 0 F A P1 ∧ ∀ z3, P1 z3 →
  Q z3
theorem wX9_against {G : jG} {l : Launch} {d : Nat} {N : jSh} {o : Nat} {F : jFl} {A : jAr} {a1 : Int} {Q : Int → Prop} (hd : 5 ≤ d) (hM : mShape G N o) (hW : jWf N F A) (ra1 : jR a1) (h : wpX9_against o a1 F A Q) : jCall G l d mX9_against [.ref o, vI a1] N F A (jpI N F A Q) := by
  refine jCall.of (ls := [.ref o, vI a1]) (by decide) rfl (Nat.le_of_ble_eq_true rfl) rfl ?_
  unfold wpX9_against at h
  refine j_aload_n dX9_against_0 rfl ?_
  refine j_iload_n dX9_against_1 rfl ?_
  refine j_iconst dX9_against_2 ?_
  obtain ⟨P1, hp2, h⟩ := h
  refine j_invV (As := [vI a1, vI 0]) (rest := []) dX9_against_3 lkX9_544 hM.1 rfl rfl (wX9_pairAt (d := 4) (Nat.le_of_ble_eq_true rfl) hM hW ra1 (by decide) hp2) rfl rfl (Nat.le_of_ble_eq_true rfl) (Nat.le_trans (Nat.le_of_ble_eq_true rfl) hd) (jkpI fun z3 p4 r5 => ?_)
  have h := h z3 p4
  exact j_iret dX9_against_6 rfl ⟨_, rfl, rfl, rfl, rfl, h, r5⟩
/-- renews(II)V -/
def wpX9_renews (o : Nat) (a1 : Int) (a2 : Int) (F : jFl) (A : jAr) (Q : jFl → jAr → Prop) : Prop :=
  ∃ P1 : jFl → jAr → Prop, wpX9_seatsOf o a1 F A P1 ∧ ∀ F4 A5, P1 F4 A5 →
  ∃ P9 : jFl → jAr → Prop, wpX9_sittingOf o a1 a2 F4 A5 P9 ∧ ∀ F12 A13, P9 F12 A13 →
  ∃ (I21 : Int → jFl → jAr → Prop) (m22 : Int → jFl → jAr → Nat), I21 0 F12 A13 ∧ ∀ (v17 : Int) (F18 : jFl) (A19 : jAr), I21 v17 F18 A19 →
    (((F18 3192 o) ≤ v17) →
      Q F18 A19) ∧
    (¬ ((F18 3192 o) ≤ v17) →
      (0 ≤ v17 ∧ v17 < 12) ∧
      ∀ v25 : Int, v25 = A19 (o + 38) v17 →
      (0 ≤ v25 ∧ v25 < 12) ∧
      ∀ F27 : jFl, F27 = upF F18 3177 o (A19 (o + 40) v25) →
      (0 ≤ v25 ∧ v25 < 12) ∧
      ∀ F30 : jFl, F30 = upF F27 3180 o (A19 (o + 41) v25) →
      ∃ (I35 : Int → jAr → Prop) (m36 : Int → jAr → Nat), I35 0 A19 ∧ ∀ (v32 : Int) (A33 : jAr), I35 v32 A33 →
        ((12 ≤ v32) →
          (0 ≤ v25 ∧ v25 < 12) ∧
          ∃ P39 : jFl → jAr → Prop, wpX9_becomesSaid o a1 v25 a2 (A33 (o + 39) v25) F30 A33 P39 ∧ ∀ F42 A43, P39 F42 A43 →
          jR (v17 + 1) ∧
          I21 (v17 + 1) F42 A43 ∧ m22 (v17 + 1) F42 A43 < m22 v17 F18 A19) ∧
        (¬ (12 ≤ v32) →
          (0 ≤ (12 * v25) + v32 ∧ (12 * v25) + v32 < 144) ∧
          (0 ≤ v32 ∧ v32 < 12) ∧
          ∀ A50 : jAr, A50 = upA A33 (o + 37) v32 (A33 (o + 42) ((12 * v25) + v32)) →
          jR (v32 + 1) ∧
          I35 (v32 + 1) A50 ∧ m36 (v32 + 1) A50 < m36 v32 A33))
theorem wX9_renews {G : jG} {l : Launch} {d : Nat} {N : jSh} {o : Nat} {F : jFl} {A : jAr} {a1 a2 : Int} {Q : jFl → jAr → Prop} (hd : 5 ≤ d) (hM : mShape G N o) (hW : jWf N F A) (ra1 : jR a1) (ra2 : jR a2) (h : wpX9_renews o a1 a2 F A Q) : jCall G l d mX9_renews [.ref o, vI a1, vI a2] N F A (jmV N Q) := by
  refine jCall.of (ls := [.ref o, vI a1, vI a2, jD, jD, jD]) (by decide) rfl (Nat.le_of_ble_eq_true rfl) rfl ?_
  unfold wpX9_renews at h
  refine j_aload_n dX9_renews_0 rfl ?_
  refine j_iload_n dX9_renews_1 rfl ?_
  obtain ⟨P1, hp2, h⟩ := h
  refine j_invV (As := [vI a1]) (rest := []) dX9_renews_2 lkX9_441 hM.1 rfl rfl (wX9_seatsOf (d := 2) (Nat.le_of_ble_eq_true rfl) hM hW ra1 hp2) rfl rfl (Nat.le_of_ble_eq_true rfl) (Nat.le_trans (Nat.le_of_ble_eq_true rfl) hd) (jkmV fun F4 A5 hW6 p7 => ?_)
  have h := h F4 A5 p7
  refine j_aload_n dX9_renews_5 rfl ?_
  refine j_iload_n dX9_renews_6 rfl ?_
  refine j_iload_n dX9_renews_7 rfl ?_
  obtain ⟨P9, hp10, h⟩ := h
  refine j_invV (As := [vI a1, vI a2]) (rest := []) dX9_renews_8 lkX9_444 hM.1 rfl rfl (wX9_sittingOf (d := 4) (Nat.le_of_ble_eq_true rfl) hM hW6 ra1 ra2 hp10) rfl rfl (Nat.le_of_ble_eq_true rfl) (Nat.le_trans (Nat.le_of_ble_eq_true rfl) hd) (jkmV fun F12 A13 hW14 p15 => ?_)
  have h := h F12 A13 p15
  refine j_iconst dX9_renews_11 ?_
  refine j_istore_n dX9_renews_12 rfl ?_
  obtain ⟨I21, m22, h0, hs⟩ := h
  have lp : ∀ (n : Nat) (v17 : Int) (F18 : jFl) (A19 : jAr), m22 v17 F18 A19 < n → jWf N F18 A19 → jR v17 → I21 v17 F18 A19 → J G l d mX9_renews 13 [.ref o, vI a1, vI a2, vI v17, jD, jD] [] N F18 A19 (jmV N Q) := by
    intro nI21
    induction nI21 with
    | zero =>
      intro v17 F18 A19 hmu
      exact absurd hmu (Nat.not_lt_zero _)
    | succ nI21 ihI21 =>
      intro v17 F18 A19 hmuI21 hW20 rv17 hI
      have h := hs v17 F18 A19 hI
      refine j_iload_n dX9_renews_13 rfl ?_
      refine j_aload_n dX9_renews_14 rfl ?_
      refine j_getI dX9_renews_15 flX9_206_10 hM.1 rfl ?_
      obtain ⟨h1, h2⟩ := h
      refine j_icmp_ge 108 dX9_renews_18 rfl rv17 (hW20.fi rfl) (fun q23 => ?_) (fun q23 => ?_)
      · have h := h1 q23
        clear h1 h2
        exact j_vret dX9_renews_108 rfl ⟨rfl, rfl, hW20, h⟩
      · have h := h2 q23
        clear h1 h2
        refine j_aload_n dX9_renews_21 rfl ?_
        refine j_getFR dX9_renews_22 flX9_203_10 hM.1 rfl (mf_seat hM) ?_
        refine j_iload_n dX9_renews_25 rfl ?_
        obtain ⟨c24, h⟩ := h
        refine j_iald (n := 12) dX9_renews_26 (mt_seat hM) (ml_seat hM) c24 ?_
        obtain ⟨v25, ev25⟩ : ∃ x : Int, x = A19 (o + 38) v17 := ⟨_, rfl⟩
        have h := h v25 ev25
        refine jnmI (e := ev25) ?_
        refine j_istore dX9_renews_27 rfl ?_
        refine j_aload_n dX9_renews_29 rfl ?_
        refine j_aload_n dX9_renews_30 rfl ?_
        refine j_getFR dX9_renews_31 flX9_212_10 hM.1 rfl (mf_sitMain hM) ?_
        refine j_iload dX9_renews_34 rfl ?_
        obtain ⟨c26, h⟩ := h
        refine j_iald (n := 12) dX9_renews_36 (mt_sitMain hM) (ml_sitMain hM) c26 ?_
        refine j_putI dX9_renews_37 flX9_191_10 hM.1 hM.2.1 rfl ?_
        obtain ⟨F27, eF27⟩ : ∃ x : jFl, x = upF F18 3177 o (A19 (o + 40) v25) := ⟨_, rfl⟩
        have hW28 : jWf N F27 A19 := eF27 ▸ jWf_F (f := 3177) (a := o) (z := A19 (o + 40) v25) hW20 (jRk_0 rfl (hW20.ai (mt_sitMain hM) rfl))
        refine jnmF (e := eF27) ?_
        have h := h F27 eF27
        refine j_aload_n dX9_renews_40 rfl ?_
        refine j_aload_n dX9_renews_41 rfl ?_
        refine j_getFR dX9_renews_42 flX9_215_10 hM.1 rfl (mf_sitExcept hM) ?_
        refine j_iload dX9_renews_45 rfl ?_
        obtain ⟨c29, h⟩ := h
        refine j_iald (n := 12) dX9_renews_47 (mt_sitExcept hM) (ml_sitExcept hM) c29 ?_
        refine j_putI dX9_renews_48 flX9_194_10 hM.1 hM.2.1 rfl ?_
        obtain ⟨F30, eF30⟩ : ∃ x : jFl, x = upF F27 3180 o (A19 (o + 41) v25) := ⟨_, rfl⟩
        have hW31 : jWf N F30 A19 := eF30 ▸ jWf_F (f := 3180) (a := o) (z := A19 (o + 41) v25) hW28 (jRk_0 rfl (hW28.ai (mt_sitExcept hM) rfl))
        refine jnmF (e := eF30) ?_
        have h := h F30 eF30
        refine j_iconst dX9_renews_51 ?_
        refine j_istore dX9_renews_52 rfl ?_
        obtain ⟨I35, m36, h0, hs⟩ := h
        have lp : ∀ (n : Nat) (v32 : Int) (A33 : jAr), m36 v32 A33 < n → jWf N F30 A33 → jR v32 → I35 v32 A33 → J G l d mX9_renews 54 [.ref o, vI a1, vI a2, vI v17, vI v25, vI v32] [] N F30 A33 (jmV N Q) := by
          intro nI35
          induction nI35 with
          | zero =>
            intro v32 A33 hmu
            exact absurd hmu (Nat.not_lt_zero _)
          | succ nI35 ihI35 =>
            intro v32 A33 hmuI35 hW34 rv32 hI
            have h := hs v32 A33 hI
            refine j_iload dX9_renews_54 rfl ?_
            refine j_bipush dX9_renews_56 ?_
            obtain ⟨h1, h2⟩ := h
            refine j_icmp_ge 87 dX9_renews_58 rfl rv32 (by decide) (fun q37 => ?_) (fun q37 => ?_)
            · have h := h1 q37
              clear h1 h2
              refine j_aload_n dX9_renews_87 rfl ?_
              refine j_iload_n dX9_renews_88 rfl ?_
              refine j_iload dX9_renews_89 rfl ?_
              refine j_iload_n dX9_renews_91 rfl ?_
              refine j_aload_n dX9_renews_92 rfl ?_
              refine j_getFR dX9_renews_93 flX9_209_10 hM.1 rfl (mf_sitKind hM) ?_
              refine j_iload dX9_renews_96 rfl ?_
              obtain ⟨c38, h⟩ := h
              refine j_iald (n := 12) dX9_renews_98 (mt_sitKind hM) (ml_sitKind hM) c38 ?_
              obtain ⟨P39, hp40, h⟩ := h
              refine j_invV (As := [vI a1, vI v25, vI a2, vI (A33 (o + 39) v25)]) (rest := []) dX9_renews_99 lkX9_454 hM.1 rfl rfl (wX9_becomesSaid (d := 2) (Nat.le_of_ble_eq_true rfl) hM hW34 ra1 (ev25 ▸ (hW20.ai (mt_seat hM) rfl)) ra2 (hW34.ai (mt_sitKind hM) rfl) hp40) rfl rfl (Nat.le_of_ble_eq_true rfl) (Nat.le_trans (Nat.le_of_ble_eq_true rfl) hd) (jkmV fun F42 A43 hW44 p45 => ?_)
              have h := h F42 A43 p45
              obtain ⟨r47, h⟩ := h
              refine j_iinc dX9_renews_102 rfl rfl ?_
              refine j_goto 13 dX9_renews_105 rfl ?_
              exact J.wk (((((((jWk.nil).no).no).eq).eq).eq).eq) (ihI21 _ _ _ (Nat.lt_of_lt_of_le h.2 (Nat.le_of_lt_succ hmuI21)) hW44 r47 h.1)
            · have h := h2 q37
              clear h1 h2
              refine j_aload_n dX9_renews_61 rfl ?_
              refine j_getFR dX9_renews_62 flX9_188_10 hM.1 rfl (mf_said hM) ?_
              refine j_iload dX9_renews_65 rfl ?_
              refine j_aload_n dX9_renews_67 rfl ?_
              refine j_getFR dX9_renews_68 flX9_218_10 hM.1 rfl (mf_sitRow hM) ?_
              refine j_bipush dX9_renews_71 ?_
              refine j_iload dX9_renews_73 rfl ?_
              refine j_imul dX9_renews_75 ?_
              refine j_iload dX9_renews_76 rfl ?_
              refine j_iadd dX9_renews_78 ?_
              obtain ⟨c48, h⟩ := h
              refine j_iald (n := 144) dX9_renews_79 (mt_sitRow hM) (ml_sitRow hM) c48 ?_
              obtain ⟨c49, h⟩ := h
              refine j_iast (n := 12) dX9_renews_80 (mt_said hM) (Nat.le_trans hM.2.1 (Nat.le_add_right _ _)) (ml_said hM) c49 ?_
              obtain ⟨A50, eA50⟩ : ∃ x : jAr, x = upA A33 (o + 37) v32 (A33 (o + 42) ((12 * v25) + v32)) := ⟨_, rfl⟩
              have hW51 : jWf N F30 A50 := eA50 ▸ jWf_A (i := v32) (z := A33 (o + 42) ((12 * v25) + v32)) hW34 (mt_said hM) (jRk_0 rfl (hW34.ai (mt_sitRow hM) rfl))
              refine jnmA (e := eA50) ?_
              have h := h A50 eA50
              obtain ⟨r52, h⟩ := h
              refine j_iinc dX9_renews_81 rfl rfl ?_
              refine j_goto 54 dX9_renews_84 rfl ?_
              exact J.wk (((((((jWk.nil).eq).eq).eq).eq).eq).eq) (ihI35 _ _ (Nat.lt_of_lt_of_le h.2 (Nat.le_of_lt_succ hmuI35)) hW51 r52 h.1)
        exact J.wk (((((((jWk.nil).eq).eq).eq).eq).eq).eq) (lp _ _ _ (Nat.lt_succ_self _) hW31 (by decide) h0)
  exact J.wk (((((((jWk.nil).no).no).eq).eq).eq).eq) (lp _ _ _ _ (Nat.lt_succ_self _) hW14 (by decide) h0)
/-- apart(I)I -/
def wpX9_apart (o : Nat) (a1 : Int) (F : jFl) (A : jAr) (Q : Int → Prop) : Prop :=
  ∃ P1 : Int → Prop, wpX9_pairAt o a1 1 F A P1 ∧ ∀ z3, P1 z3 →
  Q z3
theorem wX9_apart {G : jG} {l : Launch} {d : Nat} {N : jSh} {o : Nat} {F : jFl} {A : jAr} {a1 : Int} {Q : Int → Prop} (hd : 5 ≤ d) (hM : mShape G N o) (hW : jWf N F A) (ra1 : jR a1) (h : wpX9_apart o a1 F A Q) : jCall G l d mX9_apart [.ref o, vI a1] N F A (jpI N F A Q) := by
  refine jCall.of (ls := [.ref o, vI a1]) (by decide) rfl (Nat.le_of_ble_eq_true rfl) rfl ?_
  unfold wpX9_apart at h
  refine j_aload_n dX9_apart_0 rfl ?_
  refine j_iload_n dX9_apart_1 rfl ?_
  refine j_iconst dX9_apart_2 ?_
  obtain ⟨P1, hp2, h⟩ := h
  refine j_invV (As := [vI a1, vI 1]) (rest := []) dX9_apart_3 lkX9_544 hM.1 rfl rfl (wX9_pairAt (d := 4) (Nat.le_of_ble_eq_true rfl) hM hW ra1 (by decide) hp2) rfl rfl (Nat.le_of_ble_eq_true rfl) (Nat.le_trans (Nat.le_of_ble_eq_true rfl) hd) (jkpI fun z3 p4 r5 => ?_)
  have h := h z3 p4
  exact j_iret dX9_apart_6 rfl ⟨_, rfl, rfl, rfl, rfl, h, r5⟩
/-- best(II)I -/
def wpX9_best (o : Nat) (a1 : Int) (a2 : Int) (F : jFl) (A : jAr) (Q : Int → jFl → jAr → Prop) : Prop :=
  ∃ P1 : Int → Prop, wpX9_isStanding o a1 F A P1 ∧ ∀ z3, P1 z3 →
  ((z3 = 0) →
    Q (-1) F A) ∧
  (¬ (z3 = 0) →
    (0 ≤ a1 ∧ a1 < 264) ∧
    ((6 < (A (o + 30) a1)) →
      Q (-1) F A) ∧
    (¬ (6 < (A (o + 30) a1)) →
      ((a2 = (-1)) →
        (0 ≤ a1 ∧ a1 < 264) ∧
        ∃ P11 : jFl → jAr → Prop, wpX9_firstPerm o (A (o + 30) a1) F A P11 ∧ ∀ F14 A15, P11 F14 A15 →
        ∃ (I24 : Int → Int → jFl → jAr → Prop) (m25 : Int → Int → jFl → jAr → Nat), I24 (-1) 1 F14 A15 ∧ ∀ (v19 : Int) (v20 : Int) (F21 : jFl) (A22 : jAr), I24 v19 v20 F21 A22 →
          ((v20 = 0) →
            ((¬ a2 = (-1)) →
              (0 ≤ a2 ∧ a2 < 12) ∧
              Q (A22 (o + 47) a2) F21 A22) ∧
            (¬ (¬ a2 = (-1)) →
              Q v19 F21 A22)) ∧
          (¬ (v20 = 0) →
            ∃ P29 : Int → jFl → jAr → Prop, wpX9_wholeBy o a1 F21 A22 P29 ∧ ∀ z31 F32 A33, P29 z31 F32 A33 →
            ((z31 ≤ v19) →
              ∃ P38 : Int → jFl → jAr → Prop, wpX9_nextPerm o F32 A33 P38 ∧ ∀ z40 F41 A42, P38 z40 F41 A42 →
              I24 v19 z40 F41 A42 ∧ m25 v19 z40 F41 A42 < m25 v19 v20 F21 A22) ∧
            (¬ (z31 ≤ v19) →
              ∃ (I49 : Int → jAr → Prop) (m50 : Int → jAr → Nat), I49 0 A33 ∧ ∀ (v46 : Int) (A47 : jAr), I49 v46 A47 →
                (((F32 3222 o) ≤ v46) →
                  ∃ P52 : Int → jFl → jAr → Prop, wpX9_nextPerm o F32 A47 P52 ∧ ∀ z54 F55 A56, P52 z54 F55 A56 →
                  I24 z31 z54 F55 A56 ∧ m25 z31 z54 F55 A56 < m25 v19 v20 F21 A22) ∧
                (¬ ((F32 3222 o) ≤ v46) →
                  (0 ≤ v46 ∧ v46 < 12) ∧
                  (0 ≤ v46 ∧ v46 < 12) ∧
                  ∀ A62 : jAr, A62 = upA A47 (o + 47) v46 (A47 (o + 46) v46) →
                  jR (v46 + 1) ∧
                  I49 (v46 + 1) A62 ∧ m50 (v46 + 1) A62 < m50 v46 A47)))) ∧
      (¬ (a2 = (-1)) →
        (0 ≤ a1 ∧ a1 < 264) ∧
        jR ((A (o + 30) a1) - 1) ∧
        ∃ P67 : Int → Prop, wpX9_is o a2 0 ((A (o + 30) a1) - 1) F A P67 ∧ ∀ z69, P67 z69 →
        ((¬ z69 = 0) →
          (0 ≤ a1 ∧ a1 < 264) ∧
          ∃ P74 : jFl → jAr → Prop, wpX9_firstPerm o (A (o + 30) a1) F A P74 ∧ ∀ F77 A78, P74 F77 A78 →
          ∃ (I87 : Int → Int → jFl → jAr → Prop) (m88 : Int → Int → jFl → jAr → Nat), I87 (-1) 1 F77 A78 ∧ ∀ (v82 : Int) (v83 : Int) (F84 : jFl) (A85 : jAr), I87 v82 v83 F84 A85 →
            ((v83 = 0) →
              ((¬ a2 = (-1)) →
                (0 ≤ a2 ∧ a2 < 12) ∧
                Q (A85 (o + 47) a2) F84 A85) ∧
              (¬ (¬ a2 = (-1)) →
                Q v82 F84 A85)) ∧
            (¬ (v83 = 0) →
              ∃ P92 : Int → jFl → jAr → Prop, wpX9_wholeBy o a1 F84 A85 P92 ∧ ∀ z94 F95 A96, P92 z94 F95 A96 →
              ((z94 ≤ v82) →
                ∃ P101 : Int → jFl → jAr → Prop, wpX9_nextPerm o F95 A96 P101 ∧ ∀ z103 F104 A105, P101 z103 F104 A105 →
                I87 v82 z103 F104 A105 ∧ m88 v82 z103 F104 A105 < m88 v82 v83 F84 A85) ∧
              (¬ (z94 ≤ v82) →
                ∃ (I112 : Int → jAr → Prop) (m113 : Int → jAr → Nat), I112 0 A96 ∧ ∀ (v109 : Int) (A110 : jAr), I112 v109 A110 →
                  (((F95 3222 o) ≤ v109) →
                    ∃ P115 : Int → jFl → jAr → Prop, wpX9_nextPerm o F95 A110 P115 ∧ ∀ z117 F118 A119, P115 z117 F118 A119 →
                    I87 z94 z117 F118 A119 ∧ m88 z94 z117 F118 A119 < m88 v82 v83 F84 A85) ∧
                  (¬ ((F95 3222 o) ≤ v109) →
                    (0 ≤ v109 ∧ v109 < 12) ∧
                    (0 ≤ v109 ∧ v109 < 12) ∧
                    ∀ A125 : jAr, A125 = upA A110 (o + 47) v109 (A110 (o + 46) v109) →
                    jR (v109 + 1) ∧
                    I112 (v109 + 1) A125 ∧ m113 (v109 + 1) A125 < m113 v109 A110)))) ∧
        (¬ (¬ z69 = 0) →
          Q (-1) F A))))
theorem wX9_best {G : jG} {l : Launch} {d : Nat} {N : jSh} {o : Nat} {F : jFl} {A : jAr} {a1 a2 : Int} {Q : Int → jFl → jAr → Prop} (hd : 5 ≤ d) (hM : mShape G N o) (hW : jWf N F A) (ra1 : jR a1) (ra2 : jR a2) (h : wpX9_best o a1 a2 F A Q) : jCall G l d mX9_best [.ref o, vI a1, vI a2] N F A (jmI N Q) := by
  refine jCall.of (ls := [.ref o, vI a1, vI a2, jD, jD, jD, jD]) (by decide) rfl (Nat.le_of_ble_eq_true rfl) rfl ?_
  unfold wpX9_best at h
  refine j_aload_n dX9_best_0 rfl ?_
  refine j_iload_n dX9_best_1 rfl ?_
  obtain ⟨P1, hp2, h⟩ := h
  refine j_invV (As := [vI a1]) (rest := []) dX9_best_2 lkX9_429 hM.1 rfl rfl (wX9_isStanding (d := 2) (Nat.le_of_ble_eq_true rfl) hM hW ra1 hp2) rfl rfl (Nat.le_of_ble_eq_true rfl) (Nat.le_trans (Nat.le_of_ble_eq_true rfl) hd) (jkpB fun z3 p4 r5 => ?_)
  have h := h z3 p4
  obtain ⟨h1, h2⟩ := h
  refine j_if_eq 40 dX9_best_5 rfl (jR_b r5) (fun q6 => ?_) (fun q6 => ?_)
  · have h := h1 q6
    clear h1 h2
    refine j_iconst dX9_best_40 ?_
    exact j_iret dX9_best_41 rfl ⟨_, rfl, rfl, hW, h, (by decide)⟩
  · have h := h2 q6
    clear h1 h2
    refine j_aload_n dX9_best_8 rfl ?_
    refine j_getFR dX9_best_9 flX9_148_10 hM.1 rfl (mf_main hM) ?_
    refine j_iload_n dX9_best_12 rfl ?_
    obtain ⟨c7, h⟩ := h
    refine j_iald (n := 264) dX9_best_13 (mt_main hM) (ml_main hM) c7 ?_
    refine j_bipush dX9_best_14 ?_
    obtain ⟨h1, h2⟩ := h
    refine j_icmp_gt 40 dX9_best_16 rfl (hW.ai (mt_main hM) rfl) (by decide) (fun q8 => ?_) (fun q8 => ?_)
    · have h := h1 q8
      clear h1 h2
      refine j_iconst dX9_best_40 ?_
      exact j_iret dX9_best_41 rfl ⟨_, rfl, rfl, hW, h, (by decide)⟩
    · have h := h2 q8
      clear h1 h2
      refine j_iload_n dX9_best_19 rfl ?_
      refine j_iconst dX9_best_20 ?_
      obtain ⟨h1, h2⟩ := h
      refine j_icmp_eq 42 dX9_best_21 rfl ra2 (by decide) (fun q9 => ?_) (fun q9 => ?_)
      · have h := h1 q9
        clear h1 h2
        refine j_aload_n dX9_best_42 rfl ?_
        refine j_aload_n dX9_best_43 rfl ?_
        refine j_getFR dX9_best_44 flX9_148_10 hM.1 rfl (mf_main hM) ?_
        refine j_iload_n dX9_best_47 rfl ?_
        obtain ⟨c10, h⟩ := h
        refine j_iald (n := 264) dX9_best_48 (mt_main hM) (ml_main hM) c10 ?_
        obtain ⟨P11, hp12, h⟩ := h
        refine j_invV (As := [vI (A (o + 30) a1)]) (rest := []) dX9_best_49 lkX9_509 hM.1 rfl rfl (wX9_firstPerm (d := 1) (Nat.le_of_ble_eq_true rfl) hM hW (hW.ai (mt_main hM) rfl) hp12) rfl rfl (Nat.le_of_ble_eq_true rfl) (Nat.le_trans (Nat.le_of_ble_eq_true rfl) hd) (jkmV fun F14 A15 hW16 p17 => ?_)
        have h := h F14 A15 p17
        refine j_iconst dX9_best_52 ?_
        refine j_istore_n dX9_best_53 rfl ?_
        refine j_iconst dX9_best_54 ?_
        refine j_istore dX9_best_55 rfl ?_
        obtain ⟨I24, m25, h0, hs⟩ := h
        have lp : ∀ (n : Nat) (v19 : Int) (v20 : Int) (F21 : jFl) (A22 : jAr), m25 v19 v20 F21 A22 < n → jWf N F21 A22 → jR v19 → jR v20 → I24 v19 v20 F21 A22 → J G l d mX9_best 57 [.ref o, vI a1, vI a2, vI v19, vI v20, jD, jD] [] N F21 A22 (jmI N Q) := by
          intro nI24
          induction nI24 with
          | zero =>
            intro v19 v20 F21 A22 hmu
            exact absurd hmu (Nat.not_lt_zero _)
          | succ nI24 ihI24 =>
            intro v19 v20 F21 A22 hmuI24 hW23 rv19 rv20 hI
            have h := hs v19 v20 F21 A22 hI
            refine j_iload dX9_best_57 rfl ?_
            obtain ⟨h1, h2⟩ := h
            refine j_if_eq 119 dX9_best_59 rfl rv20 (fun q26 => ?_) (fun q26 => ?_)
            · have h := h1 q26
              clear h1 h2
              refine j_iload_n dX9_best_119 rfl ?_
              refine j_iconst dX9_best_120 ?_
              obtain ⟨h1, h2⟩ := h
              refine j_icmp_ne 128 dX9_best_121 rfl ra2 (by decide) (fun q27 => ?_) (fun q27 => ?_)
              · have h := h1 q27
                clear h1 h2
                refine j_aload_n dX9_best_128 rfl ?_
                refine j_getFR dX9_best_129 flX9_233_10 hM.1 rfl (mf_bestPerm hM) ?_
                refine j_iload_n dX9_best_132 rfl ?_
                obtain ⟨c28, h⟩ := h
                refine j_iald (n := 12) dX9_best_133 (mt_bestPerm hM) (ml_bestPerm hM) c28 ?_
                exact j_iret dX9_best_134 rfl ⟨_, rfl, rfl, hW23, h, (hW23.ai (mt_bestPerm hM) rfl)⟩
              · have h := h2 q27
                clear h1 h2
                refine j_iload_n dX9_best_124 rfl ?_
                refine j_goto 134 dX9_best_125 rfl ?_
                exact j_iret dX9_best_134 rfl ⟨_, rfl, rfl, hW23, h, rv19⟩
            · have h := h2 q26
              clear h1 h2
              refine j_aload_n dX9_best_62 rfl ?_
              refine j_iload_n dX9_best_63 rfl ?_
              obtain ⟨P29, hp30, h⟩ := h
              refine j_invV (As := [vI a1]) (rest := []) dX9_best_64 lkX9_512 hM.1 rfl rfl (wX9_wholeBy (d := 4) (Nat.le_of_ble_eq_true rfl) hM hW23 ra1 hp30) rfl rfl (Nat.le_of_ble_eq_true rfl) (Nat.le_trans (Nat.le_of_ble_eq_true rfl) hd) (jkmI fun z31 F32 A33 hW34 p35 r36 => ?_)
              have h := h z31 F32 A33 p35
              refine j_istore dX9_best_67 rfl ?_
              refine j_iload dX9_best_69 rfl ?_
              refine j_iload_n dX9_best_71 rfl ?_
              obtain ⟨h1, h2⟩ := h
              refine j_icmp_le 110 dX9_best_72 rfl r36 rv19 (fun q37 => ?_) (fun q37 => ?_)
              · have h := h1 q37
                clear h1 h2
                refine j_aload_n dX9_best_110 rfl ?_
                obtain ⟨P38, hp39, h⟩ := h
                refine j_invV (As := []) (rest := []) dX9_best_111 lkX9_515 hM.1 rfl rfl (wX9_nextPerm (d := 2) (Nat.le_of_ble_eq_true rfl) hM hW34  hp39) rfl rfl (Nat.le_of_ble_eq_true rfl) (Nat.le_trans (Nat.le_of_ble_eq_true rfl) hd) (jkmB fun z40 F41 A42 hW43 p44 r45 => ?_)
                have h := h z40 F41 A42 p44
                refine j_istore dX9_best_114 rfl ?_
                refine j_goto 57 dX9_best_116 rfl ?_
                exact J.wk ((((((((jWk.nil).no).no).eq).eq).eq).eq).eq) (ihI24 _ _ _ _ (Nat.lt_of_lt_of_le h.2 (Nat.le_of_lt_succ hmuI24)) hW43 rv19 (jR_b r45) h.1)
              · have h := h2 q37
                clear h1 h2
                refine j_iload dX9_best_75 rfl ?_
                refine j_istore_n dX9_best_77 rfl ?_
                refine j_iconst dX9_best_78 ?_
                refine j_istore dX9_best_79 rfl ?_
                obtain ⟨I49, m50, h0, hs⟩ := h
                have lp : ∀ (n : Nat) (v46 : Int) (A47 : jAr), m50 v46 A47 < n → jWf N F32 A47 → jR v46 → I49 v46 A47 → J G l d mX9_best 81 [.ref o, vI a1, vI a2, vI z31, jD, jD, vI v46] [] N F32 A47 (jmI N Q) := by
                  intro nI49
                  induction nI49 with
                  | zero =>
                    intro v46 A47 hmu
                    exact absurd hmu (Nat.not_lt_zero _)
                  | succ nI49 ihI49 =>
                    intro v46 A47 hmuI49 hW48 rv46 hI
                    have h := hs v46 A47 hI
                    refine j_iload dX9_best_81 rfl ?_
                    refine j_aload_n dX9_best_83 rfl ?_
                    refine j_getI dX9_best_84 flX9_236_10 hM.1 rfl ?_
                    obtain ⟨h1, h2⟩ := h
                    refine j_icmp_ge 110 dX9_best_87 rfl rv46 (hW48.fi rfl) (fun q51 => ?_) (fun q51 => ?_)
                    · have h := h1 q51
                      clear h1 h2
                      refine j_aload_n dX9_best_110 rfl ?_
                      obtain ⟨P52, hp53, h⟩ := h
                      refine j_invV (As := []) (rest := []) dX9_best_111 lkX9_515 hM.1 rfl rfl (wX9_nextPerm (d := 2) (Nat.le_of_ble_eq_true rfl) hM hW48  hp53) rfl rfl (Nat.le_of_ble_eq_true rfl) (Nat.le_trans (Nat.le_of_ble_eq_true rfl) hd) (jkmB fun z54 F55 A56 hW57 p58 r59 => ?_)
                      have h := h z54 F55 A56 p58
                      refine j_istore dX9_best_114 rfl ?_
                      refine j_goto 57 dX9_best_116 rfl ?_
                      exact J.wk ((((((((jWk.nil).no).no).eq).eq).eq).eq).eq) (ihI24 _ _ _ _ (Nat.lt_of_lt_of_le h.2 (Nat.le_of_lt_succ hmuI24)) hW57 r36 (jR_b r59) h.1)
                    · have h := h2 q51
                      clear h1 h2
                      refine j_aload_n dX9_best_90 rfl ?_
                      refine j_getFR dX9_best_91 flX9_233_10 hM.1 rfl (mf_bestPerm hM) ?_
                      refine j_iload dX9_best_94 rfl ?_
                      refine j_aload_n dX9_best_96 rfl ?_
                      refine j_getFR dX9_best_97 flX9_230_10 hM.1 rfl (mf_perm hM) ?_
                      refine j_iload dX9_best_100 rfl ?_
                      obtain ⟨c60, h⟩ := h
                      refine j_iald (n := 12) dX9_best_102 (mt_perm hM) (ml_perm hM) c60 ?_
                      obtain ⟨c61, h⟩ := h
                      refine j_iast (n := 12) dX9_best_103 (mt_bestPerm hM) (Nat.le_trans hM.2.1 (Nat.le_add_right _ _)) (ml_bestPerm hM) c61 ?_
                      obtain ⟨A62, eA62⟩ : ∃ x : jAr, x = upA A47 (o + 47) v46 (A47 (o + 46) v46) := ⟨_, rfl⟩
                      have hW63 : jWf N F32 A62 := eA62 ▸ jWf_A (i := v46) (z := A47 (o + 46) v46) hW48 (mt_bestPerm hM) (jRk_0 rfl (hW48.ai (mt_perm hM) rfl))
                      refine jnmA (e := eA62) ?_
                      have h := h A62 eA62
                      obtain ⟨r64, h⟩ := h
                      refine j_iinc dX9_best_104 rfl rfl ?_
                      refine j_goto 81 dX9_best_107 rfl ?_
                      exact J.wk ((((((((jWk.nil).eq).no).no).eq).eq).eq).eq) (ihI49 _ _ (Nat.lt_of_lt_of_le h.2 (Nat.le_of_lt_succ hmuI49)) hW63 r64 h.1)
                exact J.wk ((((((((jWk.nil).eq).no).no).eq).eq).eq).eq) (lp _ _ _ (Nat.lt_succ_self _) hW34 (by decide) h0)
        exact J.wk ((((((((jWk.nil).no).no).eq).eq).eq).eq).eq) (lp _ _ _ _ _ (Nat.lt_succ_self _) hW16 (by decide) (by decide) h0)
      · have h := h2 q9
        clear h1 h2
        refine j_iload_n dX9_best_24 rfl ?_
        refine j_iconst dX9_best_25 ?_
        refine j_aload_n dX9_best_26 rfl ?_
        refine j_getFR dX9_best_27 flX9_148_10 hM.1 rfl (mf_main hM) ?_
        refine j_iload_n dX9_best_30 rfl ?_
        obtain ⟨c65, h⟩ := h
        refine j_iald (n := 264) dX9_best_31 (mt_main hM) (ml_main hM) c65 ?_
        refine j_iconst dX9_best_32 ?_
        refine j_isub dX9_best_33 ?_
        obtain ⟨r66, h⟩ := h
        obtain ⟨P67, hp68, h⟩ := h
        refine j_invS (As := [vI a2, vI 0, vI ((A (o + 30) a1) - 1)]) (rest := []) dX9_best_34 lkX9_324 (wX9_is (d := 1) (Nat.le_of_ble_eq_true rfl) hM hW ra2 (by decide) r66 hp68) rfl rfl (Nat.le_of_ble_eq_true rfl) (Nat.le_trans (Nat.le_of_ble_eq_true rfl) hd) (jkpB fun z69 p70 r71 => ?_)
        have h := h z69 p70
        obtain ⟨h1, h2⟩ := h
        refine j_if_ne 42 dX9_best_37 rfl (jR_b r71) (fun q72 => ?_) (fun q72 => ?_)
        · have h := h1 q72
          clear h1 h2
          refine j_aload_n dX9_best_42 rfl ?_
          refine j_aload_n dX9_best_43 rfl ?_
          refine j_getFR dX9_best_44 flX9_148_10 hM.1 rfl (mf_main hM) ?_
          refine j_iload_n dX9_best_47 rfl ?_
          obtain ⟨c73, h⟩ := h
          refine j_iald (n := 264) dX9_best_48 (mt_main hM) (ml_main hM) c73 ?_
          obtain ⟨P74, hp75, h⟩ := h
          refine j_invV (As := [vI (A (o + 30) a1)]) (rest := []) dX9_best_49 lkX9_509 hM.1 rfl rfl (wX9_firstPerm (d := 1) (Nat.le_of_ble_eq_true rfl) hM hW (hW.ai (mt_main hM) rfl) hp75) rfl rfl (Nat.le_of_ble_eq_true rfl) (Nat.le_trans (Nat.le_of_ble_eq_true rfl) hd) (jkmV fun F77 A78 hW79 p80 => ?_)
          have h := h F77 A78 p80
          refine j_iconst dX9_best_52 ?_
          refine j_istore_n dX9_best_53 rfl ?_
          refine j_iconst dX9_best_54 ?_
          refine j_istore dX9_best_55 rfl ?_
          obtain ⟨I87, m88, h0, hs⟩ := h
          have lp : ∀ (n : Nat) (v82 : Int) (v83 : Int) (F84 : jFl) (A85 : jAr), m88 v82 v83 F84 A85 < n → jWf N F84 A85 → jR v82 → jR v83 → I87 v82 v83 F84 A85 → J G l d mX9_best 57 [.ref o, vI a1, vI a2, vI v82, vI v83, jD, jD] [] N F84 A85 (jmI N Q) := by
            intro nI87
            induction nI87 with
            | zero =>
              intro v82 v83 F84 A85 hmu
              exact absurd hmu (Nat.not_lt_zero _)
            | succ nI87 ihI87 =>
              intro v82 v83 F84 A85 hmuI87 hW86 rv82 rv83 hI
              have h := hs v82 v83 F84 A85 hI
              refine j_iload dX9_best_57 rfl ?_
              obtain ⟨h1, h2⟩ := h
              refine j_if_eq 119 dX9_best_59 rfl rv83 (fun q89 => ?_) (fun q89 => ?_)
              · have h := h1 q89
                clear h1 h2
                refine j_iload_n dX9_best_119 rfl ?_
                refine j_iconst dX9_best_120 ?_
                obtain ⟨h1, h2⟩ := h
                refine j_icmp_ne 128 dX9_best_121 rfl ra2 (by decide) (fun q90 => ?_) (fun q90 => ?_)
                · have h := h1 q90
                  clear h1 h2
                  refine j_aload_n dX9_best_128 rfl ?_
                  refine j_getFR dX9_best_129 flX9_233_10 hM.1 rfl (mf_bestPerm hM) ?_
                  refine j_iload_n dX9_best_132 rfl ?_
                  obtain ⟨c91, h⟩ := h
                  refine j_iald (n := 12) dX9_best_133 (mt_bestPerm hM) (ml_bestPerm hM) c91 ?_
                  exact j_iret dX9_best_134 rfl ⟨_, rfl, rfl, hW86, h, (hW86.ai (mt_bestPerm hM) rfl)⟩
                · have h := h2 q90
                  clear h1 h2
                  refine j_iload_n dX9_best_124 rfl ?_
                  refine j_goto 134 dX9_best_125 rfl ?_
                  exact j_iret dX9_best_134 rfl ⟨_, rfl, rfl, hW86, h, rv82⟩
              · have h := h2 q89
                clear h1 h2
                refine j_aload_n dX9_best_62 rfl ?_
                refine j_iload_n dX9_best_63 rfl ?_
                obtain ⟨P92, hp93, h⟩ := h
                refine j_invV (As := [vI a1]) (rest := []) dX9_best_64 lkX9_512 hM.1 rfl rfl (wX9_wholeBy (d := 4) (Nat.le_of_ble_eq_true rfl) hM hW86 ra1 hp93) rfl rfl (Nat.le_of_ble_eq_true rfl) (Nat.le_trans (Nat.le_of_ble_eq_true rfl) hd) (jkmI fun z94 F95 A96 hW97 p98 r99 => ?_)
                have h := h z94 F95 A96 p98
                refine j_istore dX9_best_67 rfl ?_
                refine j_iload dX9_best_69 rfl ?_
                refine j_iload_n dX9_best_71 rfl ?_
                obtain ⟨h1, h2⟩ := h
                refine j_icmp_le 110 dX9_best_72 rfl r99 rv82 (fun q100 => ?_) (fun q100 => ?_)
                · have h := h1 q100
                  clear h1 h2
                  refine j_aload_n dX9_best_110 rfl ?_
                  obtain ⟨P101, hp102, h⟩ := h
                  refine j_invV (As := []) (rest := []) dX9_best_111 lkX9_515 hM.1 rfl rfl (wX9_nextPerm (d := 2) (Nat.le_of_ble_eq_true rfl) hM hW97  hp102) rfl rfl (Nat.le_of_ble_eq_true rfl) (Nat.le_trans (Nat.le_of_ble_eq_true rfl) hd) (jkmB fun z103 F104 A105 hW106 p107 r108 => ?_)
                  have h := h z103 F104 A105 p107
                  refine j_istore dX9_best_114 rfl ?_
                  refine j_goto 57 dX9_best_116 rfl ?_
                  exact J.wk ((((((((jWk.nil).no).no).eq).eq).eq).eq).eq) (ihI87 _ _ _ _ (Nat.lt_of_lt_of_le h.2 (Nat.le_of_lt_succ hmuI87)) hW106 rv82 (jR_b r108) h.1)
                · have h := h2 q100
                  clear h1 h2
                  refine j_iload dX9_best_75 rfl ?_
                  refine j_istore_n dX9_best_77 rfl ?_
                  refine j_iconst dX9_best_78 ?_
                  refine j_istore dX9_best_79 rfl ?_
                  obtain ⟨I112, m113, h0, hs⟩ := h
                  have lp : ∀ (n : Nat) (v109 : Int) (A110 : jAr), m113 v109 A110 < n → jWf N F95 A110 → jR v109 → I112 v109 A110 → J G l d mX9_best 81 [.ref o, vI a1, vI a2, vI z94, jD, jD, vI v109] [] N F95 A110 (jmI N Q) := by
                    intro nI112
                    induction nI112 with
                    | zero =>
                      intro v109 A110 hmu
                      exact absurd hmu (Nat.not_lt_zero _)
                    | succ nI112 ihI112 =>
                      intro v109 A110 hmuI112 hW111 rv109 hI
                      have h := hs v109 A110 hI
                      refine j_iload dX9_best_81 rfl ?_
                      refine j_aload_n dX9_best_83 rfl ?_
                      refine j_getI dX9_best_84 flX9_236_10 hM.1 rfl ?_
                      obtain ⟨h1, h2⟩ := h
                      refine j_icmp_ge 110 dX9_best_87 rfl rv109 (hW111.fi rfl) (fun q114 => ?_) (fun q114 => ?_)
                      · have h := h1 q114
                        clear h1 h2
                        refine j_aload_n dX9_best_110 rfl ?_
                        obtain ⟨P115, hp116, h⟩ := h
                        refine j_invV (As := []) (rest := []) dX9_best_111 lkX9_515 hM.1 rfl rfl (wX9_nextPerm (d := 2) (Nat.le_of_ble_eq_true rfl) hM hW111  hp116) rfl rfl (Nat.le_of_ble_eq_true rfl) (Nat.le_trans (Nat.le_of_ble_eq_true rfl) hd) (jkmB fun z117 F118 A119 hW120 p121 r122 => ?_)
                        have h := h z117 F118 A119 p121
                        refine j_istore dX9_best_114 rfl ?_
                        refine j_goto 57 dX9_best_116 rfl ?_
                        exact J.wk ((((((((jWk.nil).no).no).eq).eq).eq).eq).eq) (ihI87 _ _ _ _ (Nat.lt_of_lt_of_le h.2 (Nat.le_of_lt_succ hmuI87)) hW120 r99 (jR_b r122) h.1)
                      · have h := h2 q114
                        clear h1 h2
                        refine j_aload_n dX9_best_90 rfl ?_
                        refine j_getFR dX9_best_91 flX9_233_10 hM.1 rfl (mf_bestPerm hM) ?_
                        refine j_iload dX9_best_94 rfl ?_
                        refine j_aload_n dX9_best_96 rfl ?_
                        refine j_getFR dX9_best_97 flX9_230_10 hM.1 rfl (mf_perm hM) ?_
                        refine j_iload dX9_best_100 rfl ?_
                        obtain ⟨c123, h⟩ := h
                        refine j_iald (n := 12) dX9_best_102 (mt_perm hM) (ml_perm hM) c123 ?_
                        obtain ⟨c124, h⟩ := h
                        refine j_iast (n := 12) dX9_best_103 (mt_bestPerm hM) (Nat.le_trans hM.2.1 (Nat.le_add_right _ _)) (ml_bestPerm hM) c124 ?_
                        obtain ⟨A125, eA125⟩ : ∃ x : jAr, x = upA A110 (o + 47) v109 (A110 (o + 46) v109) := ⟨_, rfl⟩
                        have hW126 : jWf N F95 A125 := eA125 ▸ jWf_A (i := v109) (z := A110 (o + 46) v109) hW111 (mt_bestPerm hM) (jRk_0 rfl (hW111.ai (mt_perm hM) rfl))
                        refine jnmA (e := eA125) ?_
                        have h := h A125 eA125
                        obtain ⟨r127, h⟩ := h
                        refine j_iinc dX9_best_104 rfl rfl ?_
                        refine j_goto 81 dX9_best_107 rfl ?_
                        exact J.wk ((((((((jWk.nil).eq).no).no).eq).eq).eq).eq) (ihI112 _ _ (Nat.lt_of_lt_of_le h.2 (Nat.le_of_lt_succ hmuI112)) hW126 r127 h.1)
                  exact J.wk ((((((((jWk.nil).eq).no).no).eq).eq).eq).eq) (lp _ _ _ (Nat.lt_succ_self _) hW97 (by decide) h0)
          exact J.wk ((((((((jWk.nil).no).no).eq).eq).eq).eq).eq) (lp _ _ _ _ _ (Nat.lt_succ_self _) hW79 (by decide) (by decide) h0)
        · have h := h2 q72
          clear h1 h2
          refine j_iconst dX9_best_40 ?_
          exact j_iret dX9_best_41 rfl ⟨_, rfl, rfl, hW, h, (by decide)⟩
/-- child(II)I -/
def wpX9_child (o : Nat) (a1 : Int) (a2 : Int) (F : jFl) (A : jAr) (Q : Int → jFl → jAr → Prop) : Prop :=
  ∃ P1 : Int → Prop, wpX9_isChild o a1 F A P1 ∧ ∀ z3, P1 z3 →
  ((¬ z3 = 0) →
    (a2 = 0 →
      (0 ≤ (10 * (F 3039 o)) + a1 ∧ (10 * (F 3039 o)) + a1 < 20) ∧
      Q (A (o + 14) ((10 * (F 3039 o)) + a1)) F A) ∧
    (a2 = 1 →
      (0 ≤ (10 * (F 3039 o)) + a1 ∧ (10 * (F 3039 o)) + a1 < 20) ∧
      Q (A (o + 15) ((10 * (F 3039 o)) + a1)) F A) ∧
    (a2 = 2 →
      ∃ (I11 : Int → Int → Prop) (m12 : Int → Int → Nat), I11 0 0 ∧ ∀ (v9 : Int) (v10 : Int), I11 v9 v10 →
        (0 ≤ F 3039 o ∧ F 3039 o < 2) ∧
        (((A (o + 2) (F 3039 o)) ≤ v10) →
          Q v9 F A) ∧
        (¬ ((A (o + 2) (F 3039 o)) ≤ v10) →
          ∃ P15 : Int → Prop, wpX9_knows o a1 v10 F A P15 ∧ ∀ z17, P15 z17 →
          ∀ z21 : Int, z21 = (if z17 = 0 then 0 else 1) →
          jR (v9 + z21) ∧
          ∀ v24 : Int, v24 = v9 + z21 →
          jR (v10 + 1) ∧
          I11 v24 (v10 + 1) ∧ m12 v24 (v10 + 1) < m12 v9 v10)) ∧
    (a2 = 3 →
      ∃ (I31 : Int → Int → jFl → jAr → Prop) (m32 : Int → Int → jFl → jAr → Nat), I31 0 0 F A ∧ ∀ (v26 : Int) (v27 : Int) (F28 : jFl) (A29 : jAr), I31 v26 v27 F28 A29 →
        (0 ≤ F28 3039 o ∧ F28 3039 o < 2) ∧
        (((A29 (o + 17) (F28 3039 o)) ≤ v27) →
          Q v26 F28 A29) ∧
        (¬ ((A29 (o + 17) (F28 3039 o)) ≤ v27) →
          ∃ P35 : Int → Prop, wpX9_stands o 0 v27 F28 A29 P35 ∧ ∀ z37, P35 z37 →
          ((z37 = 0) →
            jR (v26 + 0) ∧
            ∀ v42 : Int, v42 = v26 + 0 →
            jR (v27 + 1) ∧
            I31 v42 (v27 + 1) F28 A29 ∧ m32 v42 (v27 + 1) F28 A29 < m32 v26 v27 F28 A29) ∧
          (¬ (z37 = 0) →
            ∃ P44 : Int → jFl → jAr → Prop, wpX9_standsBy o v27 a1 F28 A29 P44 ∧ ∀ z46 F47 A48, P44 z46 F47 A48 →
            ∀ z53 : Int, z53 = (if z46 = 0 then 0 else 1) →
            jR (v26 + z53) ∧
            ∀ v56 : Int, v56 = v26 + z53 →
            jR (v27 + 1) ∧
            I31 v56 (v27 + 1) F47 A48 ∧ m32 v56 (v27 + 1) F47 A48 < m32 v26 v27 F28 A29))) ∧
    (¬ a2 = 0 → ¬ a2 = 1 → ¬ a2 = 2 → ¬ a2 = 3 →
      Q (-1) F A)) ∧
  (¬ (¬ z3 = 0) →
    Q (-1) F A)
theorem wX9_child {G : jG} {l : Launch} {d : Nat} {N : jSh} {o : Nat} {F : jFl} {A : jAr} {a1 a2 : Int} {Q : Int → jFl → jAr → Prop} (hd : 5 ≤ d) (hM : mShape G N o) (hW : jWf N F A) (ra1 : jR a1) (ra2 : jR a2) (h : wpX9_child o a1 a2 F A Q) : jCall G l d mX9_child [.ref o, vI a1, vI a2] N F A (jmI N Q) := by
  refine jCall.of (ls := [.ref o, vI a1, vI a2, jD, jD]) (by decide) rfl (Nat.le_of_ble_eq_true rfl) rfl ?_
  unfold wpX9_child at h
  refine j_aload_n dX9_child_0 rfl ?_
  refine j_iload_n dX9_child_1 rfl ?_
  obtain ⟨P1, hp2, h⟩ := h
  refine j_invV (As := [vI a1]) (rest := []) dX9_child_2 lkX9_420 hM.1 rfl rfl (wX9_isChild (d := 1) (Nat.le_of_ble_eq_true rfl) hM hW ra1 hp2) rfl rfl (Nat.le_of_ble_eq_true rfl) (Nat.le_trans (Nat.le_of_ble_eq_true rfl) hd) (jkpB fun z3 p4 r5 => ?_)
  have h := h z3 p4
  obtain ⟨h1, h2⟩ := h
  refine j_if_ne 10 dX9_child_5 rfl (jR_b r5) (fun q6 => ?_) (fun q6 => ?_)
  · have h := h1 q6
    clear h1 h2
    refine j_iconst dX9_child_10 ?_
    refine j_istore_n dX9_child_11 rfl ?_
    refine j_iload_n dX9_child_12 rfl ?_
    obtain ⟨h1, h⟩ := h
    by_cases q58 : a2 = 0
    · refine j_tableIn (off := 31) 44 dX9_child_13 ra2 (by rw [q58]; decide) (by rw [q58]; decide) (by rw [q58]; rfl) rfl ?_
      have h := h1 q58
      clear h1
      refine j_aload_n dX9_child_44 rfl ?_
      refine j_getFR dX9_child_45 flX9_91_10 hM.1 rfl (mf_childStreet hM) ?_
      refine j_bipush dX9_child_48 ?_
      refine j_aload_n dX9_child_50 rfl ?_
      refine j_getI dX9_child_51 flX9_51_10 hM.1 rfl ?_
      refine j_imul dX9_child_54 ?_
      refine j_iload_n dX9_child_55 rfl ?_
      refine j_iadd dX9_child_56 ?_
      obtain ⟨c7, h⟩ := h
      refine j_iald (n := 20) dX9_child_57 (mt_childStreet hM) (ml_childStreet hM) c7 ?_
      exact j_iret dX9_child_58 rfl ⟨_, rfl, rfl, hW, h, (hW.ai (mt_childStreet hM) rfl)⟩
    clear h1
    obtain ⟨h1, h⟩ := h
    by_cases q59 : a2 = 1
    · refine j_tableIn (off := 46) 59 dX9_child_13 ra2 (by rw [q59]; decide) (by rw [q59]; decide) (by rw [q59]; rfl) rfl ?_
      have h := h1 q59
      clear h1
      refine j_aload_n dX9_child_59 rfl ?_
      refine j_getFR dX9_child_60 flX9_94_10 hM.1 rfl (mf_holds hM) ?_
      refine j_bipush dX9_child_63 ?_
      refine j_aload_n dX9_child_65 rfl ?_
      refine j_getI dX9_child_66 flX9_51_10 hM.1 rfl ?_
      refine j_imul dX9_child_69 ?_
      refine j_iload_n dX9_child_70 rfl ?_
      refine j_iadd dX9_child_71 ?_
      obtain ⟨c8, h⟩ := h
      refine j_iald (n := 20) dX9_child_72 (mt_holds hM) (ml_holds hM) c8 ?_
      exact j_iret dX9_child_73 rfl ⟨_, rfl, rfl, hW, h, (hW.ai (mt_holds hM) rfl)⟩
    clear h1
    obtain ⟨h1, h⟩ := h
    by_cases q60 : a2 = 2
    · refine j_tableIn (off := 61) 74 dX9_child_13 ra2 (by rw [q60]; decide) (by rw [q60]; decide) (by rw [q60]; rfl) rfl ?_
      have h := h1 q60
      clear h1
      refine j_iconst dX9_child_74 ?_
      refine j_istore dX9_child_75 rfl ?_
      obtain ⟨I11, m12, h0, hs⟩ := h
      have lp : ∀ (n : Nat) (v9 : Int) (v10 : Int), m12 v9 v10 < n → jR v9 → jR v10 → I11 v9 v10 → J G l d mX9_child 77 [.ref o, vI a1, jD, vI v9, vI v10] [] N F A (jmI N Q) := by
        intro nI11
        induction nI11 with
        | zero =>
          intro v9 v10 hmu
          exact absurd hmu (Nat.not_lt_zero _)
        | succ nI11 ihI11 =>
          intro v9 v10 hmuI11 rv9 rv10 hI
          have h := hs v9 v10 hI
          refine j_iload dX9_child_77 rfl ?_
          refine j_aload_n dX9_child_79 rfl ?_
          refine j_getFR dX9_child_80 flX9_54_10 hM.1 rfl (mf_words hM) ?_
          refine j_aload_n dX9_child_83 rfl ?_
          refine j_getI dX9_child_84 flX9_51_10 hM.1 rfl ?_
          obtain ⟨c13, h⟩ := h
          refine j_iald (n := 2) dX9_child_87 (mt_words hM) (ml_words hM) c13 ?_
          obtain ⟨h1, h2⟩ := h
          refine j_icmp_ge 115 dX9_child_88 rfl rv10 (hW.ai (mt_words hM) rfl) (fun q14 => ?_) (fun q14 => ?_)
          · have h := h1 q14
            clear h1 h2
            refine j_iload_n dX9_child_115 rfl ?_
            exact j_iret dX9_child_116 rfl ⟨_, rfl, rfl, hW, h, rv9⟩
          · have h := h2 q14
            clear h1 h2
            refine j_iload_n dX9_child_91 rfl ?_
            refine j_aload_n dX9_child_92 rfl ?_
            refine j_iload_n dX9_child_93 rfl ?_
            refine j_iload dX9_child_94 rfl ?_
            obtain ⟨P15, hp16, h⟩ := h
            refine j_invV (As := [vI a1, vI v10]) (rest := [vI v9]) dX9_child_96 lkX9_418 hM.1 rfl rfl (wX9_knows (d := 1) (Nat.le_of_ble_eq_true rfl) hM hW ra1 rv10 hp16) rfl rfl (Nat.le_of_ble_eq_true rfl) (Nat.le_trans (Nat.le_of_ble_eq_true rfl) hd) (jkpB fun z17 p18 r19 => ?_)
            have h := h z17 p18
            have jn22 : ∀ z21 : Int, z21 = (if z17 = 0 then 0 else 1) → J G l d mX9_child 107 [.ref o, vI a1, jD, vI v9, vI v10] [vI z21, vI v9] N F A (jmI N Q) := by
              intro z21 ez21
              have h := h z21 ez21
              refine j_iadd dX9_child_107 ?_
              obtain ⟨r23, h⟩ := h
              obtain ⟨v24, ev24⟩ : ∃ x : Int, x = v9 + z21 := ⟨_, rfl⟩
              have h := h v24 ev24
              refine jnmI (e := ev24) ?_
              refine j_istore_n dX9_child_108 rfl ?_
              obtain ⟨r25, h⟩ := h
              refine j_iinc dX9_child_109 rfl rfl ?_
              refine j_goto 77 dX9_child_112 rfl ?_
              exact J.wk ((((((jWk.nil).eq).eq).no).eq).eq) (ihI11 _ _ (Nat.lt_of_lt_of_le h.2 (Nat.le_of_lt_succ hmuI11)) (ev24 ▸ r23) r25 h.1)
            clear h
            refine j_if_eq 106 dX9_child_99 rfl (jR_b r19) (fun q20 => ?_) (fun q20 => ?_)
            · refine j_iconst dX9_child_106 ?_
              exact jn22 _ ((if_pos q20).symm)
            · refine j_iconst dX9_child_102 ?_
              refine j_goto 107 dX9_child_103 rfl ?_
              exact jn22 _ ((if_neg q20).symm)
      exact J.wk ((((((jWk.nil).eq).eq).no).eq).eq) (lp _ _ _ (Nat.lt_succ_self _) (by decide) (by decide) h0)
    clear h1
    obtain ⟨h1, h⟩ := h
    by_cases q61 : a2 = 3
    · refine j_tableIn (off := 104) 117 dX9_child_13 ra2 (by rw [q61]; decide) (by rw [q61]; decide) (by rw [q61]; rfl) rfl ?_
      have h := h1 q61
      clear h1
      refine j_iconst dX9_child_117 ?_
      refine j_istore dX9_child_118 rfl ?_
      obtain ⟨I31, m32, h0, hs⟩ := h
      have lp : ∀ (n : Nat) (v26 : Int) (v27 : Int) (F28 : jFl) (A29 : jAr), m32 v26 v27 F28 A29 < n → jWf N F28 A29 → jR v26 → jR v27 → I31 v26 v27 F28 A29 → J G l d mX9_child 120 [.ref o, vI a1, jD, vI v26, vI v27] [] N F28 A29 (jmI N Q) := by
        intro nI31
        induction nI31 with
        | zero =>
          intro v26 v27 F28 A29 hmu
          exact absurd hmu (Nat.not_lt_zero _)
        | succ nI31 ihI31 =>
          intro v26 v27 F28 A29 hmuI31 hW30 rv26 rv27 hI
          have h := hs v26 v27 F28 A29 hI
          refine j_iload dX9_child_120 rfl ?_
          refine j_aload_n dX9_child_122 rfl ?_
          refine j_getFR dX9_child_123 flX9_100_10 hM.1 rfl (mf_laws hM) ?_
          refine j_aload_n dX9_child_126 rfl ?_
          refine j_getI dX9_child_127 flX9_51_10 hM.1 rfl ?_
          obtain ⟨c33, h⟩ := h
          refine j_iald (n := 2) dX9_child_130 (mt_laws hM) (ml_laws hM) c33 ?_
          obtain ⟨h1, h2⟩ := h
          refine j_icmp_ge 168 dX9_child_131 rfl rv27 (hW30.ai (mt_laws hM) rfl) (fun q34 => ?_) (fun q34 => ?_)
          · have h := h1 q34
            clear h1 h2
            refine j_iload_n dX9_child_168 rfl ?_
            exact j_iret dX9_child_169 rfl ⟨_, rfl, rfl, hW30, h, rv26⟩
          · have h := h2 q34
            clear h1 h2
            refine j_iload_n dX9_child_134 rfl ?_
            refine j_aload_n dX9_child_135 rfl ?_
            refine j_iconst dX9_child_136 ?_
            refine j_iload dX9_child_137 rfl ?_
            obtain ⟨P35, hp36, h⟩ := h
            refine j_invV (As := [vI 0, vI v27]) (rest := [vI v26]) dX9_child_139 lkX9_399 hM.1 rfl rfl (wX9_stands (d := 1) (Nat.le_of_ble_eq_true rfl) hM hW30 (by decide) rv27 hp36) rfl rfl (Nat.le_of_ble_eq_true rfl) (Nat.le_trans (Nat.le_of_ble_eq_true rfl) hd) (jkpB fun z37 p38 r39 => ?_)
            have h := h z37 p38
            obtain ⟨h1, h2⟩ := h
            refine j_if_eq 159 dX9_child_142 rfl (jR_b r39) (fun q40 => ?_) (fun q40 => ?_)
            · have h := h1 q40
              clear h1 h2
              refine j_iconst dX9_child_159 ?_
              refine j_iadd dX9_child_160 ?_
              obtain ⟨r41, h⟩ := h
              obtain ⟨v42, ev42⟩ : ∃ x : Int, x = v26 + 0 := ⟨_, rfl⟩
              have h := h v42 ev42
              refine jnmI (e := ev42) ?_
              refine j_istore_n dX9_child_161 rfl ?_
              obtain ⟨r43, h⟩ := h
              refine j_iinc dX9_child_162 rfl rfl ?_
              refine j_goto 120 dX9_child_165 rfl ?_
              exact J.wk ((((((jWk.nil).eq).eq).no).eq).eq) (ihI31 _ _ _ _ (Nat.lt_of_lt_of_le h.2 (Nat.le_of_lt_succ hmuI31)) hW30 (ev42 ▸ r41) r43 h.1)
            · have h := h2 q40
              clear h1 h2
              refine j_aload_n dX9_child_145 rfl ?_
              refine j_iload dX9_child_146 rfl ?_
              refine j_iload_n dX9_child_148 rfl ?_
              obtain ⟨P44, hp45, h⟩ := h
              refine j_invV (As := [vI v27, vI a1]) (rest := [vI v26]) dX9_child_149 lkX9_485 hM.1 rfl rfl (wX9_standsBy (d := 4) (Nat.le_of_ble_eq_true rfl) hM hW30 rv27 ra1 hp45) rfl rfl (Nat.le_of_ble_eq_true rfl) (Nat.le_trans (Nat.le_of_ble_eq_true rfl) hd) (jkmB fun z46 F47 A48 hW49 p50 r51 => ?_)
              have h := h z46 F47 A48 p50
              have jn54 : ∀ z53 : Int, z53 = (if z46 = 0 then 0 else 1) → J G l d mX9_child 160 [.ref o, vI a1, jD, vI v26, vI v27] [vI z53, vI v26] N F47 A48 (jmI N Q) := by
                intro z53 ez53
                have h := h z53 ez53
                refine j_iadd dX9_child_160 ?_
                obtain ⟨r55, h⟩ := h
                obtain ⟨v56, ev56⟩ : ∃ x : Int, x = v26 + z53 := ⟨_, rfl⟩
                have h := h v56 ev56
                refine jnmI (e := ev56) ?_
                refine j_istore_n dX9_child_161 rfl ?_
                obtain ⟨r57, h⟩ := h
                refine j_iinc dX9_child_162 rfl rfl ?_
                refine j_goto 120 dX9_child_165 rfl ?_
                exact J.wk ((((((jWk.nil).eq).eq).no).eq).eq) (ihI31 _ _ _ _ (Nat.lt_of_lt_of_le h.2 (Nat.le_of_lt_succ hmuI31)) hW49 (ev56 ▸ r55) r57 h.1)
              clear h
              refine j_if_eq 159 dX9_child_152 rfl (jR_b r51) (fun q52 => ?_) (fun q52 => ?_)
              · refine j_iconst dX9_child_159 ?_
                exact jn54 _ ((if_pos q52).symm)
              · refine j_iconst dX9_child_155 ?_
                refine j_goto 160 dX9_child_156 rfl ?_
                exact jn54 _ ((if_neg q52).symm)
      exact J.wk ((((((jWk.nil).eq).eq).no).eq).eq) (lp _ _ _ _ _ (Nat.lt_succ_self _) hW (by decide) (by decide) h0)
    clear h1
    have h := h q58 q59 q60 q61
    refine j_tableOut 170 dX9_child_13 ra2 (by omega) rfl ?_
    refine j_iconst dX9_child_170 ?_
    exact j_iret dX9_child_171 rfl ⟨_, rfl, rfl, hW, h, (by decide)⟩
  · have h := h2 q6
    clear h1 h2
    refine j_iconst dX9_child_8 ?_
    exact j_iret dX9_child_9 rfl ⟨_, rfl, rfl, hW, h, (by decide)⟩
