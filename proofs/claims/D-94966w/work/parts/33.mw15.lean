set_option maxRecDepth 100000
set_option linter.unusedVariables false
/-! walks of ChildSaysModel: printed by gen/walk.py -/
/-- lawing()V -/
def wpX9_lawing (o : Nat) (F : jFl) (A : jAr) (Q : jFl → jAr → Prop) : Prop :=
  (0 ≤ F 3114 o ∧ F 3114 o < 2) ∧
  ∀ z3 : Int, z3 = (if ¬ (A (o + 17) (F 3114 o)) = 12 then 0 else 1) →
  ∃ P5 : Int → jFl → jAr → Prop, wpX9_counts o z3 F A P5 ∧ ∀ z7 F8 A9, P5 z7 F8 A9 →
  ((¬ z7 = 0) →
    (0 ≤ F8 3114 o ∧ F8 3114 o < 2) ∧
    jR ((12 * (F8 3114 o)) + (A9 (o + 17) (F8 3114 o))) ∧
    ∀ v16 : Int, v16 = (12 * (F8 3114 o)) + (A9 (o + 17) (F8 3114 o)) →
    ∃ P17 : Int → jFl → jAr → Prop, wpX9_fresh o F8 A9 P17 ∧ ∀ z19 F20 A21, P17 z19 F20 A21 →
    (0 ≤ v16 ∧ v16 < 24) ∧
    ∀ A26 : jAr, A26 = upA A21 (o + 18) v16 z19 →
    (0 ≤ v16 ∧ v16 < 24) ∧
    ∀ A29 : jAr, A29 = upA A26 (o + 19) v16 0 →
    ∃ K35 : jFl → jAr → Prop, (
      ∀ (F32 : jFl) (A33 : jAr), K35 F32 A33 →
      ∃ P38 : jFl → jAr → Prop, wpX9_must o 1935767923 F32 A33 P38 ∧ ∀ F41 A42, P38 F41 A42 →
      ∃ K50 : jFl → jAr → Prop, (
        ∀ (F47 : jFl) (A48 : jAr), K50 F47 A48 →
        (((F47 3024 o) ≤ 0) →
          (0 ≤ v16 ∧ v16 < 24) ∧
          ∀ A55 : jAr, A55 = upA A48 (o + 20) v16 (F47 3120 o) →
          (0 ≤ v16 ∧ v16 < 24) ∧
          ∀ A58 : jAr, A58 = upA A55 (o + 21) v16 (F47 3123 o) →
          ∃ (I63 : Int → jAr → Prop) (m64 : Int → jAr → Nat), I63 0 A58 ∧ ∀ (v60 : Int) (A61 : jAr), I63 v60 A61 →
            jR ((F47 3120 o) + (F47 3123 o)) ∧
            ((((F47 3120 o) + (F47 3123 o)) ≤ v60) →
              (0 ≤ F47 3114 o ∧ F47 3114 o < 2) ∧
              (0 ≤ F47 3114 o ∧ F47 3114 o < 2) ∧
              jR ((A61 (o + 17) (F47 3114 o)) + 1) ∧
              ∀ A70 : jAr, A70 = upA A61 (o + 17) (F47 3114 o) ((A61 (o + 17) (F47 3114 o)) + 1) →
              Q F47 A70) ∧
            (¬ (((F47 3120 o) + (F47 3123 o)) ≤ v60) →
              (0 ≤ v60 ∧ v60 < 12) ∧
              (0 ≤ (12 * v16) + v60 ∧ (12 * v16) + v60 < 288) ∧
              ∀ A74 : jAr, A74 = upA A61 (o + 22) ((12 * v16) + v60) (A61 (o + 26) v60) →
              jR (v60 + 1) ∧
              I63 (v60 + 1) A74 ∧ m64 (v60 + 1) A74 < m64 v60 A61)) ∧
        (¬ ((F47 3024 o) ≤ 0) →
          Q F47 A48)) ∧
      ((¬ (F41 3024 o) = 0) →
        K50 F41 A42) ∧
      (¬ (¬ (F41 3024 o) = 0) →
        ∃ P77 : jFl → jAr → Prop, wpX9_rowing o F41 A42 P77 ∧ ∀ F80 A81, P77 F80 A81 →
        K50 F80 A81)) ∧
    ((¬ (F20 3024 o) = 0) →
      K35 F20 A29) ∧
    (¬ (¬ (F20 3024 o) = 0) →
      ((¬ (F20 3036 o) = (-1)) →
        K35 F20 A29) ∧
      (¬ (¬ (F20 3036 o) = (-1)) →
        ∃ P86 : Int → Prop, wpX9_isWord o 1937075815 F20 A29 P86 ∧ ∀ z88, P86 z88 →
        ((z88 = 0) →
          K35 F20 A29) ∧
        (¬ (z88 = 0) →
          (0 ≤ v16 ∧ v16 < 24) ∧
          ∀ A93 : jAr, A93 = upA A29 (o + 19) v16 1 →
          ∃ P95 : jFl → jAr → Prop, wpX9_ahead o F20 A93 P95 ∧ ∀ F98 A99, P95 F98 A99 →
          K35 F98 A99)))) ∧
  (¬ (¬ z7 = 0) →
    Q F8 A9)
theorem wX9_lawing {G : jG} {l : Launch} {d : Nat} {N : jSh} {o : Nat} {F : jFl} {A : jAr} {Q : jFl → jAr → Prop} (hd : 7 ≤ d) (hM : mShape G N o) (hW : jWf N F A) (h : wpX9_lawing o F A Q) : jCall G l d mX9_lawing [.ref o] N F A (jmV N Q) := by
  refine jCall.of (ls := [.ref o, jD, jD]) (by decide) rfl (Nat.le_of_ble_eq_true rfl) rfl ?_
  unfold wpX9_lawing at h
  refine j_aload_n dX9_lawing_0 rfl ?_
  refine j_aload_n dX9_lawing_1 rfl ?_
  refine j_getFR dX9_lawing_2 flX9_100_10 hM.1 rfl (mf_laws hM) ?_
  refine j_aload_n dX9_lawing_5 rfl ?_
  refine j_getI dX9_lawing_6 flX9_127_10 hM.1 rfl ?_
  obtain ⟨c1, h⟩ := h
  refine j_iald (n := 2) dX9_lawing_9 (mt_laws hM) (ml_laws hM) c1 ?_
  refine j_bipush dX9_lawing_10 ?_
  have jn4 : ∀ z3 : Int, z3 = (if ¬ (A (o + 17) (F 3114 o)) = 12 then 0 else 1) → J G l d mX9_lawing 20 [.ref o, jD, jD] [vI z3, .ref o] N F A (jmV N Q) := by
    intro z3 ez3
    have h := h z3 ez3
    obtain ⟨P5, hp6, h⟩ := h
    refine j_invV (As := [vI z3]) (rest := []) dX9_lawing_20 lkX9_342 hM.1 rfl rfl (wX9_counts (d := 3) (Nat.le_of_ble_eq_true rfl) hM hW (ez3 ▸ (jB_ite (by decide) (by decide))) hp6) rfl rfl (Nat.le_of_ble_eq_true rfl) (Nat.le_trans (Nat.le_of_ble_eq_true rfl) hd) (jkmB fun z7 F8 A9 hW10 p11 r12 => ?_)
    have h := h z7 F8 A9 p11
    obtain ⟨h1, h2⟩ := h
    refine j_if_ne 27 dX9_lawing_23 rfl (jR_b r12) (fun q13 => ?_) (fun q13 => ?_)
    · have h := h1 q13
      clear h1 h2
      refine j_bipush dX9_lawing_27 ?_
      refine j_aload_n dX9_lawing_29 rfl ?_
      refine j_getI dX9_lawing_30 flX9_127_10 hM.1 rfl ?_
      refine j_imul dX9_lawing_33 ?_
      refine j_aload_n dX9_lawing_34 rfl ?_
      refine j_getFR dX9_lawing_35 flX9_100_10 hM.1 rfl (mf_laws hM) ?_
      refine j_aload_n dX9_lawing_38 rfl ?_
      refine j_getI dX9_lawing_39 flX9_127_10 hM.1 rfl ?_
      obtain ⟨c14, h⟩ := h
      refine j_iald (n := 2) dX9_lawing_42 (mt_laws hM) (ml_laws hM) c14 ?_
      refine j_iadd dX9_lawing_43 ?_
      obtain ⟨r15, h⟩ := h
      obtain ⟨v16, ev16⟩ : ∃ x : Int, x = (12 * (F8 3114 o)) + (A9 (o + 17) (F8 3114 o)) := ⟨_, rfl⟩
      have h := h v16 ev16
      refine jnmI (e := ev16) ?_
      refine j_istore_n dX9_lawing_44 rfl ?_
      refine j_aload_n dX9_lawing_45 rfl ?_
      refine j_getFR dX9_lawing_46 flX9_103_10 hM.1 rfl (mf_lawName hM) ?_
      refine j_iload_n dX9_lawing_49 rfl ?_
      refine j_aload_n dX9_lawing_50 rfl ?_
      obtain ⟨P17, hp18, h⟩ := h
      refine j_invV (As := []) (rest := [vI v16, .ref (o + 18)]) dX9_lawing_51 lkX9_346 hM.1 rfl rfl (wX9_fresh (d := 3) (Nat.le_of_ble_eq_true rfl) hM hW10  hp18) rfl rfl (Nat.le_of_ble_eq_true rfl) (Nat.le_trans (Nat.le_of_ble_eq_true rfl) hd) (jkmL fun z19 F20 A21 hW22 p23 r24 => ?_)
      have h := h z19 F20 A21 p23
      obtain ⟨c25, h⟩ := h
      refine j_last (n := 24) dX9_lawing_54 (mt_lawName hM) (Nat.le_trans hM.2.1 (Nat.le_add_right _ _)) (ml_lawName hM) c25 ?_
      obtain ⟨A26, eA26⟩ : ∃ x : jAr, x = upA A21 (o + 18) v16 z19 := ⟨_, rfl⟩
      have hW27 : jWf N F20 A26 := eA26 ▸ jWf_A (i := v16) (z := z19) hW22 (mt_lawName hM) (jRk_1 rfl r24)
      refine jnmA (e := eA26) ?_
      have h := h A26 eA26
      refine j_aload_n dX9_lawing_55 rfl ?_
      refine j_getFR dX9_lawing_56 flX9_106_10 hM.1 rfl (mf_lawSung hM) ?_
      refine j_iload_n dX9_lawing_59 rfl ?_
      refine j_iconst dX9_lawing_60 ?_
      obtain ⟨c28, h⟩ := h
      refine j_iast (n := 24) dX9_lawing_61 (mt_lawSung hM) (Nat.le_trans hM.2.1 (Nat.le_add_right _ _)) (ml_lawSung hM) c28 ?_
      obtain ⟨A29, eA29⟩ : ∃ x : jAr, x = upA A26 (o + 19) v16 0 := ⟨_, rfl⟩
      have hW30 : jWf N F20 A29 := eA29 ▸ jWf_A (i := v16) (z := 0) hW27 (mt_lawSung hM) (jRk_0 rfl (by decide))
      refine jnmA (e := eA29) ?_
      have h := h A29 eA29
      refine j_aload_n dX9_lawing_62 rfl ?_
      refine j_getI dX9_lawing_63 flX9_36_10 hM.1 rfl ?_
      obtain ⟨K35, hK37, h⟩ := h
      have jn36 : ∀ (F32 : jFl) (A33 : jAr), jWf N F32 A33 → K35 F32 A33 → J G l d mX9_lawing 98 [.ref o, vI v16, jD] [] N F32 A33 (jmV N Q) := by
        intro F32 A33 hW34  h
        have h := hK37 F32 A33 h
        refine j_aload_n dX9_lawing_98 rfl ?_
        refine j_ldc2 (n := 1935767923) dX9_lawing_99 q2249 ?_
        obtain ⟨P38, hp39, h⟩ := h
        refine j_invV (As := [vL 1935767923]) (rest := []) dX9_lawing_102 lkX9_350 hM.1 rfl rfl (wX9_must (d := 3) (Nat.le_of_ble_eq_true rfl) hM hW34 (by decide) hp39) rfl rfl (Nat.le_of_ble_eq_true rfl) (Nat.le_trans (Nat.le_of_ble_eq_true rfl) hd) (jkmV fun F41 A42 hW43 p44 => ?_)
        have h := h F41 A42 p44
        refine j_aload_n dX9_lawing_105 rfl ?_
        refine j_getI dX9_lawing_106 flX9_36_10 hM.1 rfl ?_
        obtain ⟨K50, hK52, h⟩ := h
        have jn51 : ∀ (F47 : jFl) (A48 : jAr), jWf N F47 A48 → K50 F47 A48 → J G l d mX9_lawing 116 [.ref o, vI v16, jD] [] N F47 A48 (jmV N Q) := by
          intro F47 A48 hW49  h
          have h := hK52 F47 A48 h
          refine j_aload_n dX9_lawing_116 rfl ?_
          refine j_getI dX9_lawing_117 flX9_36_10 hM.1 rfl ?_
          obtain ⟨h1, h2⟩ := h
          refine j_if_le 124 dX9_lawing_120 rfl (hW49.fi rfl) (fun q53 => ?_) (fun q53 => ?_)
          · have h := h1 q53
            clear h1 h2
            refine j_aload_n dX9_lawing_124 rfl ?_
            refine j_getFR dX9_lawing_125 flX9_109_10 hM.1 rfl (mf_lawMain hM) ?_
            refine j_iload_n dX9_lawing_128 rfl ?_
            refine j_aload_n dX9_lawing_129 rfl ?_
            refine j_getI dX9_lawing_130 flX9_133_10 hM.1 rfl ?_
            obtain ⟨c54, h⟩ := h
            refine j_iast (n := 24) dX9_lawing_133 (mt_lawMain hM) (Nat.le_trans hM.2.1 (Nat.le_add_right _ _)) (ml_lawMain hM) c54 ?_
            obtain ⟨A55, eA55⟩ : ∃ x : jAr, x = upA A48 (o + 20) v16 (F47 3120 o) := ⟨_, rfl⟩
            have hW56 : jWf N F47 A55 := eA55 ▸ jWf_A (i := v16) (z := F47 3120 o) hW49 (mt_lawMain hM) (jRk_0 rfl (hW49.fi rfl))
            refine jnmA (e := eA55) ?_
            have h := h A55 eA55
            refine j_aload_n dX9_lawing_134 rfl ?_
            refine j_getFR dX9_lawing_135 flX9_112_10 hM.1 rfl (mf_lawExcept hM) ?_
            refine j_iload_n dX9_lawing_138 rfl ?_
            refine j_aload_n dX9_lawing_139 rfl ?_
            refine j_getI dX9_lawing_140 flX9_136_10 hM.1 rfl ?_
            obtain ⟨c57, h⟩ := h
            refine j_iast (n := 24) dX9_lawing_143 (mt_lawExcept hM) (Nat.le_trans hM.2.1 (Nat.le_add_right _ _)) (ml_lawExcept hM) c57 ?_
            obtain ⟨A58, eA58⟩ : ∃ x : jAr, x = upA A55 (o + 21) v16 (F47 3123 o) := ⟨_, rfl⟩
            have hW59 : jWf N F47 A58 := eA58 ▸ jWf_A (i := v16) (z := F47 3123 o) hW56 (mt_lawExcept hM) (jRk_0 rfl (hW56.fi rfl))
            refine jnmA (e := eA58) ?_
            have h := h A58 eA58
            refine j_iconst dX9_lawing_144 ?_
            refine j_istore_n dX9_lawing_145 rfl ?_
            obtain ⟨I63, m64, h0, hs⟩ := h
            have lp : ∀ (n : Nat) (v60 : Int) (A61 : jAr), m64 v60 A61 < n → jWf N F47 A61 → jR v60 → I63 v60 A61 → J G l d mX9_lawing 146 [.ref o, vI v16, vI v60] [] N F47 A61 (jmV N Q) := by
              intro nI63
              induction nI63 with
              | zero =>
                intro v60 A61 hmu
                exact absurd hmu (Nat.not_lt_zero _)
              | succ nI63 ihI63 =>
                intro v60 A61 hmuI63 hW62 rv60 hI
                have h := hs v60 A61 hI
                refine j_iload_n dX9_lawing_146 rfl ?_
                refine j_aload_n dX9_lawing_147 rfl ?_
                refine j_getI dX9_lawing_148 flX9_133_10 hM.1 rfl ?_
                refine j_aload_n dX9_lawing_151 rfl ?_
                refine j_getI dX9_lawing_152 flX9_136_10 hM.1 rfl ?_
                refine j_iadd dX9_lawing_155 ?_
                obtain ⟨r65, h⟩ := h
                obtain ⟨h1, h2⟩ := h
                refine j_icmp_ge 182 dX9_lawing_156 rfl rv60 r65 (fun q66 => ?_) (fun q66 => ?_)
                · have h := h1 q66
                  clear h1 h2
                  refine j_aload_n dX9_lawing_182 rfl ?_
                  refine j_getFR dX9_lawing_183 flX9_100_10 hM.1 rfl (mf_laws hM) ?_
                  refine j_aload_n dX9_lawing_186 rfl ?_
                  refine j_getI dX9_lawing_187 flX9_127_10 hM.1 rfl ?_
                  refine j_dup2 dX9_lawing_190 rfl rfl ?_
                  obtain ⟨c67, h⟩ := h
                  refine j_iald (n := 2) dX9_lawing_191 (mt_laws hM) (ml_laws hM) c67 ?_
                  refine j_iconst dX9_lawing_192 ?_
                  refine j_iadd dX9_lawing_193 ?_
                  obtain ⟨c68, h⟩ := h
                  obtain ⟨r69, h⟩ := h
                  refine j_iast (n := 2) dX9_lawing_194 (mt_laws hM) (Nat.le_trans hM.2.1 (Nat.le_add_right _ _)) (ml_laws hM) c68 ?_
                  obtain ⟨A70, eA70⟩ : ∃ x : jAr, x = upA A61 (o + 17) (F47 3114 o) ((A61 (o + 17) (F47 3114 o)) + 1) := ⟨_, rfl⟩
                  have hW71 : jWf N F47 A70 := eA70 ▸ jWf_A (i := F47 3114 o) (z := (A61 (o + 17) (F47 3114 o)) + 1) hW62 (mt_laws hM) (jRk_0 rfl r69)
                  refine jnmA (e := eA70) ?_
                  have h := h A70 eA70
                  exact j_vret dX9_lawing_195 rfl ⟨rfl, rfl, hW71, h⟩
                · have h := h2 q66
                  clear h1 h2
                  refine j_aload_n dX9_lawing_159 rfl ?_
                  refine j_getFR dX9_lawing_160 flX9_115_10 hM.1 rfl (mf_lawWords hM) ?_
                  refine j_bipush dX9_lawing_163 ?_
                  refine j_iload_n dX9_lawing_165 rfl ?_
                  refine j_imul dX9_lawing_166 ?_
                  refine j_iload_n dX9_lawing_167 rfl ?_
                  refine j_iadd dX9_lawing_168 ?_
                  refine j_aload_n dX9_lawing_169 rfl ?_
                  refine j_getFR dX9_lawing_170 flX9_130_10 hM.1 rfl (mf_readRow hM) ?_
                  refine j_iload_n dX9_lawing_173 rfl ?_
                  obtain ⟨c72, h⟩ := h
                  refine j_iald (n := 12) dX9_lawing_174 (mt_readRow hM) (ml_readRow hM) c72 ?_
                  obtain ⟨c73, h⟩ := h
                  refine j_iast (n := 288) dX9_lawing_175 (mt_lawWords hM) (Nat.le_trans hM.2.1 (Nat.le_add_right _ _)) (ml_lawWords hM) c73 ?_
                  obtain ⟨A74, eA74⟩ : ∃ x : jAr, x = upA A61 (o + 22) ((12 * v16) + v60) (A61 (o + 26) v60) := ⟨_, rfl⟩
                  have hW75 : jWf N F47 A74 := eA74 ▸ jWf_A (i := (12 * v16) + v60) (z := A61 (o + 26) v60) hW62 (mt_lawWords hM) (jRk_0 rfl (hW62.ai (mt_readRow hM) rfl))
                  refine jnmA (e := eA74) ?_
                  have h := h A74 eA74
                  obtain ⟨r76, h⟩ := h
                  refine j_iinc dX9_lawing_176 rfl rfl ?_
                  refine j_goto 146 dX9_lawing_179 rfl ?_
                  exact J.wk ((((jWk.nil).eq).eq).eq) (ihI63 _ _ (Nat.lt_of_lt_of_le h.2 (Nat.le_of_lt_succ hmuI63)) hW75 r76 h.1)
            exact J.wk ((((jWk.nil).eq).eq).eq) (lp _ _ _ (Nat.lt_succ_self _) hW59 (by decide) h0)
          · have h := h2 q53
            clear h1 h2
            exact j_vret dX9_lawing_123 rfl ⟨rfl, rfl, hW49, h⟩
        obtain ⟨h1, h2⟩ := h
        refine j_if_ne 116 dX9_lawing_109 rfl (hW43.fi rfl) (fun q46 => ?_) (fun q46 => ?_)
        · have h := h1 q46
          clear h1 h2
          exact J.wk ((((jWk.nil).no).eq).eq) (jn51 _ _ hW43  h)
        · have h := h2 q46
          clear h1 h2
          refine j_aload_n dX9_lawing_112 rfl ?_
          obtain ⟨P77, hp78, h⟩ := h
          refine j_invV (As := []) (rest := []) dX9_lawing_113 lkX9_364 hM.1 rfl rfl (wX9_rowing (d := 6) (Nat.le_of_ble_eq_true rfl) hM hW43  hp78) rfl rfl (Nat.le_of_ble_eq_true rfl) (Nat.le_trans (Nat.le_of_ble_eq_true rfl) hd) (jkmV fun F80 A81 hW82 p83 => ?_)
          have h := h F80 A81 p83
          exact J.wk ((((jWk.nil).no).eq).eq) (jn51 _ _ hW82  h)
      obtain ⟨h1, h2⟩ := h
      refine j_if_ne 98 dX9_lawing_66 rfl (hW30.fi rfl) (fun q31 => ?_) (fun q31 => ?_)
      · have h := h1 q31
        clear h1 h2
        exact J.wk ((((jWk.nil).no).eq).eq) (jn36 _ _ hW30  h)
      · have h := h2 q31
        clear h1 h2
        refine j_aload_n dX9_lawing_69 rfl ?_
        refine j_getI dX9_lawing_70 flX9_48_10 hM.1 rfl ?_
        refine j_iconst dX9_lawing_73 ?_
        obtain ⟨h1, h2⟩ := h
        refine j_icmp_ne 98 dX9_lawing_74 rfl (hW30.fi rfl) (by decide) (fun q85 => ?_) (fun q85 => ?_)
        · have h := h1 q85
          clear h1 h2
          exact J.wk ((((jWk.nil).no).eq).eq) (jn36 _ _ hW30  h)
        · have h := h2 q85
          clear h1 h2
          refine j_aload_n dX9_lawing_77 rfl ?_
          refine j_ldc2 (n := 1937075815) dX9_lawing_78 q2248 ?_
          obtain ⟨P86, hp87, h⟩ := h
          refine j_invV (As := [vL 1937075815]) (rest := []) dX9_lawing_81 lkX9_328 hM.1 rfl rfl (wX9_isWord (d := 1) (Nat.le_of_ble_eq_true rfl) hM hW30 (by decide) hp87) rfl rfl (Nat.le_of_ble_eq_true rfl) (Nat.le_trans (Nat.le_of_ble_eq_true rfl) hd) (jkpB fun z88 p89 r90 => ?_)
          have h := h z88 p89
          obtain ⟨h1, h2⟩ := h
          refine j_if_eq 98 dX9_lawing_84 rfl (jR_b r90) (fun q91 => ?_) (fun q91 => ?_)
          · have h := h1 q91
            clear h1 h2
            exact J.wk ((((jWk.nil).no).eq).eq) (jn36 _ _ hW30  h)
          · have h := h2 q91
            clear h1 h2
            refine j_aload_n dX9_lawing_87 rfl ?_
            refine j_getFR dX9_lawing_88 flX9_106_10 hM.1 rfl (mf_lawSung hM) ?_
            refine j_iload_n dX9_lawing_91 rfl ?_
            refine j_iconst dX9_lawing_92 ?_
            obtain ⟨c92, h⟩ := h
            refine j_iast (n := 24) dX9_lawing_93 (mt_lawSung hM) (Nat.le_trans hM.2.1 (Nat.le_add_right _ _)) (ml_lawSung hM) c92 ?_
            obtain ⟨A93, eA93⟩ : ∃ x : jAr, x = upA A29 (o + 19) v16 1 := ⟨_, rfl⟩
            have hW94 : jWf N F20 A93 := eA93 ▸ jWf_A (i := v16) (z := 1) hW30 (mt_lawSung hM) (jRk_0 rfl (by decide))
            refine jnmA (e := eA93) ?_
            have h := h A93 eA93
            refine j_aload_n dX9_lawing_94 rfl ?_
            obtain ⟨P95, hp96, h⟩ := h
            refine j_invV (As := []) (rest := []) dX9_lawing_95 lkX9_279 hM.1 rfl rfl (wX9_ahead (d := 2) (Nat.le_of_ble_eq_true rfl) hM hW94  hp96) rfl rfl (Nat.le_of_ble_eq_true rfl) (Nat.le_trans (Nat.le_of_ble_eq_true rfl) hd) (jkmV fun F98 A99 hW100 p101 => ?_)
            have h := h F98 A99 p101
            exact J.wk ((((jWk.nil).no).eq).eq) (jn36 _ _ hW100  h)
    · have h := h2 q13
      clear h1 h2
      exact j_vret dX9_lawing_26 rfl ⟨rfl, rfl, hW10, h⟩
  clear h
  refine j_icmp_ne 19 dX9_lawing_12 rfl (hW.ai (mt_laws hM) rfl) (by decide) (fun q2 => ?_) (fun q2 => ?_)
  · refine j_iconst dX9_lawing_19 ?_
    exact jn4 _ ((if_pos q2).symm)
  · refine j_iconst dX9_lawing_15 ?_
    refine j_goto 20 dX9_lawing_16 rfl ?_
    exact jn4 _ ((if_neg q2).symm)
/-- runs(III)I -/
def wpX9_runs (o : Nat) (a1 : Int) (a2 : Int) (a3 : Int) (F : jFl) (A : jAr) (Q : Int → jFl → jAr → Prop) : Prop :=
  ∃ P1 : Int → Prop, wpX9_is o a1 1 20 F A P1 ∧ ∀ z3, P1 z3 →
  ((z3 = 0) →
    Q (-1) F A) ∧
  (¬ (z3 = 0) →
    ∃ P7 : Int → Prop, wpX9_isStanding o a2 F A P7 ∧ ∀ z9, P7 z9 →
    ((z9 = 0) →
      Q (-1) F A) ∧
    (¬ (z9 = 0) →
      ∃ P13 : Int → Prop, wpX9_is o a3 0 2 F A P13 ∧ ∀ z15, P13 z15 →
      ((¬ z15 = 0) →
        ∃ (I26 : Int → Int → Int → Int → jFl → jAr → Prop) (m27 : Int → Int → Int → Int → jFl → jAr → Nat), I26 0 0 0 0 F A ∧ ∀ (v19 : Int) (v20 : Int) (v21 : Int) (v22 : Int) (F23 : jFl) (A24 : jAr), I26 v19 v20 v21 v22 F23 A24 →
          ((a1 ≤ v22) →
            ((¬ a3 = 0) →
              ∀ z31 : Int, z31 = (if ¬ a3 = 1 then v21 else v20) →
              Q z31 F23 A24) ∧
            (¬ (¬ a3 = 0) →
              Q v19 F23 A24)) ∧
          (¬ (a1 ≤ v22) →
            ∃ P33 : jFl → jAr → Prop, wpX9_copies o 1 0 F23 A24 P33 ∧ ∀ F36 A37, P33 F36 A37 →
            ∃ (I46 : Int → Int → jFl → jAr → Prop) (m47 : Int → Int → jFl → jAr → Nat), I46 v21 0 F36 A37 ∧ ∀ (v41 : Int) (v42 : Int) (F43 : jFl) (A44 : jAr), I46 v41 v42 F43 A44 →
              ∃ K49 : Prop, (
                K49 →
                ∃ P52 : Int → Prop, wpX9_isAsNow o 1 a2 F43 A44 P52 ∧ ∀ z54, P52 z54 →
                ∀ z58 : Int, z58 = (if z54 = 0 then 0 else 1) →
                jR (v19 + z58) ∧
                ∀ v61 : Int, v61 = v19 + z58 →
                ∃ P62 : Int → Prop, wpX9_stands o 1 a2 F43 A44 P62 ∧ ∀ z64, P62 z64 →
                ∀ z68 : Int, z68 = (if z64 = 0 then 1 else 0) →
                jR (v20 + z68) ∧
                ∀ v71 : Int, v71 = v20 + z68 →
                jR (v22 + 1) ∧
                I26 v61 v71 v41 (v22 + 1) F43 A44 ∧ m27 v61 v71 v41 (v22 + 1) F43 A44 < m27 v19 v20 v21 v22 F23 A24) ∧
              ((45 ≤ v42) →
                K49 ) ∧
              (¬ (45 ≤ v42) →
                ((9999 ≤ (A44 (o + 28) 1)) →
                  K49 ) ∧
                (¬ (9999 ≤ (A44 (o + 28) 1)) →
                  ∃ P75 : jFl → jAr → Prop, wpX9_yearGoes o 1 F43 A44 P75 ∧ ∀ F78 A79, P75 F78 A79 →
                  ∃ P83 : Int → Prop, wpX9_isAsNow o 1 a2 F78 A79 P83 ∧ ∀ z85, P83 z85 →
                  ∀ z89 : Int, z89 = (if z85 = 0 then 0 else 1) →
                  jR (v41 + z89) ∧
                  ∀ v92 : Int, v92 = v41 + z89 →
                  jR (v42 + 1) ∧
                  I46 v92 (v42 + 1) F78 A79 ∧ m47 v92 (v42 + 1) F78 A79 < m47 v41 v42 F43 A44)))) ∧
      (¬ (¬ z15 = 0) →
        Q (-1) F A)))
theorem wX9_runs {G : jG} {l : Launch} {d : Nat} {N : jSh} {o : Nat} {F : jFl} {A : jAr} {a1 a2 a3 : Int} {Q : Int → jFl → jAr → Prop} (hd : 7 ≤ d) (hM : mShape G N o) (hW : jWf N F A) (ra1 : jR a1) (ra2 : jR a2) (ra3 : jR a3) (h : wpX9_runs o a1 a2 a3 F A Q) : jCall G l d mX9_runs [.ref o, vI a1, vI a2, vI a3] N F A (jmI N Q) := by
  refine jCall.of (ls := [.ref o, vI a1, vI a2, vI a3, jD, jD, jD, jD, jD]) (by decide) rfl (Nat.le_of_ble_eq_true rfl) rfl ?_
  unfold wpX9_runs at h
  refine j_iload_n dX9_runs_0 rfl ?_
  refine j_iconst dX9_runs_1 ?_
  refine j_bipush dX9_runs_2 ?_
  obtain ⟨P1, hp2, h⟩ := h
  refine j_invS (As := [vI a1, vI 1, vI 20]) (rest := []) dX9_runs_4 lkX9_324 (wX9_is (d := 1) (Nat.le_of_ble_eq_true rfl) hM hW ra1 (by decide) (by decide) hp2) rfl rfl (Nat.le_of_ble_eq_true rfl) (Nat.le_trans (Nat.le_of_ble_eq_true rfl) hd) (jkpB fun z3 p4 r5 => ?_)
  have h := h z3 p4
  obtain ⟨h1, h2⟩ := h
  refine j_if_eq 27 dX9_runs_7 rfl (jR_b r5) (fun q6 => ?_) (fun q6 => ?_)
  · have h := h1 q6
    clear h1 h2
    refine j_iconst dX9_runs_27 ?_
    exact j_iret dX9_runs_28 rfl ⟨_, rfl, rfl, hW, h, (by decide)⟩
  · have h := h2 q6
    clear h1 h2
    refine j_aload_n dX9_runs_10 rfl ?_
    refine j_iload_n dX9_runs_11 rfl ?_
    obtain ⟨P7, hp8, h⟩ := h
    refine j_invV (As := [vI a2]) (rest := []) dX9_runs_12 lkX9_429 hM.1 rfl rfl (wX9_isStanding (d := 2) (Nat.le_of_ble_eq_true rfl) hM hW ra2 hp8) rfl rfl (Nat.le_of_ble_eq_true rfl) (Nat.le_trans (Nat.le_of_ble_eq_true rfl) hd) (jkpB fun z9 p10 r11 => ?_)
    have h := h z9 p10
    obtain ⟨h1, h2⟩ := h
    refine j_if_eq 27 dX9_runs_15 rfl (jR_b r11) (fun q12 => ?_) (fun q12 => ?_)
    · have h := h1 q12
      clear h1 h2
      refine j_iconst dX9_runs_27 ?_
      exact j_iret dX9_runs_28 rfl ⟨_, rfl, rfl, hW, h, (by decide)⟩
    · have h := h2 q12
      clear h1 h2
      refine j_iload_n dX9_runs_18 rfl ?_
      refine j_iconst dX9_runs_19 ?_
      refine j_iconst dX9_runs_20 ?_
      obtain ⟨P13, hp14, h⟩ := h
      refine j_invS (As := [vI a3, vI 0, vI 2]) (rest := []) dX9_runs_21 lkX9_324 (wX9_is (d := 1) (Nat.le_of_ble_eq_true rfl) hM hW ra3 (by decide) (by decide) hp14) rfl rfl (Nat.le_of_ble_eq_true rfl) (Nat.le_trans (Nat.le_of_ble_eq_true rfl) hd) (jkpB fun z15 p16 r17 => ?_)
      have h := h z15 p16
      obtain ⟨h1, h2⟩ := h
      refine j_if_ne 29 dX9_runs_24 rfl (jR_b r17) (fun q18 => ?_) (fun q18 => ?_)
      · have h := h1 q18
        clear h1 h2
        refine j_iconst dX9_runs_29 ?_
        refine j_istore dX9_runs_30 rfl ?_
        refine j_iconst dX9_runs_32 ?_
        refine j_istore dX9_runs_33 rfl ?_
        refine j_iconst dX9_runs_35 ?_
        refine j_istore dX9_runs_36 rfl ?_
        refine j_iconst dX9_runs_38 ?_
        refine j_istore dX9_runs_39 rfl ?_
        obtain ⟨I26, m27, h0, hs⟩ := h
        have lp : ∀ (n : Nat) (v19 : Int) (v20 : Int) (v21 : Int) (v22 : Int) (F23 : jFl) (A24 : jAr), m27 v19 v20 v21 v22 F23 A24 < n → jWf N F23 A24 → jR v19 → jR v20 → jR v21 → jR v22 → I26 v19 v20 v21 v22 F23 A24 → J G l d mX9_runs 41 [.ref o, vI a1, vI a2, vI a3, vI v19, vI v20, vI v21, vI v22, jD] [] N F23 A24 (jmI N Q) := by
          intro nI26
          induction nI26 with
          | zero =>
            intro v19 v20 v21 v22 F23 A24 hmu
            exact absurd hmu (Nat.not_lt_zero _)
          | succ nI26 ihI26 =>
            intro v19 v20 v21 v22 F23 A24 hmuI26 hW25 rv19 rv20 rv21 rv22 hI
            have h := hs v19 v20 v21 v22 F23 A24 hI
            refine j_iload dX9_runs_41 rfl ?_
            refine j_iload_n dX9_runs_43 rfl ?_
            obtain ⟨h1, h2⟩ := h
            refine j_icmp_ge 149 dX9_runs_44 rfl rv22 ra1 (fun q28 => ?_) (fun q28 => ?_)
            · have h := h1 q28
              clear h1 h2
              refine j_iload_n dX9_runs_149 rfl ?_
              obtain ⟨h1, h2⟩ := h
              refine j_if_ne 158 dX9_runs_150 rfl ra3 (fun q29 => ?_) (fun q29 => ?_)
              · have h := h1 q29
                clear h1 h2
                refine j_iload_n dX9_runs_158 rfl ?_
                refine j_iconst dX9_runs_159 ?_
                have jn32 : ∀ z31 : Int, z31 = (if ¬ a3 = 1 then v21 else v20) → J G l d mX9_runs 170 [.ref o, vI a1, vI a2, vI a3, vI v19, vI v20, vI v21, vI v22, jD] [vI z31] N F23 A24 (jmI N Q) := by
                  intro z31 ez31
                  have h := h z31 ez31
                  exact j_iret dX9_runs_170 rfl ⟨_, rfl, rfl, hW25, h, (ez31 ▸ (jR_ite rv21 rv20))⟩
                clear h
                refine j_icmp_ne 168 dX9_runs_160 rfl ra3 (by decide) (fun q30 => ?_) (fun q30 => ?_)
                · refine j_iload dX9_runs_168 rfl ?_
                  exact jn32 _ ((if_pos q30).symm)
                · refine j_iload dX9_runs_163 rfl ?_
                  refine j_goto 170 dX9_runs_165 rfl ?_
                  exact jn32 _ ((if_neg q30).symm)
              · have h := h2 q29
                clear h1 h2
                refine j_iload dX9_runs_153 rfl ?_
                refine j_goto 170 dX9_runs_155 rfl ?_
                exact j_iret dX9_runs_170 rfl ⟨_, rfl, rfl, hW25, h, rv19⟩
            · have h := h2 q28
              clear h1 h2
              refine j_aload_n dX9_runs_47 rfl ?_
              refine j_iconst dX9_runs_48 ?_
              refine j_iconst dX9_runs_49 ?_
              obtain ⟨P33, hp34, h⟩ := h
              refine j_invV (As := [vI 1, vI 0]) (rest := []) dX9_runs_50 lkX9_406 hM.1 rfl rfl (wX9_copies (d := 1) (Nat.le_of_ble_eq_true rfl) hM hW25 (by decide) (by decide) hp34) rfl rfl (Nat.le_of_ble_eq_true rfl) (Nat.le_trans (Nat.le_of_ble_eq_true rfl) hd) (jkmV fun F36 A37 hW38 p39 => ?_)
              have h := h F36 A37 p39
              refine j_iconst dX9_runs_53 ?_
              refine j_istore dX9_runs_54 rfl ?_
              obtain ⟨I46, m47, h0, hs⟩ := h
              have lp : ∀ (n : Nat) (v41 : Int) (v42 : Int) (F43 : jFl) (A44 : jAr), m47 v41 v42 F43 A44 < n → jWf N F43 A44 → jR v41 → jR v42 → I46 v41 v42 F43 A44 → J G l d mX9_runs 56 [.ref o, vI a1, vI a2, vI a3, vI v19, vI v20, vI v41, vI v22, vI v42] [] N F43 A44 (jmI N Q) := by
                intro nI46
                induction nI46 with
                | zero =>
                  intro v41 v42 F43 A44 hmu
                  exact absurd hmu (Nat.not_lt_zero _)
                | succ nI46 ihI46 =>
                  intro v41 v42 F43 A44 hmuI46 hW45 rv41 rv42 hI
                  have h := hs v41 v42 F43 A44 hI
                  refine j_iload dX9_runs_56 rfl ?_
                  refine j_bipush dX9_runs_58 ?_
                  obtain ⟨K49, hK51, h⟩ := h
                  have jn50 : K49  → J G l d mX9_runs 105 [.ref o, vI a1, vI a2, vI a3, vI v19, vI v20, vI v41, vI v22, jD] [] N F43 A44 (jmI N Q) := by
                    intro   h
                    have h := hK51  h
                    refine j_iload dX9_runs_105 rfl ?_
                    refine j_aload_n dX9_runs_107 rfl ?_
                    refine j_iconst dX9_runs_108 ?_
                    refine j_iload_n dX9_runs_109 rfl ?_
                    obtain ⟨P52, hp53, h⟩ := h
                    refine j_invV (As := [vI 1, vI a2]) (rest := [vI v19]) dX9_runs_110 lkX9_552 hM.1 rfl rfl (wX9_isAsNow (d := 1) (Nat.le_of_ble_eq_true rfl) hM hW45 (by decide) ra2 hp53) rfl rfl (Nat.le_of_ble_eq_true rfl) (Nat.le_trans (Nat.le_of_ble_eq_true rfl) hd) (jkpB fun z54 p55 r56 => ?_)
                    have h := h z54 p55
                    have jn59 : ∀ z58 : Int, z58 = (if z54 = 0 then 0 else 1) → J G l d mX9_runs 121 [.ref o, vI a1, vI a2, vI a3, vI v19, vI v20, vI v41, vI v22, jD] [vI z58, vI v19] N F43 A44 (jmI N Q) := by
                      intro z58 ez58
                      have h := h z58 ez58
                      refine j_iadd dX9_runs_121 ?_
                      obtain ⟨r60, h⟩ := h
                      obtain ⟨v61, ev61⟩ : ∃ x : Int, x = v19 + z58 := ⟨_, rfl⟩
                      have h := h v61 ev61
                      refine jnmI (e := ev61) ?_
                      refine j_istore dX9_runs_122 rfl ?_
                      refine j_iload dX9_runs_124 rfl ?_
                      refine j_aload_n dX9_runs_126 rfl ?_
                      refine j_iconst dX9_runs_127 ?_
                      refine j_iload_n dX9_runs_128 rfl ?_
                      obtain ⟨P62, hp63, h⟩ := h
                      refine j_invV (As := [vI 1, vI a2]) (rest := [vI v20]) dX9_runs_129 lkX9_399 hM.1 rfl rfl (wX9_stands (d := 1) (Nat.le_of_ble_eq_true rfl) hM hW45 (by decide) ra2 hp63) rfl rfl (Nat.le_of_ble_eq_true rfl) (Nat.le_trans (Nat.le_of_ble_eq_true rfl) hd) (jkpB fun z64 p65 r66 => ?_)
                      have h := h z64 p65
                      have jn69 : ∀ z68 : Int, z68 = (if z64 = 0 then 1 else 0) → J G l d mX9_runs 140 [.ref o, vI a1, vI a2, vI a3, vI v61, vI v20, vI v41, vI v22, jD] [vI z68, vI v20] N F43 A44 (jmI N Q) := by
                        intro z68 ez68
                        have h := h z68 ez68
                        refine j_iadd dX9_runs_140 ?_
                        obtain ⟨r70, h⟩ := h
                        obtain ⟨v71, ev71⟩ : ∃ x : Int, x = v20 + z68 := ⟨_, rfl⟩
                        have h := h v71 ev71
                        refine jnmI (e := ev71) ?_
                        refine j_istore dX9_runs_141 rfl ?_
                        obtain ⟨r72, h⟩ := h
                        refine j_iinc dX9_runs_143 rfl rfl ?_
                        refine j_goto 41 dX9_runs_146 rfl ?_
                        exact J.wk ((((((((((jWk.nil).no).eq).eq).eq).eq).eq).eq).eq).eq) (ihI26 _ _ _ _ _ _ (Nat.lt_of_lt_of_le h.2 (Nat.le_of_lt_succ hmuI26)) hW45 (ev61 ▸ r60) (ev71 ▸ r70) rv41 r72 h.1)
                      clear h
                      refine j_if_eq 139 dX9_runs_132 rfl (jR_b r66) (fun q67 => ?_) (fun q67 => ?_)
                      · refine j_iconst dX9_runs_139 ?_
                        exact jn69 _ ((if_pos q67).symm)
                      · refine j_iconst dX9_runs_135 ?_
                        refine j_goto 140 dX9_runs_136 rfl ?_
                        exact jn69 _ ((if_neg q67).symm)
                    clear h
                    refine j_if_eq 120 dX9_runs_113 rfl (jR_b r56) (fun q57 => ?_) (fun q57 => ?_)
                    · refine j_iconst dX9_runs_120 ?_
                      exact jn59 _ ((if_pos q57).symm)
                    · refine j_iconst dX9_runs_116 ?_
                      refine j_goto 121 dX9_runs_117 rfl ?_
                      exact jn59 _ ((if_neg q57).symm)
                  obtain ⟨h1, h2⟩ := h
                  refine j_icmp_ge 105 dX9_runs_60 rfl rv42 (by decide) (fun q48 => ?_) (fun q48 => ?_)
                  · have h := h1 q48
                    clear h1 h2
                    exact J.wk ((((((((((jWk.nil).no).eq).eq).eq).eq).eq).eq).eq).eq) (jn50   h)
                  · have h := h2 q48
                    clear h1 h2
                    refine j_aload_n dX9_runs_63 rfl ?_
                    refine j_getFR dX9_runs_64 flX9_142_10 hM.1 rfl (mf_year hM) ?_
                    refine j_iconst dX9_runs_67 ?_
                    refine j_iald (n := 22) dX9_runs_68 (mt_year hM) (ml_year hM) (by decide) ?_
                    refine j_sipush dX9_runs_69 ?_
                    obtain ⟨h1, h2⟩ := h
                    refine j_icmp_ge 105 dX9_runs_72 rfl (hW45.ai (mt_year hM) rfl) (by decide) (fun q74 => ?_) (fun q74 => ?_)
                    · have h := h1 q74
                      clear h1 h2
                      exact J.wk ((((((((((jWk.nil).no).eq).eq).eq).eq).eq).eq).eq).eq) (jn50   h)
                    · have h := h2 q74
                      clear h1 h2
                      refine j_aload_n dX9_runs_75 rfl ?_
                      refine j_iconst dX9_runs_76 ?_
                      obtain ⟨P75, hp76, h⟩ := h
                      refine j_invV (As := [vI 1]) (rest := []) dX9_runs_77 lkX9_477 hM.1 rfl rfl (wX9_yearGoes (d := 6) (Nat.le_of_ble_eq_true rfl) hM hW45 (by decide) hp76) rfl rfl (Nat.le_of_ble_eq_true rfl) (Nat.le_trans (Nat.le_of_ble_eq_true rfl) hd) (jkmV fun F78 A79 hW80 p81 => ?_)
                      have h := h F78 A79 p81
                      refine j_iload dX9_runs_80 rfl ?_
                      refine j_aload_n dX9_runs_82 rfl ?_
                      refine j_iconst dX9_runs_83 ?_
                      refine j_iload_n dX9_runs_84 rfl ?_
                      obtain ⟨P83, hp84, h⟩ := h
                      refine j_invV (As := [vI 1, vI a2]) (rest := [vI v41]) dX9_runs_85 lkX9_552 hM.1 rfl rfl (wX9_isAsNow (d := 1) (Nat.le_of_ble_eq_true rfl) hM hW80 (by decide) ra2 hp84) rfl rfl (Nat.le_of_ble_eq_true rfl) (Nat.le_trans (Nat.le_of_ble_eq_true rfl) hd) (jkpB fun z85 p86 r87 => ?_)
                      have h := h z85 p86
                      have jn90 : ∀ z89 : Int, z89 = (if z85 = 0 then 0 else 1) → J G l d mX9_runs 96 [.ref o, vI a1, vI a2, vI a3, vI v19, vI v20, vI v41, vI v22, vI v42] [vI z89, vI v41] N F78 A79 (jmI N Q) := by
                        intro z89 ez89
                        have h := h z89 ez89
                        refine j_iadd dX9_runs_96 ?_
                        obtain ⟨r91, h⟩ := h
                        obtain ⟨v92, ev92⟩ : ∃ x : Int, x = v41 + z89 := ⟨_, rfl⟩
                        have h := h v92 ev92
                        refine jnmI (e := ev92) ?_
                        refine j_istore dX9_runs_97 rfl ?_
                        obtain ⟨r93, h⟩ := h
                        refine j_iinc dX9_runs_99 rfl rfl ?_
                        refine j_goto 56 dX9_runs_102 rfl ?_
                        exact J.wk ((((((((((jWk.nil).eq).eq).eq).eq).eq).eq).eq).eq).eq) (ihI46 _ _ _ _ (Nat.lt_of_lt_of_le h.2 (Nat.le_of_lt_succ hmuI46)) hW80 (ev92 ▸ r91) r93 h.1)
                      clear h
                      refine j_if_eq 95 dX9_runs_88 rfl (jR_b r87) (fun q88 => ?_) (fun q88 => ?_)
                      · refine j_iconst dX9_runs_95 ?_
                        exact jn90 _ ((if_pos q88).symm)
                      · refine j_iconst dX9_runs_91 ?_
                        refine j_goto 96 dX9_runs_92 rfl ?_
                        exact jn90 _ ((if_neg q88).symm)
              exact J.wk ((((((((((jWk.nil).eq).eq).eq).eq).eq).eq).eq).eq).eq) (lp _ _ _ _ _ (Nat.lt_succ_self _) hW38 rv21 (by decide) h0)
        exact J.wk ((((((((((jWk.nil).no).eq).eq).eq).eq).eq).eq).eq).eq) (lp _ _ _ _ _ _ _ (Nat.lt_succ_self _) hW (by decide) (by decide) (by decide) (by decide) h0)
      · have h := h2 q18
        clear h1 h2
        refine j_iconst dX9_runs_27 ?_
        exact j_iret dX9_runs_28 rfl ⟨_, rfl, rfl, hW, h, (by decide)⟩
/-- years(I)I -/
def wpX9_years (o : Nat) (a1 : Int) (F : jFl) (A : jAr) (Q : Int → jFl → jAr → Prop) : Prop :=
  ∃ P1 : Int → Prop, wpX9_is o a1 1 99 F A P1 ∧ ∀ z3, P1 z3 →
  ((z3 = 0) →
    ∃ P7 : Int → jFl → jAr → Prop, wpX9_refuses o 3 F A P7 ∧ ∀ z9 F10 A11, P7 z9 F10 A11 →
    Q z9 F10 A11) ∧
  (¬ (z3 = 0) →
    jR ((A (o + 28) 0) + a1) ∧
    ((((A (o + 28) 0) + a1) ≤ 9999) →
      ∃ P18 : jFl → jAr → Prop, wpX9_keeps o F A P18 ∧ ∀ F21 A22, P18 F21 A22 →
      ∃ (I30 : Int → jFl → jAr → Prop) (m31 : Int → jFl → jAr → Nat), I30 0 F21 A22 ∧ ∀ (v26 : Int) (F27 : jFl) (A28 : jAr), I30 v26 F27 A28 →
        ((a1 ≤ v26) →
          ∃ P33 : Int → Prop, wpX9_standing o 0 F27 A28 P33 ∧ ∀ z35, P33 z35 →
          Q z35 F27 A28) ∧
        (¬ (a1 ≤ v26) →
          ∃ P38 : jFl → jAr → Prop, wpX9_yearGoes o 0 F27 A28 P38 ∧ ∀ F41 A42, P38 F41 A42 →
          jR (v26 + 1) ∧
          I30 (v26 + 1) F41 A42 ∧ m31 (v26 + 1) F41 A42 < m31 v26 F27 A28)) ∧
    (¬ (((A (o + 28) 0) + a1) ≤ 9999) →
      ∃ P47 : Int → jFl → jAr → Prop, wpX9_refuses o 3 F A P47 ∧ ∀ z49 F50 A51, P47 z49 F50 A51 →
      Q z49 F50 A51))
theorem wX9_years {G : jG} {l : Launch} {d : Nat} {N : jSh} {o : Nat} {F : jFl} {A : jAr} {a1 : Int} {Q : Int → jFl → jAr → Prop} (hd : 7 ≤ d) (hM : mShape G N o) (hW : jWf N F A) (ra1 : jR a1) (h : wpX9_years o a1 F A Q) : jCall G l d mX9_years [.ref o, vI a1] N F A (jmI N Q) := by
  refine jCall.of (ls := [.ref o, vI a1, jD]) (by decide) rfl (Nat.le_of_ble_eq_true rfl) rfl ?_
  unfold wpX9_years at h
  refine j_iload_n dX9_years_0 rfl ?_
  refine j_iconst dX9_years_1 ?_
  refine j_bipush dX9_years_2 ?_
  obtain ⟨P1, hp2, h⟩ := h
  refine j_invS (As := [vI a1, vI 1, vI 99]) (rest := []) dX9_years_4 lkX9_324 (wX9_is (d := 1) (Nat.le_of_ble_eq_true rfl) hM hW ra1 (by decide) (by decide) hp2) rfl rfl (Nat.le_of_ble_eq_true rfl) (Nat.le_trans (Nat.le_of_ble_eq_true rfl) hd) (jkpB fun z3 p4 r5 => ?_)
  have h := h z3 p4
  obtain ⟨h1, h2⟩ := h
  refine j_if_eq 24 dX9_years_7 rfl (jR_b r5) (fun q6 => ?_) (fun q6 => ?_)
  · have h := h1 q6
    clear h1 h2
    refine j_aload_n dX9_years_24 rfl ?_
    refine j_iconst dX9_years_25 ?_
    obtain ⟨P7, hp8, h⟩ := h
    refine j_invV (As := [vI 3]) (rest := []) dX9_years_26 lkX9_254 hM.1 rfl rfl (wX9_refuses (d := 1) (Nat.le_of_ble_eq_true rfl) hM hW (by decide) hp8) rfl rfl (Nat.le_of_ble_eq_true rfl) (Nat.le_trans (Nat.le_of_ble_eq_true rfl) hd) (jkmI fun z9 F10 A11 hW12 p13 r14 => ?_)
    have h := h z9 F10 A11 p13
    exact j_iret dX9_years_29 rfl ⟨_, rfl, rfl, hW12, h, r14⟩
  · have h := h2 q6
    clear h1 h2
    refine j_aload_n dX9_years_10 rfl ?_
    refine j_getFR dX9_years_11 flX9_142_10 hM.1 rfl (mf_year hM) ?_
    refine j_iconst dX9_years_14 ?_
    refine j_iald (n := 22) dX9_years_15 (mt_year hM) (ml_year hM) (by decide) ?_
    refine j_iload_n dX9_years_16 rfl ?_
    refine j_iadd dX9_years_17 ?_
    refine j_sipush dX9_years_18 ?_
    obtain ⟨r16, h⟩ := h
    obtain ⟨h1, h2⟩ := h
    refine j_icmp_le 30 dX9_years_21 rfl r16 (by decide) (fun q17 => ?_) (fun q17 => ?_)
    · have h := h1 q17
      clear h1 h2
      refine j_aload_n dX9_years_30 rfl ?_
      obtain ⟨P18, hp19, h⟩ := h
      refine j_invV (As := []) (rest := []) dX9_years_31 lkX9_457 hM.1 rfl rfl (wX9_keeps (d := 2) (Nat.le_of_ble_eq_true rfl) hM hW  hp19) rfl rfl (Nat.le_of_ble_eq_true rfl) (Nat.le_trans (Nat.le_of_ble_eq_true rfl) hd) (jkmV fun F21 A22 hW23 p24 => ?_)
      have h := h F21 A22 p24
      refine j_iconst dX9_years_34 ?_
      refine j_istore_n dX9_years_35 rfl ?_
      obtain ⟨I30, m31, h0, hs⟩ := h
      have lp : ∀ (n : Nat) (v26 : Int) (F27 : jFl) (A28 : jAr), m31 v26 F27 A28 < n → jWf N F27 A28 → jR v26 → I30 v26 F27 A28 → J G l d mX9_years 36 [.ref o, vI a1, vI v26] [] N F27 A28 (jmI N Q) := by
        intro nI30
        induction nI30 with
        | zero =>
          intro v26 F27 A28 hmu
          exact absurd hmu (Nat.not_lt_zero _)
        | succ nI30 ihI30 =>
          intro v26 F27 A28 hmuI30 hW29 rv26 hI
          have h := hs v26 F27 A28 hI
          refine j_iload_n dX9_years_36 rfl ?_
          refine j_iload_n dX9_years_37 rfl ?_
          obtain ⟨h1, h2⟩ := h
          refine j_icmp_ge 52 dX9_years_38 rfl rv26 ra1 (fun q32 => ?_) (fun q32 => ?_)
          · have h := h1 q32
            clear h1 h2
            refine j_aload_n dX9_years_52 rfl ?_
            refine j_iconst dX9_years_53 ?_
            obtain ⟨P33, hp34, h⟩ := h
            refine j_invV (As := [vI 0]) (rest := []) dX9_years_54 lkX9_463 hM.1 rfl rfl (wX9_standing (d := 2) (Nat.le_of_ble_eq_true rfl) hM hW29 (by decide) hp34) rfl rfl (Nat.le_of_ble_eq_true rfl) (Nat.le_trans (Nat.le_of_ble_eq_true rfl) hd) (jkpI fun z35 p36 r37 => ?_)
            have h := h z35 p36
            exact j_iret dX9_years_57 rfl ⟨_, rfl, rfl, hW29, h, r37⟩
          · have h := h2 q32
            clear h1 h2
            refine j_aload_n dX9_years_41 rfl ?_
            refine j_iconst dX9_years_42 ?_
            obtain ⟨P38, hp39, h⟩ := h
            refine j_invV (As := [vI 0]) (rest := []) dX9_years_43 lkX9_477 hM.1 rfl rfl (wX9_yearGoes (d := 6) (Nat.le_of_ble_eq_true rfl) hM hW29 (by decide) hp39) rfl rfl (Nat.le_of_ble_eq_true rfl) (Nat.le_trans (Nat.le_of_ble_eq_true rfl) hd) (jkmV fun F41 A42 hW43 p44 => ?_)
            have h := h F41 A42 p44
            obtain ⟨r46, h⟩ := h
            refine j_iinc dX9_years_46 rfl rfl ?_
            refine j_goto 36 dX9_years_49 rfl ?_
            exact J.wk ((((jWk.nil).eq).eq).eq) (ihI30 _ _ _ (Nat.lt_of_lt_of_le h.2 (Nat.le_of_lt_succ hmuI30)) hW43 r46 h.1)
      exact J.wk ((((jWk.nil).eq).eq).eq) (lp _ _ _ _ (Nat.lt_succ_self _) hW23 (by decide) h0)
    · have h := h2 q17
      clear h1 h2
      refine j_aload_n dX9_years_24 rfl ?_
      refine j_iconst dX9_years_25 ?_
      obtain ⟨P47, hp48, h⟩ := h
      refine j_invV (As := [vI 3]) (rest := []) dX9_years_26 lkX9_254 hM.1 rfl rfl (wX9_refuses (d := 1) (Nat.le_of_ble_eq_true rfl) hM hW (by decide) hp48) rfl rfl (Nat.le_of_ble_eq_true rfl) (Nat.le_trans (Nat.le_of_ble_eq_true rfl) hd) (jkmI fun z49 F50 A51 hW52 p53 r54 => ?_)
      have h := h z49 F50 A51 p53
      exact j_iret dX9_years_29 rfl ⟨_, rfl, rfl, hW52, h, r54⟩
/-- mended(II)I -/
def wpX9_mended (o : Nat) (a1 : Int) (a2 : Int) (F : jFl) (A : jAr) (Q : Int → jFl → jAr → Prop) : Prop :=
  ∃ P1 : Int → Prop, wpX9_isStanding o a1 F A P1 ∧ ∀ z3, P1 z3 →
  ((z3 = 0) →
    Q (-1) F A) ∧
  (¬ (z3 = 0) →
    ((a2 = (-1)) →
      (0 ≤ a1 ∧ a1 < 264) ∧
      ∃ P9 : jFl → jAr → Prop, wpX9_firstPerm o (A (o + 30) a1) F A P9 ∧ ∀ F12 A13, P9 F12 A13 →
      ∀ F17 : jFl, F17 = upF F12 3225 o 0 →
      ∀ F19 : jFl, F19 = upF F17 3228 o a1 →
      ∃ P21 : Int → jFl → jAr → Prop, wpX9_exchanged o F19 A13 P21 ∧ ∀ z23 F24 A25, P21 z23 F24 A25 →
      ((¬ a2 = (-1)) →
        ((¬ a2 = 20) →
          (0 ≤ a2 ∧ a2 < 12) ∧
          Q (A25 (o + 46) a2) F24 A25) ∧
        (¬ (¬ a2 = 20) →
          Q (F24 3231 o) F24 A25)) ∧
      (¬ (¬ a2 = (-1)) →
        Q z23 F24 A25)) ∧
    (¬ (a2 = (-1)) →
      ((a2 = 20) →
        (0 ≤ a1 ∧ a1 < 264) ∧
        ∃ P34 : jFl → jAr → Prop, wpX9_firstPerm o (A (o + 30) a1) F A P34 ∧ ∀ F37 A38, P34 F37 A38 →
        ∀ F42 : jFl, F42 = upF F37 3225 o 0 →
        ∀ F44 : jFl, F44 = upF F42 3228 o a1 →
        ∃ P46 : Int → jFl → jAr → Prop, wpX9_exchanged o F44 A38 P46 ∧ ∀ z48 F49 A50, P46 z48 F49 A50 →
        ((¬ a2 = (-1)) →
          ((¬ a2 = 20) →
            (0 ≤ a2 ∧ a2 < 12) ∧
            Q (A50 (o + 46) a2) F49 A50) ∧
          (¬ (¬ a2 = 20) →
            Q (F49 3231 o) F49 A50)) ∧
        (¬ (¬ a2 = (-1)) →
          Q z48 F49 A50)) ∧
      (¬ (a2 = 20) →
        (0 ≤ a1 ∧ a1 < 264) ∧
        jR ((A (o + 30) a1) - 1) ∧
        ∃ P59 : Int → Prop, wpX9_is o a2 0 ((A (o + 30) a1) - 1) F A P59 ∧ ∀ z61, P59 z61 →
        ((¬ z61 = 0) →
          (0 ≤ a1 ∧ a1 < 264) ∧
          ∃ P66 : jFl → jAr → Prop, wpX9_firstPerm o (A (o + 30) a1) F A P66 ∧ ∀ F69 A70, P66 F69 A70 →
          ∀ F74 : jFl, F74 = upF F69 3225 o 0 →
          ∀ F76 : jFl, F76 = upF F74 3228 o a1 →
          ∃ P78 : Int → jFl → jAr → Prop, wpX9_exchanged o F76 A70 P78 ∧ ∀ z80 F81 A82, P78 z80 F81 A82 →
          ((¬ a2 = (-1)) →
            ((¬ a2 = 20) →
              (0 ≤ a2 ∧ a2 < 12) ∧
              Q (A82 (o + 46) a2) F81 A82) ∧
            (¬ (¬ a2 = 20) →
              Q (F81 3231 o) F81 A82)) ∧
          (¬ (¬ a2 = (-1)) →
            Q z80 F81 A82)) ∧
        (¬ (¬ z61 = 0) →
          Q (-1) F A))))
theorem wX9_mended {G : jG} {l : Launch} {d : Nat} {N : jSh} {o : Nat} {F : jFl} {A : jAr} {a1 a2 : Int} {Q : Int → jFl → jAr → Prop} (hd : 8 ≤ d) (hM : mShape G N o) (hW : jWf N F A) (ra1 : jR a1) (ra2 : jR a2) (h : wpX9_mended o a1 a2 F A Q) : jCall G l d mX9_mended [.ref o, vI a1, vI a2] N F A (jmI N Q) := by
  refine jCall.of (ls := [.ref o, vI a1, vI a2, jD]) (by decide) rfl (Nat.le_of_ble_eq_true rfl) rfl ?_
  unfold wpX9_mended at h
  refine j_aload_n dX9_mended_0 rfl ?_
  refine j_iload_n dX9_mended_1 rfl ?_
  obtain ⟨P1, hp2, h⟩ := h
  refine j_invV (As := [vI a1]) (rest := []) dX9_mended_2 lkX9_429 hM.1 rfl rfl (wX9_isStanding (d := 2) (Nat.le_of_ble_eq_true rfl) hM hW ra1 hp2) rfl rfl (Nat.le_of_ble_eq_true rfl) (Nat.le_trans (Nat.le_of_ble_eq_true rfl) hd) (jkpB fun z3 p4 r5 => ?_)
  have h := h z3 p4
  obtain ⟨h1, h2⟩ := h
  refine j_if_eq 35 dX9_mended_5 rfl (jR_b r5) (fun q6 => ?_) (fun q6 => ?_)
  · have h := h1 q6
    clear h1 h2
    refine j_iconst dX9_mended_35 ?_
    exact j_iret dX9_mended_36 rfl ⟨_, rfl, rfl, hW, h, (by decide)⟩
  · have h := h2 q6
    clear h1 h2
    refine j_iload_n dX9_mended_8 rfl ?_
    refine j_iconst dX9_mended_9 ?_
    obtain ⟨h1, h2⟩ := h
    refine j_icmp_eq 37 dX9_mended_10 rfl ra2 (by decide) (fun q7 => ?_) (fun q7 => ?_)
    · have h := h1 q7
      clear h1 h2
      refine j_aload_n dX9_mended_37 rfl ?_
      refine j_aload_n dX9_mended_38 rfl ?_
      refine j_getFR dX9_mended_39 flX9_148_10 hM.1 rfl (mf_main hM) ?_
      refine j_iload_n dX9_mended_42 rfl ?_
      obtain ⟨c8, h⟩ := h
      refine j_iald (n := 264) dX9_mended_43 (mt_main hM) (ml_main hM) c8 ?_
      obtain ⟨P9, hp10, h⟩ := h
      refine j_invV (As := [vI (A (o + 30) a1)]) (rest := []) dX9_mended_44 lkX9_509 hM.1 rfl rfl (wX9_firstPerm (d := 1) (Nat.le_of_ble_eq_true rfl) hM hW (hW.ai (mt_main hM) rfl) hp10) rfl rfl (Nat.le_of_ble_eq_true rfl) (Nat.le_trans (Nat.le_of_ble_eq_true rfl) hd) (jkmV fun F12 A13 hW14 p15 => ?_)
      have h := h F12 A13 p15
      refine j_aload_n dX9_mended_47 rfl ?_
      refine j_iconst dX9_mended_48 ?_
      refine j_putI dX9_mended_49 flX9_239_10 hM.1 hM.2.1 rfl ?_
      obtain ⟨F17, eF17⟩ : ∃ x : jFl, x = upF F12 3225 o 0 := ⟨_, rfl⟩
      have hW18 : jWf N F17 A13 := eF17 ▸ jWf_F (f := 3225) (a := o) (z := 0) hW14 (jRk_0 rfl (by decide))
      refine jnmF (e := eF17) ?_
      have h := h F17 eF17
      refine j_aload_n dX9_mended_52 rfl ?_
      refine j_iload_n dX9_mended_53 rfl ?_
      refine j_putI dX9_mended_54 flX9_242_10 hM.1 hM.2.1 rfl ?_
      obtain ⟨F19, eF19⟩ : ∃ x : jFl, x = upF F17 3228 o a1 := ⟨_, rfl⟩
      have hW20 : jWf N F19 A13 := eF19 ▸ jWf_F (f := 3228) (a := o) (z := a1) hW18 (jRk_0 rfl ra1)
      refine jnmF (e := eF19) ?_
      have h := h F19 eF19
      refine j_aload_n dX9_mended_57 rfl ?_
      obtain ⟨P21, hp22, h⟩ := h
      refine j_invV (As := []) (rest := []) dX9_mended_58 lkX9_526 hM.1 rfl rfl (wX9_exchanged (d := 7) (Nat.le_of_ble_eq_true rfl) hM hW20  hp22) rfl rfl (Nat.le_of_ble_eq_true rfl) (Nat.le_trans (Nat.le_of_ble_eq_true rfl) hd) (jkmI fun z23 F24 A25 hW26 p27 r28 => ?_)
      have h := h z23 F24 A25 p27
      refine j_istore_n dX9_mended_61 rfl ?_
      refine j_iload_n dX9_mended_62 rfl ?_
      refine j_iconst dX9_mended_63 ?_
      obtain ⟨h1, h2⟩ := h
      refine j_icmp_ne 71 dX9_mended_64 rfl ra2 (by decide) (fun q29 => ?_) (fun q29 => ?_)
      · have h := h1 q29
        clear h1 h2
        refine j_iload_n dX9_mended_71 rfl ?_
        refine j_bipush dX9_mended_72 ?_
        obtain ⟨h1, h2⟩ := h
        refine j_icmp_ne 84 dX9_mended_74 rfl ra2 (by decide) (fun q30 => ?_) (fun q30 => ?_)
        · have h := h1 q30
          clear h1 h2
          refine j_aload_n dX9_mended_84 rfl ?_
          refine j_getFR dX9_mended_85 flX9_230_10 hM.1 rfl (mf_perm hM) ?_
          refine j_iload_n dX9_mended_88 rfl ?_
          obtain ⟨c31, h⟩ := h
          refine j_iald (n := 12) dX9_mended_89 (mt_perm hM) (ml_perm hM) c31 ?_
          exact j_iret dX9_mended_90 rfl ⟨_, rfl, rfl, hW26, h, (hW26.ai (mt_perm hM) rfl)⟩
        · have h := h2 q30
          clear h1 h2
          refine j_aload_n dX9_mended_77 rfl ?_
          refine j_getI dX9_mended_78 flX9_245_10 hM.1 rfl ?_
          refine j_goto 90 dX9_mended_81 rfl ?_
          exact j_iret dX9_mended_90 rfl ⟨_, rfl, rfl, hW26, h, (hW26.fi rfl)⟩
      · have h := h2 q29
        clear h1 h2
        refine j_iload_n dX9_mended_67 rfl ?_
        refine j_goto 90 dX9_mended_68 rfl ?_
        exact j_iret dX9_mended_90 rfl ⟨_, rfl, rfl, hW26, h, r28⟩
    · have h := h2 q7
      clear h1 h2
      refine j_iload_n dX9_mended_13 rfl ?_
      refine j_bipush dX9_mended_14 ?_
      obtain ⟨h1, h2⟩ := h
      refine j_icmp_eq 37 dX9_mended_16 rfl ra2 (by decide) (fun q32 => ?_) (fun q32 => ?_)
      · have h := h1 q32
        clear h1 h2
        refine j_aload_n dX9_mended_37 rfl ?_
        refine j_aload_n dX9_mended_38 rfl ?_
        refine j_getFR dX9_mended_39 flX9_148_10 hM.1 rfl (mf_main hM) ?_
        refine j_iload_n dX9_mended_42 rfl ?_
        obtain ⟨c33, h⟩ := h
        refine j_iald (n := 264) dX9_mended_43 (mt_main hM) (ml_main hM) c33 ?_
        obtain ⟨P34, hp35, h⟩ := h
        refine j_invV (As := [vI (A (o + 30) a1)]) (rest := []) dX9_mended_44 lkX9_509 hM.1 rfl rfl (wX9_firstPerm (d := 1) (Nat.le_of_ble_eq_true rfl) hM hW (hW.ai (mt_main hM) rfl) hp35) rfl rfl (Nat.le_of_ble_eq_true rfl) (Nat.le_trans (Nat.le_of_ble_eq_true rfl) hd) (jkmV fun F37 A38 hW39 p40 => ?_)
        have h := h F37 A38 p40
        refine j_aload_n dX9_mended_47 rfl ?_
        refine j_iconst dX9_mended_48 ?_
        refine j_putI dX9_mended_49 flX9_239_10 hM.1 hM.2.1 rfl ?_
        obtain ⟨F42, eF42⟩ : ∃ x : jFl, x = upF F37 3225 o 0 := ⟨_, rfl⟩
        have hW43 : jWf N F42 A38 := eF42 ▸ jWf_F (f := 3225) (a := o) (z := 0) hW39 (jRk_0 rfl (by decide))
        refine jnmF (e := eF42) ?_
        have h := h F42 eF42
        refine j_aload_n dX9_mended_52 rfl ?_
        refine j_iload_n dX9_mended_53 rfl ?_
        refine j_putI dX9_mended_54 flX9_242_10 hM.1 hM.2.1 rfl ?_
        obtain ⟨F44, eF44⟩ : ∃ x : jFl, x = upF F42 3228 o a1 := ⟨_, rfl⟩
        have hW45 : jWf N F44 A38 := eF44 ▸ jWf_F (f := 3228) (a := o) (z := a1) hW43 (jRk_0 rfl ra1)
        refine jnmF (e := eF44) ?_
        have h := h F44 eF44
        refine j_aload_n dX9_mended_57 rfl ?_
        obtain ⟨P46, hp47, h⟩ := h
        refine j_invV (As := []) (rest := []) dX9_mended_58 lkX9_526 hM.1 rfl rfl (wX9_exchanged (d := 7) (Nat.le_of_ble_eq_true rfl) hM hW45  hp47) rfl rfl (Nat.le_of_ble_eq_true rfl) (Nat.le_trans (Nat.le_of_ble_eq_true rfl) hd) (jkmI fun z48 F49 A50 hW51 p52 r53 => ?_)
        have h := h z48 F49 A50 p52
        refine j_istore_n dX9_mended_61 rfl ?_
        refine j_iload_n dX9_mended_62 rfl ?_
        refine j_iconst dX9_mended_63 ?_
        obtain ⟨h1, h2⟩ := h
        refine j_icmp_ne 71 dX9_mended_64 rfl ra2 (by decide) (fun q54 => ?_) (fun q54 => ?_)
        · have h := h1 q54
          clear h1 h2
          refine j_iload_n dX9_mended_71 rfl ?_
          refine j_bipush dX9_mended_72 ?_
          obtain ⟨h1, h2⟩ := h
          refine j_icmp_ne 84 dX9_mended_74 rfl ra2 (by decide) (fun q55 => ?_) (fun q55 => ?_)
          · have h := h1 q55
            clear h1 h2
            refine j_aload_n dX9_mended_84 rfl ?_
            refine j_getFR dX9_mended_85 flX9_230_10 hM.1 rfl (mf_perm hM) ?_
            refine j_iload_n dX9_mended_88 rfl ?_
            obtain ⟨c56, h⟩ := h
            refine j_iald (n := 12) dX9_mended_89 (mt_perm hM) (ml_perm hM) c56 ?_
            exact j_iret dX9_mended_90 rfl ⟨_, rfl, rfl, hW51, h, (hW51.ai (mt_perm hM) rfl)⟩
          · have h := h2 q55
            clear h1 h2
            refine j_aload_n dX9_mended_77 rfl ?_
            refine j_getI dX9_mended_78 flX9_245_10 hM.1 rfl ?_
            refine j_goto 90 dX9_mended_81 rfl ?_
            exact j_iret dX9_mended_90 rfl ⟨_, rfl, rfl, hW51, h, (hW51.fi rfl)⟩
        · have h := h2 q54
          clear h1 h2
          refine j_iload_n dX9_mended_67 rfl ?_
          refine j_goto 90 dX9_mended_68 rfl ?_
          exact j_iret dX9_mended_90 rfl ⟨_, rfl, rfl, hW51, h, r53⟩
      · have h := h2 q32
        clear h1 h2
        refine j_iload_n dX9_mended_19 rfl ?_
        refine j_iconst dX9_mended_20 ?_
        refine j_aload_n dX9_mended_21 rfl ?_
        refine j_getFR dX9_mended_22 flX9_148_10 hM.1 rfl (mf_main hM) ?_
        refine j_iload_n dX9_mended_25 rfl ?_
        obtain ⟨c57, h⟩ := h
        refine j_iald (n := 264) dX9_mended_26 (mt_main hM) (ml_main hM) c57 ?_
        refine j_iconst dX9_mended_27 ?_
        refine j_isub dX9_mended_28 ?_
        obtain ⟨r58, h⟩ := h
        obtain ⟨P59, hp60, h⟩ := h
        refine j_invS (As := [vI a2, vI 0, vI ((A (o + 30) a1) - 1)]) (rest := []) dX9_mended_29 lkX9_324 (wX9_is (d := 1) (Nat.le_of_ble_eq_true rfl) hM hW ra2 (by decide) r58 hp60) rfl rfl (Nat.le_of_ble_eq_true rfl) (Nat.le_trans (Nat.le_of_ble_eq_true rfl) hd) (jkpB fun z61 p62 r63 => ?_)
        have h := h z61 p62
        obtain ⟨h1, h2⟩ := h
        refine j_if_ne 37 dX9_mended_32 rfl (jR_b r63) (fun q64 => ?_) (fun q64 => ?_)
        · have h := h1 q64
          clear h1 h2
          refine j_aload_n dX9_mended_37 rfl ?_
          refine j_aload_n dX9_mended_38 rfl ?_
          refine j_getFR dX9_mended_39 flX9_148_10 hM.1 rfl (mf_main hM) ?_
          refine j_iload_n dX9_mended_42 rfl ?_
          obtain ⟨c65, h⟩ := h
          refine j_iald (n := 264) dX9_mended_43 (mt_main hM) (ml_main hM) c65 ?_
          obtain ⟨P66, hp67, h⟩ := h
          refine j_invV (As := [vI (A (o + 30) a1)]) (rest := []) dX9_mended_44 lkX9_509 hM.1 rfl rfl (wX9_firstPerm (d := 1) (Nat.le_of_ble_eq_true rfl) hM hW (hW.ai (mt_main hM) rfl) hp67) rfl rfl (Nat.le_of_ble_eq_true rfl) (Nat.le_trans (Nat.le_of_ble_eq_true rfl) hd) (jkmV fun F69 A70 hW71 p72 => ?_)
          have h := h F69 A70 p72
          refine j_aload_n dX9_mended_47 rfl ?_
          refine j_iconst dX9_mended_48 ?_
          refine j_putI dX9_mended_49 flX9_239_10 hM.1 hM.2.1 rfl ?_
          obtain ⟨F74, eF74⟩ : ∃ x : jFl, x = upF F69 3225 o 0 := ⟨_, rfl⟩
          have hW75 : jWf N F74 A70 := eF74 ▸ jWf_F (f := 3225) (a := o) (z := 0) hW71 (jRk_0 rfl (by decide))
          refine jnmF (e := eF74) ?_
          have h := h F74 eF74
          refine j_aload_n dX9_mended_52 rfl ?_
          refine j_iload_n dX9_mended_53 rfl ?_
          refine j_putI dX9_mended_54 flX9_242_10 hM.1 hM.2.1 rfl ?_
          obtain ⟨F76, eF76⟩ : ∃ x : jFl, x = upF F74 3228 o a1 := ⟨_, rfl⟩
          have hW77 : jWf N F76 A70 := eF76 ▸ jWf_F (f := 3228) (a := o) (z := a1) hW75 (jRk_0 rfl ra1)
          refine jnmF (e := eF76) ?_
          have h := h F76 eF76
          refine j_aload_n dX9_mended_57 rfl ?_
          obtain ⟨P78, hp79, h⟩ := h
          refine j_invV (As := []) (rest := []) dX9_mended_58 lkX9_526 hM.1 rfl rfl (wX9_exchanged (d := 7) (Nat.le_of_ble_eq_true rfl) hM hW77  hp79) rfl rfl (Nat.le_of_ble_eq_true rfl) (Nat.le_trans (Nat.le_of_ble_eq_true rfl) hd) (jkmI fun z80 F81 A82 hW83 p84 r85 => ?_)
          have h := h z80 F81 A82 p84
          refine j_istore_n dX9_mended_61 rfl ?_
          refine j_iload_n dX9_mended_62 rfl ?_
          refine j_iconst dX9_mended_63 ?_
          obtain ⟨h1, h2⟩ := h
          refine j_icmp_ne 71 dX9_mended_64 rfl ra2 (by decide) (fun q86 => ?_) (fun q86 => ?_)
          · have h := h1 q86
            clear h1 h2
            refine j_iload_n dX9_mended_71 rfl ?_
            refine j_bipush dX9_mended_72 ?_
            obtain ⟨h1, h2⟩ := h
            refine j_icmp_ne 84 dX9_mended_74 rfl ra2 (by decide) (fun q87 => ?_) (fun q87 => ?_)
            · have h := h1 q87
              clear h1 h2
              refine j_aload_n dX9_mended_84 rfl ?_
              refine j_getFR dX9_mended_85 flX9_230_10 hM.1 rfl (mf_perm hM) ?_
              refine j_iload_n dX9_mended_88 rfl ?_
              obtain ⟨c88, h⟩ := h
              refine j_iald (n := 12) dX9_mended_89 (mt_perm hM) (ml_perm hM) c88 ?_
              exact j_iret dX9_mended_90 rfl ⟨_, rfl, rfl, hW83, h, (hW83.ai (mt_perm hM) rfl)⟩
            · have h := h2 q87
              clear h1 h2
              refine j_aload_n dX9_mended_77 rfl ?_
              refine j_getI dX9_mended_78 flX9_245_10 hM.1 rfl ?_
              refine j_goto 90 dX9_mended_81 rfl ?_
              exact j_iret dX9_mended_90 rfl ⟨_, rfl, rfl, hW83, h, (hW83.fi rfl)⟩
          · have h := h2 q86
            clear h1 h2
            refine j_iload_n dX9_mended_67 rfl ?_
            refine j_goto 90 dX9_mended_68 rfl ?_
            exact j_iret dX9_mended_90 rfl ⟨_, rfl, rfl, hW83, h, r85⟩
        · have h := h2 q64
          clear h1 h2
          refine j_iconst dX9_mended_35 ?_
          exact j_iret dX9_mended_36 rfl ⟨_, rfl, rfl, hW, h, (by decide)⟩
/-- sorted(II)I -/
def wpX9_sorted (o : Nat) (a1 : Int) (a2 : Int) (F : jFl) (A : jAr) (Q : Int → jFl → jAr → Prop) : Prop :=
  ∃ P1 : Int → Prop, wpX9_standing o 0 F A P1 ∧ ∀ z3, P1 z3 →
  ∃ P6 : Int → Prop, wpX9_isChild o a1 F A P6 ∧ ∀ z8, P6 z8 →
  ((z8 = 0) →
    Q (-1) F A) ∧
  (¬ (z8 = 0) →
    ((z3 = 0) →
      Q (-1) F A) ∧
    (¬ (z3 = 0) →
      ((a2 = (-1)) →
        ∃ P14 : jFl → jAr → Prop, wpX9_seatsOf o 0 F A P14 ∧ ∀ F17 A18, P14 F17 A18 →
        ∀ F22 : jFl, F22 = upF F17 3222 o (F17 3192 o) →
        ∃ (I27 : Int → jAr → Prop) (m28 : Int → jAr → Nat), I27 0 A18 ∧ ∀ (v24 : Int) (A25 : jAr), I27 v24 A25 →
          (((F22 3192 o) ≤ v24) →
            ∀ F30 : jFl, F30 = upF F22 3225 o 1 →
            ∀ F32 : jFl, F32 = upF F30 3228 o a1 →
            ∃ P34 : Int → jFl → jAr → Prop, wpX9_exchanged o F32 A25 P34 ∧ ∀ z36 F37 A38, P34 z36 F37 A38 →
            ((¬ a2 = (-1)) →
              ((¬ a2 = 20) →
                (0 ≤ a2 ∧ a2 < 12) ∧
                Q (A38 (o + 46) a2) F37 A38) ∧
              (¬ (¬ a2 = 20) →
                Q (F37 3231 o) F37 A38)) ∧
            (¬ (¬ a2 = (-1)) →
              Q z36 F37 A38)) ∧
          (¬ ((F22 3192 o) ≤ v24) →
            (0 ≤ v24 ∧ v24 < 12) ∧
            (0 ≤ v24 ∧ v24 < 12) ∧
            ∀ A47 : jAr, A47 = upA A25 (o + 46) v24 (A25 (o + 38) v24) →
            jR (v24 + 1) ∧
            I27 (v24 + 1) A47 ∧ m28 (v24 + 1) A47 < m28 v24 A25)) ∧
      (¬ (a2 = (-1)) →
        ((a2 = 20) →
          ∃ P51 : jFl → jAr → Prop, wpX9_seatsOf o 0 F A P51 ∧ ∀ F54 A55, P51 F54 A55 →
          ∀ F59 : jFl, F59 = upF F54 3222 o (F54 3192 o) →
          ∃ (I64 : Int → jAr → Prop) (m65 : Int → jAr → Nat), I64 0 A55 ∧ ∀ (v61 : Int) (A62 : jAr), I64 v61 A62 →
            (((F59 3192 o) ≤ v61) →
              ∀ F67 : jFl, F67 = upF F59 3225 o 1 →
              ∀ F69 : jFl, F69 = upF F67 3228 o a1 →
              ∃ P71 : Int → jFl → jAr → Prop, wpX9_exchanged o F69 A62 P71 ∧ ∀ z73 F74 A75, P71 z73 F74 A75 →
              ((¬ a2 = (-1)) →
                ((¬ a2 = 20) →
                  (0 ≤ a2 ∧ a2 < 12) ∧
                  Q (A75 (o + 46) a2) F74 A75) ∧
                (¬ (¬ a2 = 20) →
                  Q (F74 3231 o) F74 A75)) ∧
              (¬ (¬ a2 = (-1)) →
                Q z73 F74 A75)) ∧
            (¬ ((F59 3192 o) ≤ v61) →
              (0 ≤ v61 ∧ v61 < 12) ∧
              (0 ≤ v61 ∧ v61 < 12) ∧
              ∀ A84 : jAr, A84 = upA A62 (o + 46) v61 (A62 (o + 38) v61) →
              jR (v61 + 1) ∧
              I64 (v61 + 1) A84 ∧ m65 (v61 + 1) A84 < m65 v61 A62)) ∧
        (¬ (a2 = 20) →
          jR (z3 - 1) ∧
          ∃ P88 : Int → Prop, wpX9_is o a2 0 (z3 - 1) F A P88 ∧ ∀ z90, P88 z90 →
          ((¬ z90 = 0) →
            ∃ P94 : jFl → jAr → Prop, wpX9_seatsOf o 0 F A P94 ∧ ∀ F97 A98, P94 F97 A98 →
            ∀ F102 : jFl, F102 = upF F97 3222 o (F97 3192 o) →
            ∃ (I107 : Int → jAr → Prop) (m108 : Int → jAr → Nat), I107 0 A98 ∧ ∀ (v104 : Int) (A105 : jAr), I107 v104 A105 →
              (((F102 3192 o) ≤ v104) →
                ∀ F110 : jFl, F110 = upF F102 3225 o 1 →
                ∀ F112 : jFl, F112 = upF F110 3228 o a1 →
                ∃ P114 : Int → jFl → jAr → Prop, wpX9_exchanged o F112 A105 P114 ∧ ∀ z116 F117 A118, P114 z116 F117 A118 →
                ((¬ a2 = (-1)) →
                  ((¬ a2 = 20) →
                    (0 ≤ a2 ∧ a2 < 12) ∧
                    Q (A118 (o + 46) a2) F117 A118) ∧
                  (¬ (¬ a2 = 20) →
                    Q (F117 3231 o) F117 A118)) ∧
                (¬ (¬ a2 = (-1)) →
                  Q z116 F117 A118)) ∧
              (¬ ((F102 3192 o) ≤ v104) →
                (0 ≤ v104 ∧ v104 < 12) ∧
                (0 ≤ v104 ∧ v104 < 12) ∧
                ∀ A127 : jAr, A127 = upA A105 (o + 46) v104 (A105 (o + 38) v104) →
                jR (v104 + 1) ∧
                I107 (v104 + 1) A127 ∧ m108 (v104 + 1) A127 < m108 v104 A105)) ∧
          (¬ (¬ z90 = 0) →
            Q (-1) F A)))))
theorem wX9_sorted {G : jG} {l : Launch} {d : Nat} {N : jSh} {o : Nat} {F : jFl} {A : jAr} {a1 a2 : Int} {Q : Int → jFl → jAr → Prop} (hd : 8 ≤ d) (hM : mShape G N o) (hW : jWf N F A) (ra1 : jR a1) (ra2 : jR a2) (h : wpX9_sorted o a1 a2 F A Q) : jCall G l d mX9_sorted [.ref o, vI a1, vI a2] N F A (jmI N Q) := by
  refine jCall.of (ls := [.ref o, vI a1, vI a2, jD, jD]) (by decide) rfl (Nat.le_of_ble_eq_true rfl) rfl ?_
  unfold wpX9_sorted at h
  refine j_aload_n dX9_sorted_0 rfl ?_
  refine j_iconst dX9_sorted_1 ?_
  obtain ⟨P1, hp2, h⟩ := h
  refine j_invV (As := [vI 0]) (rest := []) dX9_sorted_2 lkX9_463 hM.1 rfl rfl (wX9_standing (d := 2) (Nat.le_of_ble_eq_true rfl) hM hW (by decide) hp2) rfl rfl (Nat.le_of_ble_eq_true rfl) (Nat.le_trans (Nat.le_of_ble_eq_true rfl) hd) (jkpI fun z3 p4 r5 => ?_)
  have h := h z3 p4
  refine j_istore_n dX9_sorted_5 rfl ?_
  refine j_aload_n dX9_sorted_6 rfl ?_
  refine j_iload_n dX9_sorted_7 rfl ?_
  obtain ⟨P6, hp7, h⟩ := h
  refine j_invV (As := [vI a1]) (rest := []) dX9_sorted_8 lkX9_420 hM.1 rfl rfl (wX9_isChild (d := 1) (Nat.le_of_ble_eq_true rfl) hM hW ra1 hp7) rfl rfl (Nat.le_of_ble_eq_true rfl) (Nat.le_trans (Nat.le_of_ble_eq_true rfl) hd) (jkpB fun z8 p9 r10 => ?_)
  have h := h z8 p9
  obtain ⟨h1, h2⟩ := h
  refine j_if_eq 40 dX9_sorted_11 rfl (jR_b r10) (fun q11 => ?_) (fun q11 => ?_)
  · have h := h1 q11
    clear h1 h2
    refine j_iconst dX9_sorted_40 ?_
    exact j_iret dX9_sorted_41 rfl ⟨_, rfl, rfl, hW, h, (by decide)⟩
  · have h := h2 q11
    clear h1 h2
    refine j_iload_n dX9_sorted_14 rfl ?_
    obtain ⟨h1, h2⟩ := h
    refine j_if_eq 40 dX9_sorted_15 rfl r5 (fun q12 => ?_) (fun q12 => ?_)
    · have h := h1 q12
      clear h1 h2
      refine j_iconst dX9_sorted_40 ?_
      exact j_iret dX9_sorted_41 rfl ⟨_, rfl, rfl, hW, h, (by decide)⟩
    · have h := h2 q12
      clear h1 h2
      refine j_iload_n dX9_sorted_18 rfl ?_
      refine j_iconst dX9_sorted_19 ?_
      obtain ⟨h1, h2⟩ := h
      refine j_icmp_eq 42 dX9_sorted_20 rfl ra2 (by decide) (fun q13 => ?_) (fun q13 => ?_)
      · have h := h1 q13
        clear h1 h2
        refine j_aload_n dX9_sorted_42 rfl ?_
        refine j_iconst dX9_sorted_43 ?_
        obtain ⟨P14, hp15, h⟩ := h
        refine j_invV (As := [vI 0]) (rest := []) dX9_sorted_44 lkX9_441 hM.1 rfl rfl (wX9_seatsOf (d := 2) (Nat.le_of_ble_eq_true rfl) hM hW (by decide) hp15) rfl rfl (Nat.le_of_ble_eq_true rfl) (Nat.le_trans (Nat.le_of_ble_eq_true rfl) hd) (jkmV fun F17 A18 hW19 p20 => ?_)
        have h := h F17 A18 p20
        refine j_aload_n dX9_sorted_47 rfl ?_
        refine j_aload_n dX9_sorted_48 rfl ?_
        refine j_getI dX9_sorted_49 flX9_206_10 hM.1 rfl ?_
        refine j_putI dX9_sorted_52 flX9_236_10 hM.1 hM.2.1 rfl ?_
        obtain ⟨F22, eF22⟩ : ∃ x : jFl, x = upF F17 3222 o (F17 3192 o) := ⟨_, rfl⟩
        have hW23 : jWf N F22 A18 := eF22 ▸ jWf_F (f := 3222) (a := o) (z := F17 3192 o) hW19 (jRk_0 rfl (hW19.fi rfl))
        refine jnmF (e := eF22) ?_
        have h := h F22 eF22
        refine j_iconst dX9_sorted_55 ?_
        refine j_istore dX9_sorted_56 rfl ?_
        obtain ⟨I27, m28, h0, hs⟩ := h
        have lp : ∀ (n : Nat) (v24 : Int) (A25 : jAr), m28 v24 A25 < n → jWf N F22 A25 → jR v24 → I27 v24 A25 → J G l d mX9_sorted 58 [.ref o, vI a1, vI a2, jD, vI v24] [] N F22 A25 (jmI N Q) := by
          intro nI27
          induction nI27 with
          | zero =>
            intro v24 A25 hmu
            exact absurd hmu (Nat.not_lt_zero _)
          | succ nI27 ihI27 =>
            intro v24 A25 hmuI27 hW26 rv24 hI
            have h := hs v24 A25 hI
            refine j_iload dX9_sorted_58 rfl ?_
            refine j_aload_n dX9_sorted_60 rfl ?_
            refine j_getI dX9_sorted_61 flX9_206_10 hM.1 rfl ?_
            obtain ⟨h1, h2⟩ := h
            refine j_icmp_ge 87 dX9_sorted_64 rfl rv24 (hW26.fi rfl) (fun q29 => ?_) (fun q29 => ?_)
            · have h := h1 q29
              clear h1 h2
              refine j_aload_n dX9_sorted_87 rfl ?_
              refine j_iconst dX9_sorted_88 ?_
              refine j_putI dX9_sorted_89 flX9_239_10 hM.1 hM.2.1 rfl ?_
              obtain ⟨F30, eF30⟩ : ∃ x : jFl, x = upF F22 3225 o 1 := ⟨_, rfl⟩
              have hW31 : jWf N F30 A25 := eF30 ▸ jWf_F (f := 3225) (a := o) (z := 1) hW26 (jRk_0 rfl (by decide))
              refine jnmF (e := eF30) ?_
              have h := h F30 eF30
              refine j_aload_n dX9_sorted_92 rfl ?_
              refine j_iload_n dX9_sorted_93 rfl ?_
              refine j_putI dX9_sorted_94 flX9_242_10 hM.1 hM.2.1 rfl ?_
              obtain ⟨F32, eF32⟩ : ∃ x : jFl, x = upF F30 3228 o a1 := ⟨_, rfl⟩
              have hW33 : jWf N F32 A25 := eF32 ▸ jWf_F (f := 3228) (a := o) (z := a1) hW31 (jRk_0 rfl ra1)
              refine jnmF (e := eF32) ?_
              have h := h F32 eF32
              refine j_aload_n dX9_sorted_97 rfl ?_
              obtain ⟨P34, hp35, h⟩ := h
              refine j_invV (As := []) (rest := []) dX9_sorted_98 lkX9_526 hM.1 rfl rfl (wX9_exchanged (d := 7) (Nat.le_of_ble_eq_true rfl) hM hW33  hp35) rfl rfl (Nat.le_of_ble_eq_true rfl) (Nat.le_trans (Nat.le_of_ble_eq_true rfl) hd) (jkmI fun z36 F37 A38 hW39 p40 r41 => ?_)
              have h := h z36 F37 A38 p40
              refine j_istore dX9_sorted_101 rfl ?_
              refine j_iload_n dX9_sorted_103 rfl ?_
              refine j_iconst dX9_sorted_104 ?_
              obtain ⟨h1, h2⟩ := h
              refine j_icmp_ne 113 dX9_sorted_105 rfl ra2 (by decide) (fun q42 => ?_) (fun q42 => ?_)
              · have h := h1 q42
                clear h1 h2
                refine j_iload_n dX9_sorted_113 rfl ?_
                refine j_bipush dX9_sorted_114 ?_
                obtain ⟨h1, h2⟩ := h
                refine j_icmp_ne 126 dX9_sorted_116 rfl ra2 (by decide) (fun q43 => ?_) (fun q43 => ?_)
                · have h := h1 q43
                  clear h1 h2
                  refine j_aload_n dX9_sorted_126 rfl ?_
                  refine j_getFR dX9_sorted_127 flX9_230_10 hM.1 rfl (mf_perm hM) ?_
                  refine j_iload_n dX9_sorted_130 rfl ?_
                  obtain ⟨c44, h⟩ := h
                  refine j_iald (n := 12) dX9_sorted_131 (mt_perm hM) (ml_perm hM) c44 ?_
                  exact j_iret dX9_sorted_132 rfl ⟨_, rfl, rfl, hW39, h, (hW39.ai (mt_perm hM) rfl)⟩
                · have h := h2 q43
                  clear h1 h2
                  refine j_aload_n dX9_sorted_119 rfl ?_
                  refine j_getI dX9_sorted_120 flX9_245_10 hM.1 rfl ?_
                  refine j_goto 132 dX9_sorted_123 rfl ?_
                  exact j_iret dX9_sorted_132 rfl ⟨_, rfl, rfl, hW39, h, (hW39.fi rfl)⟩
              · have h := h2 q42
                clear h1 h2
                refine j_iload dX9_sorted_108 rfl ?_
                refine j_goto 132 dX9_sorted_110 rfl ?_
                exact j_iret dX9_sorted_132 rfl ⟨_, rfl, rfl, hW39, h, r41⟩
            · have h := h2 q29
              clear h1 h2
              refine j_aload_n dX9_sorted_67 rfl ?_
              refine j_getFR dX9_sorted_68 flX9_230_10 hM.1 rfl (mf_perm hM) ?_
              refine j_iload dX9_sorted_71 rfl ?_
              refine j_aload_n dX9_sorted_73 rfl ?_
              refine j_getFR dX9_sorted_74 flX9_203_10 hM.1 rfl (mf_seat hM) ?_
              refine j_iload dX9_sorted_77 rfl ?_
              obtain ⟨c45, h⟩ := h
              refine j_iald (n := 12) dX9_sorted_79 (mt_seat hM) (ml_seat hM) c45 ?_
              obtain ⟨c46, h⟩ := h
              refine j_iast (n := 12) dX9_sorted_80 (mt_perm hM) (Nat.le_trans hM.2.1 (Nat.le_add_right _ _)) (ml_perm hM) c46 ?_
              obtain ⟨A47, eA47⟩ : ∃ x : jAr, x = upA A25 (o + 46) v24 (A25 (o + 38) v24) := ⟨_, rfl⟩
              have hW48 : jWf N F22 A47 := eA47 ▸ jWf_A (i := v24) (z := A25 (o + 38) v24) hW26 (mt_perm hM) (jRk_0 rfl (hW26.ai (mt_seat hM) rfl))
              refine jnmA (e := eA47) ?_
              have h := h A47 eA47
              obtain ⟨r49, h⟩ := h
              refine j_iinc dX9_sorted_81 rfl rfl ?_
              refine j_goto 58 dX9_sorted_84 rfl ?_
              exact J.wk ((((((jWk.nil).eq).no).eq).eq).eq) (ihI27 _ _ (Nat.lt_of_lt_of_le h.2 (Nat.le_of_lt_succ hmuI27)) hW48 r49 h.1)
        exact J.wk ((((((jWk.nil).eq).no).eq).eq).eq) (lp _ _ _ (Nat.lt_succ_self _) hW23 (by decide) h0)
      · have h := h2 q13
        clear h1 h2
        refine j_iload_n dX9_sorted_23 rfl ?_
        refine j_bipush dX9_sorted_24 ?_
        obtain ⟨h1, h2⟩ := h
        refine j_icmp_eq 42 dX9_sorted_26 rfl ra2 (by decide) (fun q50 => ?_) (fun q50 => ?_)
        · have h := h1 q50
          clear h1 h2
          refine j_aload_n dX9_sorted_42 rfl ?_
          refine j_iconst dX9_sorted_43 ?_
          obtain ⟨P51, hp52, h⟩ := h
          refine j_invV (As := [vI 0]) (rest := []) dX9_sorted_44 lkX9_441 hM.1 rfl rfl (wX9_seatsOf (d := 2) (Nat.le_of_ble_eq_true rfl) hM hW (by decide) hp52) rfl rfl (Nat.le_of_ble_eq_true rfl) (Nat.le_trans (Nat.le_of_ble_eq_true rfl) hd) (jkmV fun F54 A55 hW56 p57 => ?_)
          have h := h F54 A55 p57
          refine j_aload_n dX9_sorted_47 rfl ?_
          refine j_aload_n dX9_sorted_48 rfl ?_
          refine j_getI dX9_sorted_49 flX9_206_10 hM.1 rfl ?_
          refine j_putI dX9_sorted_52 flX9_236_10 hM.1 hM.2.1 rfl ?_
          obtain ⟨F59, eF59⟩ : ∃ x : jFl, x = upF F54 3222 o (F54 3192 o) := ⟨_, rfl⟩
          have hW60 : jWf N F59 A55 := eF59 ▸ jWf_F (f := 3222) (a := o) (z := F54 3192 o) hW56 (jRk_0 rfl (hW56.fi rfl))
          refine jnmF (e := eF59) ?_
          have h := h F59 eF59
          refine j_iconst dX9_sorted_55 ?_
          refine j_istore dX9_sorted_56 rfl ?_
          obtain ⟨I64, m65, h0, hs⟩ := h
          have lp : ∀ (n : Nat) (v61 : Int) (A62 : jAr), m65 v61 A62 < n → jWf N F59 A62 → jR v61 → I64 v61 A62 → J G l d mX9_sorted 58 [.ref o, vI a1, vI a2, jD, vI v61] [] N F59 A62 (jmI N Q) := by
            intro nI64
            induction nI64 with
            | zero =>
              intro v61 A62 hmu
              exact absurd hmu (Nat.not_lt_zero _)
            | succ nI64 ihI64 =>
              intro v61 A62 hmuI64 hW63 rv61 hI
              have h := hs v61 A62 hI
              refine j_iload dX9_sorted_58 rfl ?_
              refine j_aload_n dX9_sorted_60 rfl ?_
              refine j_getI dX9_sorted_61 flX9_206_10 hM.1 rfl ?_
              obtain ⟨h1, h2⟩ := h
              refine j_icmp_ge 87 dX9_sorted_64 rfl rv61 (hW63.fi rfl) (fun q66 => ?_) (fun q66 => ?_)
              · have h := h1 q66
                clear h1 h2
                refine j_aload_n dX9_sorted_87 rfl ?_
                refine j_iconst dX9_sorted_88 ?_
                refine j_putI dX9_sorted_89 flX9_239_10 hM.1 hM.2.1 rfl ?_
                obtain ⟨F67, eF67⟩ : ∃ x : jFl, x = upF F59 3225 o 1 := ⟨_, rfl⟩
                have hW68 : jWf N F67 A62 := eF67 ▸ jWf_F (f := 3225) (a := o) (z := 1) hW63 (jRk_0 rfl (by decide))
                refine jnmF (e := eF67) ?_
                have h := h F67 eF67
                refine j_aload_n dX9_sorted_92 rfl ?_
                refine j_iload_n dX9_sorted_93 rfl ?_
                refine j_putI dX9_sorted_94 flX9_242_10 hM.1 hM.2.1 rfl ?_
                obtain ⟨F69, eF69⟩ : ∃ x : jFl, x = upF F67 3228 o a1 := ⟨_, rfl⟩
                have hW70 : jWf N F69 A62 := eF69 ▸ jWf_F (f := 3228) (a := o) (z := a1) hW68 (jRk_0 rfl ra1)
                refine jnmF (e := eF69) ?_
                have h := h F69 eF69
                refine j_aload_n dX9_sorted_97 rfl ?_
                obtain ⟨P71, hp72, h⟩ := h
                refine j_invV (As := []) (rest := []) dX9_sorted_98 lkX9_526 hM.1 rfl rfl (wX9_exchanged (d := 7) (Nat.le_of_ble_eq_true rfl) hM hW70  hp72) rfl rfl (Nat.le_of_ble_eq_true rfl) (Nat.le_trans (Nat.le_of_ble_eq_true rfl) hd) (jkmI fun z73 F74 A75 hW76 p77 r78 => ?_)
                have h := h z73 F74 A75 p77
                refine j_istore dX9_sorted_101 rfl ?_
                refine j_iload_n dX9_sorted_103 rfl ?_
                refine j_iconst dX9_sorted_104 ?_
                obtain ⟨h1, h2⟩ := h
                refine j_icmp_ne 113 dX9_sorted_105 rfl ra2 (by decide) (fun q79 => ?_) (fun q79 => ?_)
                · have h := h1 q79
                  clear h1 h2
                  refine j_iload_n dX9_sorted_113 rfl ?_
                  refine j_bipush dX9_sorted_114 ?_
                  obtain ⟨h1, h2⟩ := h
                  refine j_icmp_ne 126 dX9_sorted_116 rfl ra2 (by decide) (fun q80 => ?_) (fun q80 => ?_)
                  · have h := h1 q80
                    clear h1 h2
                    refine j_aload_n dX9_sorted_126 rfl ?_
                    refine j_getFR dX9_sorted_127 flX9_230_10 hM.1 rfl (mf_perm hM) ?_
                    refine j_iload_n dX9_sorted_130 rfl ?_
                    obtain ⟨c81, h⟩ := h
                    refine j_iald (n := 12) dX9_sorted_131 (mt_perm hM) (ml_perm hM) c81 ?_
                    exact j_iret dX9_sorted_132 rfl ⟨_, rfl, rfl, hW76, h, (hW76.ai (mt_perm hM) rfl)⟩
                  · have h := h2 q80
                    clear h1 h2
                    refine j_aload_n dX9_sorted_119 rfl ?_
                    refine j_getI dX9_sorted_120 flX9_245_10 hM.1 rfl ?_
                    refine j_goto 132 dX9_sorted_123 rfl ?_
                    exact j_iret dX9_sorted_132 rfl ⟨_, rfl, rfl, hW76, h, (hW76.fi rfl)⟩
                · have h := h2 q79
                  clear h1 h2
                  refine j_iload dX9_sorted_108 rfl ?_
                  refine j_goto 132 dX9_sorted_110 rfl ?_
                  exact j_iret dX9_sorted_132 rfl ⟨_, rfl, rfl, hW76, h, r78⟩
              · have h := h2 q66
                clear h1 h2
                refine j_aload_n dX9_sorted_67 rfl ?_
                refine j_getFR dX9_sorted_68 flX9_230_10 hM.1 rfl (mf_perm hM) ?_
                refine j_iload dX9_sorted_71 rfl ?_
                refine j_aload_n dX9_sorted_73 rfl ?_
                refine j_getFR dX9_sorted_74 flX9_203_10 hM.1 rfl (mf_seat hM) ?_
                refine j_iload dX9_sorted_77 rfl ?_
                obtain ⟨c82, h⟩ := h
                refine j_iald (n := 12) dX9_sorted_79 (mt_seat hM) (ml_seat hM) c82 ?_
                obtain ⟨c83, h⟩ := h
                refine j_iast (n := 12) dX9_sorted_80 (mt_perm hM) (Nat.le_trans hM.2.1 (Nat.le_add_right _ _)) (ml_perm hM) c83 ?_
                obtain ⟨A84, eA84⟩ : ∃ x : jAr, x = upA A62 (o + 46) v61 (A62 (o + 38) v61) := ⟨_, rfl⟩
                have hW85 : jWf N F59 A84 := eA84 ▸ jWf_A (i := v61) (z := A62 (o + 38) v61) hW63 (mt_perm hM) (jRk_0 rfl (hW63.ai (mt_seat hM) rfl))
                refine jnmA (e := eA84) ?_
                have h := h A84 eA84
                obtain ⟨r86, h⟩ := h
                refine j_iinc dX9_sorted_81 rfl rfl ?_
                refine j_goto 58 dX9_sorted_84 rfl ?_
                exact J.wk ((((((jWk.nil).eq).no).eq).eq).eq) (ihI64 _ _ (Nat.lt_of_lt_of_le h.2 (Nat.le_of_lt_succ hmuI64)) hW85 r86 h.1)
          exact J.wk ((((((jWk.nil).eq).no).eq).eq).eq) (lp _ _ _ (Nat.lt_succ_self _) hW60 (by decide) h0)
        · have h := h2 q50
          clear h1 h2
          refine j_iload_n dX9_sorted_29 rfl ?_
          refine j_iconst dX9_sorted_30 ?_
          refine j_iload_n dX9_sorted_31 rfl ?_
          refine j_iconst dX9_sorted_32 ?_
          refine j_isub dX9_sorted_33 ?_
          obtain ⟨r87, h⟩ := h
          obtain ⟨P88, hp89, h⟩ := h
          refine j_invS (As := [vI a2, vI 0, vI (z3 - 1)]) (rest := []) dX9_sorted_34 lkX9_324 (wX9_is (d := 1) (Nat.le_of_ble_eq_true rfl) hM hW ra2 (by decide) r87 hp89) rfl rfl (Nat.le_of_ble_eq_true rfl) (Nat.le_trans (Nat.le_of_ble_eq_true rfl) hd) (jkpB fun z90 p91 r92 => ?_)
          have h := h z90 p91
          obtain ⟨h1, h2⟩ := h
          refine j_if_ne 42 dX9_sorted_37 rfl (jR_b r92) (fun q93 => ?_) (fun q93 => ?_)
          · have h := h1 q93
            clear h1 h2
            refine j_aload_n dX9_sorted_42 rfl ?_
            refine j_iconst dX9_sorted_43 ?_
            obtain ⟨P94, hp95, h⟩ := h
            refine j_invV (As := [vI 0]) (rest := []) dX9_sorted_44 lkX9_441 hM.1 rfl rfl (wX9_seatsOf (d := 2) (Nat.le_of_ble_eq_true rfl) hM hW (by decide) hp95) rfl rfl (Nat.le_of_ble_eq_true rfl) (Nat.le_trans (Nat.le_of_ble_eq_true rfl) hd) (jkmV fun F97 A98 hW99 p100 => ?_)
            have h := h F97 A98 p100
            refine j_aload_n dX9_sorted_47 rfl ?_
            refine j_aload_n dX9_sorted_48 rfl ?_
            refine j_getI dX9_sorted_49 flX9_206_10 hM.1 rfl ?_
            refine j_putI dX9_sorted_52 flX9_236_10 hM.1 hM.2.1 rfl ?_
            obtain ⟨F102, eF102⟩ : ∃ x : jFl, x = upF F97 3222 o (F97 3192 o) := ⟨_, rfl⟩
            have hW103 : jWf N F102 A98 := eF102 ▸ jWf_F (f := 3222) (a := o) (z := F97 3192 o) hW99 (jRk_0 rfl (hW99.fi rfl))
            refine jnmF (e := eF102) ?_
            have h := h F102 eF102
            refine j_iconst dX9_sorted_55 ?_
            refine j_istore dX9_sorted_56 rfl ?_
            obtain ⟨I107, m108, h0, hs⟩ := h
            have lp : ∀ (n : Nat) (v104 : Int) (A105 : jAr), m108 v104 A105 < n → jWf N F102 A105 → jR v104 → I107 v104 A105 → J G l d mX9_sorted 58 [.ref o, vI a1, vI a2, jD, vI v104] [] N F102 A105 (jmI N Q) := by
              intro nI107
              induction nI107 with
              | zero =>
                intro v104 A105 hmu
                exact absurd hmu (Nat.not_lt_zero _)
              | succ nI107 ihI107 =>
                intro v104 A105 hmuI107 hW106 rv104 hI
                have h := hs v104 A105 hI
                refine j_iload dX9_sorted_58 rfl ?_
                refine j_aload_n dX9_sorted_60 rfl ?_
                refine j_getI dX9_sorted_61 flX9_206_10 hM.1 rfl ?_
                obtain ⟨h1, h2⟩ := h
                refine j_icmp_ge 87 dX9_sorted_64 rfl rv104 (hW106.fi rfl) (fun q109 => ?_) (fun q109 => ?_)
                · have h := h1 q109
                  clear h1 h2
                  refine j_aload_n dX9_sorted_87 rfl ?_
                  refine j_iconst dX9_sorted_88 ?_
                  refine j_putI dX9_sorted_89 flX9_239_10 hM.1 hM.2.1 rfl ?_
                  obtain ⟨F110, eF110⟩ : ∃ x : jFl, x = upF F102 3225 o 1 := ⟨_, rfl⟩
                  have hW111 : jWf N F110 A105 := eF110 ▸ jWf_F (f := 3225) (a := o) (z := 1) hW106 (jRk_0 rfl (by decide))
                  refine jnmF (e := eF110) ?_
                  have h := h F110 eF110
                  refine j_aload_n dX9_sorted_92 rfl ?_
                  refine j_iload_n dX9_sorted_93 rfl ?_
                  refine j_putI dX9_sorted_94 flX9_242_10 hM.1 hM.2.1 rfl ?_
                  obtain ⟨F112, eF112⟩ : ∃ x : jFl, x = upF F110 3228 o a1 := ⟨_, rfl⟩
                  have hW113 : jWf N F112 A105 := eF112 ▸ jWf_F (f := 3228) (a := o) (z := a1) hW111 (jRk_0 rfl ra1)
                  refine jnmF (e := eF112) ?_
                  have h := h F112 eF112
                  refine j_aload_n dX9_sorted_97 rfl ?_
                  obtain ⟨P114, hp115, h⟩ := h
                  refine j_invV (As := []) (rest := []) dX9_sorted_98 lkX9_526 hM.1 rfl rfl (wX9_exchanged (d := 7) (Nat.le_of_ble_eq_true rfl) hM hW113  hp115) rfl rfl (Nat.le_of_ble_eq_true rfl) (Nat.le_trans (Nat.le_of_ble_eq_true rfl) hd) (jkmI fun z116 F117 A118 hW119 p120 r121 => ?_)
                  have h := h z116 F117 A118 p120
                  refine j_istore dX9_sorted_101 rfl ?_
                  refine j_iload_n dX9_sorted_103 rfl ?_
                  refine j_iconst dX9_sorted_104 ?_
                  obtain ⟨h1, h2⟩ := h
                  refine j_icmp_ne 113 dX9_sorted_105 rfl ra2 (by decide) (fun q122 => ?_) (fun q122 => ?_)
                  · have h := h1 q122
                    clear h1 h2
                    refine j_iload_n dX9_sorted_113 rfl ?_
                    refine j_bipush dX9_sorted_114 ?_
                    obtain ⟨h1, h2⟩ := h
                    refine j_icmp_ne 126 dX9_sorted_116 rfl ra2 (by decide) (fun q123 => ?_) (fun q123 => ?_)
                    · have h := h1 q123
                      clear h1 h2
                      refine j_aload_n dX9_sorted_126 rfl ?_
                      refine j_getFR dX9_sorted_127 flX9_230_10 hM.1 rfl (mf_perm hM) ?_
                      refine j_iload_n dX9_sorted_130 rfl ?_
                      obtain ⟨c124, h⟩ := h
                      refine j_iald (n := 12) dX9_sorted_131 (mt_perm hM) (ml_perm hM) c124 ?_
                      exact j_iret dX9_sorted_132 rfl ⟨_, rfl, rfl, hW119, h, (hW119.ai (mt_perm hM) rfl)⟩
                    · have h := h2 q123
                      clear h1 h2
                      refine j_aload_n dX9_sorted_119 rfl ?_
                      refine j_getI dX9_sorted_120 flX9_245_10 hM.1 rfl ?_
                      refine j_goto 132 dX9_sorted_123 rfl ?_
                      exact j_iret dX9_sorted_132 rfl ⟨_, rfl, rfl, hW119, h, (hW119.fi rfl)⟩
                  · have h := h2 q122
                    clear h1 h2
                    refine j_iload dX9_sorted_108 rfl ?_
                    refine j_goto 132 dX9_sorted_110 rfl ?_
                    exact j_iret dX9_sorted_132 rfl ⟨_, rfl, rfl, hW119, h, r121⟩
                · have h := h2 q109
                  clear h1 h2
                  refine j_aload_n dX9_sorted_67 rfl ?_
                  refine j_getFR dX9_sorted_68 flX9_230_10 hM.1 rfl (mf_perm hM) ?_
                  refine j_iload dX9_sorted_71 rfl ?_
                  refine j_aload_n dX9_sorted_73 rfl ?_
                  refine j_getFR dX9_sorted_74 flX9_203_10 hM.1 rfl (mf_seat hM) ?_
                  refine j_iload dX9_sorted_77 rfl ?_
                  obtain ⟨c125, h⟩ := h
                  refine j_iald (n := 12) dX9_sorted_79 (mt_seat hM) (ml_seat hM) c125 ?_
                  obtain ⟨c126, h⟩ := h
                  refine j_iast (n := 12) dX9_sorted_80 (mt_perm hM) (Nat.le_trans hM.2.1 (Nat.le_add_right _ _)) (ml_perm hM) c126 ?_
                  obtain ⟨A127, eA127⟩ : ∃ x : jAr, x = upA A105 (o + 46) v104 (A105 (o + 38) v104) := ⟨_, rfl⟩
                  have hW128 : jWf N F102 A127 := eA127 ▸ jWf_A (i := v104) (z := A105 (o + 38) v104) hW106 (mt_perm hM) (jRk_0 rfl (hW106.ai (mt_seat hM) rfl))
                  refine jnmA (e := eA127) ?_
                  have h := h A127 eA127
                  obtain ⟨r129, h⟩ := h
                  refine j_iinc dX9_sorted_81 rfl rfl ?_
                  refine j_goto 58 dX9_sorted_84 rfl ?_
                  exact J.wk ((((((jWk.nil).eq).no).eq).eq).eq) (ihI107 _ _ (Nat.lt_of_lt_of_le h.2 (Nat.le_of_lt_succ hmuI107)) hW128 r129 h.1)
            exact J.wk ((((((jWk.nil).eq).no).eq).eq).eq) (lp _ _ _ (Nat.lt_succ_self _) hW103 (by decide) h0)
          · have h := h2 q93
            clear h1 h2
            refine j_iconst dX9_sorted_40 ?_
            exact j_iret dX9_sorted_41 rfl ⟨_, rfl, rfl, hW, h, (by decide)⟩
