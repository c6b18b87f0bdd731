set_option maxRecDepth 100000
set_option linter.unusedVariables false
/-! walks of ChildSaysModel: printed by gen/walk.py -/
/-- childing()V -/
def wpX9_childing (o : Nat) (F : jFl) (A : jAr) (Q : jFl → jAr → Prop) : Prop :=
  (0 ≤ F 3114 o ∧ F 3114 o < 2) ∧
  ∀ z3 : Int, z3 = (if ¬ (A (o + 12) (F 3114 o)) = 10 then 0 else 1) →
  ∃ P5 : Int → jFl → jAr → Prop, wpX9_counts o z3 F A P5 ∧ ∀ z7 F8 A9, P5 z7 F8 A9 →
  ((¬ z7 = 0) →
    (0 ≤ F8 3114 o ∧ F8 3114 o < 2) ∧
    jR ((10 * (F8 3114 o)) + (A9 (o + 12) (F8 3114 o))) ∧
    ∀ v16 : Int, v16 = (10 * (F8 3114 o)) + (A9 (o + 12) (F8 3114 o)) →
    ∃ P17 : Int → jFl → jAr → Prop, wpX9_fresh o F8 A9 P17 ∧ ∀ z19 F20 A21, P17 z19 F20 A21 →
    (0 ≤ v16 ∧ v16 < 20) ∧
    ∀ A26 : jAr, A26 = upA A21 (o + 13) v16 z19 →
    ∃ P28 : jFl → jAr → Prop, wpX9_must o 28518 F20 A26 P28 ∧ ∀ F31 A32, P28 F31 A32 →
    ∃ P36 : Int → jFl → jAr → Prop, wpX9_asked o 1 F31 A32 P36 ∧ ∀ z38 F39 A40, P36 z38 F39 A40 →
    (0 ≤ v16 ∧ v16 < 20) ∧
    ∀ A45 : jAr, A45 = upA A40 (o + 14) v16 z38 →
    ∃ P47 : jFl → jAr → Prop, wpX9_must o 448545973363 F39 A45 P47 ∧ ∀ F50 A51, P47 F50 A51 →
    ∃ P55 : Int → jFl → jAr → Prop, wpX9_number o 1 60 F50 A51 P55 ∧ ∀ z57 F58 A59, P55 z57 F58 A59 →
    (0 ≤ v16 ∧ v16 < 20) ∧
    ∀ A64 : jAr, A64 = upA A59 (o + 15) v16 z57 →
    ∃ (I69 : Int → jAr → Prop) (m70 : Int → jAr → Nat), I69 0 A64 ∧ ∀ (v66 : Int) (A67 : jAr), I69 v66 A67 →
      ((24 ≤ v66) →
        ∃ (I75 : jFl → jAr → Prop) (m76 : jFl → jAr → Nat), I75 F58 A67 ∧ ∀ (F72 : jFl) (A73 : jAr), I75 F72 A73 →
          ∃ K78 : Prop, (
            K78 →
            ((¬ (F72 3024 o) = 0) →
              Q F72 A73) ∧
            (¬ (¬ (F72 3024 o) = 0) →
              (0 ≤ F72 3114 o ∧ F72 3114 o < 2) ∧
              (0 ≤ F72 3114 o ∧ F72 3114 o < 2) ∧
              jR ((A73 (o + 12) (F72 3114 o)) + 1) ∧
              ∀ A85 : jAr, A85 = upA A73 (o + 12) (F72 3114 o) ((A73 (o + 12) (F72 3114 o)) + 1) →
              Q F72 A85)) ∧
          ((¬ (F72 3024 o) = 0) →
            K78 ) ∧
          (¬ (¬ (F72 3024 o) = 0) →
            ((¬ (F72 3009 o) = 1) →
              K78 ) ∧
            (¬ (¬ (F72 3009 o) = 1) →
              ∃ P88 : Int → jFl → jAr → Prop, wpX9_looked o 0 F72 A73 P88 ∧ ∀ z90 F91 A92, P88 z90 F91 A92 →
              ((¬ (F91 3024 o) = 0) →
                ((¬ (F91 3024 o) = 0) →
                  ((¬ (F91 3024 o) = 0) →
                    I75 F91 A92 ∧ m76 F91 A92 < m76 F72 A73) ∧
                  (¬ (¬ (F91 3024 o) = 0) →
                    (0 ≤ (24 * v16) + z90 ∧ (24 * v16) + z90 < 480) ∧
                    ∀ A100 : jAr, A100 = upA A92 (o + 16) ((24 * v16) + z90) 1 →
                    I75 F91 A100 ∧ m76 F91 A100 < m76 F72 A73)) ∧
                (¬ (¬ (F91 3024 o) = 0) →
                  ∃ P102 : jFl → jAr → Prop, wpX9_ahead o F91 A92 P102 ∧ ∀ F105 A106, P102 F105 A106 →
                  ((¬ (F105 3024 o) = 0) →
                    I75 F105 A106 ∧ m76 F105 A106 < m76 F72 A73) ∧
                  (¬ (¬ (F105 3024 o) = 0) →
                    (0 ≤ (24 * v16) + z90 ∧ (24 * v16) + z90 < 480) ∧
                    ∀ A112 : jAr, A112 = upA A106 (o + 16) ((24 * v16) + z90) 1 →
                    I75 F105 A112 ∧ m76 F105 A112 < m76 F72 A73))) ∧
              (¬ (¬ (F91 3024 o) = 0) →
                (0 ≤ (24 * v16) + z90 ∧ (24 * v16) + z90 < 480) ∧
                ((¬ (A92 (o + 16) ((24 * v16) + z90)) = 1) →
                  ((¬ (F91 3024 o) = 0) →
                    ((¬ (F91 3024 o) = 0) →
                      I75 F91 A92 ∧ m76 F91 A92 < m76 F72 A73) ∧
                    (¬ (¬ (F91 3024 o) = 0) →
                      (0 ≤ (24 * v16) + z90 ∧ (24 * v16) + z90 < 480) ∧
                      ∀ A119 : jAr, A119 = upA A92 (o + 16) ((24 * v16) + z90) 1 →
                      I75 F91 A119 ∧ m76 F91 A119 < m76 F72 A73)) ∧
                  (¬ (¬ (F91 3024 o) = 0) →
                    ∃ P121 : jFl → jAr → Prop, wpX9_ahead o F91 A92 P121 ∧ ∀ F124 A125, P121 F124 A125 →
                    ((¬ (F124 3024 o) = 0) →
                      I75 F124 A125 ∧ m76 F124 A125 < m76 F72 A73) ∧
                    (¬ (¬ (F124 3024 o) = 0) →
                      (0 ≤ (24 * v16) + z90 ∧ (24 * v16) + z90 < 480) ∧
                      ∀ A131 : jAr, A131 = upA A125 (o + 16) ((24 * v16) + z90) 1 →
                      I75 F124 A131 ∧ m76 F124 A131 < m76 F72 A73))) ∧
                (¬ (¬ (A92 (o + 16) ((24 * v16) + z90)) = 1) →
                  ∃ P133 : jFl → jAr → Prop, wpX9_blame o 3 (F91 3012 o) F91 A92 P133 ∧ ∀ F136 A137, P133 F136 A137 →
                  ((¬ (F136 3024 o) = 0) →
                    ((¬ (F136 3024 o) = 0) →
                      I75 F136 A137 ∧ m76 F136 A137 < m76 F72 A73) ∧
                    (¬ (¬ (F136 3024 o) = 0) →
                      (0 ≤ (24 * v16) + z90 ∧ (24 * v16) + z90 < 480) ∧
                      ∀ A144 : jAr, A144 = upA A137 (o + 16) ((24 * v16) + z90) 1 →
                      I75 F136 A144 ∧ m76 F136 A144 < m76 F72 A73)) ∧
                  (¬ (¬ (F136 3024 o) = 0) →
                    ∃ P146 : jFl → jAr → Prop, wpX9_ahead o F136 A137 P146 ∧ ∀ F149 A150, P146 F149 A150 →
                    ((¬ (F149 3024 o) = 0) →
                      I75 F149 A150 ∧ m76 F149 A150 < m76 F72 A73) ∧
                    (¬ (¬ (F149 3024 o) = 0) →
                      (0 ≤ (24 * v16) + z90 ∧ (24 * v16) + z90 < 480) ∧
                      ∀ A156 : jAr, A156 = upA A150 (o + 16) ((24 * v16) + z90) 1 →
                      I75 F149 A156 ∧ m76 F149 A156 < m76 F72 A73))))))) ∧
      (¬ (24 ≤ v66) →
        (0 ≤ (24 * v16) + v66 ∧ (24 * v16) + v66 < 480) ∧
        ∀ A159 : jAr, A159 = upA A67 (o + 16) ((24 * v16) + v66) 0 →
        jR (v66 + 1) ∧
        I69 (v66 + 1) A159 ∧ m70 (v66 + 1) A159 < m70 v66 A67)) ∧
  (¬ (¬ z7 = 0) →
    Q F8 A9)
theorem wX9_childing {G : jG} {l : Launch} {d : Nat} {N : jSh} {o : Nat} {F : jFl} {A : jAr} {Q : jFl → jAr → Prop} (hd : 5 ≤ d) (hM : mShape G N o) (hW : jWf N F A) (h : wpX9_childing o F A Q) : jCall G l d mX9_childing [.ref o] N F A (jmV N Q) := by
  refine jCall.of (ls := [.ref o, jD, jD]) (by decide) rfl (Nat.le_of_ble_eq_true rfl) rfl ?_
  unfold wpX9_childing at h
  refine j_aload_n dX9_childing_0 rfl ?_
  refine j_aload_n dX9_childing_1 rfl ?_
  refine j_getFR dX9_childing_2 flX9_85_10 hM.1 rfl (mf_children hM) ?_
  refine j_aload_n dX9_childing_5 rfl ?_
  refine j_getI dX9_childing_6 flX9_127_10 hM.1 rfl ?_
  obtain ⟨c1, h⟩ := h
  refine j_iald (n := 2) dX9_childing_9 (mt_children hM) (ml_children hM) c1 ?_
  refine j_bipush dX9_childing_10 ?_
  have jn4 : ∀ z3 : Int, z3 = (if ¬ (A (o + 12) (F 3114 o)) = 10 then 0 else 1) → J G l d mX9_childing 20 [.ref o, jD, jD] [vI z3, .ref o] N F A (jmV N Q) := by
    intro z3 ez3
    have h := h z3 ez3
    obtain ⟨P5, hp6, h⟩ := h
    refine j_invV (As := [vI z3]) (rest := []) dX9_childing_20 lkX9_342 hM.1 rfl rfl (wX9_counts (d := 3) (Nat.le_of_ble_eq_true rfl) hM hW (ez3 ▸ (jB_ite (by decide) (by decide))) hp6) rfl rfl (Nat.le_of_ble_eq_true rfl) (Nat.le_trans (Nat.le_of_ble_eq_true rfl) hd) (jkmB fun z7 F8 A9 hW10 p11 r12 => ?_)
    have h := h z7 F8 A9 p11
    obtain ⟨h1, h2⟩ := h
    refine j_if_ne 27 dX9_childing_23 rfl (jR_b r12) (fun q13 => ?_) (fun q13 => ?_)
    · have h := h1 q13
      clear h1 h2
      refine j_bipush dX9_childing_27 ?_
      refine j_aload_n dX9_childing_29 rfl ?_
      refine j_getI dX9_childing_30 flX9_127_10 hM.1 rfl ?_
      refine j_imul dX9_childing_33 ?_
      refine j_aload_n dX9_childing_34 rfl ?_
      refine j_getFR dX9_childing_35 flX9_85_10 hM.1 rfl (mf_children hM) ?_
      refine j_aload_n dX9_childing_38 rfl ?_
      refine j_getI dX9_childing_39 flX9_127_10 hM.1 rfl ?_
      obtain ⟨c14, h⟩ := h
      refine j_iald (n := 2) dX9_childing_42 (mt_children hM) (ml_children hM) c14 ?_
      refine j_iadd dX9_childing_43 ?_
      obtain ⟨r15, h⟩ := h
      obtain ⟨v16, ev16⟩ : ∃ x : Int, x = (10 * (F8 3114 o)) + (A9 (o + 12) (F8 3114 o)) := ⟨_, rfl⟩
      have h := h v16 ev16
      refine jnmI (e := ev16) ?_
      refine j_istore_n dX9_childing_44 rfl ?_
      refine j_aload_n dX9_childing_45 rfl ?_
      refine j_getFR dX9_childing_46 flX9_88_10 hM.1 rfl (mf_childName hM) ?_
      refine j_iload_n dX9_childing_49 rfl ?_
      refine j_aload_n dX9_childing_50 rfl ?_
      obtain ⟨P17, hp18, h⟩ := h
      refine j_invV (As := []) (rest := [vI v16, .ref (o + 13)]) dX9_childing_51 lkX9_346 hM.1 rfl rfl (wX9_fresh (d := 3) (Nat.le_of_ble_eq_true rfl) hM hW10  hp18) rfl rfl (Nat.le_of_ble_eq_true rfl) (Nat.le_trans (Nat.le_of_ble_eq_true rfl) hd) (jkmL fun z19 F20 A21 hW22 p23 r24 => ?_)
      have h := h z19 F20 A21 p23
      obtain ⟨c25, h⟩ := h
      refine j_last (n := 20) dX9_childing_54 (mt_childName hM) (Nat.le_trans hM.2.1 (Nat.le_add_right _ _)) (ml_childName hM) c25 ?_
      obtain ⟨A26, eA26⟩ : ∃ x : jAr, x = upA A21 (o + 13) v16 z19 := ⟨_, rfl⟩
      have hW27 : jWf N F20 A26 := eA26 ▸ jWf_A (i := v16) (z := z19) hW22 (mt_childName hM) (jRk_1 rfl r24)
      refine jnmA (e := eA26) ?_
      have h := h A26 eA26
      refine j_aload_n dX9_childing_55 rfl ?_
      refine j_ldc2 (n := 28518) dX9_childing_56 q2245 ?_
      obtain ⟨P28, hp29, h⟩ := h
      refine j_invV (As := [vL 28518]) (rest := []) dX9_childing_59 lkX9_350 hM.1 rfl rfl (wX9_must (d := 3) (Nat.le_of_ble_eq_true rfl) hM hW27 (by decide) hp29) rfl rfl (Nat.le_of_ble_eq_true rfl) (Nat.le_trans (Nat.le_of_ble_eq_true rfl) hd) (jkmV fun F31 A32 hW33 p34 => ?_)
      have h := h F31 A32 p34
      refine j_aload_n dX9_childing_62 rfl ?_
      refine j_getFR dX9_childing_63 flX9_91_10 hM.1 rfl (mf_childStreet hM) ?_
      refine j_iload_n dX9_childing_66 rfl ?_
      refine j_aload_n dX9_childing_67 rfl ?_
      refine j_iconst dX9_childing_68 ?_
      obtain ⟨P36, hp37, h⟩ := h
      refine j_invV (As := [vI 1]) (rest := [vI v16, .ref (o + 14)]) dX9_childing_69 lkX9_357 hM.1 rfl rfl (wX9_asked (d := 4) (Nat.le_of_ble_eq_true rfl) hM hW33 (by decide) hp37) rfl rfl (Nat.le_of_ble_eq_true rfl) (Nat.le_trans (Nat.le_of_ble_eq_true rfl) hd) (jkmI fun z38 F39 A40 hW41 p42 r43 => ?_)
      have h := h z38 F39 A40 p42
      obtain ⟨c44, h⟩ := h
      refine j_iast (n := 20) dX9_childing_72 (mt_childStreet hM) (Nat.le_trans hM.2.1 (Nat.le_add_right _ _)) (ml_childStreet hM) c44 ?_
      obtain ⟨A45, eA45⟩ : ∃ x : jAr, x = upA A40 (o + 14) v16 z38 := ⟨_, rfl⟩
      have hW46 : jWf N F39 A45 := eA45 ▸ jWf_A (i := v16) (z := z38) hW41 (mt_childStreet hM) (jRk_0 rfl r43)
      refine jnmA (e := eA45) ?_
      have h := h A45 eA45
      refine j_aload_n dX9_childing_73 rfl ?_
      refine j_ldc2 (n := 448545973363) dX9_childing_74 q2246 ?_
      obtain ⟨P47, hp48, h⟩ := h
      refine j_invV (As := [vL 448545973363]) (rest := []) dX9_childing_77 lkX9_350 hM.1 rfl rfl (wX9_must (d := 3) (Nat.le_of_ble_eq_true rfl) hM hW46 (by decide) hp48) rfl rfl (Nat.le_of_ble_eq_true rfl) (Nat.le_trans (Nat.le_of_ble_eq_true rfl) hd) (jkmV fun F50 A51 hW52 p53 => ?_)
      have h := h F50 A51 p53
      refine j_aload_n dX9_childing_80 rfl ?_
      refine j_getFR dX9_childing_81 flX9_94_10 hM.1 rfl (mf_holds hM) ?_
      refine j_iload_n dX9_childing_84 rfl ?_
      refine j_aload_n dX9_childing_85 rfl ?_
      refine j_iconst dX9_childing_86 ?_
      refine j_bipush dX9_childing_87 ?_
      obtain ⟨P55, hp56, h⟩ := h
      refine j_invV (As := [vI 1, vI 60]) (rest := [vI v16, .ref (o + 15)]) dX9_childing_89 lkX9_354 hM.1 rfl rfl (wX9_number (d := 3) (Nat.le_of_ble_eq_true rfl) hM hW52 (by decide) (by decide) hp56) rfl rfl (Nat.le_of_ble_eq_true rfl) (Nat.le_trans (Nat.le_of_ble_eq_true rfl) hd) (jkmI fun z57 F58 A59 hW60 p61 r62 => ?_)
      have h := h z57 F58 A59 p61
      obtain ⟨c63, h⟩ := h
      refine j_iast (n := 20) dX9_childing_92 (mt_holds hM) (Nat.le_trans hM.2.1 (Nat.le_add_right _ _)) (ml_holds hM) c63 ?_
      obtain ⟨A64, eA64⟩ : ∃ x : jAr, x = upA A59 (o + 15) v16 z57 := ⟨_, rfl⟩
      have hW65 : jWf N F58 A64 := eA64 ▸ jWf_A (i := v16) (z := z57) hW60 (mt_holds hM) (jRk_0 rfl r62)
      refine jnmA (e := eA64) ?_
      have h := h A64 eA64
      refine j_iconst dX9_childing_93 ?_
      refine j_istore_n dX9_childing_94 rfl ?_
      obtain ⟨I69, m70, h0, hs⟩ := h
      have lp : ∀ (n : Nat) (v66 : Int) (A67 : jAr), m70 v66 A67 < n → jWf N F58 A67 → jR v66 → I69 v66 A67 → J G l d mX9_childing 95 [.ref o, vI v16, vI v66] [] N F58 A67 (jmV N Q) := by
        intro nI69
        induction nI69 with
        | zero =>
          intro v66 A67 hmu
          exact absurd hmu (Nat.not_lt_zero _)
        | succ nI69 ihI69 =>
          intro v66 A67 hmuI69 hW68 rv66 hI
          have h := hs v66 A67 hI
          refine j_iload_n dX9_childing_95 rfl ?_
          refine j_bipush dX9_childing_96 ?_
          obtain ⟨h1, h2⟩ := h
          refine j_icmp_ge 119 dX9_childing_98 rfl rv66 (by decide) (fun q71 => ?_) (fun q71 => ?_)
          · have h := h1 q71
            clear h1 h2
            obtain ⟨I75, m76, h0, hs⟩ := h
            have lp : ∀ (n : Nat) (F72 : jFl) (A73 : jAr), m76 F72 A73 < n → jWf N F72 A73 → I75 F72 A73 → J G l d mX9_childing 119 [.ref o, vI v16, jD] [] N F72 A73 (jmV N Q) := by
              intro nI75
              induction nI75 with
              | zero =>
                intro F72 A73 hmu
                exact absurd hmu (Nat.not_lt_zero _)
              | succ nI75 ihI75 =>
                intro F72 A73 hmuI75 hW74  hI
                have h := hs F72 A73 hI
                refine j_aload_n dX9_childing_119 rfl ?_
                refine j_getI dX9_childing_120 flX9_36_10 hM.1 rfl ?_
                obtain ⟨K78, hK80, h⟩ := h
                have jn79 : K78  → J G l d mX9_childing 204 [.ref o, jD, jD] [] N F72 A73 (jmV N Q) := by
                  intro   h
                  have h := hK80  h
                  refine j_aload_n dX9_childing_204 rfl ?_
                  refine j_getI dX9_childing_205 flX9_36_10 hM.1 rfl ?_
                  obtain ⟨h1, h2⟩ := h
                  refine j_if_ne 224 dX9_childing_208 rfl (hW74.fi rfl) (fun q81 => ?_) (fun q81 => ?_)
                  · have h := h1 q81
                    clear h1 h2
                    exact j_vret dX9_childing_224 rfl ⟨rfl, rfl, hW74, h⟩
                  · have h := h2 q81
                    clear h1 h2
                    refine j_aload_n dX9_childing_211 rfl ?_
                    refine j_getFR dX9_childing_212 flX9_85_10 hM.1 rfl (mf_children hM) ?_
                    refine j_aload_n dX9_childing_215 rfl ?_
                    refine j_getI dX9_childing_216 flX9_127_10 hM.1 rfl ?_
                    refine j_dup2 dX9_childing_219 rfl rfl ?_
                    obtain ⟨c82, h⟩ := h
                    refine j_iald (n := 2) dX9_childing_220 (mt_children hM) (ml_children hM) c82 ?_
                    refine j_iconst dX9_childing_221 ?_
                    refine j_iadd dX9_childing_222 ?_
                    obtain ⟨c83, h⟩ := h
                    obtain ⟨r84, h⟩ := h
                    refine j_iast (n := 2) dX9_childing_223 (mt_children hM) (Nat.le_trans hM.2.1 (Nat.le_add_right _ _)) (ml_children hM) c83 ?_
                    obtain ⟨A85, eA85⟩ : ∃ x : jAr, x = upA A73 (o + 12) (F72 3114 o) ((A73 (o + 12) (F72 3114 o)) + 1) := ⟨_, rfl⟩
                    have hW86 : jWf N F72 A85 := eA85 ▸ jWf_A (i := F72 3114 o) (z := (A73 (o + 12) (F72 3114 o)) + 1) hW74 (mt_children hM) (jRk_0 rfl r84)
                    refine jnmA (e := eA85) ?_
                    have h := h A85 eA85
                    exact j_vret dX9_childing_224 rfl ⟨rfl, rfl, hW86, h⟩
                obtain ⟨h1, h2⟩ := h
                refine j_if_ne 204 dX9_childing_123 rfl (hW74.fi rfl) (fun q77 => ?_) (fun q77 => ?_)
                · have h := h1 q77
                  clear h1 h2
                  exact J.wk ((((jWk.nil).no).no).eq) (jn79   h)
                · have h := h2 q77
                  clear h1 h2
                  refine j_aload_n dX9_childing_126 rfl ?_
                  refine j_getI dX9_childing_127 flX9_20_10 hM.1 rfl ?_
                  refine j_iconst dX9_childing_130 ?_
                  obtain ⟨h1, h2⟩ := h
                  refine j_icmp_ne 204 dX9_childing_131 rfl (hW74.fi rfl) (by decide) (fun q87 => ?_) (fun q87 => ?_)
                  · have h := h1 q87
                    clear h1 h2
                    exact J.wk ((((jWk.nil).no).no).eq) (jn79   h)
                  · have h := h2 q87
                    clear h1 h2
                    refine j_aload_n dX9_childing_134 rfl ?_
                    refine j_iconst dX9_childing_135 ?_
                    obtain ⟨P88, hp89, h⟩ := h
                    refine j_invV (As := [vI 0]) (rest := []) dX9_childing_136 lkX9_339 hM.1 rfl rfl (wX9_looked (d := 3) (Nat.le_of_ble_eq_true rfl) hM hW74 (by decide) hp89) rfl rfl (Nat.le_of_ble_eq_true rfl) (Nat.le_trans (Nat.le_of_ble_eq_true rfl) hd) (jkmI fun z90 F91 A92 hW93 p94 r95 => ?_)
                    have h := h z90 F91 A92 p94
                    refine j_istore_n dX9_childing_139 rfl ?_
                    refine j_aload_n dX9_childing_140 rfl ?_
                    refine j_getI dX9_childing_141 flX9_36_10 hM.1 rfl ?_
                    obtain ⟨h1, h2⟩ := h
                    refine j_if_ne 171 dX9_childing_144 rfl (hW93.fi rfl) (fun q96 => ?_) (fun q96 => ?_)
                    · have h := h1 q96
                      clear h1 h2
                      refine j_aload_n dX9_childing_171 rfl ?_
                      refine j_getI dX9_childing_172 flX9_36_10 hM.1 rfl ?_
                      obtain ⟨h1, h2⟩ := h
                      refine j_if_ne 182 dX9_childing_175 rfl (hW93.fi rfl) (fun q97 => ?_) (fun q97 => ?_)
                      · have h := h1 q97
                        clear h1 h2
                        refine j_aload_n dX9_childing_182 rfl ?_
                        refine j_getI dX9_childing_183 flX9_36_10 hM.1 rfl ?_
                        obtain ⟨h1, h2⟩ := h
                        refine j_if_ne 201 dX9_childing_186 rfl (hW93.fi rfl) (fun q98 => ?_) (fun q98 => ?_)
                        · have h := h1 q98
                          clear h1 h2
                          refine j_goto 119 dX9_childing_201 rfl ?_
                          exact J.wk ((((jWk.nil).no).eq).eq) (ihI75 _ _ (Nat.lt_of_lt_of_le h.2 (Nat.le_of_lt_succ hmuI75)) hW93  h.1)
                        · have h := h2 q98
                          clear h1 h2
                          refine j_aload_n dX9_childing_189 rfl ?_
                          refine j_getFR dX9_childing_190 flX9_97_10 hM.1 rfl (mf_knows hM) ?_
                          refine j_bipush dX9_childing_193 ?_
                          refine j_iload_n dX9_childing_195 rfl ?_
                          refine j_imul dX9_childing_196 ?_
                          refine j_iload_n dX9_childing_197 rfl ?_
                          refine j_iadd dX9_childing_198 ?_
                          refine j_iconst dX9_childing_199 ?_
                          obtain ⟨c99, h⟩ := h
                          refine j_iast (n := 480) dX9_childing_200 (mt_knows hM) (Nat.le_trans hM.2.1 (Nat.le_add_right _ _)) (ml_knows hM) c99 ?_
                          obtain ⟨A100, eA100⟩ : ∃ x : jAr, x = upA A92 (o + 16) ((24 * v16) + z90) 1 := ⟨_, rfl⟩
                          have hW101 : jWf N F91 A100 := eA100 ▸ jWf_A (i := (24 * v16) + z90) (z := 1) hW93 (mt_knows hM) (jRk_0 rfl (by decide))
                          refine jnmA (e := eA100) ?_
                          have h := h A100 eA100
                          refine j_goto 119 dX9_childing_201 rfl ?_
                          exact J.wk ((((jWk.nil).no).eq).eq) (ihI75 _ _ (Nat.lt_of_lt_of_le h.2 (Nat.le_of_lt_succ hmuI75)) hW101  h.1)
                      · have h := h2 q97
                        clear h1 h2
                        refine j_aload_n dX9_childing_178 rfl ?_
                        obtain ⟨P102, hp103, h⟩ := h
                        refine j_invV (As := []) (rest := []) dX9_childing_179 lkX9_279 hM.1 rfl rfl (wX9_ahead (d := 2) (Nat.le_of_ble_eq_true rfl) hM hW93  hp103) rfl rfl (Nat.le_of_ble_eq_true rfl) (Nat.le_trans (Nat.le_of_ble_eq_true rfl) hd) (jkmV fun F105 A106 hW107 p108 => ?_)
                        have h := h F105 A106 p108
                        refine j_aload_n dX9_childing_182 rfl ?_
                        refine j_getI dX9_childing_183 flX9_36_10 hM.1 rfl ?_
                        obtain ⟨h1, h2⟩ := h
                        refine j_if_ne 201 dX9_childing_186 rfl (hW107.fi rfl) (fun q110 => ?_) (fun q110 => ?_)
                        · have h := h1 q110
                          clear h1 h2
                          refine j_goto 119 dX9_childing_201 rfl ?_
                          exact J.wk ((((jWk.nil).no).eq).eq) (ihI75 _ _ (Nat.lt_of_lt_of_le h.2 (Nat.le_of_lt_succ hmuI75)) hW107  h.1)
                        · have h := h2 q110
                          clear h1 h2
                          refine j_aload_n dX9_childing_189 rfl ?_
                          refine j_getFR dX9_childing_190 flX9_97_10 hM.1 rfl (mf_knows hM) ?_
                          refine j_bipush dX9_childing_193 ?_
                          refine j_iload_n dX9_childing_195 rfl ?_
                          refine j_imul dX9_childing_196 ?_
                          refine j_iload_n dX9_childing_197 rfl ?_
                          refine j_iadd dX9_childing_198 ?_
                          refine j_iconst dX9_childing_199 ?_
                          obtain ⟨c111, h⟩ := h
                          refine j_iast (n := 480) dX9_childing_200 (mt_knows hM) (Nat.le_trans hM.2.1 (Nat.le_add_right _ _)) (ml_knows hM) c111 ?_
                          obtain ⟨A112, eA112⟩ : ∃ x : jAr, x = upA A106 (o + 16) ((24 * v16) + z90) 1 := ⟨_, rfl⟩
                          have hW113 : jWf N F105 A112 := eA112 ▸ jWf_A (i := (24 * v16) + z90) (z := 1) hW107 (mt_knows hM) (jRk_0 rfl (by decide))
                          refine jnmA (e := eA112) ?_
                          have h := h A112 eA112
                          refine j_goto 119 dX9_childing_201 rfl ?_
                          exact J.wk ((((jWk.nil).no).eq).eq) (ihI75 _ _ (Nat.lt_of_lt_of_le h.2 (Nat.le_of_lt_succ hmuI75)) hW113  h.1)
                    · have h := h2 q96
                      clear h1 h2
                      refine j_aload_n dX9_childing_147 rfl ?_
                      refine j_getFR dX9_childing_148 flX9_97_10 hM.1 rfl (mf_knows hM) ?_
                      refine j_bipush dX9_childing_151 ?_
                      refine j_iload_n dX9_childing_153 rfl ?_
                      refine j_imul dX9_childing_154 ?_
                      refine j_iload_n dX9_childing_155 rfl ?_
                      refine j_iadd dX9_childing_156 ?_
                      obtain ⟨c114, h⟩ := h
                      refine j_iald (n := 480) dX9_childing_157 (mt_knows hM) (ml_knows hM) c114 ?_
                      refine j_iconst dX9_childing_158 ?_
                      obtain ⟨h1, h2⟩ := h
                      refine j_icmp_ne 171 dX9_childing_159 rfl (hW93.ai (mt_knows hM) rfl) (by decide) (fun q115 => ?_) (fun q115 => ?_)
                      · have h := h1 q115
                        clear h1 h2
                        refine j_aload_n dX9_childing_171 rfl ?_
                        refine j_getI dX9_childing_172 flX9_36_10 hM.1 rfl ?_
                        obtain ⟨h1, h2⟩ := h
                        refine j_if_ne 182 dX9_childing_175 rfl (hW93.fi rfl) (fun q116 => ?_) (fun q116 => ?_)
                        · have h := h1 q116
                          clear h1 h2
                          refine j_aload_n dX9_childing_182 rfl ?_
                          refine j_getI dX9_childing_183 flX9_36_10 hM.1 rfl ?_
                          obtain ⟨h1, h2⟩ := h
                          refine j_if_ne 201 dX9_childing_186 rfl (hW93.fi rfl) (fun q117 => ?_) (fun q117 => ?_)
                          · have h := h1 q117
                            clear h1 h2
                            refine j_goto 119 dX9_childing_201 rfl ?_
                            exact J.wk ((((jWk.nil).no).eq).eq) (ihI75 _ _ (Nat.lt_of_lt_of_le h.2 (Nat.le_of_lt_succ hmuI75)) hW93  h.1)
                          · have h := h2 q117
                            clear h1 h2
                            refine j_aload_n dX9_childing_189 rfl ?_
                            refine j_getFR dX9_childing_190 flX9_97_10 hM.1 rfl (mf_knows hM) ?_
                            refine j_bipush dX9_childing_193 ?_
                            refine j_iload_n dX9_childing_195 rfl ?_
                            refine j_imul dX9_childing_196 ?_
                            refine j_iload_n dX9_childing_197 rfl ?_
                            refine j_iadd dX9_childing_198 ?_
                            refine j_iconst dX9_childing_199 ?_
                            obtain ⟨c118, h⟩ := h
                            refine j_iast (n := 480) dX9_childing_200 (mt_knows hM) (Nat.le_trans hM.2.1 (Nat.le_add_right _ _)) (ml_knows hM) c118 ?_
                            obtain ⟨A119, eA119⟩ : ∃ x : jAr, x = upA A92 (o + 16) ((24 * v16) + z90) 1 := ⟨_, rfl⟩
                            have hW120 : jWf N F91 A119 := eA119 ▸ jWf_A (i := (24 * v16) + z90) (z := 1) hW93 (mt_knows hM) (jRk_0 rfl (by decide))
                            refine jnmA (e := eA119) ?_
                            have h := h A119 eA119
                            refine j_goto 119 dX9_childing_201 rfl ?_
                            exact J.wk ((((jWk.nil).no).eq).eq) (ihI75 _ _ (Nat.lt_of_lt_of_le h.2 (Nat.le_of_lt_succ hmuI75)) hW120  h.1)
                        · have h := h2 q116
                          clear h1 h2
                          refine j_aload_n dX9_childing_178 rfl ?_
                          obtain ⟨P121, hp122, h⟩ := h
                          refine j_invV (As := []) (rest := []) dX9_childing_179 lkX9_279 hM.1 rfl rfl (wX9_ahead (d := 2) (Nat.le_of_ble_eq_true rfl) hM hW93  hp122) rfl rfl (Nat.le_of_ble_eq_true rfl) (Nat.le_trans (Nat.le_of_ble_eq_true rfl) hd) (jkmV fun F124 A125 hW126 p127 => ?_)
                          have h := h F124 A125 p127
                          refine j_aload_n dX9_childing_182 rfl ?_
                          refine j_getI dX9_childing_183 flX9_36_10 hM.1 rfl ?_
                          obtain ⟨h1, h2⟩ := h
                          refine j_if_ne 201 dX9_childing_186 rfl (hW126.fi rfl) (fun q129 => ?_) (fun q129 => ?_)
                          · have h := h1 q129
                            clear h1 h2
                            refine j_goto 119 dX9_childing_201 rfl ?_
                            exact J.wk ((((jWk.nil).no).eq).eq) (ihI75 _ _ (Nat.lt_of_lt_of_le h.2 (Nat.le_of_lt_succ hmuI75)) hW126  h.1)
                          · have h := h2 q129
                            clear h1 h2
                            refine j_aload_n dX9_childing_189 rfl ?_
                            refine j_getFR dX9_childing_190 flX9_97_10 hM.1 rfl (mf_knows hM) ?_
                            refine j_bipush dX9_childing_193 ?_
                            refine j_iload_n dX9_childing_195 rfl ?_
                            refine j_imul dX9_childing_196 ?_
                            refine j_iload_n dX9_childing_197 rfl ?_
                            refine j_iadd dX9_childing_198 ?_
                            refine j_iconst dX9_childing_199 ?_
                            obtain ⟨c130, h⟩ := h
                            refine j_iast (n := 480) dX9_childing_200 (mt_knows hM) (Nat.le_trans hM.2.1 (Nat.le_add_right _ _)) (ml_knows hM) c130 ?_
                            obtain ⟨A131, eA131⟩ : ∃ x : jAr, x = upA A125 (o + 16) ((24 * v16) + z90) 1 := ⟨_, rfl⟩
                            have hW132 : jWf N F124 A131 := eA131 ▸ jWf_A (i := (24 * v16) + z90) (z := 1) hW126 (mt_knows hM) (jRk_0 rfl (by decide))
                            refine jnmA (e := eA131) ?_
                            have h := h A131 eA131
                            refine j_goto 119 dX9_childing_201 rfl ?_
                            exact J.wk ((((jWk.nil).no).eq).eq) (ihI75 _ _ (Nat.lt_of_lt_of_le h.2 (Nat.le_of_lt_succ hmuI75)) hW132  h.1)
                      · have h := h2 q115
                        clear h1 h2
                        refine j_aload_n dX9_childing_162 rfl ?_
                        refine j_iconst dX9_childing_163 ?_
                        refine j_aload_n dX9_childing_164 rfl ?_
                        refine j_getI dX9_childing_165 flX9_23_10 hM.1 rfl ?_
                        obtain ⟨P133, hp134, h⟩ := h
                        refine j_invV (As := [vI 3, vI (F91 3012 o)]) (rest := []) dX9_childing_168 lkX9_262 hM.1 rfl rfl (wX9_blame (d := 1) (Nat.le_of_ble_eq_true rfl) hM hW93 (by decide) (hW93.fi rfl) hp134) rfl rfl (Nat.le_of_ble_eq_true rfl) (Nat.le_trans (Nat.le_of_ble_eq_true rfl) hd) (jkmV fun F136 A137 hW138 p139 => ?_)
                        have h := h F136 A137 p139
                        refine j_aload_n dX9_childing_171 rfl ?_
                        refine j_getI dX9_childing_172 flX9_36_10 hM.1 rfl ?_
                        obtain ⟨h1, h2⟩ := h
                        refine j_if_ne 182 dX9_childing_175 rfl (hW138.fi rfl) (fun q141 => ?_) (fun q141 => ?_)
                        · have h := h1 q141
                          clear h1 h2
                          refine j_aload_n dX9_childing_182 rfl ?_
                          refine j_getI dX9_childing_183 flX9_36_10 hM.1 rfl ?_
                          obtain ⟨h1, h2⟩ := h
                          refine j_if_ne 201 dX9_childing_186 rfl (hW138.fi rfl) (fun q142 => ?_) (fun q142 => ?_)
                          · have h := h1 q142
                            clear h1 h2
                            refine j_goto 119 dX9_childing_201 rfl ?_
                            exact J.wk ((((jWk.nil).no).eq).eq) (ihI75 _ _ (Nat.lt_of_lt_of_le h.2 (Nat.le_of_lt_succ hmuI75)) hW138  h.1)
                          · have h := h2 q142
                            clear h1 h2
                            refine j_aload_n dX9_childing_189 rfl ?_
                            refine j_getFR dX9_childing_190 flX9_97_10 hM.1 rfl (mf_knows hM) ?_
                            refine j_bipush dX9_childing_193 ?_
                            refine j_iload_n dX9_childing_195 rfl ?_
                            refine j_imul dX9_childing_196 ?_
                            refine j_iload_n dX9_childing_197 rfl ?_
                            refine j_iadd dX9_childing_198 ?_
                            refine j_iconst dX9_childing_199 ?_
                            obtain ⟨c143, h⟩ := h
                            refine j_iast (n := 480) dX9_childing_200 (mt_knows hM) (Nat.le_trans hM.2.1 (Nat.le_add_right _ _)) (ml_knows hM) c143 ?_
                            obtain ⟨A144, eA144⟩ : ∃ x : jAr, x = upA A137 (o + 16) ((24 * v16) + z90) 1 := ⟨_, rfl⟩
                            have hW145 : jWf N F136 A144 := eA144 ▸ jWf_A (i := (24 * v16) + z90) (z := 1) hW138 (mt_knows hM) (jRk_0 rfl (by decide))
                            refine jnmA (e := eA144) ?_
                            have h := h A144 eA144
                            refine j_goto 119 dX9_childing_201 rfl ?_
                            exact J.wk ((((jWk.nil).no).eq).eq) (ihI75 _ _ (Nat.lt_of_lt_of_le h.2 (Nat.le_of_lt_succ hmuI75)) hW145  h.1)
                        · have h := h2 q141
                          clear h1 h2
                          refine j_aload_n dX9_childing_178 rfl ?_
                          obtain ⟨P146, hp147, h⟩ := h
                          refine j_invV (As := []) (rest := []) dX9_childing_179 lkX9_279 hM.1 rfl rfl (wX9_ahead (d := 2) (Nat.le_of_ble_eq_true rfl) hM hW138  hp147) rfl rfl (Nat.le_of_ble_eq_true rfl) (Nat.le_trans (Nat.le_of_ble_eq_true rfl) hd) (jkmV fun F149 A150 hW151 p152 => ?_)
                          have h := h F149 A150 p152
                          refine j_aload_n dX9_childing_182 rfl ?_
                          refine j_getI dX9_childing_183 flX9_36_10 hM.1 rfl ?_
                          obtain ⟨h1, h2⟩ := h
                          refine j_if_ne 201 dX9_childing_186 rfl (hW151.fi rfl) (fun q154 => ?_) (fun q154 => ?_)
                          · have h := h1 q154
                            clear h1 h2
                            refine j_goto 119 dX9_childing_201 rfl ?_
                            exact J.wk ((((jWk.nil).no).eq).eq) (ihI75 _ _ (Nat.lt_of_lt_of_le h.2 (Nat.le_of_lt_succ hmuI75)) hW151  h.1)
                          · have h := h2 q154
                            clear h1 h2
                            refine j_aload_n dX9_childing_189 rfl ?_
                            refine j_getFR dX9_childing_190 flX9_97_10 hM.1 rfl (mf_knows hM) ?_
                            refine j_bipush dX9_childing_193 ?_
                            refine j_iload_n dX9_childing_195 rfl ?_
                            refine j_imul dX9_childing_196 ?_
                            refine j_iload_n dX9_childing_197 rfl ?_
                            refine j_iadd dX9_childing_198 ?_
                            refine j_iconst dX9_childing_199 ?_
                            obtain ⟨c155, h⟩ := h
                            refine j_iast (n := 480) dX9_childing_200 (mt_knows hM) (Nat.le_trans hM.2.1 (Nat.le_add_right _ _)) (ml_knows hM) c155 ?_
                            obtain ⟨A156, eA156⟩ : ∃ x : jAr, x = upA A150 (o + 16) ((24 * v16) + z90) 1 := ⟨_, rfl⟩
                            have hW157 : jWf N F149 A156 := eA156 ▸ jWf_A (i := (24 * v16) + z90) (z := 1) hW151 (mt_knows hM) (jRk_0 rfl (by decide))
                            refine jnmA (e := eA156) ?_
                            have h := h A156 eA156
                            refine j_goto 119 dX9_childing_201 rfl ?_
                            exact J.wk ((((jWk.nil).no).eq).eq) (ihI75 _ _ (Nat.lt_of_lt_of_le h.2 (Nat.le_of_lt_succ hmuI75)) hW157  h.1)
            exact J.wk ((((jWk.nil).no).eq).eq) (lp _ _ _ (Nat.lt_succ_self _) hW68  h0)
          · have h := h2 q71
            clear h1 h2
            refine j_aload_n dX9_childing_101 rfl ?_
            refine j_getFR dX9_childing_102 flX9_97_10 hM.1 rfl (mf_knows hM) ?_
            refine j_bipush dX9_childing_105 ?_
            refine j_iload_n dX9_childing_107 rfl ?_
            refine j_imul dX9_childing_108 ?_
            refine j_iload_n dX9_childing_109 rfl ?_
            refine j_iadd dX9_childing_110 ?_
            refine j_iconst dX9_childing_111 ?_
            obtain ⟨c158, h⟩ := h
            refine j_iast (n := 480) dX9_childing_112 (mt_knows hM) (Nat.le_trans hM.2.1 (Nat.le_add_right _ _)) (ml_knows hM) c158 ?_
            obtain ⟨A159, eA159⟩ : ∃ x : jAr, x = upA A67 (o + 16) ((24 * v16) + v66) 0 := ⟨_, rfl⟩
            have hW160 : jWf N F58 A159 := eA159 ▸ jWf_A (i := (24 * v16) + v66) (z := 0) hW68 (mt_knows hM) (jRk_0 rfl (by decide))
            refine jnmA (e := eA159) ?_
            have h := h A159 eA159
            obtain ⟨r161, h⟩ := h
            refine j_iinc dX9_childing_113 rfl rfl ?_
            refine j_goto 95 dX9_childing_116 rfl ?_
            exact J.wk ((((jWk.nil).eq).eq).eq) (ihI69 _ _ (Nat.lt_of_lt_of_le h.2 (Nat.le_of_lt_succ hmuI69)) hW160 r161 h.1)
      exact J.wk ((((jWk.nil).eq).eq).eq) (lp _ _ _ (Nat.lt_succ_self _) hW65 (by decide) h0)
    · have h := h2 q13
      clear h1 h2
      exact j_vret dX9_childing_26 rfl ⟨rfl, rfl, hW10, h⟩
  clear h
  refine j_icmp_ne 19 dX9_childing_12 rfl (hW.ai (mt_children hM) rfl) (by decide) (fun q2 => ?_) (fun q2 => ?_)
  · refine j_iconst dX9_childing_19 ?_
    exact jn4 _ ((if_pos q2).symm)
  · refine j_iconst dX9_childing_15 ?_
    refine j_goto 20 dX9_childing_16 rfl ?_
    exact jn4 _ ((if_neg q2).symm)
/-- childrenOf(I)I -/
def wpX9_childrenOf (o : Nat) (a1 : Int) (F : jFl) (A : jAr) (Q : Int → jFl → jAr → Prop) : Prop :=
  ∃ (I6 : Int → Int → jFl → jAr → Prop) (m7 : Int → Int → jFl → jAr → Nat), I6 0 0 F A ∧ ∀ (v1 : Int) (v2 : Int) (F3 : jFl) (A4 : jAr), I6 v1 v2 F3 A4 →
    (0 ≤ F3 3039 o ∧ F3 3039 o < 2) ∧
    (((A4 (o + 12) (F3 3039 o)) ≤ v2) →
      Q v1 F3 A4) ∧
    (¬ ((A4 (o + 12) (F3 3039 o)) ≤ v2) →
      ∃ P10 : Int → jFl → jAr → Prop, wpX9_standsBy o a1 v2 F3 A4 P10 ∧ ∀ z12 F13 A14, P10 z12 F13 A14 →
      ∀ z19 : Int, z19 = (if z12 = 0 then 0 else 1) →
      jR (v1 + z19) ∧
      ∀ v22 : Int, v22 = v1 + z19 →
      jR (v2 + 1) ∧
      I6 v22 (v2 + 1) F13 A14 ∧ m7 v22 (v2 + 1) F13 A14 < m7 v1 v2 F3 A4)
theorem wX9_childrenOf {G : jG} {l : Launch} {d : Nat} {N : jSh} {o : Nat} {F : jFl} {A : jAr} {a1 : Int} {Q : Int → jFl → jAr → Prop} (hd : 5 ≤ d) (hM : mShape G N o) (hW : jWf N F A) (ra1 : jR a1) (h : wpX9_childrenOf o a1 F A Q) : jCall G l d mX9_childrenOf [.ref o, vI a1] N F A (jmI N Q) := by
  refine jCall.of (ls := [.ref o, vI a1, jD, jD]) (by decide) rfl (Nat.le_of_ble_eq_true rfl) rfl ?_
  unfold wpX9_childrenOf at h
  refine j_iconst dX9_childrenOf_0 ?_
  refine j_istore_n dX9_childrenOf_1 rfl ?_
  refine j_iconst dX9_childrenOf_2 ?_
  refine j_istore_n dX9_childrenOf_3 rfl ?_
  obtain ⟨I6, m7, h0, hs⟩ := h
  have lp : ∀ (n : Nat) (v1 : Int) (v2 : Int) (F3 : jFl) (A4 : jAr), m7 v1 v2 F3 A4 < n → jWf N F3 A4 → jR v1 → jR v2 → I6 v1 v2 F3 A4 → J G l d mX9_childrenOf 4 [.ref o, vI a1, vI v1, vI v2] [] N F3 A4 (jmI N Q) := by
    intro nI6
    induction nI6 with
    | zero =>
      intro v1 v2 F3 A4 hmu
      exact absurd hmu (Nat.not_lt_zero _)
    | succ nI6 ihI6 =>
      intro v1 v2 F3 A4 hmuI6 hW5 rv1 rv2 hI
      have h := hs v1 v2 F3 A4 hI
      refine j_iload_n dX9_childrenOf_4 rfl ?_
      refine j_aload_n dX9_childrenOf_5 rfl ?_
      refine j_getFR dX9_childrenOf_6 flX9_85_10 hM.1 rfl (mf_children hM) ?_
      refine j_aload_n dX9_childrenOf_9 rfl ?_
      refine j_getI dX9_childrenOf_10 flX9_51_10 hM.1 rfl ?_
      obtain ⟨c8, h⟩ := h
      refine j_iald (n := 2) dX9_childrenOf_13 (mt_children hM) (ml_children hM) c8 ?_
      obtain ⟨h1, h2⟩ := h
      refine j_icmp_ge 40 dX9_childrenOf_14 rfl rv2 (hW5.ai (mt_children hM) rfl) (fun q9 => ?_) (fun q9 => ?_)
      · have h := h1 q9
        clear h1 h2
        refine j_iload_n dX9_childrenOf_40 rfl ?_
        exact j_iret dX9_childrenOf_41 rfl ⟨_, rfl, rfl, hW5, h, rv1⟩
      · have h := h2 q9
        clear h1 h2
        refine j_iload_n dX9_childrenOf_17 rfl ?_
        refine j_aload_n dX9_childrenOf_18 rfl ?_
        refine j_iload_n dX9_childrenOf_19 rfl ?_
        refine j_iload_n dX9_childrenOf_20 rfl ?_
        obtain ⟨P10, hp11, h⟩ := h
        refine j_invV (As := [vI a1, vI v2]) (rest := [vI v1]) dX9_childrenOf_21 lkX9_485 hM.1 rfl rfl (wX9_standsBy (d := 4) (Nat.le_of_ble_eq_true rfl) hM hW5 ra1 rv2 hp11) rfl rfl (Nat.le_of_ble_eq_true rfl) (Nat.le_trans (Nat.le_of_ble_eq_true rfl) hd) (jkmB fun z12 F13 A14 hW15 p16 r17 => ?_)
        have h := h z12 F13 A14 p16
        have jn20 : ∀ z19 : Int, z19 = (if z12 = 0 then 0 else 1) → J G l d mX9_childrenOf 32 [.ref o, vI a1, vI v1, vI v2] [vI z19, vI v1] N F13 A14 (jmI N Q) := by
          intro z19 ez19
          have h := h z19 ez19
          refine j_iadd dX9_childrenOf_32 ?_
          obtain ⟨r21, h⟩ := h
          obtain ⟨v22, ev22⟩ : ∃ x : Int, x = v1 + z19 := ⟨_, rfl⟩
          have h := h v22 ev22
          refine jnmI (e := ev22) ?_
          refine j_istore_n dX9_childrenOf_33 rfl ?_
          obtain ⟨r23, h⟩ := h
          refine j_iinc dX9_childrenOf_34 rfl rfl ?_
          refine j_goto 4 dX9_childrenOf_37 rfl ?_
          exact J.wk (((((jWk.nil).eq).eq).eq).eq) (ihI6 _ _ _ _ (Nat.lt_of_lt_of_le h.2 (Nat.le_of_lt_succ hmuI6)) hW15 (ev22 ▸ r21) r23 h.1)
        clear h
        refine j_if_eq 31 dX9_childrenOf_24 rfl (jR_b r17) (fun q18 => ?_) (fun q18 => ?_)
        · refine j_iconst dX9_childrenOf_31 ?_
          exact jn20 _ ((if_pos q18).symm)
        · refine j_iconst dX9_childrenOf_27 ?_
          refine j_goto 32 dX9_childrenOf_28 rfl ?_
          exact jn20 _ ((if_neg q18).symm)
  exact J.wk (((((jWk.nil).eq).eq).eq).eq) (lp _ _ _ _ _ (Nat.lt_succ_self _) hW (by decide) (by decide) h0)
/-- onePut(Z)V -/
def wpX9_onePut (o : Nat) (a1 : Int) (F : jFl) (A : jAr) (Q : jFl → jAr → Prop) : Prop :=
  ∃ K5 : jFl → jAr → Prop, (
    ∀ (F2 : jFl) (A3 : jAr), K5 F2 A3 →
    ∃ P8 : Int → jFl → jAr → Prop, wpX9_asked o 0 F2 A3 P8 ∧ ∀ z10 F11 A12, P8 z10 F11 A12 →
    ((¬ (F11 3024 o) = 0) →
      Q F11 A12) ∧
    (¬ (¬ (F11 3024 o) = 0) →
      (0 ≤ (F11 3120 o) + (F11 3123 o) ∧ (F11 3120 o) + (F11 3123 o) < 12) ∧
      ∀ A18 : jAr, A18 = upA A12 (o + 26) ((F11 3120 o) + (F11 3123 o)) z10 →
      Q F11 A18)) ∧
  ((¬ (F 3024 o) = 0) →
    K5 F A) ∧
  (¬ (¬ (F 3024 o) = 0) →
    ((a1 = 0) →
      K5 F A) ∧
    (¬ (a1 = 0) →
      ((¬ (F 3009 o) = 1) →
        K5 F A) ∧
      (¬ (¬ (F 3009 o) = 1) →
        ((¬ (F 3036 o) = (-1)) →
          ∃ P23 : jFl → jAr → Prop, wpX9_blame o 5 (F 3012 o) F A P23 ∧ ∀ F26 A27, P23 F26 A27 →
          K5 F26 A27) ∧
        (¬ (¬ (F 3036 o) = (-1)) →
          ∃ P31 : Int → Prop, wpX9_isOwn o (F 3022 o) F A P31 ∧ ∀ z33, P31 z33 →
          ((¬ z33 = 0) →
            K5 F A) ∧
          (¬ (¬ z33 = 0) →
            ∃ P37 : jFl → jAr → Prop, wpX9_blame o 5 (F 3012 o) F A P37 ∧ ∀ F40 A41, P37 F40 A41 →
            K5 F40 A41)))))
theorem wX9_onePut {G : jG} {l : Launch} {d : Nat} {N : jSh} {o : Nat} {F : jFl} {A : jAr} {a1 : Int} {Q : jFl → jAr → Prop} (hd : 5 ≤ d) (hM : mShape G N o) (hW : jWf N F A) (ba1 : a1 = 0 ∨ a1 = 1) (h : wpX9_onePut o a1 F A Q) : jCall G l d mX9_onePut [.ref o, vI a1] N F A (jmV N Q) := by
  refine jCall.of (ls := [.ref o, vI a1, jD]) (by decide) rfl (Nat.le_of_ble_eq_true rfl) rfl ?_
  unfold wpX9_onePut at h
  refine j_aload_n dX9_onePut_0 rfl ?_
  refine j_getI dX9_onePut_1 flX9_36_10 hM.1 rfl ?_
  obtain ⟨K5, hK7, h⟩ := h
  have jn6 : ∀ (F2 : jFl) (A3 : jAr), jWf N F2 A3 → K5 F2 A3 → J G l d mX9_onePut 47 [.ref o, jD, jD] [] N F2 A3 (jmV N Q) := by
    intro F2 A3 hW4  h
    have h := hK7 F2 A3 h
    refine j_aload_n dX9_onePut_47 rfl ?_
    refine j_iconst dX9_onePut_48 ?_
    obtain ⟨P8, hp9, h⟩ := h
    refine j_invV (As := [vI 0]) (rest := []) dX9_onePut_49 lkX9_357 hM.1 rfl rfl (wX9_asked (d := 4) (Nat.le_of_ble_eq_true rfl) hM hW4 (by decide) hp9) rfl rfl (Nat.le_of_ble_eq_true rfl) (Nat.le_trans (Nat.le_of_ble_eq_true rfl) hd) (jkmI fun z10 F11 A12 hW13 p14 r15 => ?_)
    have h := h z10 F11 A12 p14
    refine j_istore_n dX9_onePut_52 rfl ?_
    refine j_aload_n dX9_onePut_53 rfl ?_
    refine j_getI dX9_onePut_54 flX9_36_10 hM.1 rfl ?_
    obtain ⟨h1, h2⟩ := h
    refine j_if_ne 75 dX9_onePut_57 rfl (hW13.fi rfl) (fun q16 => ?_) (fun q16 => ?_)
    · have h := h1 q16
      clear h1 h2
      exact j_vret dX9_onePut_75 rfl ⟨rfl, rfl, hW13, h⟩
    · have h := h2 q16
      clear h1 h2
      refine j_aload_n dX9_onePut_60 rfl ?_
      refine j_getFR dX9_onePut_61 flX9_130_10 hM.1 rfl (mf_readRow hM) ?_
      refine j_aload_n dX9_onePut_64 rfl ?_
      refine j_getI dX9_onePut_65 flX9_133_10 hM.1 rfl ?_
      refine j_aload_n dX9_onePut_68 rfl ?_
      refine j_getI dX9_onePut_69 flX9_136_10 hM.1 rfl ?_
      refine j_iadd dX9_onePut_72 ?_
      refine j_iload_n dX9_onePut_73 rfl ?_
      obtain ⟨c17, h⟩ := h
      refine j_iast (n := 12) dX9_onePut_74 (mt_readRow hM) (Nat.le_trans hM.2.1 (Nat.le_add_right _ _)) (ml_readRow hM) c17 ?_
      obtain ⟨A18, eA18⟩ : ∃ x : jAr, x = upA A12 (o + 26) ((F11 3120 o) + (F11 3123 o)) z10 := ⟨_, rfl⟩
      have hW19 : jWf N F11 A18 := eA18 ▸ jWf_A (i := (F11 3120 o) + (F11 3123 o)) (z := z10) hW13 (mt_readRow hM) (jRk_0 rfl r15)
      refine jnmA (e := eA18) ?_
      have h := h A18 eA18
      exact j_vret dX9_onePut_75 rfl ⟨rfl, rfl, hW19, h⟩
  obtain ⟨h1, h2⟩ := h
  refine j_if_ne 47 dX9_onePut_4 rfl (hW.fi rfl) (fun q1 => ?_) (fun q1 => ?_)
  · have h := h1 q1
    clear h1 h2
    exact J.wk ((((jWk.nil).no).no).eq) (jn6 _ _ hW  h)
  · have h := h2 q1
    clear h1 h2
    refine j_iload_n dX9_onePut_7 rfl ?_
    obtain ⟨h1, h2⟩ := h
    refine j_if_eq 47 dX9_onePut_8 rfl (jR_b ba1) (fun q20 => ?_) (fun q20 => ?_)
    · have h := h1 q20
      clear h1 h2
      exact J.wk ((((jWk.nil).no).no).eq) (jn6 _ _ hW  h)
    · have h := h2 q20
      clear h1 h2
      refine j_aload_n dX9_onePut_11 rfl ?_
      refine j_getI dX9_onePut_12 flX9_20_10 hM.1 rfl ?_
      refine j_iconst dX9_onePut_15 ?_
      obtain ⟨h1, h2⟩ := h
      refine j_icmp_ne 47 dX9_onePut_16 rfl (hW.fi rfl) (by decide) (fun q21 => ?_) (fun q21 => ?_)
      · have h := h1 q21
        clear h1 h2
        exact J.wk ((((jWk.nil).no).no).eq) (jn6 _ _ hW  h)
      · have h := h2 q21
        clear h1 h2
        refine j_aload_n dX9_onePut_19 rfl ?_
        refine j_getI dX9_onePut_20 flX9_48_10 hM.1 rfl ?_
        refine j_iconst dX9_onePut_23 ?_
        obtain ⟨h1, h2⟩ := h
        refine j_icmp_ne 38 dX9_onePut_24 rfl (hW.fi rfl) (by decide) (fun q22 => ?_) (fun q22 => ?_)
        · have h := h1 q22
          clear h1 h2
          refine j_aload_n dX9_onePut_38 rfl ?_
          refine j_iconst dX9_onePut_39 ?_
          refine j_aload_n dX9_onePut_40 rfl ?_
          refine j_getI dX9_onePut_41 flX9_23_10 hM.1 rfl ?_
          obtain ⟨P23, hp24, h⟩ := h
          refine j_invV (As := [vI 5, vI (F 3012 o)]) (rest := []) dX9_onePut_44 lkX9_262 hM.1 rfl rfl (wX9_blame (d := 1) (Nat.le_of_ble_eq_true rfl) hM hW (by decide) (hW.fi rfl) hp24) rfl rfl (Nat.le_of_ble_eq_true rfl) (Nat.le_trans (Nat.le_of_ble_eq_true rfl) hd) (jkmV fun F26 A27 hW28 p29 => ?_)
          have h := h F26 A27 p29
          exact J.wk ((((jWk.nil).no).no).eq) (jn6 _ _ hW28  h)
        · have h := h2 q22
          clear h1 h2
          refine j_aload_n dX9_onePut_27 rfl ?_
          refine j_aload_n dX9_onePut_28 rfl ?_
          refine j_getL dX9_onePut_29 flX9_32_10 hM.1 rfl ?_
          obtain ⟨P31, hp32, h⟩ := h
          refine j_invV (As := [vL (F 3022 o)]) (rest := []) dX9_onePut_32 lkX9_332 hM.1 rfl rfl (wX9_isOwn (d := 1) (Nat.le_of_ble_eq_true rfl) hM hW (hW.fl rfl) hp32) rfl rfl (Nat.le_of_ble_eq_true rfl) (Nat.le_trans (Nat.le_of_ble_eq_true rfl) hd) (jkpB fun z33 p34 r35 => ?_)
          have h := h z33 p34
          obtain ⟨h1, h2⟩ := h
          refine j_if_ne 47 dX9_onePut_35 rfl (jR_b r35) (fun q36 => ?_) (fun q36 => ?_)
          · have h := h1 q36
            clear h1 h2
            exact J.wk ((((jWk.nil).no).no).eq) (jn6 _ _ hW  h)
          · have h := h2 q36
            clear h1 h2
            refine j_aload_n dX9_onePut_38 rfl ?_
            refine j_iconst dX9_onePut_39 ?_
            refine j_aload_n dX9_onePut_40 rfl ?_
            refine j_getI dX9_onePut_41 flX9_23_10 hM.1 rfl ?_
            obtain ⟨P37, hp38, h⟩ := h
            refine j_invV (As := [vI 5, vI (F 3012 o)]) (rest := []) dX9_onePut_44 lkX9_262 hM.1 rfl rfl (wX9_blame (d := 1) (Nat.le_of_ble_eq_true rfl) hM hW (by decide) (hW.fi rfl) hp38) rfl rfl (Nat.le_of_ble_eq_true rfl) (Nat.le_trans (Nat.le_of_ble_eq_true rfl) hd) (jkmV fun F40 A41 hW42 p43 => ?_)
            have h := h F40 A41 p43
            exact J.wk ((((jWk.nil).no).no).eq) (jn6 _ _ hW42  h)
/-- wholeOf(I)I -/
def wpX9_wholeOf (o : Nat) (a1 : Int) (F : jFl) (A : jAr) (Q : Int → jFl → jAr → Prop) : Prop :=
  ∀ F1 : jFl, F1 = upF F 3192 o (F 3222 o) →
  ∃ (I6 : Int → jAr → Prop) (m7 : Int → jAr → Nat), I6 0 A ∧ ∀ (v3 : Int) (A4 : jAr), I6 v3 A4 →
    (((F1 3222 o) ≤ v3) →
      ∃ P9 : jFl → jAr → Prop, wpX9_sittingOf o 0 a1 F1 A4 P9 ∧ ∀ F12 A13, P9 F12 A13 →
      ∃ (I19 : Int → Int → Prop) (m20 : Int → Int → Nat), I19 0 0 ∧ ∀ (v17 : Int) (v18 : Int), I19 v17 v18 →
        (((F12 3222 o) ≤ v18) →
          Q v17 F12 A13) ∧
        (¬ ((F12 3222 o) ≤ v18) →
          (0 ≤ v18 ∧ v18 < 12) ∧
          (0 ≤ A13 (o + 46) v18 ∧ A13 (o + 46) v18 < 12) ∧
          ∀ z25 : Int, z25 = (if ¬ (A13 (o + 39) (A13 (o + 46) v18)) = 0 then 0 else 1) →
          jR (v17 + z25) ∧
          ∀ v28 : Int, v28 = v17 + z25 →
          jR (v18 + 1) ∧
          I19 v28 (v18 + 1) ∧ m20 v28 (v18 + 1) < m20 v17 v18)) ∧
    (¬ ((F1 3222 o) ≤ v3) →
      (0 ≤ v3 ∧ v3 < 12) ∧
      (0 ≤ v3 ∧ v3 < 12) ∧
      ∀ A32 : jAr, A32 = upA A4 (o + 38) v3 (A4 (o + 46) v3) →
      jR (v3 + 1) ∧
      I6 (v3 + 1) A32 ∧ m7 (v3 + 1) A32 < m7 v3 A4)
theorem wX9_wholeOf {G : jG} {l : Launch} {d : Nat} {N : jSh} {o : Nat} {F : jFl} {A : jAr} {a1 : Int} {Q : Int → jFl → jAr → Prop} (hd : 5 ≤ d) (hM : mShape G N o) (hW : jWf N F A) (ra1 : jR a1) (h : wpX9_wholeOf o a1 F A Q) : jCall G l d mX9_wholeOf [.ref o, vI a1] N F A (jmI N Q) := by
  refine jCall.of (ls := [.ref o, vI a1, jD, jD]) (by decide) rfl (Nat.le_of_ble_eq_true rfl) rfl ?_
  unfold wpX9_wholeOf at h
  refine j_aload_n dX9_wholeOf_0 rfl ?_
  refine j_aload_n dX9_wholeOf_1 rfl ?_
  refine j_getI dX9_wholeOf_2 flX9_236_10 hM.1 rfl ?_
  refine j_putI dX9_wholeOf_5 flX9_206_10 hM.1 hM.2.1 rfl ?_
  obtain ⟨F1, eF1⟩ : ∃ x : jFl, x = upF F 3192 o (F 3222 o) := ⟨_, rfl⟩
  have hW2 : jWf N F1 A := eF1 ▸ jWf_F (f := 3192) (a := o) (z := F 3222 o) hW (jRk_0 rfl (hW.fi rfl))
  refine jnmF (e := eF1) ?_
  have h := h F1 eF1
  refine j_iconst dX9_wholeOf_8 ?_
  refine j_istore_n dX9_wholeOf_9 rfl ?_
  obtain ⟨I6, m7, h0, hs⟩ := h
  have lp : ∀ (n : Nat) (v3 : Int) (A4 : jAr), m7 v3 A4 < n → jWf N F1 A4 → jR v3 → I6 v3 A4 → J G l d mX9_wholeOf 10 [.ref o, vI a1, vI v3, jD] [] N F1 A4 (jmI N Q) := by
    intro nI6
    induction nI6 with
    | zero =>
      intro v3 A4 hmu
      exact absurd hmu (Nat.not_lt_zero _)
    | succ nI6 ihI6 =>
      intro v3 A4 hmuI6 hW5 rv3 hI
      have h := hs v3 A4 hI
      refine j_iload_n dX9_wholeOf_10 rfl ?_
      refine j_aload_n dX9_wholeOf_11 rfl ?_
      refine j_getI dX9_wholeOf_12 flX9_236_10 hM.1 rfl ?_
      obtain ⟨h1, h2⟩ := h
      refine j_icmp_ge 36 dX9_wholeOf_15 rfl rv3 (hW5.fi rfl) (fun q8 => ?_) (fun q8 => ?_)
      · have h := h1 q8
        clear h1 h2
        refine j_aload_n dX9_wholeOf_36 rfl ?_
        refine j_iconst dX9_wholeOf_37 ?_
        refine j_iload_n dX9_wholeOf_38 rfl ?_
        obtain ⟨P9, hp10, h⟩ := h
        refine j_invV (As := [vI 0, vI a1]) (rest := []) dX9_wholeOf_39 lkX9_444 hM.1 rfl rfl (wX9_sittingOf (d := 4) (Nat.le_of_ble_eq_true rfl) hM hW5 (by decide) ra1 hp10) rfl rfl (Nat.le_of_ble_eq_true rfl) (Nat.le_trans (Nat.le_of_ble_eq_true rfl) hd) (jkmV fun F12 A13 hW14 p15 => ?_)
        have h := h F12 A13 p15
        refine j_iconst dX9_wholeOf_42 ?_
        refine j_istore_n dX9_wholeOf_43 rfl ?_
        refine j_iconst dX9_wholeOf_44 ?_
        refine j_istore_n dX9_wholeOf_45 rfl ?_
        obtain ⟨I19, m20, h0, hs⟩ := h
        have lp : ∀ (n : Nat) (v17 : Int) (v18 : Int), m20 v17 v18 < n → jR v17 → jR v18 → I19 v17 v18 → J G l d mX9_wholeOf 46 [.ref o, jD, vI v17, vI v18] [] N F12 A13 (jmI N Q) := by
          intro nI19
          induction nI19 with
          | zero =>
            intro v17 v18 hmu
            exact absurd hmu (Nat.not_lt_zero _)
          | succ nI19 ihI19 =>
            intro v17 v18 hmuI19 rv17 rv18 hI
            have h := hs v17 v18 hI
            refine j_iload_n dX9_wholeOf_46 rfl ?_
            refine j_aload_n dX9_wholeOf_47 rfl ?_
            refine j_getI dX9_wholeOf_48 flX9_236_10 hM.1 rfl ?_
            obtain ⟨h1, h2⟩ := h
            refine j_icmp_ge 82 dX9_wholeOf_51 rfl rv18 (hW14.fi rfl) (fun q21 => ?_) (fun q21 => ?_)
            · have h := h1 q21
              clear h1 h2
              refine j_iload_n dX9_wholeOf_82 rfl ?_
              exact j_iret dX9_wholeOf_83 rfl ⟨_, rfl, rfl, hW14, h, rv17⟩
            · have h := h2 q21
              clear h1 h2
              refine j_iload_n dX9_wholeOf_54 rfl ?_
              refine j_aload_n dX9_wholeOf_55 rfl ?_
              refine j_getFR dX9_wholeOf_56 flX9_209_10 hM.1 rfl (mf_sitKind hM) ?_
              refine j_aload_n dX9_wholeOf_59 rfl ?_
              refine j_getFR dX9_wholeOf_60 flX9_230_10 hM.1 rfl (mf_perm hM) ?_
              refine j_iload_n dX9_wholeOf_63 rfl ?_
              obtain ⟨c22, h⟩ := h
              refine j_iald (n := 12) dX9_wholeOf_64 (mt_perm hM) (ml_perm hM) c22 ?_
              obtain ⟨c23, h⟩ := h
              refine j_iald (n := 12) dX9_wholeOf_65 (mt_sitKind hM) (ml_sitKind hM) c23 ?_
              have jn26 : ∀ z25 : Int, z25 = (if ¬ (A13 (o + 39) (A13 (o + 46) v18)) = 0 then 0 else 1) → J G l d mX9_wholeOf 74 [.ref o, jD, vI v17, vI v18] [vI z25, vI v17] N F12 A13 (jmI N Q) := by
                intro z25 ez25
                have h := h z25 ez25
                refine j_iadd dX9_wholeOf_74 ?_
                obtain ⟨r27, h⟩ := h
                obtain ⟨v28, ev28⟩ : ∃ x : Int, x = v17 + z25 := ⟨_, rfl⟩
                have h := h v28 ev28
                refine jnmI (e := ev28) ?_
                refine j_istore_n dX9_wholeOf_75 rfl ?_
                obtain ⟨r29, h⟩ := h
                refine j_iinc dX9_wholeOf_76 rfl rfl ?_
                refine j_goto 46 dX9_wholeOf_79 rfl ?_
                exact J.wk (((((jWk.nil).eq).eq).no).eq) (ihI19 _ _ (Nat.lt_of_lt_of_le h.2 (Nat.le_of_lt_succ hmuI19)) (ev28 ▸ r27) r29 h.1)
              clear h
              refine j_if_ne 73 dX9_wholeOf_66 rfl (hW14.ai (mt_sitKind hM) rfl) (fun q24 => ?_) (fun q24 => ?_)
              · refine j_iconst dX9_wholeOf_73 ?_
                exact jn26 _ ((if_pos q24).symm)
              · refine j_iconst dX9_wholeOf_69 ?_
                refine j_goto 74 dX9_wholeOf_70 rfl ?_
                exact jn26 _ ((if_neg q24).symm)
        exact J.wk (((((jWk.nil).eq).eq).no).eq) (lp _ _ _ (Nat.lt_succ_self _) (by decide) (by decide) h0)
      · have h := h2 q8
        clear h1 h2
        refine j_aload_n dX9_wholeOf_18 rfl ?_
        refine j_getFR dX9_wholeOf_19 flX9_203_10 hM.1 rfl (mf_seat hM) ?_
        refine j_iload_n dX9_wholeOf_22 rfl ?_
        refine j_aload_n dX9_wholeOf_23 rfl ?_
        refine j_getFR dX9_wholeOf_24 flX9_230_10 hM.1 rfl (mf_perm hM) ?_
        refine j_iload_n dX9_wholeOf_27 rfl ?_
        obtain ⟨c30, h⟩ := h
        refine j_iald (n := 12) dX9_wholeOf_28 (mt_perm hM) (ml_perm hM) c30 ?_
        obtain ⟨c31, h⟩ := h
        refine j_iast (n := 12) dX9_wholeOf_29 (mt_seat hM) (Nat.le_trans hM.2.1 (Nat.le_add_right _ _)) (ml_seat hM) c31 ?_
        obtain ⟨A32, eA32⟩ : ∃ x : jAr, x = upA A4 (o + 38) v3 (A4 (o + 46) v3) := ⟨_, rfl⟩
        have hW33 : jWf N F1 A32 := eA32 ▸ jWf_A (i := v3) (z := A4 (o + 46) v3) hW5 (mt_seat hM) (jRk_0 rfl (hW5.ai (mt_perm hM) rfl))
        refine jnmA (e := eA32) ?_
        have h := h A32 eA32
        obtain ⟨r34, h⟩ := h
        refine j_iinc dX9_wholeOf_30 rfl rfl ?_
        refine j_goto 10 dX9_wholeOf_33 rfl ?_
        exact J.wk (((((jWk.nil).no).eq).eq).eq) (ihI6 _ _ (Nat.lt_of_lt_of_le h.2 (Nat.le_of_lt_succ hmuI6)) hW33 r34 h.1)
  exact J.wk (((((jWk.nil).no).eq).eq).eq) (lp _ _ _ (Nat.lt_succ_self _) hW2 (by decide) h0)
/-- sitsNow(I)Z -/
def wpX9_sitsNow (o : Nat) (a1 : Int) (F : jFl) (A : jAr) (Q : Int → jFl → jAr → Prop) : Prop :=
  ∃ P1 : jFl → jAr → Prop, wpX9_seatsOf o 0 F A P1 ∧ ∀ F4 A5, P1 F4 A5 →
  ∃ P9 : jFl → jAr → Prop, wpX9_sittingOf o 0 a1 F4 A5 P9 ∧ ∀ F12 A13, P9 F12 A13 →
  Q 1 F12 A13
theorem wX9_sitsNow {G : jG} {l : Launch} {d : Nat} {N : jSh} {o : Nat} {F : jFl} {A : jAr} {a1 : Int} {Q : Int → jFl → jAr → Prop} (hd : 5 ≤ d) (hM : mShape G N o) (hW : jWf N F A) (ra1 : jR a1) (h : wpX9_sitsNow o a1 F A Q) : jCall G l d mX9_sitsNow [.ref o, vI a1] N F A (jmB N Q) := by
  refine jCall.of (ls := [.ref o, vI a1]) (by decide) rfl (Nat.le_of_ble_eq_true rfl) rfl ?_
  unfold wpX9_sitsNow at h
  refine j_aload_n dX9_sitsNow_0 rfl ?_
  refine j_iconst dX9_sitsNow_1 ?_
  obtain ⟨P1, hp2, h⟩ := h
  refine j_invV (As := [vI 0]) (rest := []) dX9_sitsNow_2 lkX9_441 hM.1 rfl rfl (wX9_seatsOf (d := 2) (Nat.le_of_ble_eq_true rfl) hM hW (by decide) hp2) rfl rfl (Nat.le_of_ble_eq_true rfl) (Nat.le_trans (Nat.le_of_ble_eq_true rfl) hd) (jkmV fun F4 A5 hW6 p7 => ?_)
  have h := h F4 A5 p7
  refine j_aload_n dX9_sitsNow_5 rfl ?_
  refine j_iconst dX9_sitsNow_6 ?_
  refine j_iload_n dX9_sitsNow_7 rfl ?_
  obtain ⟨P9, hp10, h⟩ := h
  refine j_invV (As := [vI 0, vI a1]) (rest := []) dX9_sitsNow_8 lkX9_444 hM.1 rfl rfl (wX9_sittingOf (d := 4) (Nat.le_of_ble_eq_true rfl) hM hW6 (by decide) ra1 hp10) rfl rfl (Nat.le_of_ble_eq_true rfl) (Nat.le_trans (Nat.le_of_ble_eq_true rfl) hd) (jkmV fun F12 A13 hW14 p15 => ?_)
  have h := h F12 A13 p15
  refine j_iconst dX9_sitsNow_11 ?_
  exact j_zret dX9_sitsNow_12 rfl (nr_bool (by decide)) ⟨_, rfl, rfl, hW14, h, (by decide)⟩
/-- needs(II)I -/
def wpX9_needs (o : Nat) (a1 : Int) (a2 : Int) (F : jFl) (A : jAr) (Q : Int → jFl → jAr → Prop) : Prop :=
  ∃ P1 : Int → Prop, wpX9_isChild o a2 F A P1 ∧ ∀ z3, P1 z3 →
  ((z3 = 0) →
    Q (-1) F A) ∧
  (¬ (z3 = 0) →
    ∃ P7 : Int → Prop, wpX9_isStanding o a1 F A P7 ∧ ∀ z9, P7 z9 →
    ((¬ z9 = 0) →
      ∃ (I18 : Int → Int → jFl → jAr → Prop) (m19 : Int → Int → jFl → jAr → Nat), I18 (-1) 1 F A ∧ ∀ (v13 : Int) (v14 : Int) (F15 : jFl) (A16 : jAr), I18 v13 v14 F15 A16 →
        ((60 < v14) →
          ∀ F21 : jFl, F21 = upF F15 3186 o (-1) →
          Q v13 F21 A16) ∧
        (¬ (60 < v14) →
          ((¬ v13 = (-1)) →
            ∀ F24 : jFl, F24 = upF F15 3186 o (-1) →
            Q v13 F24 A16) ∧
          (¬ (¬ v13 = (-1)) →
            ∀ F26 : jFl, F26 = upF F15 3186 o v14 →
            ∃ P28 : Int → jFl → jAr → Prop, wpX9_standsBy o a1 a2 F26 A16 P28 ∧ ∀ z30 F31 A32, P28 z30 F31 A32 →
            ∀ z37 : Int, z37 = (if z30 = 0 then (-1) else v14) →
            jR (v14 + 1) ∧
            I18 z37 (v14 + 1) F31 A32 ∧ m19 z37 (v14 + 1) F31 A32 < m19 v13 v14 F15 A16))) ∧
    (¬ (¬ z9 = 0) →
      Q (-1) F A))
theorem wX9_needs {G : jG} {l : Launch} {d : Nat} {N : jSh} {o : Nat} {F : jFl} {A : jAr} {a1 a2 : Int} {Q : Int → jFl → jAr → Prop} (hd : 5 ≤ d) (hM : mShape G N o) (hW : jWf N F A) (ra1 : jR a1) (ra2 : jR a2) (h : wpX9_needs o a1 a2 F A Q) : jCall G l d mX9_needs [.ref o, vI a1, vI a2] N F A (jmI N Q) := by
  refine jCall.of (ls := [.ref o, vI a1, vI a2, jD, jD]) (by decide) rfl (Nat.le_of_ble_eq_true rfl) rfl ?_
  unfold wpX9_needs at h
  refine j_aload_n dX9_needs_0 rfl ?_
  refine j_iload_n dX9_needs_1 rfl ?_
  obtain ⟨P1, hp2, h⟩ := h
  refine j_invV (As := [vI a2]) (rest := []) dX9_needs_2 lkX9_420 hM.1 rfl rfl (wX9_isChild (d := 1) (Nat.le_of_ble_eq_true rfl) hM hW ra2 hp2) rfl rfl (Nat.le_of_ble_eq_true rfl) (Nat.le_trans (Nat.le_of_ble_eq_true rfl) hd) (jkpB fun z3 p4 r5 => ?_)
  have h := h z3 p4
  obtain ⟨h1, h2⟩ := h
  refine j_if_eq 16 dX9_needs_5 rfl (jR_b r5) (fun q6 => ?_) (fun q6 => ?_)
  · have h := h1 q6
    clear h1 h2
    refine j_iconst dX9_needs_16 ?_
    exact j_iret dX9_needs_17 rfl ⟨_, rfl, rfl, hW, h, (by decide)⟩
  · have h := h2 q6
    clear h1 h2
    refine j_aload_n dX9_needs_8 rfl ?_
    refine j_iload_n dX9_needs_9 rfl ?_
    obtain ⟨P7, hp8, h⟩ := h
    refine j_invV (As := [vI a1]) (rest := []) dX9_needs_10 lkX9_429 hM.1 rfl rfl (wX9_isStanding (d := 2) (Nat.le_of_ble_eq_true rfl) hM hW ra1 hp8) rfl rfl (Nat.le_of_ble_eq_true rfl) (Nat.le_trans (Nat.le_of_ble_eq_true rfl) hd) (jkpB fun z9 p10 r11 => ?_)
    have h := h z9 p10
    obtain ⟨h1, h2⟩ := h
    refine j_if_ne 18 dX9_needs_13 rfl (jR_b r11) (fun q12 => ?_) (fun q12 => ?_)
    · have h := h1 q12
      clear h1 h2
      refine j_iconst dX9_needs_18 ?_
      refine j_istore_n dX9_needs_19 rfl ?_
      refine j_iconst dX9_needs_20 ?_
      refine j_istore dX9_needs_21 rfl ?_
      obtain ⟨I18, m19, h0, hs⟩ := h
      have lp : ∀ (n : Nat) (v13 : Int) (v14 : Int) (F15 : jFl) (A16 : jAr), m19 v13 v14 F15 A16 < n → jWf N F15 A16 → jR v13 → jR v14 → I18 v13 v14 F15 A16 → J G l d mX9_needs 23 [.ref o, vI a1, vI a2, vI v13, vI v14] [] N F15 A16 (jmI N Q) := by
        intro nI18
        induction nI18 with
        | zero =>
          intro v13 v14 F15 A16 hmu
          exact absurd hmu (Nat.not_lt_zero _)
        | succ nI18 ihI18 =>
          intro v13 v14 F15 A16 hmuI18 hW17 rv13 rv14 hI
          have h := hs v13 v14 F15 A16 hI
          refine j_iload dX9_needs_23 rfl ?_
          refine j_bipush dX9_needs_25 ?_
          obtain ⟨h1, h2⟩ := h
          refine j_icmp_gt 63 dX9_needs_27 rfl rv14 (by decide) (fun q20 => ?_) (fun q20 => ?_)
          · have h := h1 q20
            clear h1 h2
            refine j_aload_n dX9_needs_63 rfl ?_
            refine j_iconst dX9_needs_64 ?_
            refine j_putI dX9_needs_65 flX9_200_10 hM.1 hM.2.1 rfl ?_
            obtain ⟨F21, eF21⟩ : ∃ x : jFl, x = upF F15 3186 o (-1) := ⟨_, rfl⟩
            have hW22 : jWf N F21 A16 := eF21 ▸ jWf_F (f := 3186) (a := o) (z := (-1)) hW17 (jRk_0 rfl (by decide))
            refine jnmF (e := eF21) ?_
            have h := h F21 eF21
            refine j_iload_n dX9_needs_68 rfl ?_
            exact j_iret dX9_needs_69 rfl ⟨_, rfl, rfl, hW22, h, rv13⟩
          · have h := h2 q20
            clear h1 h2
            refine j_iload_n dX9_needs_30 rfl ?_
            refine j_iconst dX9_needs_31 ?_
            obtain ⟨h1, h2⟩ := h
            refine j_icmp_ne 63 dX9_needs_32 rfl rv13 (by decide) (fun q23 => ?_) (fun q23 => ?_)
            · have h := h1 q23
              clear h1 h2
              refine j_aload_n dX9_needs_63 rfl ?_
              refine j_iconst dX9_needs_64 ?_
              refine j_putI dX9_needs_65 flX9_200_10 hM.1 hM.2.1 rfl ?_
              obtain ⟨F24, eF24⟩ : ∃ x : jFl, x = upF F15 3186 o (-1) := ⟨_, rfl⟩
              have hW25 : jWf N F24 A16 := eF24 ▸ jWf_F (f := 3186) (a := o) (z := (-1)) hW17 (jRk_0 rfl (by decide))
              refine jnmF (e := eF24) ?_
              have h := h F24 eF24
              refine j_iload_n dX9_needs_68 rfl ?_
              exact j_iret dX9_needs_69 rfl ⟨_, rfl, rfl, hW25, h, rv13⟩
            · have h := h2 q23
              clear h1 h2
              refine j_aload_n dX9_needs_35 rfl ?_
              refine j_iload dX9_needs_36 rfl ?_
              refine j_putI dX9_needs_38 flX9_200_10 hM.1 hM.2.1 rfl ?_
              obtain ⟨F26, eF26⟩ : ∃ x : jFl, x = upF F15 3186 o v14 := ⟨_, rfl⟩
              have hW27 : jWf N F26 A16 := eF26 ▸ jWf_F (f := 3186) (a := o) (z := v14) hW17 (jRk_0 rfl rv14)
              refine jnmF (e := eF26) ?_
              have h := h F26 eF26
              refine j_aload_n dX9_needs_41 rfl ?_
              refine j_iload_n dX9_needs_42 rfl ?_
              refine j_iload_n dX9_needs_43 rfl ?_
              obtain ⟨P28, hp29, h⟩ := h
              refine j_invV (As := [vI a1, vI a2]) (rest := []) dX9_needs_44 lkX9_485 hM.1 rfl rfl (wX9_standsBy (d := 4) (Nat.le_of_ble_eq_true rfl) hM hW27 ra1 ra2 hp29) rfl rfl (Nat.le_of_ble_eq_true rfl) (Nat.le_trans (Nat.le_of_ble_eq_true rfl) hd) (jkmB fun z30 F31 A32 hW33 p34 r35 => ?_)
              have h := h z30 F31 A32 p34
              have jn38 : ∀ z37 : Int, z37 = (if z30 = 0 then (-1) else v14) → J G l d mX9_needs 56 [.ref o, vI a1, vI a2, vI v13, vI v14] [vI z37] N F31 A32 (jmI N Q) := by
                intro z37 ez37
                have h := h z37 ez37
                refine j_istore_n dX9_needs_56 rfl ?_
                obtain ⟨r39, h⟩ := h
                refine j_iinc dX9_needs_57 rfl rfl ?_
                refine j_goto 23 dX9_needs_60 rfl ?_
                exact J.wk ((((((jWk.nil).eq).eq).eq).eq).eq) (ihI18 _ _ _ _ (Nat.lt_of_lt_of_le h.2 (Nat.le_of_lt_succ hmuI18)) hW33 (ez37 ▸ (jR_ite (by decide) rv14)) r39 h.1)
              clear h
              refine j_if_eq 55 dX9_needs_47 rfl (jR_b r35) (fun q36 => ?_) (fun q36 => ?_)
              · refine j_iconst dX9_needs_55 ?_
                exact jn38 _ ((if_pos q36).symm)
              · refine j_iload dX9_needs_50 rfl ?_
                refine j_goto 56 dX9_needs_52 rfl ?_
                exact jn38 _ ((if_neg q36).symm)
      exact J.wk ((((((jWk.nil).eq).eq).eq).eq).eq) (lp _ _ _ _ _ (Nat.lt_succ_self _) hW (by decide) (by decide) h0)
    · have h := h2 q12
      clear h1 h2
      refine j_iconst dX9_needs_16 ?_
      exact j_iret dX9_needs_17 rfl ⟨_, rfl, rfl, hW, h, (by decide)⟩
