set_option maxRecDepth 100000
set_option linter.unusedVariables false
/-! walks of ChildSaysModel: printed by gen/walk.py -/
/-- once(IIII)I -/
def wpX9_once (o : Nat) (a1 : Int) (a2 : Int) (a3 : Int) (a4 : Int) (F : jFl) (A : jAr) (Q : Int → jFl → jAr → Prop) : Prop :=
  ∃ P1 : Int → Prop, wpX9_isChild o a2 F A P1 ∧ ∀ z3, P1 z3 →
  ((z3 = 0) →
    Q (-1) F A) ∧
  (¬ (z3 = 0) →
    ∃ P7 : Int → Prop, wpX9_isStanding o a1 F A P7 ∧ ∀ z9, P7 z9 →
    ((z9 = 0) →
      Q (-1) F A) ∧
    (¬ (z9 = 0) →
      (0 ≤ a1 ∧ a1 < 264) ∧
      ((3 < (A (o + 30) a1)) →
        Q (-1) F A) ∧
      (¬ (3 < (A (o + 30) a1)) →
        ((a3 = (-1)) →
          ∃ (I18 : Int → Int → Prop) (m19 : Int → Int → Nat), I18 1 0 ∧ ∀ (v16 : Int) (v17 : Int), I18 v16 v17 →
            (0 ≤ a1 ∧ a1 < 264) ∧
            (((A (o + 30) a1) ≤ v17) →
              (0 ≤ a1 ∧ a1 < 264) ∧
              ∀ F23 : jFl, F23 = upF F 3165 o (A (o + 30) a1) →
              ∀ F25 : jFl, F25 = upF F23 3168 o 0 →
              ∀ F27 : jFl, F27 = upF F25 3171 o 0 →
              ∃ (I34 : Int → Int → jFl → jAr → Prop) (m35 : Int → Int → jFl → jAr → Nat), I34 0 0 F27 A ∧ ∀ (v29 : Int) (v30 : Int) (F31 : jFl) (A32 : jAr), I34 v29 v30 F31 A32 →
                ((v16 ≤ v30) →
                  Q v29 F31 A32) ∧
                (¬ (v16 ≤ v30) →
                  ∃ (I41 : Int → Int → jAr → Prop) (m42 : Int → Int → jAr → Nat), I41 v30 0 A32 ∧ ∀ (v37 : Int) (v38 : Int) (A39 : jAr), I41 v37 v38 A39 →
                    (((F31 3165 o) ≤ v38) →
                      ∃ P44 : jFl → jAr → Prop, wpX9_utters o a2 F31 A39 P44 ∧ ∀ F47 A48, P44 F47 A48 →
                      ∃ K54 : Int → Prop, (
                        ∀ (v53 : Int), K54 v53 →
                        ∃ (I59 : Int → Int → Prop) (m60 : Int → Int → Nat), I59 v53 0 ∧ ∀ (v57 : Int) (v58 : Int), I59 v57 v58 →
                          ∃ K62 : Prop, (
                            K62 →
                            ∀ z66 : Int, z66 = (if v57 = 0 then 0 else 1) →
                            jR (v29 + z66) ∧
                            ∀ v69 : Int, v69 = v29 + z66 →
                            jR (v30 + 1) ∧
                            I34 v69 (v30 + 1) F47 A48 ∧ m35 v69 (v30 + 1) F47 A48 < m35 v29 v30 F31 A32) ∧
                          (((F47 3165 o) ≤ v58) →
                            K62 ) ∧
                          (¬ ((F47 3165 o) ≤ v58) →
                            ((v57 = 0) →
                              K62 ) ∧
                            (¬ (v57 = 0) →
                              (0 ≤ v58 ∧ v58 < 12) ∧
                              (0 ≤ (12 * a1) + v58 ∧ (12 * a1) + v58 < 3168) ∧
                              ∀ z75 : Int, z75 = (if ¬ (A48 (o + 37) v58) = (A48 (o + 33) ((12 * a1) + v58)) then 0 else 1) →
                              jR (v58 + 1) ∧
                              I59 z75 (v58 + 1) ∧ m60 z75 (v58 + 1) < m60 v57 v58))) ∧
                      (((F47 3183 o) = 3) →
                        K54 0) ∧
                      (¬ ((F47 3183 o) = 3) →
                        ((a3 = (-1)) →
                          K54 1) ∧
                        (¬ (a3 = (-1)) →
                          (0 ≤ a3 ∧ a3 < 12) ∧
                          ∀ z81 : Int, z81 = (if ¬ (A48 (o + 36) a3) = a4 then 0 else 1) →
                          K54 z81))) ∧
                    (¬ ((F31 3165 o) ≤ v38) →
                      (0 ≤ F31 3039 o ∧ F31 3039 o < 2) ∧
                      (((0 : Int) ≤ v37 ∧ (v37 : Int) ≤ 2147483647) ∧ ((0 : Int) < A39 (o + 2) (F31 3039 o) ∧ (A39 (o + 2) (F31 3039 o) : Int) ≤ 2147483647)) ∧
                      (0 ≤ v38 ∧ v38 < 12) ∧
                      jR (v37 % (A39 (o + 2) (F31 3039 o))) ∧
                      ∀ A87 : jAr, A87 = upA A39 (o + 36) v38 (v37 % (A39 (o + 2) (F31 3039 o))) →
                      (0 ≤ F31 3039 o ∧ F31 3039 o < 2) ∧
                      (((0 : Int) ≤ v37 ∧ (v37 : Int) ≤ 2147483647) ∧ ((0 : Int) < A87 (o + 2) (F31 3039 o) ∧ (A87 (o + 2) (F31 3039 o) : Int) ≤ 2147483647)) ∧
                      jR (v37 / (A87 (o + 2) (F31 3039 o))) ∧
                      ∀ v92 : Int, v92 = v37 / (A87 (o + 2) (F31 3039 o)) →
                      jR (v38 + 1) ∧
                      I41 v92 (v38 + 1) A87 ∧ m42 v92 (v38 + 1) A87 < m42 v37 v38 A39))) ∧
            (¬ ((A (o + 30) a1) ≤ v17) →
              (0 ≤ F 3039 o ∧ F 3039 o < 2) ∧
              jR (v16 * (A (o + 2) (F 3039 o))) ∧
              ∀ v96 : Int, v96 = v16 * (A (o + 2) (F 3039 o)) →
              jR (v17 + 1) ∧
              I18 v96 (v17 + 1) ∧ m19 v96 (v17 + 1) < m19 v16 v17)) ∧
        (¬ (a3 = (-1)) →
          (0 ≤ a1 ∧ a1 < 264) ∧
          jR ((A (o + 30) a1) - 1) ∧
          ∃ P100 : Int → Prop, wpX9_is o a3 0 ((A (o + 30) a1) - 1) F A P100 ∧ ∀ z102, P100 z102 →
          ((z102 = 0) →
            Q (-1) F A) ∧
          (¬ (z102 = 0) →
            ∃ P106 : Int → Prop, wpX9_isWordOf o a4 F A P106 ∧ ∀ z108, P106 z108 →
            ((¬ z108 = 0) →
              ∃ (I114 : Int → Int → Prop) (m115 : Int → Int → Nat), I114 1 0 ∧ ∀ (v112 : Int) (v113 : Int), I114 v112 v113 →
                (0 ≤ a1 ∧ a1 < 264) ∧
                (((A (o + 30) a1) ≤ v113) →
                  (0 ≤ a1 ∧ a1 < 264) ∧
                  ∀ F119 : jFl, F119 = upF F 3165 o (A (o + 30) a1) →
                  ∀ F121 : jFl, F121 = upF F119 3168 o 0 →
                  ∀ F123 : jFl, F123 = upF F121 3171 o 0 →
                  ∃ (I130 : Int → Int → jFl → jAr → Prop) (m131 : Int → Int → jFl → jAr → Nat), I130 0 0 F123 A ∧ ∀ (v125 : Int) (v126 : Int) (F127 : jFl) (A128 : jAr), I130 v125 v126 F127 A128 →
                    ((v112 ≤ v126) →
                      Q v125 F127 A128) ∧
                    (¬ (v112 ≤ v126) →
                      ∃ (I137 : Int → Int → jAr → Prop) (m138 : Int → Int → jAr → Nat), I137 v126 0 A128 ∧ ∀ (v133 : Int) (v134 : Int) (A135 : jAr), I137 v133 v134 A135 →
                        (((F127 3165 o) ≤ v134) →
                          ∃ P140 : jFl → jAr → Prop, wpX9_utters o a2 F127 A135 P140 ∧ ∀ F143 A144, P140 F143 A144 →
                          ∃ K150 : Int → Prop, (
                            ∀ (v149 : Int), K150 v149 →
                            ∃ (I155 : Int → Int → Prop) (m156 : Int → Int → Nat), I155 v149 0 ∧ ∀ (v153 : Int) (v154 : Int), I155 v153 v154 →
                              ∃ K158 : Prop, (
                                K158 →
                                ∀ z162 : Int, z162 = (if v153 = 0 then 0 else 1) →
                                jR (v125 + z162) ∧
                                ∀ v165 : Int, v165 = v125 + z162 →
                                jR (v126 + 1) ∧
                                I130 v165 (v126 + 1) F143 A144 ∧ m131 v165 (v126 + 1) F143 A144 < m131 v125 v126 F127 A128) ∧
                              (((F143 3165 o) ≤ v154) →
                                K158 ) ∧
                              (¬ ((F143 3165 o) ≤ v154) →
                                ((v153 = 0) →
                                  K158 ) ∧
                                (¬ (v153 = 0) →
                                  (0 ≤ v154 ∧ v154 < 12) ∧
                                  (0 ≤ (12 * a1) + v154 ∧ (12 * a1) + v154 < 3168) ∧
                                  ∀ z171 : Int, z171 = (if ¬ (A144 (o + 37) v154) = (A144 (o + 33) ((12 * a1) + v154)) then 0 else 1) →
                                  jR (v154 + 1) ∧
                                  I155 z171 (v154 + 1) ∧ m156 z171 (v154 + 1) < m156 v153 v154))) ∧
                          (((F143 3183 o) = 3) →
                            K150 0) ∧
                          (¬ ((F143 3183 o) = 3) →
                            ((a3 = (-1)) →
                              K150 1) ∧
                            (¬ (a3 = (-1)) →
                              (0 ≤ a3 ∧ a3 < 12) ∧
                              ∀ z177 : Int, z177 = (if ¬ (A144 (o + 36) a3) = a4 then 0 else 1) →
                              K150 z177))) ∧
                        (¬ ((F127 3165 o) ≤ v134) →
                          (0 ≤ F127 3039 o ∧ F127 3039 o < 2) ∧
                          (((0 : Int) ≤ v133 ∧ (v133 : Int) ≤ 2147483647) ∧ ((0 : Int) < A135 (o + 2) (F127 3039 o) ∧ (A135 (o + 2) (F127 3039 o) : Int) ≤ 2147483647)) ∧
                          (0 ≤ v134 ∧ v134 < 12) ∧
                          jR (v133 % (A135 (o + 2) (F127 3039 o))) ∧
                          ∀ A183 : jAr, A183 = upA A135 (o + 36) v134 (v133 % (A135 (o + 2) (F127 3039 o))) →
                          (0 ≤ F127 3039 o ∧ F127 3039 o < 2) ∧
                          (((0 : Int) ≤ v133 ∧ (v133 : Int) ≤ 2147483647) ∧ ((0 : Int) < A183 (o + 2) (F127 3039 o) ∧ (A183 (o + 2) (F127 3039 o) : Int) ≤ 2147483647)) ∧
                          jR (v133 / (A183 (o + 2) (F127 3039 o))) ∧
                          ∀ v188 : Int, v188 = v133 / (A183 (o + 2) (F127 3039 o)) →
                          jR (v134 + 1) ∧
                          I137 v188 (v134 + 1) A183 ∧ m138 v188 (v134 + 1) A183 < m138 v133 v134 A135))) ∧
                (¬ ((A (o + 30) a1) ≤ v113) →
                  (0 ≤ F 3039 o ∧ F 3039 o < 2) ∧
                  jR (v112 * (A (o + 2) (F 3039 o))) ∧
                  ∀ v192 : Int, v192 = v112 * (A (o + 2) (F 3039 o)) →
                  jR (v113 + 1) ∧
                  I114 v192 (v113 + 1) ∧ m115 v192 (v113 + 1) < m115 v112 v113)) ∧
            (¬ (¬ z108 = 0) →
              Q (-1) F A))))))
theorem wX9_once {G : jG} {l : Launch} {d : Nat} {N : jSh} {o : Nat} {F : jFl} {A : jAr} {a1 a2 a3 a4 : Int} {Q : Int → jFl → jAr → Prop} (hd : 4 ≤ d) (hM : mShape G N o) (hW : jWf N F A) (ra1 : jR a1) (ra2 : jR a2) (ra3 : jR a3) (ra4 : jR a4) (h : wpX9_once o a1 a2 a3 a4 F A Q) : jCall G l d mX9_once [.ref o, vI a1, vI a2, vI a3, vI a4] N F A (jmI N Q) := by
  refine jCall.of (ls := [.ref o, vI a1, vI a2, vI a3, vI a4, jD, jD, jD, jD, jD, jD]) (by decide) rfl (Nat.le_of_ble_eq_true rfl) rfl ?_
  unfold wpX9_once at h
  refine j_aload_n dX9_once_0 rfl ?_
  refine j_iload_n dX9_once_1 rfl ?_
  obtain ⟨P1, hp2, h⟩ := h
  refine j_invV (As := [vI a2]) (rest := []) dX9_once_2 lkX9_420 hM.1 rfl rfl (wX9_isChild (d := 1) (Nat.le_of_ble_eq_true rfl) hM hW ra2 hp2) rfl rfl (Nat.le_of_ble_eq_true rfl) (Nat.le_trans (Nat.le_of_ble_eq_true rfl) hd) (jkpB fun z3 p4 r5 => ?_)
  have h := h z3 p4
  obtain ⟨h1, h2⟩ := h
  refine j_if_eq 56 dX9_once_5 rfl (jR_b r5) (fun q6 => ?_) (fun q6 => ?_)
  · have h := h1 q6
    clear h1 h2
    refine j_iconst dX9_once_56 ?_
    exact j_iret dX9_once_57 rfl ⟨_, rfl, rfl, hW, h, (by decide)⟩
  · have h := h2 q6
    clear h1 h2
    refine j_aload_n dX9_once_8 rfl ?_
    refine j_iload_n dX9_once_9 rfl ?_
    obtain ⟨P7, hp8, h⟩ := h
    refine j_invV (As := [vI a1]) (rest := []) dX9_once_10 lkX9_429 hM.1 rfl rfl (wX9_isStanding (d := 2) (Nat.le_of_ble_eq_true rfl) hM hW ra1 hp8) rfl rfl (Nat.le_of_ble_eq_true rfl) (Nat.le_trans (Nat.le_of_ble_eq_true rfl) hd) (jkpB fun z9 p10 r11 => ?_)
    have h := h z9 p10
    obtain ⟨h1, h2⟩ := h
    refine j_if_eq 56 dX9_once_13 rfl (jR_b r11) (fun q12 => ?_) (fun q12 => ?_)
    · have h := h1 q12
      clear h1 h2
      refine j_iconst dX9_once_56 ?_
      exact j_iret dX9_once_57 rfl ⟨_, rfl, rfl, hW, h, (by decide)⟩
    · have h := h2 q12
      clear h1 h2
      refine j_aload_n dX9_once_16 rfl ?_
      refine j_getFR dX9_once_17 flX9_148_10 hM.1 rfl (mf_main hM) ?_
      refine j_iload_n dX9_once_20 rfl ?_
      obtain ⟨c13, h⟩ := h
      refine j_iald (n := 264) dX9_once_21 (mt_main hM) (ml_main hM) c13 ?_
      refine j_iconst dX9_once_22 ?_
      obtain ⟨h1, h2⟩ := h
      refine j_icmp_gt 56 dX9_once_23 rfl (hW.ai (mt_main hM) rfl) (by decide) (fun q14 => ?_) (fun q14 => ?_)
      · have h := h1 q14
        clear h1 h2
        refine j_iconst dX9_once_56 ?_
        exact j_iret dX9_once_57 rfl ⟨_, rfl, rfl, hW, h, (by decide)⟩
      · have h := h2 q14
        clear h1 h2
        refine j_iload_n dX9_once_26 rfl ?_
        refine j_iconst dX9_once_27 ?_
        obtain ⟨h1, h2⟩ := h
        refine j_icmp_eq 58 dX9_once_28 rfl ra3 (by decide) (fun q15 => ?_) (fun q15 => ?_)
        · have h := h1 q15
          clear h1 h2
          refine j_iconst dX9_once_58 ?_
          refine j_istore dX9_once_59 rfl ?_
          refine j_iconst dX9_once_61 ?_
          refine j_istore dX9_once_62 rfl ?_
          obtain ⟨I18, m19, h0, hs⟩ := h
          have lp : ∀ (n : Nat) (v16 : Int) (v17 : Int), m19 v16 v17 < n → jR v16 → jR v17 → I18 v16 v17 → J G l d mX9_once 64 [.ref o, vI a1, vI a2, vI a3, vI a4, vI v16, vI v17, jD, jD, jD, jD] [] N F A (jmI N Q) := by
            intro nI18
            induction nI18 with
            | zero =>
              intro v16 v17 hmu
              exact absurd hmu (Nat.not_lt_zero _)
            | succ nI18 ihI18 =>
              intro v16 v17 hmuI18 rv16 rv17 hI
              have h := hs v16 v17 hI
              refine j_iload dX9_once_64 rfl ?_
              refine j_aload_n dX9_once_66 rfl ?_
              refine j_getFR dX9_once_67 flX9_148_10 hM.1 rfl (mf_main hM) ?_
              refine j_iload_n dX9_once_70 rfl ?_
              obtain ⟨c20, h⟩ := h
              refine j_iald (n := 264) dX9_once_71 (mt_main hM) (ml_main hM) c20 ?_
              obtain ⟨h1, h2⟩ := h
              refine j_icmp_ge 95 dX9_once_72 rfl rv17 (hW.ai (mt_main hM) rfl) (fun q21 => ?_) (fun q21 => ?_)
              · have h := h1 q21
                clear h1 h2
                refine j_aload_n dX9_once_95 rfl ?_
                refine j_aload_n dX9_once_96 rfl ?_
                refine j_getFR dX9_once_97 flX9_148_10 hM.1 rfl (mf_main hM) ?_
                refine j_iload_n dX9_once_100 rfl ?_
                obtain ⟨c22, h⟩ := h
                refine j_iald (n := 264) dX9_once_101 (mt_main hM) (ml_main hM) c22 ?_
                refine j_putI dX9_once_102 flX9_178_10 hM.1 hM.2.1 rfl ?_
                obtain ⟨F23, eF23⟩ : ∃ x : jFl, x = upF F 3165 o (A (o + 30) a1) := ⟨_, rfl⟩
                have hW24 : jWf N F23 A := eF23 ▸ jWf_F (f := 3165) (a := o) (z := A (o + 30) a1) hW (jRk_0 rfl (hW.ai (mt_main hM) rfl))
                refine jnmF (e := eF23) ?_
                have h := h F23 eF23
                refine j_aload_n dX9_once_105 rfl ?_
                refine j_iconst dX9_once_106 ?_
                refine j_putI dX9_once_107 flX9_181_10 hM.1 hM.2.1 rfl ?_
                obtain ⟨F25, eF25⟩ : ∃ x : jFl, x = upF F23 3168 o 0 := ⟨_, rfl⟩
                have hW26 : jWf N F25 A := eF25 ▸ jWf_F (f := 3168) (a := o) (z := 0) hW24 (jRk_0 rfl (by decide))
                refine jnmF (e := eF25) ?_
                have h := h F25 eF25
                refine j_aload_n dX9_once_110 rfl ?_
                refine j_iconst dX9_once_111 ?_
                refine j_putZ dX9_once_112 flX9_184_10 hM.1 hM.2.1 rfl (by decide) ?_
                obtain ⟨F27, eF27⟩ : ∃ x : jFl, x = upF F25 3171 o 0 := ⟨_, rfl⟩
                have hW28 : jWf N F27 A := eF27 ▸ jWf_F (f := 3171) (a := o) (z := 0) hW26 (jRk_0 rfl (by decide))
                refine jnmF (e := eF27) ?_
                have h := h F27 eF27
                refine j_iconst dX9_once_115 ?_
                refine j_istore dX9_once_116 rfl ?_
                refine j_iconst dX9_once_118 ?_
                refine j_istore dX9_once_119 rfl ?_
                obtain ⟨I34, m35, h0, hs⟩ := h
                have lp : ∀ (n : Nat) (v29 : Int) (v30 : Int) (F31 : jFl) (A32 : jAr), m35 v29 v30 F31 A32 < n → jWf N F31 A32 → jR v29 → jR v30 → I34 v29 v30 F31 A32 → J G l d mX9_once 121 [.ref o, vI a1, vI a2, vI a3, vI a4, vI v16, vI v29, vI v30, jD, jD, jD] [] N F31 A32 (jmI N Q) := by
                  intro nI34
                  induction nI34 with
                  | zero =>
                    intro v29 v30 F31 A32 hmu
                    exact absurd hmu (Nat.not_lt_zero _)
                  | succ nI34 ihI34 =>
                    intro v29 v30 F31 A32 hmuI34 hW33 rv29 rv30 hI
                    have h := hs v29 v30 F31 A32 hI
                    refine j_iload dX9_once_121 rfl ?_
                    refine j_iload dX9_once_123 rfl ?_
                    obtain ⟨h1, h2⟩ := h
                    refine j_icmp_ge 292 dX9_once_125 rfl rv30 rv16 (fun q36 => ?_) (fun q36 => ?_)
                    · have h := h1 q36
                      clear h1 h2
                      refine j_iload dX9_once_292 rfl ?_
                      exact j_iret dX9_once_294 rfl ⟨_, rfl, rfl, hW33, h, rv29⟩
                    · have h := h2 q36
                      clear h1 h2
                      refine j_iload dX9_once_128 rfl ?_
                      refine j_istore dX9_once_130 rfl ?_
                      refine j_iconst dX9_once_132 ?_
                      refine j_istore dX9_once_133 rfl ?_
                      obtain ⟨I41, m42, h0, hs⟩ := h
                      have lp : ∀ (n : Nat) (v37 : Int) (v38 : Int) (A39 : jAr), m42 v37 v38 A39 < n → jWf N F31 A39 → jR v37 → jR v38 → I41 v37 v38 A39 → J G l d mX9_once 135 [.ref o, vI a1, vI a2, vI a3, vI a4, vI v16, vI v29, vI v30, vI v37, vI v38, jD] [] N F31 A39 (jmI N Q) := by
                        intro nI41
                        induction nI41 with
                        | zero =>
                          intro v37 v38 A39 hmu
                          exact absurd hmu (Nat.not_lt_zero _)
                        | succ nI41 ihI41 =>
                          intro v37 v38 A39 hmuI41 hW40 rv37 rv38 hI
                          have h := hs v37 v38 A39 hI
                          refine j_iload dX9_once_135 rfl ?_
                          refine j_aload_n dX9_once_137 rfl ?_
                          refine j_getI dX9_once_138 flX9_178_10 hM.1 rfl ?_
                          obtain ⟨h1, h2⟩ := h
                          refine j_icmp_ge 183 dX9_once_141 rfl rv38 (hW40.fi rfl) (fun q43 => ?_) (fun q43 => ?_)
                          · have h := h1 q43
                            clear h1 h2
                            refine j_aload_n dX9_once_183 rfl ?_
                            refine j_iload_n dX9_once_184 rfl ?_
                            obtain ⟨P44, hp45, h⟩ := h
                            refine j_invV (As := [vI a2]) (rest := []) dX9_once_185 lkX9_435 hM.1 rfl rfl (wX9_utters (d := 3) (Nat.le_of_ble_eq_true rfl) hM hW40 ra2 hp45) rfl rfl (Nat.le_of_ble_eq_true rfl) (Nat.le_trans (Nat.le_of_ble_eq_true rfl) hd) (jkmV fun F47 A48 hW49 p50 => ?_)
                            have h := h F47 A48 p50
                            refine j_aload_n dX9_once_188 rfl ?_
                            refine j_getI dX9_once_189 flX9_197_10 hM.1 rfl ?_
                            refine j_iconst dX9_once_192 ?_
                            obtain ⟨K54, hK56, h⟩ := h
                            have jn55 : ∀ (v53 : Int), jR v53 → K54 v53 → J G l d mX9_once 217 [.ref o, vI a1, vI a2, vI a3, vI a4, vI v16, vI v29, vI v30, jD, jD, jD] [vI v53] N F47 A48 (jmI N Q) := by
                              intro v53 rv53 h
                              have h := hK56 v53 h
                              refine j_istore dX9_once_217 rfl ?_
                              refine j_iconst dX9_once_219 ?_
                              refine j_istore dX9_once_220 rfl ?_
                              obtain ⟨I59, m60, h0, hs⟩ := h
                              have lp : ∀ (n : Nat) (v57 : Int) (v58 : Int), m60 v57 v58 < n → jR v57 → jR v58 → I59 v57 v58 → J G l d mX9_once 222 [.ref o, vI a1, vI a2, vI a3, vI a4, vI v16, vI v29, vI v30, jD, vI v57, vI v58] [] N F47 A48 (jmI N Q) := by
                                intro nI59
                                induction nI59 with
                                | zero =>
                                  intro v57 v58 hmu
                                  exact absurd hmu (Nat.not_lt_zero _)
                                | succ nI59 ihI59 =>
                                  intro v57 v58 hmuI59 rv57 rv58 hI
                                  have h := hs v57 v58 hI
                                  refine j_iload dX9_once_222 rfl ?_
                                  refine j_aload_n dX9_once_224 rfl ?_
                                  refine j_getI dX9_once_225 flX9_178_10 hM.1 rfl ?_
                                  obtain ⟨K62, hK64, h⟩ := h
                                  have jn63 : K62  → J G l d mX9_once 271 [.ref o, vI a1, vI a2, vI a3, vI a4, vI v16, vI v29, vI v30, jD, vI v57, jD] [] N F47 A48 (jmI N Q) := by
                                    intro   h
                                    have h := hK64  h
                                    refine j_iload dX9_once_271 rfl ?_
                                    refine j_iload dX9_once_273 rfl ?_
                                    have jn67 : ∀ z66 : Int, z66 = (if v57 = 0 then 0 else 1) → J G l d mX9_once 283 [.ref o, vI a1, vI a2, vI a3, vI a4, vI v16, vI v29, vI v30, jD, vI v57, jD] [vI z66, vI v29] N F47 A48 (jmI N Q) := by
                                      intro z66 ez66
                                      have h := h z66 ez66
                                      refine j_iadd dX9_once_283 ?_
                                      obtain ⟨r68, h⟩ := h
                                      obtain ⟨v69, ev69⟩ : ∃ x : Int, x = v29 + z66 := ⟨_, rfl⟩
                                      have h := h v69 ev69
                                      refine jnmI (e := ev69) ?_
                                      refine j_istore dX9_once_284 rfl ?_
                                      obtain ⟨r70, h⟩ := h
                                      refine j_iinc dX9_once_286 rfl rfl ?_
                                      refine j_goto 121 dX9_once_289 rfl ?_
                                      exact J.wk ((((((((((((jWk.nil).no).no).no).eq).eq).eq).eq).eq).eq).eq).eq) (ihI34 _ _ _ _ (Nat.lt_of_lt_of_le h.2 (Nat.le_of_lt_succ hmuI34)) hW49 (ev69 ▸ r68) r70 h.1)
                                    clear h
                                    refine j_if_eq 282 dX9_once_275 rfl rv57 (fun q65 => ?_) (fun q65 => ?_)
                                    · refine j_iconst dX9_once_282 ?_
                                      exact jn67 _ ((if_pos q65).symm)
                                    · refine j_iconst dX9_once_278 ?_
                                      refine j_goto 283 dX9_once_279 rfl ?_
                                      exact jn67 _ ((if_neg q65).symm)
                                  obtain ⟨h1, h2⟩ := h
                                  refine j_icmp_ge 271 dX9_once_228 rfl rv58 (hW49.fi rfl) (fun q61 => ?_) (fun q61 => ?_)
                                  · have h := h1 q61
                                    clear h1 h2
                                    exact J.wk ((((((((((((jWk.nil).no).eq).no).eq).eq).eq).eq).eq).eq).eq).eq) (jn63   h)
                                  · have h := h2 q61
                                    clear h1 h2
                                    refine j_iload dX9_once_231 rfl ?_
                                    obtain ⟨h1, h2⟩ := h
                                    refine j_if_eq 271 dX9_once_233 rfl rv57 (fun q71 => ?_) (fun q71 => ?_)
                                    · have h := h1 q71
                                      clear h1 h2
                                      exact J.wk ((((((((((((jWk.nil).no).eq).no).eq).eq).eq).eq).eq).eq).eq).eq) (jn63   h)
                                    · have h := h2 q71
                                      clear h1 h2
                                      refine j_aload_n dX9_once_236 rfl ?_
                                      refine j_getFR dX9_once_237 flX9_188_10 hM.1 rfl (mf_said hM) ?_
                                      refine j_iload dX9_once_240 rfl ?_
                                      obtain ⟨c72, h⟩ := h
                                      refine j_iald (n := 12) dX9_once_242 (mt_said hM) (ml_said hM) c72 ?_
                                      refine j_aload_n dX9_once_243 rfl ?_
                                      refine j_getFR dX9_once_244 flX9_157_10 hM.1 rfl (mf_rows hM) ?_
                                      refine j_bipush dX9_once_247 ?_
                                      refine j_iload_n dX9_once_249 rfl ?_
                                      refine j_imul dX9_once_250 ?_
                                      refine j_iload dX9_once_251 rfl ?_
                                      refine j_iadd dX9_once_253 ?_
                                      obtain ⟨c73, h⟩ := h
                                      refine j_iald (n := 3168) dX9_once_254 (mt_rows hM) (ml_rows hM) c73 ?_
                                      have jn76 : ∀ z75 : Int, z75 = (if ¬ (A48 (o + 37) v58) = (A48 (o + 33) ((12 * a1) + v58)) then 0 else 1) → J G l d mX9_once 263 [.ref o, vI a1, vI a2, vI a3, vI a4, vI v16, vI v29, vI v30, jD, vI v57, vI v58] [vI z75] N F47 A48 (jmI N Q) := by
                                        intro z75 ez75
                                        have h := h z75 ez75
                                        refine j_istore dX9_once_263 rfl ?_
                                        obtain ⟨r77, h⟩ := h
                                        refine j_iinc dX9_once_265 rfl rfl ?_
                                        refine j_goto 222 dX9_once_268 rfl ?_
                                        exact J.wk ((((((((((((jWk.nil).eq).eq).no).eq).eq).eq).eq).eq).eq).eq).eq) (ihI59 _ _ (Nat.lt_of_lt_of_le h.2 (Nat.le_of_lt_succ hmuI59)) (ez75 ▸ (jR_ite (by decide) (by decide))) r77 h.1)
                                      clear h
                                      refine j_icmp_ne 262 dX9_once_255 rfl (hW49.ai (mt_said hM) rfl) (hW49.ai (mt_rows hM) rfl) (fun q74 => ?_) (fun q74 => ?_)
                                      · refine j_iconst dX9_once_262 ?_
                                        exact jn76 _ ((if_pos q74).symm)
                                      · refine j_iconst dX9_once_258 ?_
                                        refine j_goto 263 dX9_once_259 rfl ?_
                                        exact jn76 _ ((if_neg q74).symm)
                              exact J.wk ((((((((((((jWk.nil).eq).eq).no).eq).eq).eq).eq).eq).eq).eq).eq) (lp _ _ _ (Nat.lt_succ_self _) rv53 (by decide) h0)
                            obtain ⟨h1, h2⟩ := h
                            refine j_icmp_eq 216 dX9_once_193 rfl (hW49.fi rfl) (by decide) (fun q52 => ?_) (fun q52 => ?_)
                            · have h := h1 q52
                              clear h1 h2
                              refine j_iconst dX9_once_216 ?_
                              exact J.wk ((((((((((((jWk.nil).no).no).no).eq).eq).eq).eq).eq).eq).eq).eq) (jn55 _ (by decide) h)
                            · have h := h2 q52
                              clear h1 h2
                              refine j_iload_n dX9_once_196 rfl ?_
                              refine j_iconst dX9_once_197 ?_
                              obtain ⟨h1, h2⟩ := h
                              refine j_icmp_eq 212 dX9_once_198 rfl ra3 (by decide) (fun q78 => ?_) (fun q78 => ?_)
                              · have h := h1 q78
                                clear h1 h2
                                refine j_iconst dX9_once_212 ?_
                                refine j_goto 217 dX9_once_213 rfl ?_
                                exact J.wk ((((((((((((jWk.nil).no).no).no).eq).eq).eq).eq).eq).eq).eq).eq) (jn55 _ (by decide) h)
                              · have h := h2 q78
                                clear h1 h2
                                refine j_aload_n dX9_once_201 rfl ?_
                                refine j_getFR dX9_once_202 flX9_175_10 hM.1 rfl (mf_told hM) ?_
                                refine j_iload_n dX9_once_205 rfl ?_
                                obtain ⟨c79, h⟩ := h
                                refine j_iald (n := 12) dX9_once_206 (mt_told hM) (ml_told hM) c79 ?_
                                refine j_iload dX9_once_207 rfl ?_
                                have jn82 : ∀ z81 : Int, z81 = (if ¬ (A48 (o + 36) a3) = a4 then 0 else 1) → J G l d mX9_once 217 [.ref o, vI a1, vI a2, vI a3, vI a4, vI v16, vI v29, vI v30, vI v37, vI v38, jD] [vI z81] N F47 A48 (jmI N Q) := by
                                  intro z81 ez81
                                  have h := h z81 ez81
                                  exact J.wk ((((((((((((jWk.nil).no).no).no).eq).eq).eq).eq).eq).eq).eq).eq) (jn55 _ (ez81 ▸ (jR_ite (by decide) (by decide))) h)
                                clear h
                                refine j_icmp_ne 216 dX9_once_209 rfl (hW49.ai (mt_told hM) rfl) ra4 (fun q80 => ?_) (fun q80 => ?_)
                                · refine j_iconst dX9_once_216 ?_
                                  exact jn82 _ ((if_pos q80).symm)
                                · refine j_iconst dX9_once_212 ?_
                                  refine j_goto 217 dX9_once_213 rfl ?_
                                  exact jn82 _ ((if_neg q80).symm)
                          · have h := h2 q43
                            clear h1 h2
                            refine j_aload_n dX9_once_144 rfl ?_
                            refine j_getFR dX9_once_145 flX9_175_10 hM.1 rfl (mf_told hM) ?_
                            refine j_iload dX9_once_148 rfl ?_
                            refine j_iload dX9_once_150 rfl ?_
                            refine j_aload_n dX9_once_152 rfl ?_
                            refine j_getFR dX9_once_153 flX9_54_10 hM.1 rfl (mf_words hM) ?_
                            refine j_aload_n dX9_once_156 rfl ?_
                            refine j_getI dX9_once_157 flX9_51_10 hM.1 rfl ?_
                            obtain ⟨c83, h⟩ := h
                            refine j_iald (n := 2) dX9_once_160 (mt_words hM) (ml_words hM) c83 ?_
                            obtain ⟨c84, h⟩ := h
                            refine j_irem dX9_once_161 c84.1 c84.2 ?_
                            obtain ⟨c85, h⟩ := h
                            obtain ⟨r86, h⟩ := h
                            refine j_iast (n := 12) dX9_once_162 (mt_told hM) (Nat.le_trans hM.2.1 (Nat.le_add_right _ _)) (ml_told hM) c85 ?_
                            obtain ⟨A87, eA87⟩ : ∃ x : jAr, x = upA A39 (o + 36) v38 (v37 % (A39 (o + 2) (F31 3039 o))) := ⟨_, rfl⟩
                            have hW88 : jWf N F31 A87 := eA87 ▸ jWf_A (i := v38) (z := v37 % (A39 (o + 2) (F31 3039 o))) hW40 (mt_told hM) (jRk_0 rfl r86)
                            refine jnmA (e := eA87) ?_
                            have h := h A87 eA87
                            refine j_iload dX9_once_163 rfl ?_
                            refine j_aload_n dX9_once_165 rfl ?_
                            refine j_getFR dX9_once_166 flX9_54_10 hM.1 rfl (mf_words hM) ?_
                            refine j_aload_n dX9_once_169 rfl ?_
                            refine j_getI dX9_once_170 flX9_51_10 hM.1 rfl ?_
                            obtain ⟨c89, h⟩ := h
                            refine j_iald (n := 2) dX9_once_173 (mt_words hM) (ml_words hM) c89 ?_
                            obtain ⟨c90, h⟩ := h
                            refine j_idiv dX9_once_174 c90.1 c90.2 ?_
                            obtain ⟨r91, h⟩ := h
                            obtain ⟨v92, ev92⟩ : ∃ x : Int, x = v37 / (A87 (o + 2) (F31 3039 o)) := ⟨_, rfl⟩
                            have h := h v92 ev92
                            refine jnmI (e := ev92) ?_
                            refine j_istore dX9_once_175 rfl ?_
                            obtain ⟨r93, h⟩ := h
                            refine j_iinc dX9_once_177 rfl rfl ?_
                            refine j_goto 135 dX9_once_180 rfl ?_
                            exact J.wk ((((((((((((jWk.nil).no).eq).eq).eq).eq).eq).eq).eq).eq).eq).eq) (ihI41 _ _ _ (Nat.lt_of_lt_of_le h.2 (Nat.le_of_lt_succ hmuI41)) hW88 (ev92 ▸ r91) r93 h.1)
                      exact J.wk ((((((((((((jWk.nil).no).eq).eq).eq).eq).eq).eq).eq).eq).eq).eq) (lp _ _ _ _ (Nat.lt_succ_self _) hW33 rv30 (by decide) h0)
                exact J.wk ((((((((((((jWk.nil).no).no).no).eq).eq).eq).eq).eq).eq).eq).eq) (lp _ _ _ _ _ (Nat.lt_succ_self _) hW28 (by decide) (by decide) h0)
              · have h := h2 q21
                clear h1 h2
                refine j_iload dX9_once_75 rfl ?_
                refine j_aload_n dX9_once_77 rfl ?_
                refine j_getFR dX9_once_78 flX9_54_10 hM.1 rfl (mf_words hM) ?_
                refine j_aload_n dX9_once_81 rfl ?_
                refine j_getI dX9_once_82 flX9_51_10 hM.1 rfl ?_
                obtain ⟨c94, h⟩ := h
                refine j_iald (n := 2) dX9_once_85 (mt_words hM) (ml_words hM) c94 ?_
                refine j_imul dX9_once_86 ?_
                obtain ⟨r95, h⟩ := h
                obtain ⟨v96, ev96⟩ : ∃ x : Int, x = v16 * (A (o + 2) (F 3039 o)) := ⟨_, rfl⟩
                have h := h v96 ev96
                refine jnmI (e := ev96) ?_
                refine j_istore dX9_once_87 rfl ?_
                obtain ⟨r97, h⟩ := h
                refine j_iinc dX9_once_89 rfl rfl ?_
                refine j_goto 64 dX9_once_92 rfl ?_
                exact J.wk ((((((((((((jWk.nil).no).no).no).no).eq).eq).eq).eq).eq).eq).eq) (ihI18 _ _ (Nat.lt_of_lt_of_le h.2 (Nat.le_of_lt_succ hmuI18)) (ev96 ▸ r95) r97 h.1)
          exact J.wk ((((((((((((jWk.nil).no).no).no).no).eq).eq).eq).eq).eq).eq).eq) (lp _ _ _ (Nat.lt_succ_self _) (by decide) (by decide) h0)
        · have h := h2 q15
          clear h1 h2
          refine j_iload_n dX9_once_31 rfl ?_
          refine j_iconst dX9_once_32 ?_
          refine j_aload_n dX9_once_33 rfl ?_
          refine j_getFR dX9_once_34 flX9_148_10 hM.1 rfl (mf_main hM) ?_
          refine j_iload_n dX9_once_37 rfl ?_
          obtain ⟨c98, h⟩ := h
          refine j_iald (n := 264) dX9_once_38 (mt_main hM) (ml_main hM) c98 ?_
          refine j_iconst dX9_once_39 ?_
          refine j_isub dX9_once_40 ?_
          obtain ⟨r99, h⟩ := h
          obtain ⟨P100, hp101, h⟩ := h
          refine j_invS (As := [vI a3, vI 0, vI ((A (o + 30) a1) - 1)]) (rest := []) dX9_once_41 lkX9_324 (wX9_is (d := 1) (Nat.le_of_ble_eq_true rfl) hM hW ra3 (by decide) r99 hp101) rfl rfl (Nat.le_of_ble_eq_true rfl) (Nat.le_trans (Nat.le_of_ble_eq_true rfl) hd) (jkpB fun z102 p103 r104 => ?_)
          have h := h z102 p103
          obtain ⟨h1, h2⟩ := h
          refine j_if_eq 56 dX9_once_44 rfl (jR_b r104) (fun q105 => ?_) (fun q105 => ?_)
          · have h := h1 q105
            clear h1 h2
            refine j_iconst dX9_once_56 ?_
            exact j_iret dX9_once_57 rfl ⟨_, rfl, rfl, hW, h, (by decide)⟩
          · have h := h2 q105
            clear h1 h2
            refine j_aload_n dX9_once_47 rfl ?_
            refine j_iload dX9_once_48 rfl ?_
            obtain ⟨P106, hp107, h⟩ := h
            refine j_invV (As := [vI a4]) (rest := []) dX9_once_50 lkX9_409 hM.1 rfl rfl (wX9_isWordOf (d := 1) (Nat.le_of_ble_eq_true rfl) hM hW ra4 hp107) rfl rfl (Nat.le_of_ble_eq_true rfl) (Nat.le_trans (Nat.le_of_ble_eq_true rfl) hd) (jkpB fun z108 p109 r110 => ?_)
            have h := h z108 p109
            obtain ⟨h1, h2⟩ := h
            refine j_if_ne 58 dX9_once_53 rfl (jR_b r110) (fun q111 => ?_) (fun q111 => ?_)
            · have h := h1 q111
              clear h1 h2
              refine j_iconst dX9_once_58 ?_
              refine j_istore dX9_once_59 rfl ?_
              refine j_iconst dX9_once_61 ?_
              refine j_istore dX9_once_62 rfl ?_
              obtain ⟨I114, m115, h0, hs⟩ := h
              have lp : ∀ (n : Nat) (v112 : Int) (v113 : Int), m115 v112 v113 < n → jR v112 → jR v113 → I114 v112 v113 → J G l d mX9_once 64 [.ref o, vI a1, vI a2, vI a3, vI a4, vI v112, vI v113, jD, jD, jD, jD] [] N F A (jmI N Q) := by
                intro nI114
                induction nI114 with
                | zero =>
                  intro v112 v113 hmu
                  exact absurd hmu (Nat.not_lt_zero _)
                | succ nI114 ihI114 =>
                  intro v112 v113 hmuI114 rv112 rv113 hI
                  have h := hs v112 v113 hI
                  refine j_iload dX9_once_64 rfl ?_
                  refine j_aload_n dX9_once_66 rfl ?_
                  refine j_getFR dX9_once_67 flX9_148_10 hM.1 rfl (mf_main hM) ?_
                  refine j_iload_n dX9_once_70 rfl ?_
                  obtain ⟨c116, h⟩ := h
                  refine j_iald (n := 264) dX9_once_71 (mt_main hM) (ml_main hM) c116 ?_
                  obtain ⟨h1, h2⟩ := h
                  refine j_icmp_ge 95 dX9_once_72 rfl rv113 (hW.ai (mt_main hM) rfl) (fun q117 => ?_) (fun q117 => ?_)
                  · have h := h1 q117
                    clear h1 h2
                    refine j_aload_n dX9_once_95 rfl ?_
                    refine j_aload_n dX9_once_96 rfl ?_
                    refine j_getFR dX9_once_97 flX9_148_10 hM.1 rfl (mf_main hM) ?_
                    refine j_iload_n dX9_once_100 rfl ?_
                    obtain ⟨c118, h⟩ := h
                    refine j_iald (n := 264) dX9_once_101 (mt_main hM) (ml_main hM) c118 ?_
                    refine j_putI dX9_once_102 flX9_178_10 hM.1 hM.2.1 rfl ?_
                    obtain ⟨F119, eF119⟩ : ∃ x : jFl, x = upF F 3165 o (A (o + 30) a1) := ⟨_, rfl⟩
                    have hW120 : jWf N F119 A := eF119 ▸ jWf_F (f := 3165) (a := o) (z := A (o + 30) a1) hW (jRk_0 rfl (hW.ai (mt_main hM) rfl))
                    refine jnmF (e := eF119) ?_
                    have h := h F119 eF119
                    refine j_aload_n dX9_once_105 rfl ?_
                    refine j_iconst dX9_once_106 ?_
                    refine j_putI dX9_once_107 flX9_181_10 hM.1 hM.2.1 rfl ?_
                    obtain ⟨F121, eF121⟩ : ∃ x : jFl, x = upF F119 3168 o 0 := ⟨_, rfl⟩
                    have hW122 : jWf N F121 A := eF121 ▸ jWf_F (f := 3168) (a := o) (z := 0) hW120 (jRk_0 rfl (by decide))
                    refine jnmF (e := eF121) ?_
                    have h := h F121 eF121
                    refine j_aload_n dX9_once_110 rfl ?_
                    refine j_iconst dX9_once_111 ?_
                    refine j_putZ dX9_once_112 flX9_184_10 hM.1 hM.2.1 rfl (by decide) ?_
                    obtain ⟨F123, eF123⟩ : ∃ x : jFl, x = upF F121 3171 o 0 := ⟨_, rfl⟩
                    have hW124 : jWf N F123 A := eF123 ▸ jWf_F (f := 3171) (a := o) (z := 0) hW122 (jRk_0 rfl (by decide))
                    refine jnmF (e := eF123) ?_
                    have h := h F123 eF123
                    refine j_iconst dX9_once_115 ?_
                    refine j_istore dX9_once_116 rfl ?_
                    refine j_iconst dX9_once_118 ?_
                    refine j_istore dX9_once_119 rfl ?_
                    obtain ⟨I130, m131, h0, hs⟩ := h
                    have lp : ∀ (n : Nat) (v125 : Int) (v126 : Int) (F127 : jFl) (A128 : jAr), m131 v125 v126 F127 A128 < n → jWf N F127 A128 → jR v125 → jR v126 → I130 v125 v126 F127 A128 → J G l d mX9_once 121 [.ref o, vI a1, vI a2, vI a3, vI a4, vI v112, vI v125, vI v126, jD, jD, jD] [] N F127 A128 (jmI N Q) := by
                      intro nI130
                      induction nI130 with
                      | zero =>
                        intro v125 v126 F127 A128 hmu
                        exact absurd hmu (Nat.not_lt_zero _)
                      | succ nI130 ihI130 =>
                        intro v125 v126 F127 A128 hmuI130 hW129 rv125 rv126 hI
                        have h := hs v125 v126 F127 A128 hI
                        refine j_iload dX9_once_121 rfl ?_
                        refine j_iload dX9_once_123 rfl ?_
                        obtain ⟨h1, h2⟩ := h
                        refine j_icmp_ge 292 dX9_once_125 rfl rv126 rv112 (fun q132 => ?_) (fun q132 => ?_)
                        · have h := h1 q132
                          clear h1 h2
                          refine j_iload dX9_once_292 rfl ?_
                          exact j_iret dX9_once_294 rfl ⟨_, rfl, rfl, hW129, h, rv125⟩
                        · have h := h2 q132
                          clear h1 h2
                          refine j_iload dX9_once_128 rfl ?_
                          refine j_istore dX9_once_130 rfl ?_
                          refine j_iconst dX9_once_132 ?_
                          refine j_istore dX9_once_133 rfl ?_
                          obtain ⟨I137, m138, h0, hs⟩ := h
                          have lp : ∀ (n : Nat) (v133 : Int) (v134 : Int) (A135 : jAr), m138 v133 v134 A135 < n → jWf N F127 A135 → jR v133 → jR v134 → I137 v133 v134 A135 → J G l d mX9_once 135 [.ref o, vI a1, vI a2, vI a3, vI a4, vI v112, vI v125, vI v126, vI v133, vI v134, jD] [] N F127 A135 (jmI N Q) := by
                            intro nI137
                            induction nI137 with
                            | zero =>
                              intro v133 v134 A135 hmu
                              exact absurd hmu (Nat.not_lt_zero _)
                            | succ nI137 ihI137 =>
                              intro v133 v134 A135 hmuI137 hW136 rv133 rv134 hI
                              have h := hs v133 v134 A135 hI
                              refine j_iload dX9_once_135 rfl ?_
                              refine j_aload_n dX9_once_137 rfl ?_
                              refine j_getI dX9_once_138 flX9_178_10 hM.1 rfl ?_
                              obtain ⟨h1, h2⟩ := h
                              refine j_icmp_ge 183 dX9_once_141 rfl rv134 (hW136.fi rfl) (fun q139 => ?_) (fun q139 => ?_)
                              · have h := h1 q139
                                clear h1 h2
                                refine j_aload_n dX9_once_183 rfl ?_
                                refine j_iload_n dX9_once_184 rfl ?_
                                obtain ⟨P140, hp141, h⟩ := h
                                refine j_invV (As := [vI a2]) (rest := []) dX9_once_185 lkX9_435 hM.1 rfl rfl (wX9_utters (d := 3) (Nat.le_of_ble_eq_true rfl) hM hW136 ra2 hp141) rfl rfl (Nat.le_of_ble_eq_true rfl) (Nat.le_trans (Nat.le_of_ble_eq_true rfl) hd) (jkmV fun F143 A144 hW145 p146 => ?_)
                                have h := h F143 A144 p146
                                refine j_aload_n dX9_once_188 rfl ?_
                                refine j_getI dX9_once_189 flX9_197_10 hM.1 rfl ?_
                                refine j_iconst dX9_once_192 ?_
                                obtain ⟨K150, hK152, h⟩ := h
                                have jn151 : ∀ (v149 : Int), jR v149 → K150 v149 → J G l d mX9_once 217 [.ref o, vI a1, vI a2, vI a3, vI a4, vI v112, vI v125, vI v126, jD, jD, jD] [vI v149] N F143 A144 (jmI N Q) := by
                                  intro v149 rv149 h
                                  have h := hK152 v149 h
                                  refine j_istore dX9_once_217 rfl ?_
                                  refine j_iconst dX9_once_219 ?_
                                  refine j_istore dX9_once_220 rfl ?_
                                  obtain ⟨I155, m156, h0, hs⟩ := h
                                  have lp : ∀ (n : Nat) (v153 : Int) (v154 : Int), m156 v153 v154 < n → jR v153 → jR v154 → I155 v153 v154 → J G l d mX9_once 222 [.ref o, vI a1, vI a2, vI a3, vI a4, vI v112, vI v125, vI v126, jD, vI v153, vI v154] [] N F143 A144 (jmI N Q) := by
                                    intro nI155
                                    induction nI155 with
                                    | zero =>
                                      intro v153 v154 hmu
                                      exact absurd hmu (Nat.not_lt_zero _)
                                    | succ nI155 ihI155 =>
                                      intro v153 v154 hmuI155 rv153 rv154 hI
                                      have h := hs v153 v154 hI
                                      refine j_iload dX9_once_222 rfl ?_
                                      refine j_aload_n dX9_once_224 rfl ?_
                                      refine j_getI dX9_once_225 flX9_178_10 hM.1 rfl ?_
                                      obtain ⟨K158, hK160, h⟩ := h
                                      have jn159 : K158  → J G l d mX9_once 271 [.ref o, vI a1, vI a2, vI a3, vI a4, vI v112, vI v125, vI v126, jD, vI v153, jD] [] N F143 A144 (jmI N Q) := by
                                        intro   h
                                        have h := hK160  h
                                        refine j_iload dX9_once_271 rfl ?_
                                        refine j_iload dX9_once_273 rfl ?_
                                        have jn163 : ∀ z162 : Int, z162 = (if v153 = 0 then 0 else 1) → J G l d mX9_once 283 [.ref o, vI a1, vI a2, vI a3, vI a4, vI v112, vI v125, vI v126, jD, vI v153, jD] [vI z162, vI v125] N F143 A144 (jmI N Q) := by
                                          intro z162 ez162
                                          have h := h z162 ez162
                                          refine j_iadd dX9_once_283 ?_
                                          obtain ⟨r164, h⟩ := h
                                          obtain ⟨v165, ev165⟩ : ∃ x : Int, x = v125 + z162 := ⟨_, rfl⟩
                                          have h := h v165 ev165
                                          refine jnmI (e := ev165) ?_
                                          refine j_istore dX9_once_284 rfl ?_
                                          obtain ⟨r166, h⟩ := h
                                          refine j_iinc dX9_once_286 rfl rfl ?_
                                          refine j_goto 121 dX9_once_289 rfl ?_
                                          exact J.wk ((((((((((((jWk.nil).no).no).no).eq).eq).eq).eq).eq).eq).eq).eq) (ihI130 _ _ _ _ (Nat.lt_of_lt_of_le h.2 (Nat.le_of_lt_succ hmuI130)) hW145 (ev165 ▸ r164) r166 h.1)
                                        clear h
                                        refine j_if_eq 282 dX9_once_275 rfl rv153 (fun q161 => ?_) (fun q161 => ?_)
                                        · refine j_iconst dX9_once_282 ?_
                                          exact jn163 _ ((if_pos q161).symm)
                                        · refine j_iconst dX9_once_278 ?_
                                          refine j_goto 283 dX9_once_279 rfl ?_
                                          exact jn163 _ ((if_neg q161).symm)
                                      obtain ⟨h1, h2⟩ := h
                                      refine j_icmp_ge 271 dX9_once_228 rfl rv154 (hW145.fi rfl) (fun q157 => ?_) (fun q157 => ?_)
                                      · have h := h1 q157
                                        clear h1 h2
                                        exact J.wk ((((((((((((jWk.nil).no).eq).no).eq).eq).eq).eq).eq).eq).eq).eq) (jn159   h)
                                      · have h := h2 q157
                                        clear h1 h2
                                        refine j_iload dX9_once_231 rfl ?_
                                        obtain ⟨h1, h2⟩ := h
                                        refine j_if_eq 271 dX9_once_233 rfl rv153 (fun q167 => ?_) (fun q167 => ?_)
                                        · have h := h1 q167
                                          clear h1 h2
                                          exact J.wk ((((((((((((jWk.nil).no).eq).no).eq).eq).eq).eq).eq).eq).eq).eq) (jn159   h)
                                        · have h := h2 q167
                                          clear h1 h2
                                          refine j_aload_n dX9_once_236 rfl ?_
                                          refine j_getFR dX9_once_237 flX9_188_10 hM.1 rfl (mf_said hM) ?_
                                          refine j_iload dX9_once_240 rfl ?_
                                          obtain ⟨c168, h⟩ := h
                                          refine j_iald (n := 12) dX9_once_242 (mt_said hM) (ml_said hM) c168 ?_
                                          refine j_aload_n dX9_once_243 rfl ?_
                                          refine j_getFR dX9_once_244 flX9_157_10 hM.1 rfl (mf_rows hM) ?_
                                          refine j_bipush dX9_once_247 ?_
                                          refine j_iload_n dX9_once_249 rfl ?_
                                          refine j_imul dX9_once_250 ?_
                                          refine j_iload dX9_once_251 rfl ?_
                                          refine j_iadd dX9_once_253 ?_
                                          obtain ⟨c169, h⟩ := h
                                          refine j_iald (n := 3168) dX9_once_254 (mt_rows hM) (ml_rows hM) c169 ?_
                                          have jn172 : ∀ z171 : Int, z171 = (if ¬ (A144 (o + 37) v154) = (A144 (o + 33) ((12 * a1) + v154)) then 0 else 1) → J G l d mX9_once 263 [.ref o, vI a1, vI a2, vI a3, vI a4, vI v112, vI v125, vI v126, jD, vI v153, vI v154] [vI z171] N F143 A144 (jmI N Q) := by
                                            intro z171 ez171
                                            have h := h z171 ez171
                                            refine j_istore dX9_once_263 rfl ?_
                                            obtain ⟨r173, h⟩ := h
                                            refine j_iinc dX9_once_265 rfl rfl ?_
                                            refine j_goto 222 dX9_once_268 rfl ?_
                                            exact J.wk ((((((((((((jWk.nil).eq).eq).no).eq).eq).eq).eq).eq).eq).eq).eq) (ihI155 _ _ (Nat.lt_of_lt_of_le h.2 (Nat.le_of_lt_succ hmuI155)) (ez171 ▸ (jR_ite (by decide) (by decide))) r173 h.1)
                                          clear h
                                          refine j_icmp_ne 262 dX9_once_255 rfl (hW145.ai (mt_said hM) rfl) (hW145.ai (mt_rows hM) rfl) (fun q170 => ?_) (fun q170 => ?_)
                                          · refine j_iconst dX9_once_262 ?_
                                            exact jn172 _ ((if_pos q170).symm)
                                          · refine j_iconst dX9_once_258 ?_
                                            refine j_goto 263 dX9_once_259 rfl ?_
                                            exact jn172 _ ((if_neg q170).symm)
                                  exact J.wk ((((((((((((jWk.nil).eq).eq).no).eq).eq).eq).eq).eq).eq).eq).eq) (lp _ _ _ (Nat.lt_succ_self _) rv149 (by decide) h0)
                                obtain ⟨h1, h2⟩ := h
                                refine j_icmp_eq 216 dX9_once_193 rfl (hW145.fi rfl) (by decide) (fun q148 => ?_) (fun q148 => ?_)
                                · have h := h1 q148
                                  clear h1 h2
                                  refine j_iconst dX9_once_216 ?_
                                  exact J.wk ((((((((((((jWk.nil).no).no).no).eq).eq).eq).eq).eq).eq).eq).eq) (jn151 _ (by decide) h)
                                · have h := h2 q148
                                  clear h1 h2
                                  refine j_iload_n dX9_once_196 rfl ?_
                                  refine j_iconst dX9_once_197 ?_
                                  obtain ⟨h1, h2⟩ := h
                                  refine j_icmp_eq 212 dX9_once_198 rfl ra3 (by decide) (fun q174 => ?_) (fun q174 => ?_)
                                  · have h := h1 q174
                                    clear h1 h2
                                    refine j_iconst dX9_once_212 ?_
                                    refine j_goto 217 dX9_once_213 rfl ?_
                                    exact J.wk ((((((((((((jWk.nil).no).no).no).eq).eq).eq).eq).eq).eq).eq).eq) (jn151 _ (by decide) h)
                                  · have h := h2 q174
                                    clear h1 h2
                                    refine j_aload_n dX9_once_201 rfl ?_
                                    refine j_getFR dX9_once_202 flX9_175_10 hM.1 rfl (mf_told hM) ?_
                                    refine j_iload_n dX9_once_205 rfl ?_
                                    obtain ⟨c175, h⟩ := h
                                    refine j_iald (n := 12) dX9_once_206 (mt_told hM) (ml_told hM) c175 ?_
                                    refine j_iload dX9_once_207 rfl ?_
                                    have jn178 : ∀ z177 : Int, z177 = (if ¬ (A144 (o + 36) a3) = a4 then 0 else 1) → J G l d mX9_once 217 [.ref o, vI a1, vI a2, vI a3, vI a4, vI v112, vI v125, vI v126, vI v133, vI v134, jD] [vI z177] N F143 A144 (jmI N Q) := by
                                      intro z177 ez177
                                      have h := h z177 ez177
                                      exact J.wk ((((((((((((jWk.nil).no).no).no).eq).eq).eq).eq).eq).eq).eq).eq) (jn151 _ (ez177 ▸ (jR_ite (by decide) (by decide))) h)
                                    clear h
                                    refine j_icmp_ne 216 dX9_once_209 rfl (hW145.ai (mt_told hM) rfl) ra4 (fun q176 => ?_) (fun q176 => ?_)
                                    · refine j_iconst dX9_once_216 ?_
                                      exact jn178 _ ((if_pos q176).symm)
                                    · refine j_iconst dX9_once_212 ?_
                                      refine j_goto 217 dX9_once_213 rfl ?_
                                      exact jn178 _ ((if_neg q176).symm)
                              · have h := h2 q139
                                clear h1 h2
                                refine j_aload_n dX9_once_144 rfl ?_
                                refine j_getFR dX9_once_145 flX9_175_10 hM.1 rfl (mf_told hM) ?_
                                refine j_iload dX9_once_148 rfl ?_
                                refine j_iload dX9_once_150 rfl ?_
                                refine j_aload_n dX9_once_152 rfl ?_
                                refine j_getFR dX9_once_153 flX9_54_10 hM.1 rfl (mf_words hM) ?_
                                refine j_aload_n dX9_once_156 rfl ?_
                                refine j_getI dX9_once_157 flX9_51_10 hM.1 rfl ?_
                                obtain ⟨c179, h⟩ := h
                                refine j_iald (n := 2) dX9_once_160 (mt_words hM) (ml_words hM) c179 ?_
                                obtain ⟨c180, h⟩ := h
                                refine j_irem dX9_once_161 c180.1 c180.2 ?_
                                obtain ⟨c181, h⟩ := h
                                obtain ⟨r182, h⟩ := h
                                refine j_iast (n := 12) dX9_once_162 (mt_told hM) (Nat.le_trans hM.2.1 (Nat.le_add_right _ _)) (ml_told hM) c181 ?_
                                obtain ⟨A183, eA183⟩ : ∃ x : jAr, x = upA A135 (o + 36) v134 (v133 % (A135 (o + 2) (F127 3039 o))) := ⟨_, rfl⟩
                                have hW184 : jWf N F127 A183 := eA183 ▸ jWf_A (i := v134) (z := v133 % (A135 (o + 2) (F127 3039 o))) hW136 (mt_told hM) (jRk_0 rfl r182)
                                refine jnmA (e := eA183) ?_
                                have h := h A183 eA183
                                refine j_iload dX9_once_163 rfl ?_
                                refine j_aload_n dX9_once_165 rfl ?_
                                refine j_getFR dX9_once_166 flX9_54_10 hM.1 rfl (mf_words hM) ?_
                                refine j_aload_n dX9_once_169 rfl ?_
                                refine j_getI dX9_once_170 flX9_51_10 hM.1 rfl ?_
                                obtain ⟨c185, h⟩ := h
                                refine j_iald (n := 2) dX9_once_173 (mt_words hM) (ml_words hM) c185 ?_
                                obtain ⟨c186, h⟩ := h
                                refine j_idiv dX9_once_174 c186.1 c186.2 ?_
                                obtain ⟨r187, h⟩ := h
                                obtain ⟨v188, ev188⟩ : ∃ x : Int, x = v133 / (A183 (o + 2) (F127 3039 o)) := ⟨_, rfl⟩
                                have h := h v188 ev188
                                refine jnmI (e := ev188) ?_
                                refine j_istore dX9_once_175 rfl ?_
                                obtain ⟨r189, h⟩ := h
                                refine j_iinc dX9_once_177 rfl rfl ?_
                                refine j_goto 135 dX9_once_180 rfl ?_
                                exact J.wk ((((((((((((jWk.nil).no).eq).eq).eq).eq).eq).eq).eq).eq).eq).eq) (ihI137 _ _ _ (Nat.lt_of_lt_of_le h.2 (Nat.le_of_lt_succ hmuI137)) hW184 (ev188 ▸ r187) r189 h.1)
                          exact J.wk ((((((((((((jWk.nil).no).eq).eq).eq).eq).eq).eq).eq).eq).eq).eq) (lp _ _ _ _ (Nat.lt_succ_self _) hW129 rv126 (by decide) h0)
                    exact J.wk ((((((((((((jWk.nil).no).no).no).eq).eq).eq).eq).eq).eq).eq).eq) (lp _ _ _ _ _ (Nat.lt_succ_self _) hW124 (by decide) (by decide) h0)
                  · have h := h2 q117
                    clear h1 h2
                    refine j_iload dX9_once_75 rfl ?_
                    refine j_aload_n dX9_once_77 rfl ?_
                    refine j_getFR dX9_once_78 flX9_54_10 hM.1 rfl (mf_words hM) ?_
                    refine j_aload_n dX9_once_81 rfl ?_
                    refine j_getI dX9_once_82 flX9_51_10 hM.1 rfl ?_
                    obtain ⟨c190, h⟩ := h
                    refine j_iald (n := 2) dX9_once_85 (mt_words hM) (ml_words hM) c190 ?_
                    refine j_imul dX9_once_86 ?_
                    obtain ⟨r191, h⟩ := h
                    obtain ⟨v192, ev192⟩ : ∃ x : Int, x = v112 * (A (o + 2) (F 3039 o)) := ⟨_, rfl⟩
                    have h := h v192 ev192
                    refine jnmI (e := ev192) ?_
                    refine j_istore dX9_once_87 rfl ?_
                    obtain ⟨r193, h⟩ := h
                    refine j_iinc dX9_once_89 rfl rfl ?_
                    refine j_goto 64 dX9_once_92 rfl ?_
                    exact J.wk ((((((((((((jWk.nil).no).no).no).no).eq).eq).eq).eq).eq).eq).eq) (ihI114 _ _ (Nat.lt_of_lt_of_le h.2 (Nat.le_of_lt_succ hmuI114)) (ev192 ▸ r191) r193 h.1)
              exact J.wk ((((((((((((jWk.nil).no).no).no).no).eq).eq).eq).eq).eq).eq).eq) (lp _ _ _ (Nat.lt_succ_self _) (by decide) (by decide) h0)
            · have h := h2 q111
              clear h1 h2
              refine j_iconst dX9_once_56 ?_
              exact j_iret dX9_once_57 rfl ⟨_, rfl, rfl, hW, h, (by decide)⟩
/-- round(III)I -/
def wpX9_round (o : Nat) (a1 : Int) (a2 : Int) (a3 : Int) (F : jFl) (A : jAr) (Q : Int → jFl → jAr → Prop) : Prop :=
  ∃ P1 : Int → Prop, wpX9_isChild o a2 F A P1 ∧ ∀ z3, P1 z3 →
  ((z3 = 0) →
    Q (-1) F A) ∧
  (¬ (z3 = 0) →
    ∃ P7 : Int → Prop, wpX9_isStanding o a1 F A P7 ∧ ∀ z9, P7 z9 →
    ((z9 = 0) →
      Q (-1) F A) ∧
    (¬ (z9 = 0) →
      ∃ P13 : Int → Prop, wpX9_is o a3 0 2 F A P13 ∧ ∀ z15, P13 z15 →
      ((¬ z15 = 0) →
        ∃ P19 : jFl → jAr → Prop, wpX9_loads o 0 a1 F A P19 ∧ ∀ F22 A23, P19 F22 A23 →
        ∃ P27 : jFl → jAr → Prop, wpX9_saysAsTold o F22 A23 P27 ∧ ∀ F30 A31, P27 F30 A31 →
        ∃ P35 : jFl → jAr → Prop, wpX9_remembers o 0 F30 A31 P35 ∧ ∀ F38 A39, P35 F38 A39 →
        ∀ F43 : jFl, F43 = upF F38 3183 o 0 →
        ∃ (I50 : Int → Int → jFl → jAr → Prop) (m51 : Int → Int → jFl → jAr → Nat), I50 0 (-1) F43 A39 ∧ ∀ (v45 : Int) (v46 : Int) (F47 : jFl) (A48 : jAr), I50 v45 v46 F47 A48 →
          ∃ K53 : Prop, (
            K53 →
            ((¬ a3 = 0) →
              ∀ z59 : Int, z59 = (if ¬ a3 = 1 then (if ¬ v46 = (-1) then v45 - v46 else 0) else v46) →
              jR z59 ∧
              Q z59 F47 A48) ∧
            (¬ (¬ a3 = 0) →
              Q v45 F47 A48)) ∧
          ((¬ v46 = (-1)) →
            K53 ) ∧
          (¬ (¬ v46 = (-1)) →
            (((F47 3183 o) = 3) →
              K53 ) ∧
            (¬ ((F47 3183 o) = 3) →
              ((2099 ≤ v45) →
                K53 ) ∧
              (¬ (2099 ≤ v45) →
                ∃ P64 : jFl → jAr → Prop, wpX9_utters o a2 F47 A48 P64 ∧ ∀ F67 A68, P64 F67 A68 →
                jR (v45 + 1) ∧
                ((¬ (F67 3183 o) = 3) →
                  ∃ P74 : Int → Prop, wpX9_recalled o (v45 + 1) F67 A68 P74 ∧ ∀ z76, P74 z76 →
                  ((¬ z76 = (-1)) →
                    ∃ P80 : jFl → jAr → Prop, wpX9_tellsBack o F67 A68 P80 ∧ ∀ F83 A84, P80 F83 A84 →
                    I50 (v45 + 1) z76 F83 A84 ∧ m51 (v45 + 1) z76 F83 A84 < m51 v45 v46 F47 A48) ∧
                  (¬ (¬ z76 = (-1)) →
                    ∃ P88 : jFl → jAr → Prop, wpX9_remembers o (v45 + 1) F67 A68 P88 ∧ ∀ F91 A92, P88 F91 A92 →
                    ∃ P96 : jFl → jAr → Prop, wpX9_tellsBack o F91 A92 P96 ∧ ∀ F99 A100, P96 F99 A100 →
                    I50 (v45 + 1) z76 F99 A100 ∧ m51 (v45 + 1) z76 F99 A100 < m51 v45 v46 F47 A48)) ∧
                (¬ (¬ (F67 3183 o) = 3) →
                  I50 (v45 + 1) v46 F67 A68 ∧ m51 (v45 + 1) v46 F67 A68 < m51 v45 v46 F47 A48))))) ∧
      (¬ (¬ z15 = 0) →
        Q (-1) F A)))
theorem wX9_round {G : jG} {l : Launch} {d : Nat} {N : jSh} {o : Nat} {F : jFl} {A : jAr} {a1 a2 a3 : Int} {Q : Int → jFl → jAr → Prop} (hd : 4 ≤ d) (hM : mShape G N o) (hW : jWf N F A) (ra1 : jR a1) (ra2 : jR a2) (ra3 : jR a3) (h : wpX9_round o a1 a2 a3 F A Q) : jCall G l d mX9_round [.ref o, vI a1, vI a2, vI a3] N F A (jmI N Q) := by
  refine jCall.of (ls := [.ref o, vI a1, vI a2, vI a3, jD, jD]) (by decide) rfl (Nat.le_of_ble_eq_true rfl) rfl ?_
  unfold wpX9_round at h
  refine j_aload_n dX9_round_0 rfl ?_
  refine j_iload_n dX9_round_1 rfl ?_
  obtain ⟨P1, hp2, h⟩ := h
  refine j_invV (As := [vI a2]) (rest := []) dX9_round_2 lkX9_420 hM.1 rfl rfl (wX9_isChild (d := 1) (Nat.le_of_ble_eq_true rfl) hM hW ra2 hp2) rfl rfl (Nat.le_of_ble_eq_true rfl) (Nat.le_trans (Nat.le_of_ble_eq_true rfl) hd) (jkpB fun z3 p4 r5 => ?_)
  have h := h z3 p4
  obtain ⟨h1, h2⟩ := h
  refine j_if_eq 25 dX9_round_5 rfl (jR_b r5) (fun q6 => ?_) (fun q6 => ?_)
  · have h := h1 q6
    clear h1 h2
    refine j_iconst dX9_round_25 ?_
    exact j_iret dX9_round_26 rfl ⟨_, rfl, rfl, hW, h, (by decide)⟩
  · have h := h2 q6
    clear h1 h2
    refine j_aload_n dX9_round_8 rfl ?_
    refine j_iload_n dX9_round_9 rfl ?_
    obtain ⟨P7, hp8, h⟩ := h
    refine j_invV (As := [vI a1]) (rest := []) dX9_round_10 lkX9_429 hM.1 rfl rfl (wX9_isStanding (d := 2) (Nat.le_of_ble_eq_true rfl) hM hW ra1 hp8) rfl rfl (Nat.le_of_ble_eq_true rfl) (Nat.le_trans (Nat.le_of_ble_eq_true rfl) hd) (jkpB fun z9 p10 r11 => ?_)
    have h := h z9 p10
    obtain ⟨h1, h2⟩ := h
    refine j_if_eq 25 dX9_round_13 rfl (jR_b r11) (fun q12 => ?_) (fun q12 => ?_)
    · have h := h1 q12
      clear h1 h2
      refine j_iconst dX9_round_25 ?_
      exact j_iret dX9_round_26 rfl ⟨_, rfl, rfl, hW, h, (by decide)⟩
    · have h := h2 q12
      clear h1 h2
      refine j_iload_n dX9_round_16 rfl ?_
      refine j_iconst dX9_round_17 ?_
      refine j_iconst dX9_round_18 ?_
      obtain ⟨P13, hp14, h⟩ := h
      refine j_invS (As := [vI a3, vI 0, vI 2]) (rest := []) dX9_round_19 lkX9_324 (wX9_is (d := 1) (Nat.le_of_ble_eq_true rfl) hM hW ra3 (by decide) (by decide) hp14) rfl rfl (Nat.le_of_ble_eq_true rfl) (Nat.le_trans (Nat.le_of_ble_eq_true rfl) hd) (jkpB fun z15 p16 r17 => ?_)
      have h := h z15 p16
      obtain ⟨h1, h2⟩ := h
      refine j_if_ne 27 dX9_round_22 rfl (jR_b r17) (fun q18 => ?_) (fun q18 => ?_)
      · have h := h1 q18
        clear h1 h2
        refine j_aload_n dX9_round_27 rfl ?_
        refine j_iconst dX9_round_28 ?_
        refine j_iload_n dX9_round_29 rfl ?_
        obtain ⟨P19, hp20, h⟩ := h
        refine j_invV (As := [vI 0, vI a1]) (rest := []) dX9_round_30 lkX9_432 hM.1 rfl rfl (wX9_loads (d := 1) (Nat.le_of_ble_eq_true rfl) hM hW (by decide) ra1 hp20) rfl rfl (Nat.le_of_ble_eq_true rfl) (Nat.le_trans (Nat.le_of_ble_eq_true rfl) hd) (jkmV fun F22 A23 hW24 p25 => ?_)
        have h := h F22 A23 p25
        refine j_aload_n dX9_round_33 rfl ?_
        obtain ⟨P27, hp28, h⟩ := h
        refine j_invV (As := []) (rest := []) dX9_round_34 lkX9_500 hM.1 rfl rfl (wX9_saysAsTold (d := 1) (Nat.le_of_ble_eq_true rfl) hM hW24  hp28) rfl rfl (Nat.le_of_ble_eq_true rfl) (Nat.le_trans (Nat.le_of_ble_eq_true rfl) hd) (jkmV fun F30 A31 hW32 p33 => ?_)
        have h := h F30 A31 p33
        refine j_aload_n dX9_round_37 rfl ?_
        refine j_iconst dX9_round_38 ?_
        obtain ⟨P35, hp36, h⟩ := h
        refine j_invV (As := [vI 0]) (rest := []) dX9_round_39 lkX9_497 hM.1 rfl rfl (wX9_remembers (d := 1) (Nat.le_of_ble_eq_true rfl) hM hW32 (by decide) hp36) rfl rfl (Nat.le_of_ble_eq_true rfl) (Nat.le_trans (Nat.le_of_ble_eq_true rfl) hd) (jkmV fun F38 A39 hW40 p41 => ?_)
        have h := h F38 A39 p41
        refine j_iconst dX9_round_42 ?_
        refine j_istore dX9_round_43 rfl ?_
        refine j_iconst dX9_round_45 ?_
        refine j_istore dX9_round_46 rfl ?_
        refine j_aload_n dX9_round_48 rfl ?_
        refine j_iconst dX9_round_49 ?_
        refine j_putI dX9_round_50 flX9_197_10 hM.1 hM.2.1 rfl ?_
        obtain ⟨F43, eF43⟩ : ∃ x : jFl, x = upF F38 3183 o 0 := ⟨_, rfl⟩
        have hW44 : jWf N F43 A39 := eF43 ▸ jWf_F (f := 3183) (a := o) (z := 0) hW40 (jRk_0 rfl (by decide))
        refine jnmF (e := eF43) ?_
        have h := h F43 eF43
        obtain ⟨I50, m51, h0, hs⟩ := h
        have lp : ∀ (n : Nat) (v45 : Int) (v46 : Int) (F47 : jFl) (A48 : jAr), m51 v45 v46 F47 A48 < n → jWf N F47 A48 → jR v45 → jR v46 → I50 v45 v46 F47 A48 → J G l d mX9_round 53 [.ref o, jD, vI a2, vI a3, vI v45, vI v46] [] N F47 A48 (jmI N Q) := by
          intro nI50
          induction nI50 with
          | zero =>
            intro v45 v46 F47 A48 hmu
            exact absurd hmu (Nat.not_lt_zero _)
          | succ nI50 ihI50 =>
            intro v45 v46 F47 A48 hmuI50 hW49 rv45 rv46 hI
            have h := hs v45 v46 F47 A48 hI
            refine j_iload dX9_round_53 rfl ?_
            refine j_iconst dX9_round_55 ?_
            obtain ⟨K53, hK55, h⟩ := h
            have jn54 : K53  → J G l d mX9_round 121 [.ref o, jD, jD, vI a3, vI v45, vI v46] [] N F47 A48 (jmI N Q) := by
              intro   h
              have h := hK55  h
              refine j_iload_n dX9_round_121 rfl ?_
              obtain ⟨h1, h2⟩ := h
              refine j_if_ne 130 dX9_round_122 rfl ra3 (fun q56 => ?_) (fun q56 => ?_)
              · have h := h1 q56
                clear h1 h2
                refine j_iload_n dX9_round_130 rfl ?_
                refine j_iconst dX9_round_131 ?_
                have jn60 : ∀ z59 : Int, z59 = (if ¬ a3 = 1 then (if ¬ v46 = (-1) then v45 - v46 else 0) else v46) → J G l d mX9_round 155 [.ref o, jD, jD, vI a3, vI v45, vI v46] [vI z59] N F47 A48 (jmI N Q) := by
                  intro z59 ez59
                  have h := h z59 ez59
                  obtain ⟨r61, h⟩ := h
                  exact j_iret dX9_round_155 rfl ⟨_, rfl, rfl, hW49, h, r61⟩
                clear h
                refine j_icmp_ne 140 dX9_round_132 rfl ra3 (by decide) (fun q57 => ?_) (fun q57 => ?_)
                · refine j_iload dX9_round_140 rfl ?_
                  refine j_iconst dX9_round_142 ?_
                  refine j_icmp_ne 150 dX9_round_143 rfl rv46 (by decide) (fun q58 => ?_) (fun q58 => ?_)
                  · refine j_iload dX9_round_150 rfl ?_
                    refine j_iload dX9_round_152 rfl ?_
                    refine j_isub dX9_round_154 ?_
                    exact jn60 _ (((if_pos q57).trans (if_pos q58)).symm)
                  · refine j_iconst dX9_round_146 ?_
                    refine j_goto 155 dX9_round_147 rfl ?_
                    exact jn60 _ (((if_pos q57).trans (if_neg q58)).symm)
                · refine j_iload dX9_round_135 rfl ?_
                  refine j_goto 155 dX9_round_137 rfl ?_
                  exact jn60 _ ((if_neg q57).symm)
              · have h := h2 q56
                clear h1 h2
                refine j_iload dX9_round_125 rfl ?_
                refine j_goto 155 dX9_round_127 rfl ?_
                exact j_iret dX9_round_155 rfl ⟨_, rfl, rfl, hW49, h, rv45⟩
            obtain ⟨h1, h2⟩ := h
            refine j_icmp_ne 121 dX9_round_56 rfl rv46 (by decide) (fun q52 => ?_) (fun q52 => ?_)
            · have h := h1 q52
              clear h1 h2
              exact J.wk (((((((jWk.nil).eq).eq).eq).no).no).eq) (jn54   h)
            · have h := h2 q52
              clear h1 h2
              refine j_aload_n dX9_round_59 rfl ?_
              refine j_getI dX9_round_60 flX9_197_10 hM.1 rfl ?_
              refine j_iconst dX9_round_63 ?_
              obtain ⟨h1, h2⟩ := h
              refine j_icmp_eq 121 dX9_round_64 rfl (hW49.fi rfl) (by decide) (fun q62 => ?_) (fun q62 => ?_)
              · have h := h1 q62
                clear h1 h2
                exact J.wk (((((((jWk.nil).eq).eq).eq).no).no).eq) (jn54   h)
              · have h := h2 q62
                clear h1 h2
                refine j_iload dX9_round_67 rfl ?_
                refine j_sipush dX9_round_69 ?_
                obtain ⟨h1, h2⟩ := h
                refine j_icmp_ge 121 dX9_round_72 rfl rv45 (by decide) (fun q63 => ?_) (fun q63 => ?_)
                · have h := h1 q63
                  clear h1 h2
                  exact J.wk (((((((jWk.nil).eq).eq).eq).no).no).eq) (jn54   h)
                · have h := h2 q63
                  clear h1 h2
                  refine j_aload_n dX9_round_75 rfl ?_
                  refine j_iload_n dX9_round_76 rfl ?_
                  obtain ⟨P64, hp65, h⟩ := h
                  refine j_invV (As := [vI a2]) (rest := []) dX9_round_77 lkX9_435 hM.1 rfl rfl (wX9_utters (d := 3) (Nat.le_of_ble_eq_true rfl) hM hW49 ra2 hp65) rfl rfl (Nat.le_of_ble_eq_true rfl) (Nat.le_trans (Nat.le_of_ble_eq_true rfl) hd) (jkmV fun F67 A68 hW69 p70 => ?_)
                  have h := h F67 A68 p70
                  obtain ⟨r72, h⟩ := h
                  refine j_iinc dX9_round_80 rfl rfl ?_
                  refine j_aload_n dX9_round_83 rfl ?_
                  refine j_getI dX9_round_84 flX9_197_10 hM.1 rfl ?_
                  refine j_iconst dX9_round_87 ?_
                  obtain ⟨h1, h2⟩ := h
                  refine j_icmp_ne 94 dX9_round_88 rfl (hW69.fi rfl) (by decide) (fun q73 => ?_) (fun q73 => ?_)
                  · have h := h1 q73
                    clear h1 h2
                    refine j_aload_n dX9_round_94 rfl ?_
                    refine j_iload dX9_round_95 rfl ?_
                    obtain ⟨P74, hp75, h⟩ := h
                    refine j_invV (As := [vI (v45 + 1)]) (rest := []) dX9_round_97 lkX9_494 hM.1 rfl rfl (wX9_recalled (d := 2) (Nat.le_of_ble_eq_true rfl) hM hW69 r72 hp75) rfl rfl (Nat.le_of_ble_eq_true rfl) (Nat.le_trans (Nat.le_of_ble_eq_true rfl) hd) (jkpI fun z76 p77 r78 => ?_)
                    have h := h z76 p77
                    refine j_istore dX9_round_100 rfl ?_
                    refine j_iload dX9_round_102 rfl ?_
                    refine j_iconst dX9_round_104 ?_
                    obtain ⟨h1, h2⟩ := h
                    refine j_icmp_ne 114 dX9_round_105 rfl r78 (by decide) (fun q79 => ?_) (fun q79 => ?_)
                    · have h := h1 q79
                      clear h1 h2
                      refine j_aload_n dX9_round_114 rfl ?_
                      obtain ⟨P80, hp81, h⟩ := h
                      refine j_invV (As := []) (rest := []) dX9_round_115 lkX9_503 hM.1 rfl rfl (wX9_tellsBack (d := 1) (Nat.le_of_ble_eq_true rfl) hM hW69  hp81) rfl rfl (Nat.le_of_ble_eq_true rfl) (Nat.le_trans (Nat.le_of_ble_eq_true rfl) hd) (jkmV fun F83 A84 hW85 p86 => ?_)
                      have h := h F83 A84 p86
                      refine j_goto 53 dX9_round_118 rfl ?_
                      exact J.wk (((((((jWk.nil).eq).eq).eq).eq).no).eq) (ihI50 _ _ _ _ (Nat.lt_of_lt_of_le h.2 (Nat.le_of_lt_succ hmuI50)) hW85 r72 r78 h.1)
                    · have h := h2 q79
                      clear h1 h2
                      refine j_aload_n dX9_round_108 rfl ?_
                      refine j_iload dX9_round_109 rfl ?_
                      obtain ⟨P88, hp89, h⟩ := h
                      refine j_invV (As := [vI (v45 + 1)]) (rest := []) dX9_round_111 lkX9_497 hM.1 rfl rfl (wX9_remembers (d := 1) (Nat.le_of_ble_eq_true rfl) hM hW69 r72 hp89) rfl rfl (Nat.le_of_ble_eq_true rfl) (Nat.le_trans (Nat.le_of_ble_eq_true rfl) hd) (jkmV fun F91 A92 hW93 p94 => ?_)
                      have h := h F91 A92 p94
                      refine j_aload_n dX9_round_114 rfl ?_
                      obtain ⟨P96, hp97, h⟩ := h
                      refine j_invV (As := []) (rest := []) dX9_round_115 lkX9_503 hM.1 rfl rfl (wX9_tellsBack (d := 1) (Nat.le_of_ble_eq_true rfl) hM hW93  hp97) rfl rfl (Nat.le_of_ble_eq_true rfl) (Nat.le_trans (Nat.le_of_ble_eq_true rfl) hd) (jkmV fun F99 A100 hW101 p102 => ?_)
                      have h := h F99 A100 p102
                      refine j_goto 53 dX9_round_118 rfl ?_
                      exact J.wk (((((((jWk.nil).eq).eq).eq).eq).no).eq) (ihI50 _ _ _ _ (Nat.lt_of_lt_of_le h.2 (Nat.le_of_lt_succ hmuI50)) hW101 r72 r78 h.1)
                  · have h := h2 q73
                    clear h1 h2
                    refine j_goto 53 dX9_round_91 rfl ?_
                    exact J.wk (((((((jWk.nil).eq).eq).eq).eq).no).eq) (ihI50 _ _ _ _ (Nat.lt_of_lt_of_le h.2 (Nat.le_of_lt_succ hmuI50)) hW69 r72 rv46 h.1)
        exact J.wk (((((((jWk.nil).eq).eq).eq).eq).no).eq) (lp _ _ _ _ _ (Nat.lt_succ_self _) hW44 (by decide) (by decide) h0)
      · have h := h2 q18
        clear h1 h2
        refine j_iconst dX9_round_25 ?_
        exact j_iret dX9_round_26 rfl ⟨_, rfl, rfl, hW, h, (by decide)⟩
/-- says(III)I -/
def wpX9_says (o : Nat) (a1 : Int) (a2 : Int) (a3 : Int) (F : jFl) (A : jAr) (Q : Int → jFl → jAr → Prop) : Prop :=
  ∃ P1 : Int → Prop, wpX9_isChild o a1 F A P1 ∧ ∀ z3, P1 z3 →
  ((z3 = 0) →
    Q (-1) F A) ∧
  (¬ (z3 = 0) →
    ∃ P7 : Int → Prop, wpX9_isStanding o a2 F A P7 ∧ ∀ z9, P7 z9 →
    ((¬ z9 = 0) →
      ∃ P13 : jFl → jAr → Prop, wpX9_loads o 0 a2 F A P13 ∧ ∀ F16 A17, P13 F16 A17 →
      ∃ P21 : jFl → jAr → Prop, wpX9_utters o a1 F16 A17 P21 ∧ ∀ F24 A25, P21 F24 A25 →
      ((¬ a3 = (-1)) →
        ((¬ a3 = 20) →
          jR (((F24 3177 o) + (F24 3180 o)) - 1) ∧
          ∃ P32 : Int → Prop, wpX9_is o a3 0 (((F24 3177 o) + (F24 3180 o)) - 1) F24 A25 P32 ∧ ∀ z34, P32 z34 →
          ((z34 = 0) →
            Q (-1) F24 A25) ∧
          (¬ (z34 = 0) →
            (0 ≤ a3 ∧ a3 < 12) ∧
            Q (A25 (o + 37) a3) F24 A25)) ∧
        (¬ (¬ a3 = 20) →
          jR ((F24 3177 o) + (F24 3180 o)) ∧
          Q ((F24 3177 o) + (F24 3180 o)) F24 A25)) ∧
      (¬ (¬ a3 = (-1)) →
        Q (F24 3183 o) F24 A25)) ∧
    (¬ (¬ z9 = 0) →
      Q (-1) F A))
theorem wX9_says {G : jG} {l : Launch} {d : Nat} {N : jSh} {o : Nat} {F : jFl} {A : jAr} {a1 a2 a3 : Int} {Q : Int → jFl → jAr → Prop} (hd : 4 ≤ d) (hM : mShape G N o) (hW : jWf N F A) (ra1 : jR a1) (ra2 : jR a2) (ra3 : jR a3) (h : wpX9_says o a1 a2 a3 F A Q) : jCall G l d mX9_says [.ref o, vI a1, vI a2, vI a3] N F A (jmI N Q) := by
  refine jCall.of (ls := [.ref o, vI a1, vI a2, vI a3]) (by decide) rfl (Nat.le_of_ble_eq_true rfl) rfl ?_
  unfold wpX9_says at h
  refine j_aload_n dX9_says_0 rfl ?_
  refine j_iload_n dX9_says_1 rfl ?_
  obtain ⟨P1, hp2, h⟩ := h
  refine j_invV (As := [vI a1]) (rest := []) dX9_says_2 lkX9_420 hM.1 rfl rfl (wX9_isChild (d := 1) (Nat.le_of_ble_eq_true rfl) hM hW ra1 hp2) rfl rfl (Nat.le_of_ble_eq_true rfl) (Nat.le_trans (Nat.le_of_ble_eq_true rfl) hd) (jkpB fun z3 p4 r5 => ?_)
  have h := h z3 p4
  obtain ⟨h1, h2⟩ := h
  refine j_if_eq 16 dX9_says_5 rfl (jR_b r5) (fun q6 => ?_) (fun q6 => ?_)
  · have h := h1 q6
    clear h1 h2
    refine j_iconst dX9_says_16 ?_
    exact j_iret dX9_says_17 rfl ⟨_, rfl, rfl, hW, h, (by decide)⟩
  · have h := h2 q6
    clear h1 h2
    refine j_aload_n dX9_says_8 rfl ?_
    refine j_iload_n dX9_says_9 rfl ?_
    obtain ⟨P7, hp8, h⟩ := h
    refine j_invV (As := [vI a2]) (rest := []) dX9_says_10 lkX9_429 hM.1 rfl rfl (wX9_isStanding (d := 2) (Nat.le_of_ble_eq_true rfl) hM hW ra2 hp8) rfl rfl (Nat.le_of_ble_eq_true rfl) (Nat.le_trans (Nat.le_of_ble_eq_true rfl) hd) (jkpB fun z9 p10 r11 => ?_)
    have h := h z9 p10
    obtain ⟨h1, h2⟩ := h
    refine j_if_ne 18 dX9_says_13 rfl (jR_b r11) (fun q12 => ?_) (fun q12 => ?_)
    · have h := h1 q12
      clear h1 h2
      refine j_aload_n dX9_says_18 rfl ?_
      refine j_iconst dX9_says_19 ?_
      refine j_iload_n dX9_says_20 rfl ?_
      obtain ⟨P13, hp14, h⟩ := h
      refine j_invV (As := [vI 0, vI a2]) (rest := []) dX9_says_21 lkX9_432 hM.1 rfl rfl (wX9_loads (d := 1) (Nat.le_of_ble_eq_true rfl) hM hW (by decide) ra2 hp14) rfl rfl (Nat.le_of_ble_eq_true rfl) (Nat.le_trans (Nat.le_of_ble_eq_true rfl) hd) (jkmV fun F16 A17 hW18 p19 => ?_)
      have h := h F16 A17 p19
      refine j_aload_n dX9_says_24 rfl ?_
      refine j_iload_n dX9_says_25 rfl ?_
      obtain ⟨P21, hp22, h⟩ := h
      refine j_invV (As := [vI a1]) (rest := []) dX9_says_26 lkX9_435 hM.1 rfl rfl (wX9_utters (d := 3) (Nat.le_of_ble_eq_true rfl) hM hW18 ra1 hp22) rfl rfl (Nat.le_of_ble_eq_true rfl) (Nat.le_trans (Nat.le_of_ble_eq_true rfl) hd) (jkmV fun F24 A25 hW26 p27 => ?_)
      have h := h F24 A25 p27
      refine j_iload_n dX9_says_29 rfl ?_
      refine j_iconst dX9_says_30 ?_
      obtain ⟨h1, h2⟩ := h
      refine j_icmp_ne 41 dX9_says_31 rfl ra3 (by decide) (fun q29 => ?_) (fun q29 => ?_)
      · have h := h1 q29
        clear h1 h2
        refine j_iload_n dX9_says_41 rfl ?_
        refine j_bipush dX9_says_42 ?_
        obtain ⟨h1, h2⟩ := h
        refine j_icmp_ne 59 dX9_says_44 rfl ra3 (by decide) (fun q30 => ?_) (fun q30 => ?_)
        · have h := h1 q30
          clear h1 h2
          refine j_iload_n dX9_says_59 rfl ?_
          refine j_iconst dX9_says_60 ?_
          refine j_aload_n dX9_says_61 rfl ?_
          refine j_getI dX9_says_62 flX9_191_10 hM.1 rfl ?_
          refine j_aload_n dX9_says_65 rfl ?_
          refine j_getI dX9_says_66 flX9_194_10 hM.1 rfl ?_
          refine j_iadd dX9_says_69 ?_
          refine j_iconst dX9_says_70 ?_
          refine j_isub dX9_says_71 ?_
          obtain ⟨r31, h⟩ := h
          obtain ⟨P32, hp33, h⟩ := h
          refine j_invS (As := [vI a3, vI 0, vI (((F24 3177 o) + (F24 3180 o)) - 1)]) (rest := []) dX9_says_72 lkX9_324 (wX9_is (d := 1) (Nat.le_of_ble_eq_true rfl) hM hW26 ra3 (by decide) r31 hp33) rfl rfl (Nat.le_of_ble_eq_true rfl) (Nat.le_trans (Nat.le_of_ble_eq_true rfl) hd) (jkpB fun z34 p35 r36 => ?_)
          have h := h z34 p35
          obtain ⟨h1, h2⟩ := h
          refine j_if_eq 87 dX9_says_75 rfl (jR_b r36) (fun q37 => ?_) (fun q37 => ?_)
          · have h := h1 q37
            clear h1 h2
            refine j_iconst dX9_says_87 ?_
            exact j_iret dX9_says_88 rfl ⟨_, rfl, rfl, hW26, h, (by decide)⟩
          · have h := h2 q37
            clear h1 h2
            refine j_aload_n dX9_says_78 rfl ?_
            refine j_getFR dX9_says_79 flX9_188_10 hM.1 rfl (mf_said hM) ?_
            refine j_iload_n dX9_says_82 rfl ?_
            obtain ⟨c38, h⟩ := h
            refine j_iald (n := 12) dX9_says_83 (mt_said hM) (ml_said hM) c38 ?_
            refine j_goto 88 dX9_says_84 rfl ?_
            exact j_iret dX9_says_88 rfl ⟨_, rfl, rfl, hW26, h, (hW26.ai (mt_said hM) rfl)⟩
        · have h := h2 q30
          clear h1 h2
          refine j_aload_n dX9_says_47 rfl ?_
          refine j_getI dX9_says_48 flX9_191_10 hM.1 rfl ?_
          refine j_aload_n dX9_says_51 rfl ?_
          refine j_getI dX9_says_52 flX9_194_10 hM.1 rfl ?_
          refine j_iadd dX9_says_55 ?_
          refine j_goto 88 dX9_says_56 rfl ?_
          obtain ⟨r39, h⟩ := h
          exact j_iret dX9_says_88 rfl ⟨_, rfl, rfl, hW26, h, r39⟩
      · have h := h2 q29
        clear h1 h2
        refine j_aload_n dX9_says_34 rfl ?_
        refine j_getI dX9_says_35 flX9_197_10 hM.1 rfl ?_
        refine j_goto 88 dX9_says_38 rfl ?_
        exact j_iret dX9_says_88 rfl ⟨_, rfl, rfl, hW26, h, (hW26.fi rfl)⟩
    · have h := h2 q12
      clear h1 h2
      refine j_iconst dX9_says_16 ?_
      exact j_iret dX9_says_17 rfl ⟨_, rfl, rfl, hW, h, (by decide)⟩
/-- sets()V -/
def wpX9_sets (o : Nat) (F : jFl) (A : jAr) (Q : jFl → jAr → Prop) : Prop :=
  ∃ P1 : Int → Prop, wpX9_isWord o 1751474532 F A P1 ∧ ∀ z3, P1 z3 →
  ∃ P6 : Int → Prop, wpX9_isWord o 1835363940 F A P6 ∧ ∀ z8, P6 z8 →
  ∃ K15 : jFl → jAr → Prop, (
    ∀ (F12 : jFl) (A13 : jAr), K15 F12 A13 →
    ∃ P18 : Int → jFl → jAr → Prop, wpX9_counts o 0 F12 A13 P18 ∧ ∀ z20 F21 A22, P18 z20 F21 A22 →
    ((¬ z20 = 0) →
      ∃ K32 : Int → jFl → jAr → Prop, (
        ∀ (v28 : Int) (F29 : jFl) (A30 : jAr), K32 v28 F29 A30 →
        (((F29 3024 o) ≤ 0) →
          ((z3 = 0) →
            ((z8 = 0) →
              (0 ≤ F29 3114 o ∧ F29 3114 o < 2) ∧
              ∀ A39 : jAr, A39 = upA A30 (o + 25) (F29 3114 o) v28 →
              Q F29 A39) ∧
            (¬ (z8 = 0) →
              (0 ≤ F29 3114 o ∧ F29 3114 o < 2) ∧
              ∀ A42 : jAr, A42 = upA A30 (o + 24) (F29 3114 o) v28 →
              Q F29 A42)) ∧
          (¬ (z3 = 0) →
            (0 ≤ F29 3114 o ∧ F29 3114 o < 2) ∧
            ∀ A45 : jAr, A45 = upA A30 (o + 23) (F29 3114 o) v28 →
            Q F29 A45)) ∧
        (¬ ((F29 3024 o) ≤ 0) →
          Q F29 A30)) ∧
      ((z3 = 0) →
        ((z8 = 0) →
          ∃ P48 : Int → jFl → jAr → Prop, wpX9_number o 0 20 F21 A22 P48 ∧ ∀ z50 F51 A52, P48 z50 F51 A52 →
          K32 z50 F51 A52) ∧
        (¬ (z8 = 0) →
          ∃ P56 : Int → jFl → jAr → Prop, wpX9_number o 1 4 F21 A22 P56 ∧ ∀ z58 F59 A60, P56 z58 F59 A60 →
          K32 z58 F59 A60)) ∧
      (¬ (z3 = 0) →
        ∃ P64 : Int → jFl → jAr → Prop, wpX9_number o 1 12 F21 A22 P64 ∧ ∀ z66 F67 A68, P64 z66 F67 A68 →
        K32 z66 F67 A68)) ∧
    (¬ (¬ z20 = 0) →
      Q F21 A22)) ∧
  ((¬ z3 = 0) →
    K15 F A) ∧
  (¬ (¬ z3 = 0) →
    ((¬ z8 = 0) →
      K15 F A) ∧
    (¬ (¬ z8 = 0) →
      ∃ P73 : Int → Prop, wpX9_isWord o 1953853029 F A P73 ∧ ∀ z75, P73 z75 →
      ((¬ z75 = 0) →
        K15 F A) ∧
      (¬ (¬ z75 = 0) →
        ∃ P79 : jFl → jAr → Prop, wpX9_blame o 1 (F 3012 o) F A P79 ∧ ∀ F82 A83, P79 F82 A83 →
        K15 F82 A83)))
theorem wX9_sets {G : jG} {l : Launch} {d : Nat} {N : jSh} {o : Nat} {F : jFl} {A : jAr} {Q : jFl → jAr → Prop} (hd : 4 ≤ d) (hM : mShape G N o) (hW : jWf N F A) (h : wpX9_sets o F A Q) : jCall G l d mX9_sets [.ref o] N F A (jmV N Q) := by
  refine jCall.of (ls := [.ref o, jD, jD, jD]) (by decide) rfl (Nat.le_of_ble_eq_true rfl) rfl ?_
  unfold wpX9_sets at h
  refine j_aload_n dX9_sets_0 rfl ?_
  refine j_ldc2 (n := 1751474532) dX9_sets_1 q2251 ?_
  obtain ⟨P1, hp2, h⟩ := h
  refine j_invV (As := [vL 1751474532]) (rest := []) dX9_sets_4 lkX9_328 hM.1 rfl rfl (wX9_isWord (d := 1) (Nat.le_of_ble_eq_true rfl) hM hW (by decide) hp2) rfl rfl (Nat.le_of_ble_eq_true rfl) (Nat.le_trans (Nat.le_of_ble_eq_true rfl) hd) (jkpB fun z3 p4 r5 => ?_)
  have h := h z3 p4
  refine j_istore_n dX9_sets_7 rfl ?_
  refine j_aload_n dX9_sets_8 rfl ?_
  refine j_ldc2 (n := 1835363940) dX9_sets_9 q2252 ?_
  obtain ⟨P6, hp7, h⟩ := h
  refine j_invV (As := [vL 1835363940]) (rest := []) dX9_sets_12 lkX9_328 hM.1 rfl rfl (wX9_isWord (d := 1) (Nat.le_of_ble_eq_true rfl) hM hW (by decide) hp7) rfl rfl (Nat.le_of_ble_eq_true rfl) (Nat.le_trans (Nat.le_of_ble_eq_true rfl) hd) (jkpB fun z8 p9 r10 => ?_)
  have h := h z8 p9
  refine j_istore_n dX9_sets_15 rfl ?_
  refine j_iload_n dX9_sets_16 rfl ?_
  obtain ⟨K15, hK17, h⟩ := h
  have jn16 : ∀ (F12 : jFl) (A13 : jAr), jWf N F12 A13 → K15 F12 A13 → J G l d mX9_sets 43 [.ref o, vI z3, vI z8, jD] [] N F12 A13 (jmV N Q) := by
    intro F12 A13 hW14  h
    have h := hK17 F12 A13 h
    refine j_aload_n dX9_sets_43 rfl ?_
    refine j_iconst dX9_sets_44 ?_
    obtain ⟨P18, hp19, h⟩ := h
    refine j_invV (As := [vI 0]) (rest := []) dX9_sets_45 lkX9_342 hM.1 rfl rfl (wX9_counts (d := 3) (Nat.le_of_ble_eq_true rfl) hM hW14 (by decide) hp19) rfl rfl (Nat.le_of_ble_eq_true rfl) (Nat.le_trans (Nat.le_of_ble_eq_true rfl) hd) (jkmB fun z20 F21 A22 hW23 p24 r25 => ?_)
    have h := h z20 F21 A22 p24
    obtain ⟨h1, h2⟩ := h
    refine j_if_ne 52 dX9_sets_48 rfl (jR_b r25) (fun q26 => ?_) (fun q26 => ?_)
    · have h := h1 q26
      clear h1 h2
      refine j_iload_n dX9_sets_52 rfl ?_
      obtain ⟨K32, hK34, h⟩ := h
      have jn33 : ∀ (v28 : Int) (F29 : jFl) (A30 : jAr), jWf N F29 A30 → jR v28 → K32 v28 F29 A30 → J G l d mX9_sets 86 [.ref o, vI z3, vI z8, jD] [vI v28] N F29 A30 (jmV N Q) := by
        intro v28 F29 A30 hW31 rv28 h
        have h := hK34 v28 F29 A30 h
        refine j_istore_n dX9_sets_86 rfl ?_
        refine j_aload_n dX9_sets_87 rfl ?_
        refine j_getI dX9_sets_88 flX9_36_10 hM.1 rfl ?_
        obtain ⟨h1, h2⟩ := h
        refine j_if_le 95 dX9_sets_91 rfl (hW31.fi rfl) (fun q35 => ?_) (fun q35 => ?_)
        · have h := h1 q35
          clear h1 h2
          refine j_iload_n dX9_sets_95 rfl ?_
          obtain ⟨h1, h2⟩ := h
          refine j_if_eq 112 dX9_sets_96 rfl (jR_b r5) (fun q36 => ?_) (fun q36 => ?_)
          · have h := h1 q36
            clear h1 h2
            refine j_iload_n dX9_sets_112 rfl ?_
            obtain ⟨h1, h2⟩ := h
            refine j_if_eq 129 dX9_sets_113 rfl (jR_b r10) (fun q37 => ?_) (fun q37 => ?_)
            · have h := h1 q37
              clear h1 h2
              refine j_aload_n dX9_sets_129 rfl ?_
              refine j_getFR dX9_sets_130 flX9_124_10 hM.1 rfl (mf_tune hM) ?_
              refine j_aload_n dX9_sets_133 rfl ?_
              refine j_getI dX9_sets_134 flX9_127_10 hM.1 rfl ?_
              refine j_iload_n dX9_sets_137 rfl ?_
              obtain ⟨c38, h⟩ := h
              refine j_iast (n := 2) dX9_sets_138 (mt_tune hM) (Nat.le_trans hM.2.1 (Nat.le_add_right _ _)) (ml_tune hM) c38 ?_
              obtain ⟨A39, eA39⟩ : ∃ x : jAr, x = upA A30 (o + 25) (F29 3114 o) v28 := ⟨_, rfl⟩
              have hW40 : jWf N F29 A39 := eA39 ▸ jWf_A (i := F29 3114 o) (z := v28) hW31 (mt_tune hM) (jRk_0 rfl rv28)
              refine jnmA (e := eA39) ?_
              have h := h A39 eA39
              exact j_vret dX9_sets_139 rfl ⟨rfl, rfl, hW40, h⟩
            · have h := h2 q37
              clear h1 h2
              refine j_aload_n dX9_sets_116 rfl ?_
              refine j_getFR dX9_sets_117 flX9_121_10 hM.1 rfl (mf_mend hM) ?_
              refine j_aload_n dX9_sets_120 rfl ?_
              refine j_getI dX9_sets_121 flX9_127_10 hM.1 rfl ?_
              refine j_iload_n dX9_sets_124 rfl ?_
              obtain ⟨c41, h⟩ := h
              refine j_iast (n := 2) dX9_sets_125 (mt_mend hM) (Nat.le_trans hM.2.1 (Nat.le_add_right _ _)) (ml_mend hM) c41 ?_
              obtain ⟨A42, eA42⟩ : ∃ x : jAr, x = upA A30 (o + 24) (F29 3114 o) v28 := ⟨_, rfl⟩
              have hW43 : jWf N F29 A42 := eA42 ▸ jWf_A (i := F29 3114 o) (z := v28) hW31 (mt_mend hM) (jRk_0 rfl rv28)
              refine jnmA (e := eA42) ?_
              have h := h A42 eA42
              refine j_goto 139 dX9_sets_126 rfl ?_
              exact j_vret dX9_sets_139 rfl ⟨rfl, rfl, hW43, h⟩
          · have h := h2 q36
            clear h1 h2
            refine j_aload_n dX9_sets_99 rfl ?_
            refine j_getFR dX9_sets_100 flX9_118_10 hM.1 rfl (mf_head hM) ?_
            refine j_aload_n dX9_sets_103 rfl ?_
            refine j_getI dX9_sets_104 flX9_127_10 hM.1 rfl ?_
            refine j_iload_n dX9_sets_107 rfl ?_
            obtain ⟨c44, h⟩ := h
            refine j_iast (n := 2) dX9_sets_108 (mt_head hM) (Nat.le_trans hM.2.1 (Nat.le_add_right _ _)) (ml_head hM) c44 ?_
            obtain ⟨A45, eA45⟩ : ∃ x : jAr, x = upA A30 (o + 23) (F29 3114 o) v28 := ⟨_, rfl⟩
            have hW46 : jWf N F29 A45 := eA45 ▸ jWf_A (i := F29 3114 o) (z := v28) hW31 (mt_head hM) (jRk_0 rfl rv28)
            refine jnmA (e := eA45) ?_
            have h := h A45 eA45
            refine j_goto 139 dX9_sets_109 rfl ?_
            exact j_vret dX9_sets_139 rfl ⟨rfl, rfl, hW46, h⟩
        · have h := h2 q35
          clear h1 h2
          exact j_vret dX9_sets_94 rfl ⟨rfl, rfl, hW31, h⟩
      obtain ⟨h1, h2⟩ := h
      refine j_if_eq 66 dX9_sets_53 rfl (jR_b r5) (fun q27 => ?_) (fun q27 => ?_)
      · have h := h1 q27
        clear h1 h2
        refine j_iload_n dX9_sets_66 rfl ?_
        obtain ⟨h1, h2⟩ := h
        refine j_if_eq 79 dX9_sets_67 rfl (jR_b r10) (fun q47 => ?_) (fun q47 => ?_)
        · have h := h1 q47
          clear h1 h2
          refine j_aload_n dX9_sets_79 rfl ?_
          refine j_iconst dX9_sets_80 ?_
          refine j_bipush dX9_sets_81 ?_
          obtain ⟨P48, hp49, h⟩ := h
          refine j_invV (As := [vI 0, vI 20]) (rest := []) dX9_sets_83 lkX9_354 hM.1 rfl rfl (wX9_number (d := 3) (Nat.le_of_ble_eq_true rfl) hM hW23 (by decide) (by decide) hp49) rfl rfl (Nat.le_of_ble_eq_true rfl) (Nat.le_trans (Nat.le_of_ble_eq_true rfl) hd) (jkmI fun z50 F51 A52 hW53 p54 r55 => ?_)
          have h := h z50 F51 A52 p54
          exact J.wk (((((jWk.nil).no).eq).eq).eq) (jn33 _ _ _ hW53 r55 h)
        · have h := h2 q47
          clear h1 h2
          refine j_aload_n dX9_sets_70 rfl ?_
          refine j_iconst dX9_sets_71 ?_
          refine j_iconst dX9_sets_72 ?_
          obtain ⟨P56, hp57, h⟩ := h
          refine j_invV (As := [vI 1, vI 4]) (rest := []) dX9_sets_73 lkX9_354 hM.1 rfl rfl (wX9_number (d := 3) (Nat.le_of_ble_eq_true rfl) hM hW23 (by decide) (by decide) hp57) rfl rfl (Nat.le_of_ble_eq_true rfl) (Nat.le_trans (Nat.le_of_ble_eq_true rfl) hd) (jkmI fun z58 F59 A60 hW61 p62 r63 => ?_)
          have h := h z58 F59 A60 p62
          refine j_goto 86 dX9_sets_76 rfl ?_
          exact J.wk (((((jWk.nil).no).eq).eq).eq) (jn33 _ _ _ hW61 r63 h)
      · have h := h2 q27
        clear h1 h2
        refine j_aload_n dX9_sets_56 rfl ?_
        refine j_iconst dX9_sets_57 ?_
        refine j_bipush dX9_sets_58 ?_
        obtain ⟨P64, hp65, h⟩ := h
        refine j_invV (As := [vI 1, vI 12]) (rest := []) dX9_sets_60 lkX9_354 hM.1 rfl rfl (wX9_number (d := 3) (Nat.le_of_ble_eq_true rfl) hM hW23 (by decide) (by decide) hp65) rfl rfl (Nat.le_of_ble_eq_true rfl) (Nat.le_trans (Nat.le_of_ble_eq_true rfl) hd) (jkmI fun z66 F67 A68 hW69 p70 r71 => ?_)
        have h := h z66 F67 A68 p70
        refine j_goto 86 dX9_sets_63 rfl ?_
        exact J.wk (((((jWk.nil).no).eq).eq).eq) (jn33 _ _ _ hW69 r71 h)
    · have h := h2 q26
      clear h1 h2
      exact j_vret dX9_sets_51 rfl ⟨rfl, rfl, hW23, h⟩
  obtain ⟨h1, h2⟩ := h
  refine j_if_ne 43 dX9_sets_17 rfl (jR_b r5) (fun q11 => ?_) (fun q11 => ?_)
  · have h := h1 q11
    clear h1 h2
    exact J.wk (((((jWk.nil).no).eq).eq).eq) (jn16 _ _ hW  h)
  · have h := h2 q11
    clear h1 h2
    refine j_iload_n dX9_sets_20 rfl ?_
    obtain ⟨h1, h2⟩ := h
    refine j_if_ne 43 dX9_sets_21 rfl (jR_b r10) (fun q72 => ?_) (fun q72 => ?_)
    · have h := h1 q72
      clear h1 h2
      exact J.wk (((((jWk.nil).no).eq).eq).eq) (jn16 _ _ hW  h)
    · have h := h2 q72
      clear h1 h2
      refine j_aload_n dX9_sets_24 rfl ?_
      refine j_ldc2 (n := 1953853029) dX9_sets_25 q2253 ?_
      obtain ⟨P73, hp74, h⟩ := h
      refine j_invV (As := [vL 1953853029]) (rest := []) dX9_sets_28 lkX9_328 hM.1 rfl rfl (wX9_isWord (d := 1) (Nat.le_of_ble_eq_true rfl) hM hW (by decide) hp74) rfl rfl (Nat.le_of_ble_eq_true rfl) (Nat.le_trans (Nat.le_of_ble_eq_true rfl) hd) (jkpB fun z75 p76 r77 => ?_)
      have h := h z75 p76
      obtain ⟨h1, h2⟩ := h
      refine j_if_ne 43 dX9_sets_31 rfl (jR_b r77) (fun q78 => ?_) (fun q78 => ?_)
      · have h := h1 q78
        clear h1 h2
        exact J.wk (((((jWk.nil).no).eq).eq).eq) (jn16 _ _ hW  h)
      · have h := h2 q78
        clear h1 h2
        refine j_aload_n dX9_sets_34 rfl ?_
        refine j_iconst dX9_sets_35 ?_
        refine j_aload_n dX9_sets_36 rfl ?_
        refine j_getI dX9_sets_37 flX9_23_10 hM.1 rfl ?_
        obtain ⟨P79, hp80, h⟩ := h
        refine j_invV (As := [vI 1, vI (F 3012 o)]) (rest := []) dX9_sets_40 lkX9_262 hM.1 rfl rfl (wX9_blame (d := 1) (Nat.le_of_ble_eq_true rfl) hM hW (by decide) (hW.fi rfl) hp80) rfl rfl (Nat.le_of_ble_eq_true rfl) (Nat.le_trans (Nat.le_of_ble_eq_true rfl) hd) (jkmV fun F82 A83 hW84 p85 => ?_)
        have h := h F82 A83 p85
        exact J.wk (((((jWk.nil).no).eq).eq).eq) (jn16 _ _ hW84  h)
