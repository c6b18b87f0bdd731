set_option maxRecDepth 100000
set_option linter.unusedVariables false
/-! walks of ChildSaysModel: printed by gen/walk.py -/
/-- sittingOf(II)V -/
def wpX9_sittingOf (o : Nat) (a1 : Int) (a2 : Int) (F : jFl) (A : jAr) (Q : jFl → jAr → Prop) : Prop :=
  ∃ (I6 : Int → Int → jFl → jAr → Prop) (m7 : Int → Int → jFl → jAr → Nat), I6 0 0 F A ∧ ∀ (v1 : Int) (v2 : Int) (F3 : jFl) (A4 : jAr), I6 v1 v2 F3 A4 →
    (((F3 3192 o) ≤ v2) →
      Q F3 A4) ∧
    (¬ ((F3 3192 o) ≤ v2) →
      (0 ≤ v2 ∧ v2 < 12) ∧
      ∀ v10 : Int, v10 = A4 (o + 38) v2 →
      ∃ P11 : jFl → jAr → Prop, wpX9_loads o a1 v10 F3 A4 P11 ∧ ∀ F14 A15, P11 F14 A15 →
      (0 ≤ F14 3039 o ∧ F14 3039 o < 2) ∧
      ∃ K24 : jFl → jAr → Prop, (
        ∀ (F21 : jFl) (A22 : jAr), K24 F21 A22 →
        ∃ K29 : Int → Prop, (
          ∀ (v28 : Int), K29 v28 →
          ∃ K34 : Int → Prop, (
            ∀ (v33 : Int), K34 v33 →
            (0 ≤ v10 ∧ v10 < 12) ∧
            ∀ A38 : jAr, A38 = upA A22 (o + 39) v10 v33 →
            ∃ K42 : Int → Prop, (
              ∀ (v41 : Int), K42 v41 →
              (0 ≤ v10 ∧ v10 < 12) ∧
              ∀ A46 : jAr, A46 = upA A38 (o + 40) v10 v41 →
              ∃ K50 : Int → Prop, (
                ∀ (v49 : Int), K50 v49 →
                (0 ≤ v10 ∧ v10 < 12) ∧
                ∀ A54 : jAr, A54 = upA A46 (o + 41) v10 v49 →
                ∃ (I59 : Int → jAr → Prop) (m60 : Int → jAr → Nat), I59 0 A54 ∧ ∀ (v56 : Int) (A57 : jAr), I59 v56 A57 →
                  ((12 ≤ v56) →
                    ∀ z63 : Int, z63 = (if ¬ (F21 3183 o) = 3 then 1 else 0) →
                    jR (v1 + z63) ∧
                    ∀ v66 : Int, v66 = v1 + z63 →
                    jR (v2 + 1) ∧
                    I6 v66 (v2 + 1) F21 A57 ∧ m7 v66 (v2 + 1) F21 A57 < m7 v1 v2 F3 A4) ∧
                  (¬ (12 ≤ v56) →
                    ((v28 = (-1)) →
                      (0 ≤ v56 ∧ v56 < 12) ∧
                      (0 ≤ (12 * v10) + v56 ∧ (12 * v10) + v56 < 144) ∧
                      ∀ A71 : jAr, A71 = upA A57 (o + 42) ((12 * v10) + v56) (A57 (o + 37) v56) →
                      jR (v56 + 1) ∧
                      I59 (v56 + 1) A71 ∧ m60 (v56 + 1) A71 < m60 v56 A57) ∧
                    (¬ (v28 = (-1)) →
                      (0 ≤ (12 * v28) + v56 ∧ (12 * v28) + v56 < 144) ∧
                      (0 ≤ (12 * v10) + v56 ∧ (12 * v10) + v56 < 144) ∧
                      ∀ A76 : jAr, A76 = upA A57 (o + 42) ((12 * v10) + v56) (A57 (o + 42) ((12 * v28) + v56)) →
                      jR (v56 + 1) ∧
                      I59 (v56 + 1) A76 ∧ m60 (v56 + 1) A76 < m60 v56 A57))) ∧
              ((v28 = (-1)) →
                K50 (F21 3180 o)) ∧
              (¬ (v28 = (-1)) →
                (0 ≤ v28 ∧ v28 < 12) ∧
                K50 (A46 (o + 41) v28))) ∧
            ((v28 = (-1)) →
              K42 (F21 3177 o)) ∧
            (¬ (v28 = (-1)) →
              (0 ≤ v28 ∧ v28 < 12) ∧
              K42 (A38 (o + 40) v28))) ∧
          ((v28 = (-1)) →
            K34 (F21 3183 o)) ∧
          (¬ (v28 = (-1)) →
            K34 4)) ∧
        ((¬ (F21 3183 o) = 3) →
          ∃ P81 : Int → Prop, wpX9_runsInto o v2 F21 A22 P81 ∧ ∀ z83, P81 z83 →
          K29 z83) ∧
        (¬ (¬ (F21 3183 o) = 3) →
          K29 (-1))) ∧
      (((A15 (o + 23) (F14 3039 o)) ≤ v1) →
        ∀ F86 : jFl, F86 = upF F14 3183 o 3 →
        ∀ F88 : jFl, F88 = upF F86 3177 o 0 →
        ∀ F90 : jFl, F90 = upF F88 3180 o 0 →
        K24 F90 A15) ∧
      (¬ ((A15 (o + 23) (F14 3039 o)) ≤ v1) →
        ∃ P92 : jFl → jAr → Prop, wpX9_utters o a2 F14 A15 P92 ∧ ∀ F95 A96, P92 F95 A96 →
        K24 F95 A96))
theorem wX9_sittingOf {G : jG} {l : Launch} {d : Nat} {N : jSh} {o : Nat} {F : jFl} {A : jAr} {a1 a2 : Int} {Q : jFl → jAr → Prop} (hd : 4 ≤ d) (hM : mShape G N o) (hW : jWf N F A) (ra1 : jR a1) (ra2 : jR a2) (h : wpX9_sittingOf o a1 a2 F A Q) : jCall G l d mX9_sittingOf [.ref o, vI a1, vI a2] N F A (jmV N Q) := by
  refine jCall.of (ls := [.ref o, vI a1, vI a2, jD, jD, jD, jD, jD]) (by decide) rfl (Nat.le_of_ble_eq_true rfl) rfl ?_
  unfold wpX9_sittingOf at h
  refine j_iconst dX9_sittingOf_0 ?_
  refine j_istore_n dX9_sittingOf_1 rfl ?_
  refine j_iconst dX9_sittingOf_2 ?_
  refine j_istore dX9_sittingOf_3 rfl ?_
  obtain ⟨I6, m7, h0, hs⟩ := h
  have lp : ∀ (n : Nat) (v1 : Int) (v2 : Int) (F3 : jFl) (A4 : jAr), m7 v1 v2 F3 A4 < n → jWf N F3 A4 → jR v1 → jR v2 → I6 v1 v2 F3 A4 → J G l d mX9_sittingOf 5 [.ref o, vI a1, vI a2, vI v1, vI v2, jD, jD, jD] [] N F3 A4 (jmV N Q) := by
    intro nI6
    induction nI6 with
    | zero =>
      intro v1 v2 F3 A4 hmu
      exact absurd hmu (Nat.not_lt_zero _)
    | succ nI6 ihI6 =>
      intro v1 v2 F3 A4 hmuI6 hW5 rv1 rv2 hI
      have h := hs v1 v2 F3 A4 hI
      refine j_iload dX9_sittingOf_5 rfl ?_
      refine j_aload_n dX9_sittingOf_7 rfl ?_
      refine j_getI dX9_sittingOf_8 flX9_206_10 hM.1 rfl ?_
      obtain ⟨h1, h2⟩ := h
      refine j_icmp_ge 241 dX9_sittingOf_11 rfl rv2 (hW5.fi rfl) (fun q8 => ?_) (fun q8 => ?_)
      · have h := h1 q8
        clear h1 h2
        exact j_vret dX9_sittingOf_241 rfl ⟨rfl, rfl, hW5, h⟩
      · have h := h2 q8
        clear h1 h2
        refine j_aload_n dX9_sittingOf_14 rfl ?_
        refine j_getFR dX9_sittingOf_15 flX9_203_10 hM.1 rfl (mf_seat hM) ?_
        refine j_iload dX9_sittingOf_18 rfl ?_
        obtain ⟨c9, h⟩ := h
        refine j_iald (n := 12) dX9_sittingOf_20 (mt_seat hM) (ml_seat hM) c9 ?_
        obtain ⟨v10, ev10⟩ : ∃ x : Int, x = A4 (o + 38) v2 := ⟨_, rfl⟩
        have h := h v10 ev10
        refine jnmI (e := ev10) ?_
        refine j_istore dX9_sittingOf_21 rfl ?_
        refine j_aload_n dX9_sittingOf_23 rfl ?_
        refine j_iload_n dX9_sittingOf_24 rfl ?_
        refine j_iload dX9_sittingOf_25 rfl ?_
        obtain ⟨P11, hp12, h⟩ := h
        refine j_invV (As := [vI a1, vI v10]) (rest := []) dX9_sittingOf_27 lkX9_432 hM.1 rfl rfl (wX9_loads (d := 1) (Nat.le_of_ble_eq_true rfl) hM hW5 ra1 (ev10 ▸ (hW5.ai (mt_seat hM) rfl)) hp12) rfl rfl (Nat.le_of_ble_eq_true rfl) (Nat.le_trans (Nat.le_of_ble_eq_true rfl) hd) (jkmV fun F14 A15 hW16 p17 => ?_)
        have h := h F14 A15 p17
        refine j_iload_n dX9_sittingOf_30 rfl ?_
        refine j_aload_n dX9_sittingOf_31 rfl ?_
        refine j_getFR dX9_sittingOf_32 flX9_118_10 hM.1 rfl (mf_head hM) ?_
        refine j_aload_n dX9_sittingOf_35 rfl ?_
        refine j_getI dX9_sittingOf_36 flX9_51_10 hM.1 rfl ?_
        obtain ⟨c19, h⟩ := h
        refine j_iald (n := 2) dX9_sittingOf_39 (mt_head hM) (ml_head hM) c19 ?_
        obtain ⟨K24, hK26, h⟩ := h
        have jn25 : ∀ (F21 : jFl) (A22 : jAr), jWf N F21 A22 → K24 F21 A22 → J G l d mX9_sittingOf 66 [.ref o, vI a1, vI a2, vI v1, vI v2, vI v10, jD, jD] [] N F21 A22 (jmV N Q) := by
          intro F21 A22 hW23  h
          have h := hK26 F21 A22 h
          refine j_aload_n dX9_sittingOf_66 rfl ?_
          refine j_getI dX9_sittingOf_67 flX9_197_10 hM.1 rfl ?_
          refine j_iconst dX9_sittingOf_70 ?_
          obtain ⟨K29, hK31, h⟩ := h
          have jn30 : ∀ (v28 : Int), jR v28 → K29 v28 → J G l d mX9_sittingOf 84 [.ref o, vI a1, vI a2, vI v1, vI v2, vI v10, jD, jD] [vI v28] N F21 A22 (jmV N Q) := by
            intro v28 rv28 h
            have h := hK31 v28 h
            refine j_istore dX9_sittingOf_84 rfl ?_
            refine j_aload_n dX9_sittingOf_86 rfl ?_
            refine j_getFR dX9_sittingOf_87 flX9_209_10 hM.1 rfl (mf_sitKind hM) ?_
            refine j_iload dX9_sittingOf_90 rfl ?_
            refine j_iload dX9_sittingOf_92 rfl ?_
            refine j_iconst dX9_sittingOf_94 ?_
            obtain ⟨K34, hK36, h⟩ := h
            have jn35 : ∀ (v33 : Int), jR v33 → K34 v33 → J G l d mX9_sittingOf 106 [.ref o, vI a1, vI a2, vI v1, vI v2, vI v10, vI v28, jD] [vI v33, vI v10, .ref (o + 39)] N F21 A22 (jmV N Q) := by
              intro v33 rv33 h
              have h := hK36 v33 h
              obtain ⟨c37, h⟩ := h
              refine j_iast (n := 12) dX9_sittingOf_106 (mt_sitKind hM) (Nat.le_trans hM.2.1 (Nat.le_add_right _ _)) (ml_sitKind hM) c37 ?_
              obtain ⟨A38, eA38⟩ : ∃ x : jAr, x = upA A22 (o + 39) v10 v33 := ⟨_, rfl⟩
              have hW39 : jWf N F21 A38 := eA38 ▸ jWf_A (i := v10) (z := v33) hW23 (mt_sitKind hM) (jRk_0 rfl rv33)
              refine jnmA (e := eA38) ?_
              have h := h A38 eA38
              refine j_aload_n dX9_sittingOf_107 rfl ?_
              refine j_getFR dX9_sittingOf_108 flX9_212_10 hM.1 rfl (mf_sitMain hM) ?_
              refine j_iload dX9_sittingOf_111 rfl ?_
              refine j_iload dX9_sittingOf_113 rfl ?_
              refine j_iconst dX9_sittingOf_115 ?_
              obtain ⟨K42, hK44, h⟩ := h
              have jn43 : ∀ (v41 : Int), jR v41 → K42 v41 → J G l d mX9_sittingOf 133 [.ref o, vI a1, vI a2, vI v1, vI v2, vI v10, vI v28, jD] [vI v41, vI v10, .ref (o + 40)] N F21 A38 (jmV N Q) := by
                intro v41 rv41 h
                have h := hK44 v41 h
                obtain ⟨c45, h⟩ := h
                refine j_iast (n := 12) dX9_sittingOf_133 (mt_sitMain hM) (Nat.le_trans hM.2.1 (Nat.le_add_right _ _)) (ml_sitMain hM) c45 ?_
                obtain ⟨A46, eA46⟩ : ∃ x : jAr, x = upA A38 (o + 40) v10 v41 := ⟨_, rfl⟩
                have hW47 : jWf N F21 A46 := eA46 ▸ jWf_A (i := v10) (z := v41) hW39 (mt_sitMain hM) (jRk_0 rfl rv41)
                refine jnmA (e := eA46) ?_
                have h := h A46 eA46
                refine j_aload_n dX9_sittingOf_134 rfl ?_
                refine j_getFR dX9_sittingOf_135 flX9_215_10 hM.1 rfl (mf_sitExcept hM) ?_
                refine j_iload dX9_sittingOf_138 rfl ?_
                refine j_iload dX9_sittingOf_140 rfl ?_
                refine j_iconst dX9_sittingOf_142 ?_
                obtain ⟨K50, hK52, h⟩ := h
                have jn51 : ∀ (v49 : Int), jR v49 → K50 v49 → J G l d mX9_sittingOf 160 [.ref o, vI a1, vI a2, vI v1, vI v2, vI v10, vI v28, jD] [vI v49, vI v10, .ref (o + 41)] N F21 A46 (jmV N Q) := by
                  intro v49 rv49 h
                  have h := hK52 v49 h
                  obtain ⟨c53, h⟩ := h
                  refine j_iast (n := 12) dX9_sittingOf_160 (mt_sitExcept hM) (Nat.le_trans hM.2.1 (Nat.le_add_right _ _)) (ml_sitExcept hM) c53 ?_
                  obtain ⟨A54, eA54⟩ : ∃ x : jAr, x = upA A46 (o + 41) v10 v49 := ⟨_, rfl⟩
                  have hW55 : jWf N F21 A54 := eA54 ▸ jWf_A (i := v10) (z := v49) hW47 (mt_sitExcept hM) (jRk_0 rfl rv49)
                  refine jnmA (e := eA54) ?_
                  have h := h A54 eA54
                  refine j_iconst dX9_sittingOf_161 ?_
                  refine j_istore dX9_sittingOf_162 rfl ?_
                  obtain ⟨I59, m60, h0, hs⟩ := h
                  have lp : ∀ (n : Nat) (v56 : Int) (A57 : jAr), m60 v56 A57 < n → jWf N F21 A57 → jR v56 → I59 v56 A57 → J G l d mX9_sittingOf 164 [.ref o, vI a1, vI a2, vI v1, vI v2, vI v10, vI v28, vI v56] [] N F21 A57 (jmV N Q) := by
                    intro nI59
                    induction nI59 with
                    | zero =>
                      intro v56 A57 hmu
                      exact absurd hmu (Nat.not_lt_zero _)
                    | succ nI59 ihI59 =>
                      intro v56 A57 hmuI59 hW58 rv56 hI
                      have h := hs v56 A57 hI
                      refine j_iload dX9_sittingOf_164 rfl ?_
                      refine j_bipush dX9_sittingOf_166 ?_
                      obtain ⟨h1, h2⟩ := h
                      refine j_icmp_ge 219 dX9_sittingOf_168 rfl rv56 (by decide) (fun q61 => ?_) (fun q61 => ?_)
                      · have h := h1 q61
                        clear h1 h2
                        refine j_iload_n dX9_sittingOf_219 rfl ?_
                        refine j_aload_n dX9_sittingOf_220 rfl ?_
                        refine j_getI dX9_sittingOf_221 flX9_197_10 hM.1 rfl ?_
                        refine j_iconst dX9_sittingOf_224 ?_
                        have jn64 : ∀ z63 : Int, z63 = (if ¬ (F21 3183 o) = 3 then 1 else 0) → J G l d mX9_sittingOf 233 [.ref o, vI a1, vI a2, vI v1, vI v2, vI v10, vI v28, vI v56] [vI z63, vI v1] N F21 A57 (jmV N Q) := by
                          intro z63 ez63
                          have h := h z63 ez63
                          refine j_iadd dX9_sittingOf_233 ?_
                          obtain ⟨r65, h⟩ := h
                          obtain ⟨v66, ev66⟩ : ∃ x : Int, x = v1 + z63 := ⟨_, rfl⟩
                          have h := h v66 ev66
                          refine jnmI (e := ev66) ?_
                          refine j_istore_n dX9_sittingOf_234 rfl ?_
                          obtain ⟨r67, h⟩ := h
                          refine j_iinc dX9_sittingOf_235 rfl rfl ?_
                          refine j_goto 5 dX9_sittingOf_238 rfl ?_
                          exact J.wk (((((((((jWk.nil).no).no).no).eq).eq).eq).eq).eq) (ihI6 _ _ _ _ (Nat.lt_of_lt_of_le h.2 (Nat.le_of_lt_succ hmuI6)) hW58 (ev66 ▸ r65) r67 h.1)
                        clear h
                        refine j_icmp_ne 232 dX9_sittingOf_225 rfl (hW58.fi rfl) (by decide) (fun q62 => ?_) (fun q62 => ?_)
                        · refine j_iconst dX9_sittingOf_232 ?_
                          exact jn64 _ ((if_pos q62).symm)
                        · refine j_iconst dX9_sittingOf_228 ?_
                          refine j_goto 233 dX9_sittingOf_229 rfl ?_
                          exact jn64 _ ((if_neg q62).symm)
                      · have h := h2 q61
                        clear h1 h2
                        refine j_aload_n dX9_sittingOf_171 rfl ?_
                        refine j_getFR dX9_sittingOf_172 flX9_218_10 hM.1 rfl (mf_sitRow hM) ?_
                        refine j_bipush dX9_sittingOf_175 ?_
                        refine j_iload dX9_sittingOf_177 rfl ?_
                        refine j_imul dX9_sittingOf_179 ?_
                        refine j_iload dX9_sittingOf_180 rfl ?_
                        refine j_iadd dX9_sittingOf_182 ?_
                        refine j_iload dX9_sittingOf_183 rfl ?_
                        refine j_iconst dX9_sittingOf_185 ?_
                        obtain ⟨h1, h2⟩ := h
                        refine j_icmp_eq 205 dX9_sittingOf_186 rfl rv28 (by decide) (fun q68 => ?_) (fun q68 => ?_)
                        · have h := h1 q68
                          clear h1 h2
                          refine j_aload_n dX9_sittingOf_205 rfl ?_
                          refine j_getFR dX9_sittingOf_206 flX9_188_10 hM.1 rfl (mf_said hM) ?_
                          refine j_iload dX9_sittingOf_209 rfl ?_
                          obtain ⟨c69, h⟩ := h
                          refine j_iald (n := 12) dX9_sittingOf_211 (mt_said hM) (ml_said hM) c69 ?_
                          obtain ⟨c70, h⟩ := h
                          refine j_iast (n := 144) dX9_sittingOf_212 (mt_sitRow hM) (Nat.le_trans hM.2.1 (Nat.le_add_right _ _)) (ml_sitRow hM) c70 ?_
                          obtain ⟨A71, eA71⟩ : ∃ x : jAr, x = upA A57 (o + 42) ((12 * v10) + v56) (A57 (o + 37) v56) := ⟨_, rfl⟩
                          have hW72 : jWf N F21 A71 := eA71 ▸ jWf_A (i := (12 * v10) + v56) (z := A57 (o + 37) v56) hW58 (mt_sitRow hM) (jRk_0 rfl (hW58.ai (mt_said hM) rfl))
                          refine jnmA (e := eA71) ?_
                          have h := h A71 eA71
                          obtain ⟨r73, h⟩ := h
                          refine j_iinc dX9_sittingOf_213 rfl rfl ?_
                          refine j_goto 164 dX9_sittingOf_216 rfl ?_
                          exact J.wk (((((((((jWk.nil).eq).eq).eq).eq).eq).eq).eq).eq) (ihI59 _ _ (Nat.lt_of_lt_of_le h.2 (Nat.le_of_lt_succ hmuI59)) hW72 r73 h.1)
                        · have h := h2 q68
                          clear h1 h2
                          refine j_aload_n dX9_sittingOf_189 rfl ?_
                          refine j_getFR dX9_sittingOf_190 flX9_218_10 hM.1 rfl (mf_sitRow hM) ?_
                          refine j_bipush dX9_sittingOf_193 ?_
                          refine j_iload dX9_sittingOf_195 rfl ?_
                          refine j_imul dX9_sittingOf_197 ?_
                          refine j_iload dX9_sittingOf_198 rfl ?_
                          refine j_iadd dX9_sittingOf_200 ?_
                          obtain ⟨c74, h⟩ := h
                          refine j_iald (n := 144) dX9_sittingOf_201 (mt_sitRow hM) (ml_sitRow hM) c74 ?_
                          refine j_goto 212 dX9_sittingOf_202 rfl ?_
                          obtain ⟨c75, h⟩ := h
                          refine j_iast (n := 144) dX9_sittingOf_212 (mt_sitRow hM) (Nat.le_trans hM.2.1 (Nat.le_add_right _ _)) (ml_sitRow hM) c75 ?_
                          obtain ⟨A76, eA76⟩ : ∃ x : jAr, x = upA A57 (o + 42) ((12 * v10) + v56) (A57 (o + 42) ((12 * v28) + v56)) := ⟨_, rfl⟩
                          have hW77 : jWf N F21 A76 := eA76 ▸ jWf_A (i := (12 * v10) + v56) (z := A57 (o + 42) ((12 * v28) + v56)) hW58 (mt_sitRow hM) (jRk_0 rfl (hW58.ai (mt_sitRow hM) rfl))
                          refine jnmA (e := eA76) ?_
                          have h := h A76 eA76
                          obtain ⟨r78, h⟩ := h
                          refine j_iinc dX9_sittingOf_213 rfl rfl ?_
                          refine j_goto 164 dX9_sittingOf_216 rfl ?_
                          exact J.wk (((((((((jWk.nil).eq).eq).eq).eq).eq).eq).eq).eq) (ihI59 _ _ (Nat.lt_of_lt_of_le h.2 (Nat.le_of_lt_succ hmuI59)) hW77 r78 h.1)
                  exact J.wk (((((((((jWk.nil).eq).eq).eq).eq).eq).eq).eq).eq) (lp _ _ _ (Nat.lt_succ_self _) hW55 (by decide) h0)
                obtain ⟨h1, h2⟩ := h
                refine j_icmp_eq 156 dX9_sittingOf_143 rfl rv28 (by decide) (fun q48 => ?_) (fun q48 => ?_)
                · have h := h1 q48
                  clear h1 h2
                  refine j_aload_n dX9_sittingOf_156 rfl ?_
                  refine j_getI dX9_sittingOf_157 flX9_194_10 hM.1 rfl ?_
                  exact J.wk (((((((((jWk.nil).no).eq).eq).eq).eq).eq).eq).eq) (jn51 _ (hW47.fi rfl) h)
                · have h := h2 q48
                  clear h1 h2
                  refine j_aload_n dX9_sittingOf_146 rfl ?_
                  refine j_getFR dX9_sittingOf_147 flX9_215_10 hM.1 rfl (mf_sitExcept hM) ?_
                  refine j_iload dX9_sittingOf_150 rfl ?_
                  obtain ⟨c79, h⟩ := h
                  refine j_iald (n := 12) dX9_sittingOf_152 (mt_sitExcept hM) (ml_sitExcept hM) c79 ?_
                  refine j_goto 160 dX9_sittingOf_153 rfl ?_
                  exact J.wk (((((((((jWk.nil).no).eq).eq).eq).eq).eq).eq).eq) (jn51 _ (hW47.ai (mt_sitExcept hM) rfl) h)
              obtain ⟨h1, h2⟩ := h
              refine j_icmp_eq 129 dX9_sittingOf_116 rfl rv28 (by decide) (fun q40 => ?_) (fun q40 => ?_)
              · have h := h1 q40
                clear h1 h2
                refine j_aload_n dX9_sittingOf_129 rfl ?_
                refine j_getI dX9_sittingOf_130 flX9_191_10 hM.1 rfl ?_
                exact J.wk (((((((((jWk.nil).no).eq).eq).eq).eq).eq).eq).eq) (jn43 _ (hW39.fi rfl) h)
              · have h := h2 q40
                clear h1 h2
                refine j_aload_n dX9_sittingOf_119 rfl ?_
                refine j_getFR dX9_sittingOf_120 flX9_212_10 hM.1 rfl (mf_sitMain hM) ?_
                refine j_iload dX9_sittingOf_123 rfl ?_
                obtain ⟨c80, h⟩ := h
                refine j_iald (n := 12) dX9_sittingOf_125 (mt_sitMain hM) (ml_sitMain hM) c80 ?_
                refine j_goto 133 dX9_sittingOf_126 rfl ?_
                exact J.wk (((((((((jWk.nil).no).eq).eq).eq).eq).eq).eq).eq) (jn43 _ (hW39.ai (mt_sitMain hM) rfl) h)
            obtain ⟨h1, h2⟩ := h
            refine j_icmp_eq 102 dX9_sittingOf_95 rfl rv28 (by decide) (fun q32 => ?_) (fun q32 => ?_)
            · have h := h1 q32
              clear h1 h2
              refine j_aload_n dX9_sittingOf_102 rfl ?_
              refine j_getI dX9_sittingOf_103 flX9_197_10 hM.1 rfl ?_
              exact J.wk (((((((((jWk.nil).no).eq).eq).eq).eq).eq).eq).eq) (jn35 _ (hW23.fi rfl) h)
            · have h := h2 q32
              clear h1 h2
              refine j_iconst dX9_sittingOf_98 ?_
              refine j_goto 106 dX9_sittingOf_99 rfl ?_
              exact J.wk (((((((((jWk.nil).no).eq).eq).eq).eq).eq).eq).eq) (jn35 _ (by decide) h)
          obtain ⟨h1, h2⟩ := h
          refine j_icmp_ne 78 dX9_sittingOf_71 rfl (hW23.fi rfl) (by decide) (fun q27 => ?_) (fun q27 => ?_)
          · have h := h1 q27
            clear h1 h2
            refine j_aload_n dX9_sittingOf_78 rfl ?_
            refine j_iload dX9_sittingOf_79 rfl ?_
            obtain ⟨P81, hp82, h⟩ := h
            refine j_invV (As := [vI v2]) (rest := []) dX9_sittingOf_81 lkX9_438 hM.1 rfl rfl (wX9_runsInto (d := 1) (Nat.le_of_ble_eq_true rfl) hM hW23 rv2 hp82) rfl rfl (Nat.le_of_ble_eq_true rfl) (Nat.le_trans (Nat.le_of_ble_eq_true rfl) hd) (jkpI fun z83 p84 r85 => ?_)
            have h := h z83 p84
            exact J.wk (((((((((jWk.nil).no).no).eq).eq).eq).eq).eq).eq) (jn30 _ r85 h)
          · have h := h2 q27
            clear h1 h2
            refine j_iconst dX9_sittingOf_74 ?_
            refine j_goto 84 dX9_sittingOf_75 rfl ?_
            exact J.wk (((((((((jWk.nil).no).no).eq).eq).eq).eq).eq).eq) (jn30 _ (by decide) h)
        obtain ⟨h1, h2⟩ := h
        refine j_icmp_ge 51 dX9_sittingOf_40 rfl rv1 (hW16.ai (mt_head hM) rfl) (fun q20 => ?_) (fun q20 => ?_)
        · have h := h1 q20
          clear h1 h2
          refine j_aload_n dX9_sittingOf_51 rfl ?_
          refine j_iconst dX9_sittingOf_52 ?_
          refine j_putI dX9_sittingOf_53 flX9_197_10 hM.1 hM.2.1 rfl ?_
          obtain ⟨F86, eF86⟩ : ∃ x : jFl, x = upF F14 3183 o 3 := ⟨_, rfl⟩
          have hW87 : jWf N F86 A15 := eF86 ▸ jWf_F (f := 3183) (a := o) (z := 3) hW16 (jRk_0 rfl (by decide))
          refine jnmF (e := eF86) ?_
          have h := h F86 eF86
          refine j_aload_n dX9_sittingOf_56 rfl ?_
          refine j_iconst dX9_sittingOf_57 ?_
          refine j_putI dX9_sittingOf_58 flX9_191_10 hM.1 hM.2.1 rfl ?_
          obtain ⟨F88, eF88⟩ : ∃ x : jFl, x = upF F86 3177 o 0 := ⟨_, rfl⟩
          have hW89 : jWf N F88 A15 := eF88 ▸ jWf_F (f := 3177) (a := o) (z := 0) hW87 (jRk_0 rfl (by decide))
          refine jnmF (e := eF88) ?_
          have h := h F88 eF88
          refine j_aload_n dX9_sittingOf_61 rfl ?_
          refine j_iconst dX9_sittingOf_62 ?_
          refine j_putI dX9_sittingOf_63 flX9_194_10 hM.1 hM.2.1 rfl ?_
          obtain ⟨F90, eF90⟩ : ∃ x : jFl, x = upF F88 3180 o 0 := ⟨_, rfl⟩
          have hW91 : jWf N F90 A15 := eF90 ▸ jWf_F (f := 3180) (a := o) (z := 0) hW89 (jRk_0 rfl (by decide))
          refine jnmF (e := eF90) ?_
          have h := h F90 eF90
          exact J.wk (((((((((jWk.nil).no).no).eq).eq).eq).eq).eq).eq) (jn25 _ _ hW91  h)
        · have h := h2 q20
          clear h1 h2
          refine j_aload_n dX9_sittingOf_43 rfl ?_
          refine j_iload_n dX9_sittingOf_44 rfl ?_
          obtain ⟨P92, hp93, h⟩ := h
          refine j_invV (As := [vI a2]) (rest := []) dX9_sittingOf_45 lkX9_435 hM.1 rfl rfl (wX9_utters (d := 3) (Nat.le_of_ble_eq_true rfl) hM hW16 ra2 hp93) rfl rfl (Nat.le_of_ble_eq_true rfl) (Nat.le_trans (Nat.le_of_ble_eq_true rfl) hd) (jkmV fun F95 A96 hW97 p98 => ?_)
          have h := h F95 A96 p98
          refine j_goto 66 dX9_sittingOf_48 rfl ?_
          exact J.wk (((((((((jWk.nil).no).no).eq).eq).eq).eq).eq).eq) (jn25 _ _ hW97  h)
  exact J.wk (((((((((jWk.nil).no).no).no).eq).eq).eq).eq).eq) (lp _ _ _ _ _ (Nat.lt_succ_self _) hW (by decide) (by decide) h0)
/-- asked(I)I -/
def wpX9_asked (o : Nat) (a1 : Int) (F : jFl) (A : jAr) (Q : Int → jFl → jAr → Prop) : Prop :=
  ∃ P1 : Int → jFl → jAr → Prop, wpX9_looked o a1 F A P1 ∧ ∀ z3 F4 A5, P1 z3 F4 A5 →
  ((¬ (F4 3024 o) = 0) →
    (((F4 3024 o) ≤ 0) →
      Q z3 F4 A5) ∧
    (¬ ((F4 3024 o) ≤ 0) →
      Q 0 F4 A5)) ∧
  (¬ (¬ (F4 3024 o) = 0) →
    ∃ P11 : jFl → jAr → Prop, wpX9_ahead o F4 A5 P11 ∧ ∀ F14 A15, P11 F14 A15 →
    (((F14 3024 o) ≤ 0) →
      Q z3 F14 A15) ∧
    (¬ ((F14 3024 o) ≤ 0) →
      Q 0 F14 A15))
theorem wX9_asked {G : jG} {l : Launch} {d : Nat} {N : jSh} {o : Nat} {F : jFl} {A : jAr} {a1 : Int} {Q : Int → jFl → jAr → Prop} (hd : 4 ≤ d) (hM : mShape G N o) (hW : jWf N F A) (ra1 : jR a1) (h : wpX9_asked o a1 F A Q) : jCall G l d mX9_asked [.ref o, vI a1] N F A (jmI N Q) := by
  refine jCall.of (ls := [.ref o, vI a1, jD]) (by decide) rfl (Nat.le_of_ble_eq_true rfl) rfl ?_
  unfold wpX9_asked at h
  refine j_aload_n dX9_asked_0 rfl ?_
  refine j_iload_n dX9_asked_1 rfl ?_
  obtain ⟨P1, hp2, h⟩ := h
  refine j_invV (As := [vI a1]) (rest := []) dX9_asked_2 lkX9_339 hM.1 rfl rfl (wX9_looked (d := 3) (Nat.le_of_ble_eq_true rfl) hM hW ra1 hp2) rfl rfl (Nat.le_of_ble_eq_true rfl) (Nat.le_trans (Nat.le_of_ble_eq_true rfl) hd) (jkmI fun z3 F4 A5 hW6 p7 r8 => ?_)
  have h := h z3 F4 A5 p7
  refine j_istore_n dX9_asked_5 rfl ?_
  refine j_aload_n dX9_asked_6 rfl ?_
  refine j_getI dX9_asked_7 flX9_36_10 hM.1 rfl ?_
  obtain ⟨h1, h2⟩ := h
  refine j_if_ne 17 dX9_asked_10 rfl (hW6.fi rfl) (fun q9 => ?_) (fun q9 => ?_)
  · have h := h1 q9
    clear h1 h2
    refine j_aload_n dX9_asked_17 rfl ?_
    refine j_getI dX9_asked_18 flX9_36_10 hM.1 rfl ?_
    obtain ⟨h1, h2⟩ := h
    refine j_if_le 28 dX9_asked_21 rfl (hW6.fi rfl) (fun q10 => ?_) (fun q10 => ?_)
    · have h := h1 q10
      clear h1 h2
      refine j_iload_n dX9_asked_28 rfl ?_
      exact j_iret dX9_asked_29 rfl ⟨_, rfl, rfl, hW6, h, r8⟩
    · have h := h2 q10
      clear h1 h2
      refine j_iconst dX9_asked_24 ?_
      refine j_goto 29 dX9_asked_25 rfl ?_
      exact j_iret dX9_asked_29 rfl ⟨_, rfl, rfl, hW6, h, (by decide)⟩
  · have h := h2 q9
    clear h1 h2
    refine j_aload_n dX9_asked_13 rfl ?_
    obtain ⟨P11, hp12, h⟩ := h
    refine j_invV (As := []) (rest := []) dX9_asked_14 lkX9_279 hM.1 rfl rfl (wX9_ahead (d := 2) (Nat.le_of_ble_eq_true rfl) hM hW6  hp12) rfl rfl (Nat.le_of_ble_eq_true rfl) (Nat.le_trans (Nat.le_of_ble_eq_true rfl) hd) (jkmV fun F14 A15 hW16 p17 => ?_)
    have h := h F14 A15 p17
    refine j_aload_n dX9_asked_17 rfl ?_
    refine j_getI dX9_asked_18 flX9_36_10 hM.1 rfl ?_
    obtain ⟨h1, h2⟩ := h
    refine j_if_le 28 dX9_asked_21 rfl (hW16.fi rfl) (fun q19 => ?_) (fun q19 => ?_)
    · have h := h1 q19
      clear h1 h2
      refine j_iload_n dX9_asked_28 rfl ?_
      exact j_iret dX9_asked_29 rfl ⟨_, rfl, rfl, hW16, h, r8⟩
    · have h := h2 q19
      clear h1 h2
      refine j_iconst dX9_asked_24 ?_
      refine j_goto 29 dX9_asked_25 rfl ?_
      exact j_iret dX9_asked_29 rfl ⟨_, rfl, rfl, hW16, h, (by decide)⟩
/-- becomes(IIZ)I -/
def wpX9_becomes (o : Nat) (a1 : Int) (a2 : Int) (a3 : Int) (F : jFl) (A : jAr) (Q : Int → jFl → jAr → Prop) : Prop :=
  ∃ P1 : Int → Prop, wpX9_isStanding o a1 F A P1 ∧ ∀ z3, P1 z3 →
  ((z3 = 0) →
    Q (-1) F A) ∧
  (¬ (z3 = 0) →
    (0 ≤ F 3039 o ∧ F 3039 o < 2) ∧
    ((¬ (A (o + 12) (F 3039 o)) = 0) →
      ∃ P9 : jFl → jAr → Prop, wpX9_loads o 0 a1 F A P9 ∧ ∀ F12 A13, P9 F12 A13 →
      ∃ (I22 : Int → Int → jFl → jAr → Prop) (m23 : Int → Int → jFl → jAr → Nat), I22 0 0 F12 A13 ∧ ∀ (v17 : Int) (v18 : Int) (F19 : jFl) (A20 : jAr), I22 v17 v18 F19 A20 →
        (0 ≤ F19 3039 o ∧ F19 3039 o < 2) ∧
        (((A20 (o + 12) (F19 3039 o)) ≤ v18) →
          ((¬ a2 = (-1)) →
            jR (v17 - 1) ∧
            ∃ P28 : Int → Prop, wpX9_is o a2 0 (v17 - 1) F19 A20 P28 ∧ ∀ z30, P28 z30 →
            ((¬ z30 = 0) →
              ((a3 = 0) →
                (0 ≤ a2 ∧ a2 < 10) ∧
                Q (A20 (o + 44) a2) F19 A20) ∧
              (¬ (a3 = 0) →
                (0 ≤ a2 ∧ a2 < 10) ∧
                Q (A20 (o + 45) a2) F19 A20)) ∧
            (¬ (¬ z30 = 0) →
              Q (-1) F19 A20)) ∧
          (¬ (¬ a2 = (-1)) →
            Q v17 F19 A20)) ∧
        (¬ ((A20 (o + 12) (F19 3039 o)) ≤ v18) →
          ∃ P37 : jFl → jAr → Prop, wpX9_utters o v18 F19 A20 P37 ∧ ∀ F40 A41, P37 F40 A41 →
          ∃ P45 : Int → Prop, wpX9_recalled o v17 F40 A41 P45 ∧ ∀ z47, P45 z47 →
          ((z47 = (-1)) →
            ∃ P51 : jFl → jAr → Prop, wpX9_remembers o v17 F40 A41 P51 ∧ ∀ F54 A55, P51 F54 A55 →
            (0 ≤ v17 ∧ v17 < 10) ∧
            ∀ A60 : jAr, A60 = upA A55 (o + 44) v17 1 →
            (0 ≤ v17 ∧ v17 < 10) ∧
            ∀ A63 : jAr, A63 = upA A60 (o + 45) v17 v18 →
            jR (v17 + 1) ∧
            jR (v18 + 1) ∧
            I22 (v17 + 1) (v18 + 1) F54 A63 ∧ m23 (v17 + 1) (v18 + 1) F54 A63 < m23 v17 v18 F19 A20) ∧
          (¬ (z47 = (-1)) →
            (0 ≤ z47 ∧ z47 < 10) ∧
            (0 ≤ z47 ∧ z47 < 10) ∧
            jR ((A41 (o + 44) z47) + 1) ∧
            ∀ A70 : jAr, A70 = upA A41 (o + 44) z47 ((A41 (o + 44) z47) + 1) →
            jR (v18 + 1) ∧
            I22 v17 (v18 + 1) F40 A70 ∧ m23 v17 (v18 + 1) F40 A70 < m23 v17 v18 F19 A20))) ∧
    (¬ (¬ (A (o + 12) (F 3039 o)) = 0) →
      Q (-1) F A))
theorem wX9_becomes {G : jG} {l : Launch} {d : Nat} {N : jSh} {o : Nat} {F : jFl} {A : jAr} {a1 a2 a3 : Int} {Q : Int → jFl → jAr → Prop} (hd : 4 ≤ d) (hM : mShape G N o) (hW : jWf N F A) (ra1 : jR a1) (ra2 : jR a2) (ba3 : a3 = 0 ∨ a3 = 1) (h : wpX9_becomes o a1 a2 a3 F A Q) : jCall G l d mX9_becomes [.ref o, vI a1, vI a2, vI a3] N F A (jmI N Q) := by
  refine jCall.of (ls := [.ref o, vI a1, vI a2, vI a3, jD, jD, jD]) (by decide) rfl (Nat.le_of_ble_eq_true rfl) rfl ?_
  unfold wpX9_becomes at h
  refine j_aload_n dX9_becomes_0 rfl ?_
  refine j_iload_n dX9_becomes_1 rfl ?_
  obtain ⟨P1, hp2, h⟩ := h
  refine j_invV (As := [vI a1]) (rest := []) dX9_becomes_2 lkX9_429 hM.1 rfl rfl (wX9_isStanding (d := 2) (Nat.le_of_ble_eq_true rfl) hM hW ra1 hp2) rfl rfl (Nat.le_of_ble_eq_true rfl) (Nat.le_trans (Nat.le_of_ble_eq_true rfl) hd) (jkpB fun z3 p4 r5 => ?_)
  have h := h z3 p4
  obtain ⟨h1, h2⟩ := h
  refine j_if_eq 20 dX9_becomes_5 rfl (jR_b r5) (fun q6 => ?_) (fun q6 => ?_)
  · have h := h1 q6
    clear h1 h2
    refine j_iconst dX9_becomes_20 ?_
    exact j_iret dX9_becomes_21 rfl ⟨_, rfl, rfl, hW, h, (by decide)⟩
  · have h := h2 q6
    clear h1 h2
    refine j_aload_n dX9_becomes_8 rfl ?_
    refine j_getFR dX9_becomes_9 flX9_85_10 hM.1 rfl (mf_children hM) ?_
    refine j_aload_n dX9_becomes_12 rfl ?_
    refine j_getI dX9_becomes_13 flX9_51_10 hM.1 rfl ?_
    obtain ⟨c7, h⟩ := h
    refine j_iald (n := 2) dX9_becomes_16 (mt_children hM) (ml_children hM) c7 ?_
    obtain ⟨h1, h2⟩ := h
    refine j_if_ne 22 dX9_becomes_17 rfl (hW.ai (mt_children hM) rfl) (fun q8 => ?_) (fun q8 => ?_)
    · have h := h1 q8
      clear h1 h2
      refine j_iconst dX9_becomes_22 ?_
      refine j_istore dX9_becomes_23 rfl ?_
      refine j_aload_n dX9_becomes_25 rfl ?_
      refine j_iconst dX9_becomes_26 ?_
      refine j_iload_n dX9_becomes_27 rfl ?_
      obtain ⟨P9, hp10, h⟩ := h
      refine j_invV (As := [vI 0, vI a1]) (rest := []) dX9_becomes_28 lkX9_432 hM.1 rfl rfl (wX9_loads (d := 1) (Nat.le_of_ble_eq_true rfl) hM hW (by decide) ra1 hp10) rfl rfl (Nat.le_of_ble_eq_true rfl) (Nat.le_trans (Nat.le_of_ble_eq_true rfl) hd) (jkmV fun F12 A13 hW14 p15 => ?_)
      have h := h F12 A13 p15
      refine j_iconst dX9_becomes_31 ?_
      refine j_istore dX9_becomes_32 rfl ?_
      obtain ⟨I22, m23, h0, hs⟩ := h
      have lp : ∀ (n : Nat) (v17 : Int) (v18 : Int) (F19 : jFl) (A20 : jAr), m23 v17 v18 F19 A20 < n → jWf N F19 A20 → jR v17 → jR v18 → I22 v17 v18 F19 A20 → J G l d mX9_becomes 34 [.ref o, jD, vI a2, vI a3, vI v17, vI v18, jD] [] N F19 A20 (jmI N Q) := by
        intro nI22
        induction nI22 with
        | zero =>
          intro v17 v18 F19 A20 hmu
          exact absurd hmu (Nat.not_lt_zero _)
        | succ nI22 ihI22 =>
          intro v17 v18 F19 A20 hmuI22 hW21 rv17 rv18 hI
          have h := hs v17 v18 F19 A20 hI
          refine j_iload dX9_becomes_34 rfl ?_
          refine j_aload_n dX9_becomes_36 rfl ?_
          refine j_getFR dX9_becomes_37 flX9_85_10 hM.1 rfl (mf_children hM) ?_
          refine j_aload_n dX9_becomes_40 rfl ?_
          refine j_getI dX9_becomes_41 flX9_51_10 hM.1 rfl ?_
          obtain ⟨c24, h⟩ := h
          refine j_iald (n := 2) dX9_becomes_44 (mt_children hM) (ml_children hM) c24 ?_
          obtain ⟨h1, h2⟩ := h
          refine j_icmp_ge 114 dX9_becomes_45 rfl rv18 (hW21.ai (mt_children hM) rfl) (fun q25 => ?_) (fun q25 => ?_)
          · have h := h1 q25
            clear h1 h2
            refine j_iload_n dX9_becomes_114 rfl ?_
            refine j_iconst dX9_becomes_115 ?_
            obtain ⟨h1, h2⟩ := h
            refine j_icmp_ne 124 dX9_becomes_116 rfl ra2 (by decide) (fun q26 => ?_) (fun q26 => ?_)
            · have h := h1 q26
              clear h1 h2
              refine j_iload_n dX9_becomes_124 rfl ?_
              refine j_iconst dX9_becomes_125 ?_
              refine j_iload dX9_becomes_126 rfl ?_
              refine j_iconst dX9_becomes_128 ?_
              refine j_isub dX9_becomes_129 ?_
              obtain ⟨r27, h⟩ := h
              obtain ⟨P28, hp29, h⟩ := h
              refine j_invS (As := [vI a2, vI 0, vI (v17 - 1)]) (rest := []) dX9_becomes_130 lkX9_324 (wX9_is (d := 1) (Nat.le_of_ble_eq_true rfl) hM hW21 ra2 (by decide) r27 hp29) rfl rfl (Nat.le_of_ble_eq_true rfl) (Nat.le_trans (Nat.le_of_ble_eq_true rfl) hd) (jkpB fun z30 p31 r32 => ?_)
              have h := h z30 p31
              obtain ⟨h1, h2⟩ := h
              refine j_if_ne 140 dX9_becomes_133 rfl (jR_b r32) (fun q33 => ?_) (fun q33 => ?_)
              · have h := h1 q33
                clear h1 h2
                refine j_iload_n dX9_becomes_140 rfl ?_
                obtain ⟨h1, h2⟩ := h
                refine j_if_eq 153 dX9_becomes_141 rfl (jR_b ba3) (fun q34 => ?_) (fun q34 => ?_)
                · have h := h1 q34
                  clear h1 h2
                  refine j_aload_n dX9_becomes_153 rfl ?_
                  refine j_getFR dX9_becomes_154 flX9_224_10 hM.1 rfl (mf_historyBy hM) ?_
                  refine j_iload_n dX9_becomes_157 rfl ?_
                  obtain ⟨c35, h⟩ := h
                  refine j_iald (n := 10) dX9_becomes_158 (mt_historyBy hM) (ml_historyBy hM) c35 ?_
                  exact j_iret dX9_becomes_159 rfl ⟨_, rfl, rfl, hW21, h, (hW21.ai (mt_historyBy hM) rfl)⟩
                · have h := h2 q34
                  clear h1 h2
                  refine j_aload_n dX9_becomes_144 rfl ?_
                  refine j_getFR dX9_becomes_145 flX9_227_10 hM.1 rfl (mf_historyFirst hM) ?_
                  refine j_iload_n dX9_becomes_148 rfl ?_
                  obtain ⟨c36, h⟩ := h
                  refine j_iald (n := 10) dX9_becomes_149 (mt_historyFirst hM) (ml_historyFirst hM) c36 ?_
                  refine j_goto 159 dX9_becomes_150 rfl ?_
                  exact j_iret dX9_becomes_159 rfl ⟨_, rfl, rfl, hW21, h, (hW21.ai (mt_historyFirst hM) rfl)⟩
              · have h := h2 q33
                clear h1 h2
                refine j_iconst dX9_becomes_136 ?_
                refine j_goto 159 dX9_becomes_137 rfl ?_
                exact j_iret dX9_becomes_159 rfl ⟨_, rfl, rfl, hW21, h, (by decide)⟩
            · have h := h2 q26
              clear h1 h2
              refine j_iload dX9_becomes_119 rfl ?_
              refine j_goto 159 dX9_becomes_121 rfl ?_
              exact j_iret dX9_becomes_159 rfl ⟨_, rfl, rfl, hW21, h, rv17⟩
          · have h := h2 q25
            clear h1 h2
            refine j_aload_n dX9_becomes_48 rfl ?_
            refine j_iload dX9_becomes_49 rfl ?_
            obtain ⟨P37, hp38, h⟩ := h
            refine j_invV (As := [vI v18]) (rest := []) dX9_becomes_51 lkX9_435 hM.1 rfl rfl (wX9_utters (d := 3) (Nat.le_of_ble_eq_true rfl) hM hW21 rv18 hp38) rfl rfl (Nat.le_of_ble_eq_true rfl) (Nat.le_trans (Nat.le_of_ble_eq_true rfl) hd) (jkmV fun F40 A41 hW42 p43 => ?_)
            have h := h F40 A41 p43
            refine j_aload_n dX9_becomes_54 rfl ?_
            refine j_iload dX9_becomes_55 rfl ?_
            obtain ⟨P45, hp46, h⟩ := h
            refine j_invV (As := [vI v17]) (rest := []) dX9_becomes_57 lkX9_494 hM.1 rfl rfl (wX9_recalled (d := 2) (Nat.le_of_ble_eq_true rfl) hM hW42 rv17 hp46) rfl rfl (Nat.le_of_ble_eq_true rfl) (Nat.le_trans (Nat.le_of_ble_eq_true rfl) hd) (jkpI fun z47 p48 r49 => ?_)
            have h := h z47 p48
            refine j_istore dX9_becomes_60 rfl ?_
            refine j_iload dX9_becomes_62 rfl ?_
            refine j_iconst dX9_becomes_64 ?_
            obtain ⟨h1, h2⟩ := h
            refine j_icmp_eq 82 dX9_becomes_65 rfl r49 (by decide) (fun q50 => ?_) (fun q50 => ?_)
            · have h := h1 q50
              clear h1 h2
              refine j_aload_n dX9_becomes_82 rfl ?_
              refine j_iload dX9_becomes_83 rfl ?_
              obtain ⟨P51, hp52, h⟩ := h
              refine j_invV (As := [vI v17]) (rest := []) dX9_becomes_85 lkX9_497 hM.1 rfl rfl (wX9_remembers (d := 1) (Nat.le_of_ble_eq_true rfl) hM hW42 rv17 hp52) rfl rfl (Nat.le_of_ble_eq_true rfl) (Nat.le_trans (Nat.le_of_ble_eq_true rfl) hd) (jkmV fun F54 A55 hW56 p57 => ?_)
              have h := h F54 A55 p57
              refine j_aload_n dX9_becomes_88 rfl ?_
              refine j_getFR dX9_becomes_89 flX9_224_10 hM.1 rfl (mf_historyBy hM) ?_
              refine j_iload dX9_becomes_92 rfl ?_
              refine j_iconst dX9_becomes_94 ?_
              obtain ⟨c59, h⟩ := h
              refine j_iast (n := 10) dX9_becomes_95 (mt_historyBy hM) (Nat.le_trans hM.2.1 (Nat.le_add_right _ _)) (ml_historyBy hM) c59 ?_
              obtain ⟨A60, eA60⟩ : ∃ x : jAr, x = upA A55 (o + 44) v17 1 := ⟨_, rfl⟩
              have hW61 : jWf N F54 A60 := eA60 ▸ jWf_A (i := v17) (z := 1) hW56 (mt_historyBy hM) (jRk_0 rfl (by decide))
              refine jnmA (e := eA60) ?_
              have h := h A60 eA60
              refine j_aload_n dX9_becomes_96 rfl ?_
              refine j_getFR dX9_becomes_97 flX9_227_10 hM.1 rfl (mf_historyFirst hM) ?_
              refine j_iload dX9_becomes_100 rfl ?_
              refine j_iload dX9_becomes_102 rfl ?_
              obtain ⟨c62, h⟩ := h
              refine j_iast (n := 10) dX9_becomes_104 (mt_historyFirst hM) (Nat.le_trans hM.2.1 (Nat.le_add_right _ _)) (ml_historyFirst hM) c62 ?_
              obtain ⟨A63, eA63⟩ : ∃ x : jAr, x = upA A60 (o + 45) v17 v18 := ⟨_, rfl⟩
              have hW64 : jWf N F54 A63 := eA63 ▸ jWf_A (i := v17) (z := v18) hW61 (mt_historyFirst hM) (jRk_0 rfl rv18)
              refine jnmA (e := eA63) ?_
              have h := h A63 eA63
              obtain ⟨r65, h⟩ := h
              refine j_iinc dX9_becomes_105 rfl rfl ?_
              obtain ⟨r66, h⟩ := h
              refine j_iinc dX9_becomes_108 rfl rfl ?_
              refine j_goto 34 dX9_becomes_111 rfl ?_
              exact J.wk ((((((((jWk.nil).no).eq).eq).eq).eq).no).eq) (ihI22 _ _ _ _ (Nat.lt_of_lt_of_le h.2 (Nat.le_of_lt_succ hmuI22)) hW64 r65 r66 h.1)
            · have h := h2 q50
              clear h1 h2
              refine j_aload_n dX9_becomes_68 rfl ?_
              refine j_getFR dX9_becomes_69 flX9_224_10 hM.1 rfl (mf_historyBy hM) ?_
              refine j_iload dX9_becomes_72 rfl ?_
              refine j_dup2 dX9_becomes_74 rfl rfl ?_
              obtain ⟨c67, h⟩ := h
              refine j_iald (n := 10) dX9_becomes_75 (mt_historyBy hM) (ml_historyBy hM) c67 ?_
              refine j_iconst dX9_becomes_76 ?_
              refine j_iadd dX9_becomes_77 ?_
              obtain ⟨c68, h⟩ := h
              obtain ⟨r69, h⟩ := h
              refine j_iast (n := 10) dX9_becomes_78 (mt_historyBy hM) (Nat.le_trans hM.2.1 (Nat.le_add_right _ _)) (ml_historyBy hM) c68 ?_
              obtain ⟨A70, eA70⟩ : ∃ x : jAr, x = upA A41 (o + 44) z47 ((A41 (o + 44) z47) + 1) := ⟨_, rfl⟩
              have hW71 : jWf N F40 A70 := eA70 ▸ jWf_A (i := z47) (z := (A41 (o + 44) z47) + 1) hW42 (mt_historyBy hM) (jRk_0 rfl r69)
              refine jnmA (e := eA70) ?_
              have h := h A70 eA70
              refine j_goto 108 dX9_becomes_79 rfl ?_
              obtain ⟨r72, h⟩ := h
              refine j_iinc dX9_becomes_108 rfl rfl ?_
              refine j_goto 34 dX9_becomes_111 rfl ?_
              exact J.wk ((((((((jWk.nil).no).eq).eq).eq).eq).no).eq) (ihI22 _ _ _ _ (Nat.lt_of_lt_of_le h.2 (Nat.le_of_lt_succ hmuI22)) hW71 rv17 r72 h.1)
      exact J.wk ((((((((jWk.nil).no).eq).eq).eq).eq).no).eq) (lp _ _ _ _ _ (Nat.lt_succ_self _) hW14 (by decide) (by decide) h0)
    · have h := h2 q8
      clear h1 h2
      refine j_iconst dX9_becomes_20 ?_
      exact j_iret dX9_becomes_21 rfl ⟨_, rfl, rfl, hW, h, (by decide)⟩
/-- wholeBy(I)I -/
def wpX9_wholeBy (o : Nat) (a1 : Int) (F : jFl) (A : jAr) (Q : Int → jFl → jAr → Prop) : Prop :=
  ∃ P1 : jFl → jAr → Prop, wpX9_loads o 0 a1 F A P1 ∧ ∀ F4 A5, P1 F4 A5 →
  ∃ (I12 : Int → jAr → Prop) (m13 : Int → jAr → Nat), I12 0 A5 ∧ ∀ (v9 : Int) (A10 : jAr), I12 v9 A10 →
    (((F4 3222 o) ≤ v9) →
      ∃ (I20 : Int → Int → jFl → jAr → Prop) (m21 : Int → Int → jFl → jAr → Nat), I20 0 0 F4 A10 ∧ ∀ (v15 : Int) (v16 : Int) (F17 : jFl) (A18 : jAr), I20 v15 v16 F17 A18 →
        (0 ≤ F17 3039 o ∧ F17 3039 o < 2) ∧
        (((A18 (o + 12) (F17 3039 o)) ≤ v16) →
          Q v15 F17 A18) ∧
        (¬ ((A18 (o + 12) (F17 3039 o)) ≤ v16) →
          ∃ P24 : jFl → jAr → Prop, wpX9_utters o v16 F17 A18 P24 ∧ ∀ F27 A28, P24 F27 A28 →
          ∀ z33 : Int, z33 = (if ¬ (F27 3183 o) = 0 then 0 else 1) →
          jR (v15 + z33) ∧
          ∀ v36 : Int, v36 = v15 + z33 →
          jR (v16 + 1) ∧
          I20 v36 (v16 + 1) F27 A28 ∧ m21 v36 (v16 + 1) F27 A28 < m21 v15 v16 F17 A18)) ∧
    (¬ ((F4 3222 o) ≤ v9) →
      (0 ≤ v9 ∧ v9 < 12) ∧
      (0 ≤ (12 * a1) + (A10 (o + 46) v9) ∧ (12 * a1) + (A10 (o + 46) v9) < 3168) ∧
      (0 ≤ v9 ∧ v9 < 12) ∧
      ∀ A41 : jAr, A41 = upA A10 (o + 36) v9 (A10 (o + 33) ((12 * a1) + (A10 (o + 46) v9))) →
      jR (v9 + 1) ∧
      I12 (v9 + 1) A41 ∧ m13 (v9 + 1) A41 < m13 v9 A10)
theorem wX9_wholeBy {G : jG} {l : Launch} {d : Nat} {N : jSh} {o : Nat} {F : jFl} {A : jAr} {a1 : Int} {Q : Int → jFl → jAr → Prop} (hd : 4 ≤ d) (hM : mShape G N o) (hW : jWf N F A) (ra1 : jR a1) (h : wpX9_wholeBy o a1 F A Q) : jCall G l d mX9_wholeBy [.ref o, vI a1] N F A (jmI N Q) := by
  refine jCall.of (ls := [.ref o, vI a1, jD, jD]) (by decide) rfl (Nat.le_of_ble_eq_true rfl) rfl ?_
  unfold wpX9_wholeBy at h
  refine j_aload_n dX9_wholeBy_0 rfl ?_
  refine j_iconst dX9_wholeBy_1 ?_
  refine j_iload_n dX9_wholeBy_2 rfl ?_
  obtain ⟨P1, hp2, h⟩ := h
  refine j_invV (As := [vI 0, vI a1]) (rest := []) dX9_wholeBy_3 lkX9_432 hM.1 rfl rfl (wX9_loads (d := 1) (Nat.le_of_ble_eq_true rfl) hM hW (by decide) ra1 hp2) rfl rfl (Nat.le_of_ble_eq_true rfl) (Nat.le_trans (Nat.le_of_ble_eq_true rfl) hd) (jkmV fun F4 A5 hW6 p7 => ?_)
  have h := h F4 A5 p7
  refine j_iconst dX9_wholeBy_6 ?_
  refine j_istore_n dX9_wholeBy_7 rfl ?_
  obtain ⟨I12, m13, h0, hs⟩ := h
  have lp : ∀ (n : Nat) (v9 : Int) (A10 : jAr), m13 v9 A10 < n → jWf N F4 A10 → jR v9 → I12 v9 A10 → J G l d mX9_wholeBy 8 [.ref o, vI a1, vI v9, jD] [] N F4 A10 (jmI N Q) := by
    intro nI12
    induction nI12 with
    | zero =>
      intro v9 A10 hmu
      exact absurd hmu (Nat.not_lt_zero _)
    | succ nI12 ihI12 =>
      intro v9 A10 hmuI12 hW11 rv9 hI
      have h := hs v9 A10 hI
      refine j_iload_n dX9_wholeBy_8 rfl ?_
      refine j_aload_n dX9_wholeBy_9 rfl ?_
      refine j_getI dX9_wholeBy_10 flX9_236_10 hM.1 rfl ?_
      obtain ⟨h1, h2⟩ := h
      refine j_icmp_ge 44 dX9_wholeBy_13 rfl rv9 (hW11.fi rfl) (fun q14 => ?_) (fun q14 => ?_)
      · have h := h1 q14
        clear h1 h2
        refine j_iconst dX9_wholeBy_44 ?_
        refine j_istore_n dX9_wholeBy_45 rfl ?_
        refine j_iconst dX9_wholeBy_46 ?_
        refine j_istore_n dX9_wholeBy_47 rfl ?_
        obtain ⟨I20, m21, h0, hs⟩ := h
        have lp : ∀ (n : Nat) (v15 : Int) (v16 : Int) (F17 : jFl) (A18 : jAr), m21 v15 v16 F17 A18 < n → jWf N F17 A18 → jR v15 → jR v16 → I20 v15 v16 F17 A18 → J G l d mX9_wholeBy 48 [.ref o, jD, vI v15, vI v16] [] N F17 A18 (jmI N Q) := by
          intro nI20
          induction nI20 with
          | zero =>
            intro v15 v16 F17 A18 hmu
            exact absurd hmu (Nat.not_lt_zero _)
          | succ nI20 ihI20 =>
            intro v15 v16 F17 A18 hmuI20 hW19 rv15 rv16 hI
            have h := hs v15 v16 F17 A18 hI
            refine j_iload_n dX9_wholeBy_48 rfl ?_
            refine j_aload_n dX9_wholeBy_49 rfl ?_
            refine j_getFR dX9_wholeBy_50 flX9_85_10 hM.1 rfl (mf_children hM) ?_
            refine j_aload_n dX9_wholeBy_53 rfl ?_
            refine j_getI dX9_wholeBy_54 flX9_51_10 hM.1 rfl ?_
            obtain ⟨c22, h⟩ := h
            refine j_iald (n := 2) dX9_wholeBy_57 (mt_children hM) (ml_children hM) c22 ?_
            obtain ⟨h1, h2⟩ := h
            refine j_icmp_ge 87 dX9_wholeBy_58 rfl rv16 (hW19.ai (mt_children hM) rfl) (fun q23 => ?_) (fun q23 => ?_)
            · have h := h1 q23
              clear h1 h2
              refine j_iload_n dX9_wholeBy_87 rfl ?_
              exact j_iret dX9_wholeBy_88 rfl ⟨_, rfl, rfl, hW19, h, rv15⟩
            · have h := h2 q23
              clear h1 h2
              refine j_aload_n dX9_wholeBy_61 rfl ?_
              refine j_iload_n dX9_wholeBy_62 rfl ?_
              obtain ⟨P24, hp25, h⟩ := h
              refine j_invV (As := [vI v16]) (rest := []) dX9_wholeBy_63 lkX9_435 hM.1 rfl rfl (wX9_utters (d := 3) (Nat.le_of_ble_eq_true rfl) hM hW19 rv16 hp25) rfl rfl (Nat.le_of_ble_eq_true rfl) (Nat.le_trans (Nat.le_of_ble_eq_true rfl) hd) (jkmV fun F27 A28 hW29 p30 => ?_)
              have h := h F27 A28 p30
              refine j_iload_n dX9_wholeBy_66 rfl ?_
              refine j_aload_n dX9_wholeBy_67 rfl ?_
              refine j_getI dX9_wholeBy_68 flX9_197_10 hM.1 rfl ?_
              have jn34 : ∀ z33 : Int, z33 = (if ¬ (F27 3183 o) = 0 then 0 else 1) → J G l d mX9_wholeBy 79 [.ref o, jD, vI v15, vI v16] [vI z33, vI v15] N F27 A28 (jmI N Q) := by
                intro z33 ez33
                have h := h z33 ez33
                refine j_iadd dX9_wholeBy_79 ?_
                obtain ⟨r35, h⟩ := h
                obtain ⟨v36, ev36⟩ : ∃ x : Int, x = v15 + z33 := ⟨_, rfl⟩
                have h := h v36 ev36
                refine jnmI (e := ev36) ?_
                refine j_istore_n dX9_wholeBy_80 rfl ?_
                obtain ⟨r37, h⟩ := h
                refine j_iinc dX9_wholeBy_81 rfl rfl ?_
                refine j_goto 48 dX9_wholeBy_84 rfl ?_
                exact J.wk (((((jWk.nil).eq).eq).no).eq) (ihI20 _ _ _ _ (Nat.lt_of_lt_of_le h.2 (Nat.le_of_lt_succ hmuI20)) hW29 (ev36 ▸ r35) r37 h.1)
              clear h
              refine j_if_ne 78 dX9_wholeBy_71 rfl (hW29.fi rfl) (fun q32 => ?_) (fun q32 => ?_)
              · refine j_iconst dX9_wholeBy_78 ?_
                exact jn34 _ ((if_pos q32).symm)
              · refine j_iconst dX9_wholeBy_74 ?_
                refine j_goto 79 dX9_wholeBy_75 rfl ?_
                exact jn34 _ ((if_neg q32).symm)
        exact J.wk (((((jWk.nil).eq).eq).no).eq) (lp _ _ _ _ _ (Nat.lt_succ_self _) hW11 (by decide) (by decide) h0)
      · have h := h2 q14
        clear h1 h2
        refine j_aload_n dX9_wholeBy_16 rfl ?_
        refine j_getFR dX9_wholeBy_17 flX9_175_10 hM.1 rfl (mf_told hM) ?_
        refine j_iload_n dX9_wholeBy_20 rfl ?_
        refine j_aload_n dX9_wholeBy_21 rfl ?_
        refine j_getFR dX9_wholeBy_22 flX9_157_10 hM.1 rfl (mf_rows hM) ?_
        refine j_bipush dX9_wholeBy_25 ?_
        refine j_iload_n dX9_wholeBy_27 rfl ?_
        refine j_imul dX9_wholeBy_28 ?_
        refine j_aload_n dX9_wholeBy_29 rfl ?_
        refine j_getFR dX9_wholeBy_30 flX9_230_10 hM.1 rfl (mf_perm hM) ?_
        refine j_iload_n dX9_wholeBy_33 rfl ?_
        obtain ⟨c38, h⟩ := h
        refine j_iald (n := 12) dX9_wholeBy_34 (mt_perm hM) (ml_perm hM) c38 ?_
        refine j_iadd dX9_wholeBy_35 ?_
        obtain ⟨c39, h⟩ := h
        refine j_iald (n := 3168) dX9_wholeBy_36 (mt_rows hM) (ml_rows hM) c39 ?_
        obtain ⟨c40, h⟩ := h
        refine j_iast (n := 12) dX9_wholeBy_37 (mt_told hM) (Nat.le_trans hM.2.1 (Nat.le_add_right _ _)) (ml_told hM) c40 ?_
        obtain ⟨A41, eA41⟩ : ∃ x : jAr, x = upA A10 (o + 36) v9 (A10 (o + 33) ((12 * a1) + (A10 (o + 46) v9))) := ⟨_, rfl⟩
        have hW42 : jWf N F4 A41 := eA41 ▸ jWf_A (i := v9) (z := A10 (o + 33) ((12 * a1) + (A10 (o + 46) v9))) hW11 (mt_told hM) (jRk_0 rfl (hW11.ai (mt_rows hM) rfl))
        refine jnmA (e := eA41) ?_
        have h := h A41 eA41
        obtain ⟨r43, h⟩ := h
        refine j_iinc dX9_wholeBy_38 rfl rfl ?_
        refine j_goto 8 dX9_wholeBy_41 rfl ?_
        exact J.wk (((((jWk.nil).no).eq).eq).eq) (ihI12 _ _ (Nat.lt_of_lt_of_le h.2 (Nat.le_of_lt_succ hmuI12)) hW42 r43 h.1)
  exact J.wk (((((jWk.nil).no).eq).eq).eq) (lp _ _ _ (Nat.lt_succ_self _) hW6 (by decide) h0)
/-- standsBy(II)Z -/
def wpX9_standsBy (o : Nat) (a1 : Int) (a2 : Int) (F : jFl) (A : jAr) (Q : Int → jFl → jAr → Prop) : Prop :=
  ∃ P1 : jFl → jAr → Prop, wpX9_loads o 0 a1 F A P1 ∧ ∀ F4 A5, P1 F4 A5 →
  ∃ P9 : jFl → jAr → Prop, wpX9_utters o a2 F4 A5 P9 ∧ ∀ F12 A13, P9 F12 A13 →
  ∀ z18 : Int, z18 = (if ¬ (F12 3183 o) = 0 then 0 else 1) →
  Q z18 F12 A13
theorem wX9_standsBy {G : jG} {l : Launch} {d : Nat} {N : jSh} {o : Nat} {F : jFl} {A : jAr} {a1 a2 : Int} {Q : Int → jFl → jAr → Prop} (hd : 4 ≤ d) (hM : mShape G N o) (hW : jWf N F A) (ra1 : jR a1) (ra2 : jR a2) (h : wpX9_standsBy o a1 a2 F A Q) : jCall G l d mX9_standsBy [.ref o, vI a1, vI a2] N F A (jmB N Q) := by
  refine jCall.of (ls := [.ref o, vI a1, vI a2]) (by decide) rfl (Nat.le_of_ble_eq_true rfl) rfl ?_
  unfold wpX9_standsBy at h
  refine j_aload_n dX9_standsBy_0 rfl ?_
  refine j_iconst dX9_standsBy_1 ?_
  refine j_iload_n dX9_standsBy_2 rfl ?_
  obtain ⟨P1, hp2, h⟩ := h
  refine j_invV (As := [vI 0, vI a1]) (rest := []) dX9_standsBy_3 lkX9_432 hM.1 rfl rfl (wX9_loads (d := 1) (Nat.le_of_ble_eq_true rfl) hM hW (by decide) ra1 hp2) rfl rfl (Nat.le_of_ble_eq_true rfl) (Nat.le_trans (Nat.le_of_ble_eq_true rfl) hd) (jkmV fun F4 A5 hW6 p7 => ?_)
  have h := h F4 A5 p7
  refine j_aload_n dX9_standsBy_6 rfl ?_
  refine j_iload_n dX9_standsBy_7 rfl ?_
  obtain ⟨P9, hp10, h⟩ := h
  refine j_invV (As := [vI a2]) (rest := []) dX9_standsBy_8 lkX9_435 hM.1 rfl rfl (wX9_utters (d := 3) (Nat.le_of_ble_eq_true rfl) hM hW6 ra2 hp10) rfl rfl (Nat.le_of_ble_eq_true rfl) (Nat.le_trans (Nat.le_of_ble_eq_true rfl) hd) (jkmV fun F12 A13 hW14 p15 => ?_)
  have h := h F12 A13 p15
  refine j_aload_n dX9_standsBy_11 rfl ?_
  refine j_getI dX9_standsBy_12 flX9_197_10 hM.1 rfl ?_
  have jn19 : ∀ z18 : Int, z18 = (if ¬ (F12 3183 o) = 0 then 0 else 1) → J G l d mX9_standsBy 23 [.ref o, vI a1, vI a2] [vI z18] N F12 A13 (jmB N Q) := by
    intro z18 ez18
    have h := h z18 ez18
    exact j_zret dX9_standsBy_23 rfl (nr_bool (ez18 ▸ (jB_ite (by decide) (by decide)))) ⟨_, rfl, rfl, hW14, h, (ez18 ▸ (jB_ite (by decide) (by decide)))⟩
  clear h
  refine j_if_ne 22 dX9_standsBy_15 rfl (hW14.fi rfl) (fun q17 => ?_) (fun q17 => ?_)
  · refine j_iconst dX9_standsBy_22 ?_
    exact jn19 _ ((if_pos q17).symm)
  · refine j_iconst dX9_standsBy_18 ?_
    refine j_goto 23 dX9_standsBy_19 rfl ?_
    exact jn19 _ ((if_neg q17).symm)
/-- finishes(I)V -/
def wpX9_finishes (o : Nat) (a1 : Int) (F : jFl) (A : jAr) (Q : jFl → jAr → Prop) : Prop :=
  ∃ P1 : jFl → jAr → Prop, wpX9_lex o F A P1 ∧ ∀ F4 A5, P1 F4 A5 →
  (((F4 3024 o) ≤ 0) →
    ∀ v10 : Int, v10 = F4 3015 o →
    ∃ (I12 : Int → Prop) (m13 : Int → Nat), I12 v10 ∧ ∀ (v11 : Int), I12 v11 →
      ∃ K15 : Prop, (
        K15 →
        ∃ P18 : Int → Prop, wpX9_isSign o 59 F4 A5 P18 ∧ ∀ z20, P18 z20 →
        ((z20 = 0) →
          ∃ P24 : jFl → jAr → Prop, wpX9_must_2 o 59 F4 A5 P24 ∧ ∀ F27 A28, P24 F27 A28 →
          Q F27 A28) ∧
        (¬ (z20 = 0) →
          ((¬ a1 = 90) →
            ∃ P33 : jFl → jAr → Prop, wpX9_must_2 o 59 F4 A5 P33 ∧ ∀ F36 A37, P33 F36 A37 →
            Q F36 A37) ∧
          (¬ (¬ a1 = 90) →
            (((F4 3006 o) ≤ v11) →
              ∃ P42 : jFl → jAr → Prop, wpX9_must_2 o 59 F4 A5 P42 ∧ ∀ F45 A46, P42 F45 A46 →
              Q F45 A46) ∧
            (¬ ((F4 3006 o) ≤ v11) →
              ∃ P50 : jFl → jAr → Prop, wpX9_blame o 5 v11 F4 A5 P50 ∧ ∀ F53 A54, P50 F53 A54 →
              ∃ P58 : jFl → jAr → Prop, wpX9_must_2 o 59 F53 A54 P58 ∧ ∀ F61 A62, P58 F61 A62 →
              Q F61 A62)))) ∧
      (((F4 3006 o) ≤ v11) →
        K15 ) ∧
      (¬ ((F4 3006 o) ≤ v11) →
        (0 ≤ v11 ∧ v11 < 1800) ∧
        (((A5 (o + 1) v11) = 32) →
          jR (v11 + 1) ∧
          I12 (v11 + 1) ∧ m13 (v11 + 1) < m13 v11) ∧
        (¬ ((A5 (o + 1) v11) = 32) →
          (0 ≤ v11 ∧ v11 < 1800) ∧
          ((¬ (A5 (o + 1) v11) = 10) →
            K15 ) ∧
          (¬ (¬ (A5 (o + 1) v11) = 10) →
            jR (v11 + 1) ∧
            I12 (v11 + 1) ∧ m13 (v11 + 1) < m13 v11)))) ∧
  (¬ ((F4 3024 o) ≤ 0) →
    Q F4 A5)
theorem wX9_finishes {G : jG} {l : Launch} {d : Nat} {N : jSh} {o : Nat} {F : jFl} {A : jAr} {a1 : Int} {Q : jFl → jAr → Prop} (hd : 4 ≤ d) (hM : mShape G N o) (hW : jWf N F A) (ra1 : jR a1) (h : wpX9_finishes o a1 F A Q) : jCall G l d mX9_finishes [.ref o, vI a1] N F A (jmV N Q) := by
  refine jCall.of (ls := [.ref o, vI a1, jD]) (by decide) rfl (Nat.le_of_ble_eq_true rfl) rfl ?_
  unfold wpX9_finishes at h
  refine j_aload_n dX9_finishes_0 rfl ?_
  obtain ⟨P1, hp2, h⟩ := h
  refine j_invV (As := []) (rest := []) dX9_finishes_1 lkX9_273 hM.1 rfl rfl (wX9_lex (d := 2) (Nat.le_of_ble_eq_true rfl) hM hW  hp2) rfl rfl (Nat.le_of_ble_eq_true rfl) (Nat.le_trans (Nat.le_of_ble_eq_true rfl) hd) (jkmV fun F4 A5 hW6 p7 => ?_)
  have h := h F4 A5 p7
  refine j_aload_n dX9_finishes_4 rfl ?_
  refine j_getI dX9_finishes_5 flX9_36_10 hM.1 rfl ?_
  obtain ⟨h1, h2⟩ := h
  refine j_if_le 12 dX9_finishes_8 rfl (hW6.fi rfl) (fun q9 => ?_) (fun q9 => ?_)
  · have h := h1 q9
    clear h1 h2
    refine j_aload_n dX9_finishes_12 rfl ?_
    refine j_getI dX9_finishes_13 flX9_26_10 hM.1 rfl ?_
    obtain ⟨v10, ev10⟩ : ∃ x : Int, x = F4 3015 o := ⟨_, rfl⟩
    have h := h v10 ev10
    refine jnmI (e := ev10) ?_
    refine j_istore_n dX9_finishes_16 rfl ?_
    obtain ⟨I12, m13, h0, hs⟩ := h
    have lp : ∀ (n : Nat) (v11 : Int), m13 v11 < n → jR v11 → I12 v11 → J G l d mX9_finishes 17 [.ref o, vI a1, vI v11] [] N F4 A5 (jmV N Q) := by
      intro nI12
      induction nI12 with
      | zero =>
        intro v11 hmu
        exact absurd hmu (Nat.not_lt_zero _)
      | succ nI12 ihI12 =>
        intro v11 hmuI12 rv11 hI
        have h := hs v11 hI
        refine j_iload_n dX9_finishes_17 rfl ?_
        refine j_aload_n dX9_finishes_18 rfl ?_
        refine j_getI dX9_finishes_19 flX9_17_10 hM.1 rfl ?_
        obtain ⟨K15, hK17, h⟩ := h
        have jn16 : K15  → J G l d mX9_finishes 53 [.ref o, vI a1, vI v11] [] N F4 A5 (jmV N Q) := by
          intro   h
          have h := hK17  h
          refine j_aload_n dX9_finishes_53 rfl ?_
          refine j_bipush dX9_finishes_54 ?_
          obtain ⟨P18, hp19, h⟩ := h
          refine j_invV (As := [vI 59]) (rest := []) dX9_finishes_56 lkX9_276 hM.1 rfl rfl (wX9_isSign (d := 1) (Nat.le_of_ble_eq_true rfl) hM hW6 (by decide) hp19) rfl rfl (Nat.le_of_ble_eq_true rfl) (Nat.le_trans (Nat.le_of_ble_eq_true rfl) hd) (jkpB fun z20 p21 r22 => ?_)
          have h := h z20 p21
          obtain ⟨h1, h2⟩ := h
          refine j_if_eq 82 dX9_finishes_59 rfl (jR_b r22) (fun q23 => ?_) (fun q23 => ?_)
          · have h := h1 q23
            clear h1 h2
            refine j_aload_n dX9_finishes_82 rfl ?_
            refine j_bipush dX9_finishes_83 ?_
            obtain ⟨P24, hp25, h⟩ := h
            refine j_invV (As := [vI 59]) (rest := []) dX9_finishes_85 lkX9_382 hM.1 rfl rfl (wX9_must_2 (d := 3) (Nat.le_of_ble_eq_true rfl) hM hW6 (by decide) hp25) rfl rfl (Nat.le_of_ble_eq_true rfl) (Nat.le_trans (Nat.le_of_ble_eq_true rfl) hd) (jkmV fun F27 A28 hW29 p30 => ?_)
            have h := h F27 A28 p30
            exact j_vret dX9_finishes_88 rfl ⟨rfl, rfl, hW29, h⟩
          · have h := h2 q23
            clear h1 h2
            refine j_iload_n dX9_finishes_62 rfl ?_
            refine j_bipush dX9_finishes_63 ?_
            obtain ⟨h1, h2⟩ := h
            refine j_icmp_ne 82 dX9_finishes_65 rfl ra1 (by decide) (fun q32 => ?_) (fun q32 => ?_)
            · have h := h1 q32
              clear h1 h2
              refine j_aload_n dX9_finishes_82 rfl ?_
              refine j_bipush dX9_finishes_83 ?_
              obtain ⟨P33, hp34, h⟩ := h
              refine j_invV (As := [vI 59]) (rest := []) dX9_finishes_85 lkX9_382 hM.1 rfl rfl (wX9_must_2 (d := 3) (Nat.le_of_ble_eq_true rfl) hM hW6 (by decide) hp34) rfl rfl (Nat.le_of_ble_eq_true rfl) (Nat.le_trans (Nat.le_of_ble_eq_true rfl) hd) (jkmV fun F36 A37 hW38 p39 => ?_)
              have h := h F36 A37 p39
              exact j_vret dX9_finishes_88 rfl ⟨rfl, rfl, hW38, h⟩
            · have h := h2 q32
              clear h1 h2
              refine j_iload_n dX9_finishes_68 rfl ?_
              refine j_aload_n dX9_finishes_69 rfl ?_
              refine j_getI dX9_finishes_70 flX9_17_10 hM.1 rfl ?_
              obtain ⟨h1, h2⟩ := h
              refine j_icmp_ge 82 dX9_finishes_73 rfl rv11 (hW6.fi rfl) (fun q41 => ?_) (fun q41 => ?_)
              · have h := h1 q41
                clear h1 h2
                refine j_aload_n dX9_finishes_82 rfl ?_
                refine j_bipush dX9_finishes_83 ?_
                obtain ⟨P42, hp43, h⟩ := h
                refine j_invV (As := [vI 59]) (rest := []) dX9_finishes_85 lkX9_382 hM.1 rfl rfl (wX9_must_2 (d := 3) (Nat.le_of_ble_eq_true rfl) hM hW6 (by decide) hp43) rfl rfl (Nat.le_of_ble_eq_true rfl) (Nat.le_trans (Nat.le_of_ble_eq_true rfl) hd) (jkmV fun F45 A46 hW47 p48 => ?_)
                have h := h F45 A46 p48
                exact j_vret dX9_finishes_88 rfl ⟨rfl, rfl, hW47, h⟩
              · have h := h2 q41
                clear h1 h2
                refine j_aload_n dX9_finishes_76 rfl ?_
                refine j_iconst dX9_finishes_77 ?_
                refine j_iload_n dX9_finishes_78 rfl ?_
                obtain ⟨P50, hp51, h⟩ := h
                refine j_invV (As := [vI 5, vI v11]) (rest := []) dX9_finishes_79 lkX9_262 hM.1 rfl rfl (wX9_blame (d := 1) (Nat.le_of_ble_eq_true rfl) hM hW6 (by decide) rv11 hp51) rfl rfl (Nat.le_of_ble_eq_true rfl) (Nat.le_trans (Nat.le_of_ble_eq_true rfl) hd) (jkmV fun F53 A54 hW55 p56 => ?_)
                have h := h F53 A54 p56
                refine j_aload_n dX9_finishes_82 rfl ?_
                refine j_bipush dX9_finishes_83 ?_
                obtain ⟨P58, hp59, h⟩ := h
                refine j_invV (As := [vI 59]) (rest := []) dX9_finishes_85 lkX9_382 hM.1 rfl rfl (wX9_must_2 (d := 3) (Nat.le_of_ble_eq_true rfl) hM hW55 (by decide) hp59) rfl rfl (Nat.le_of_ble_eq_true rfl) (Nat.le_trans (Nat.le_of_ble_eq_true rfl) hd) (jkmV fun F61 A62 hW63 p64 => ?_)
                have h := h F61 A62 p64
                exact j_vret dX9_finishes_88 rfl ⟨rfl, rfl, hW63, h⟩
        obtain ⟨h1, h2⟩ := h
        refine j_icmp_ge 53 dX9_finishes_22 rfl rv11 (hW6.fi rfl) (fun q14 => ?_) (fun q14 => ?_)
        · have h := h1 q14
          clear h1 h2
          exact J.wk ((((jWk.nil).eq).eq).eq) (jn16   h)
        · have h := h2 q14
          clear h1 h2
          refine j_aload_n dX9_finishes_25 rfl ?_
          refine j_getFR dX9_finishes_26 flX9_7_10 hM.1 rfl (mf_tape hM) ?_
          refine j_iload_n dX9_finishes_29 rfl ?_
          obtain ⟨c66, h⟩ := h
          refine j_iald (n := 1800) dX9_finishes_30 (mt_tape hM) (ml_tape hM) c66 ?_
          refine j_bipush dX9_finishes_31 ?_
          obtain ⟨h1, h2⟩ := h
          refine j_icmp_eq 47 dX9_finishes_33 rfl (hW6.ai (mt_tape hM) rfl) (by decide) (fun q67 => ?_) (fun q67 => ?_)
          · have h := h1 q67
            clear h1 h2
            obtain ⟨r68, h⟩ := h
            refine j_iinc dX9_finishes_47 rfl rfl ?_
            refine j_goto 17 dX9_finishes_50 rfl ?_
            exact J.wk ((((jWk.nil).eq).eq).eq) (ihI12 _ (Nat.lt_of_lt_of_le h.2 (Nat.le_of_lt_succ hmuI12)) r68 h.1)
          · have h := h2 q67
            clear h1 h2
            refine j_aload_n dX9_finishes_36 rfl ?_
            refine j_getFR dX9_finishes_37 flX9_7_10 hM.1 rfl (mf_tape hM) ?_
            refine j_iload_n dX9_finishes_40 rfl ?_
            obtain ⟨c69, h⟩ := h
            refine j_iald (n := 1800) dX9_finishes_41 (mt_tape hM) (ml_tape hM) c69 ?_
            refine j_bipush dX9_finishes_42 ?_
            obtain ⟨h1, h2⟩ := h
            refine j_icmp_ne 53 dX9_finishes_44 rfl (hW6.ai (mt_tape hM) rfl) (by decide) (fun q70 => ?_) (fun q70 => ?_)
            · have h := h1 q70
              clear h1 h2
              exact J.wk ((((jWk.nil).eq).eq).eq) (jn16   h)
            · have h := h2 q70
              clear h1 h2
              obtain ⟨r71, h⟩ := h
              refine j_iinc dX9_finishes_47 rfl rfl ?_
              refine j_goto 17 dX9_finishes_50 rfl ?_
              exact J.wk ((((jWk.nil).eq).eq).eq) (ihI12 _ (Nat.lt_of_lt_of_le h.2 (Nat.le_of_lt_succ hmuI12)) r71 h.1)
    exact J.wk ((((jWk.nil).eq).eq).eq) (lp _ _ (Nat.lt_succ_self _) (ev10 ▸ (hW6.fi rfl)) h0)
  · have h := h2 q9
    clear h1 h2
    exact j_vret dX9_finishes_11 rfl ⟨rfl, rfl, hW6, h⟩
/-- on()Z -/
def wpX9_on (o : Nat) (F : jFl) (A : jAr) (Q : Int → jFl → jAr → Prop) : Prop :=
  ∀ v1 : Int, v1 = F 3003 o →
  ∀ F2 : jFl, F2 = upF F 3003 o 0 →
  ∃ P4 : Int → Prop, wpX9_isImage o v1 F2 A P4 ∧ ∀ z6, P4 z6 →
  ((¬ z6 = 0) →
    ((0 : Int) ≤ 8 ∧ (8 : Int) < 32) ∧
    (((0 : Int) ≤ (A (o + 1) 0) * 2 ^ 8 ∧ ((A (o + 1) 0) * 2 ^ 8 : Int) ≤ 2147483647) ∧ ((0 : Int) ≤ A (o + 1) 1 ∧ (A (o + 1) 1 : Int) ≤ 2147483647)) ∧
    jR (jor ((A (o + 1) 0) * 2 ^ 8) (A (o + 1) 1)) ∧
    ∀ A16 : jAr, A16 = upA A (o + 28) 0 (jor ((A (o + 1) 0) * 2 ^ 8) (A (o + 1) 1)) →
    ∃ (I21 : Int → jAr → Prop) (m22 : Int → jAr → Nat), I21 0 A16 ∧ ∀ (v18 : Int) (A19 : jAr), I21 v18 A19 →
      (0 ≤ F2 3039 o ∧ F2 3039 o < 2) ∧
      (((A19 (o + 17) (F2 3039 o)) ≤ v18) →
        (0 ≤ F2 3039 o ∧ F2 3039 o < 2) ∧
        jR (3 + (A19 (o + 17) (F2 3039 o))) ∧
        ∀ v27 : Int, v27 = 3 + (A19 (o + 17) (F2 3039 o)) →
        ∃ (I32 : Int → Int → jAr → Prop) (m33 : Int → Int → jAr → Nat), I32 v27 0 A19 ∧ ∀ (v28 : Int) (v29 : Int) (A30 : jAr), I32 v28 v29 A30 →
          (0 ≤ F2 3039 o ∧ F2 3039 o < 2) ∧
          (((A30 (o + 17) (F2 3039 o)) ≤ v29) →
            ∀ A37 : jAr, A37 = upA A30 (o + 34) 0 0 →
            ∀ F39 : jFl, F39 = upF F2 3156 o 0 →
            Q 1 F39 A37) ∧
          (¬ ((A30 (o + 17) (F2 3039 o)) ≤ v29) →
            (0 ≤ v28 ∧ v28 < 1800) ∧
            (0 ≤ v29 ∧ v29 < 264) ∧
            ∀ A43 : jAr, A43 = upA A30 (o + 32) v29 (A30 (o + 1) v28) →
            (0 ≤ v28 + 1 ∧ v28 + 1 < 1800) ∧
            (0 ≤ v29 ∧ v29 < 264) ∧
            ∀ A47 : jAr, A47 = upA A43 (o + 30) v29 (A43 (o + 1) (v28 + 1)) →
            (0 ≤ v28 + 2 ∧ v28 + 2 < 1800) ∧
            (0 ≤ v29 ∧ v29 < 264) ∧
            ∀ A51 : jAr, A51 = upA A47 (o + 31) v29 (A47 (o + 1) (v28 + 2)) →
            ∃ (I56 : Int → jAr → Prop) (m57 : Int → jAr → Nat), I56 0 A51 ∧ ∀ (v53 : Int) (A54 : jAr), I56 v53 A54 →
              (0 ≤ v29 ∧ v29 < 264) ∧
              (0 ≤ v29 ∧ v29 < 264) ∧
              jR ((A54 (o + 30) v29) + (A54 (o + 31) v29)) ∧
              ((((A54 (o + 30) v29) + (A54 (o + 31) v29)) ≤ v53) →
                (0 ≤ v29 ∧ v29 < 264) ∧
                (0 ≤ v29 ∧ v29 < 264) ∧
                jR (v28 + ((3 + (A54 (o + 30) v29)) + (A54 (o + 31) v29))) ∧
                ∀ v65 : Int, v65 = v28 + ((3 + (A54 (o + 30) v29)) + (A54 (o + 31) v29)) →
                jR (v29 + 1) ∧
                I32 v65 (v29 + 1) A54 ∧ m33 v65 (v29 + 1) A54 < m33 v28 v29 A30) ∧
              (¬ (((A54 (o + 30) v29) + (A54 (o + 31) v29)) ≤ v53) →
                (0 ≤ (v28 + 3) + v53 ∧ (v28 + 3) + v53 < 1800) ∧
                (0 ≤ (12 * v29) + v53 ∧ (12 * v29) + v53 < 3168) ∧
                ∀ A69 : jAr, A69 = upA A54 (o + 33) ((12 * v29) + v53) (A54 (o + 1) ((v28 + 3) + v53)) →
                jR (v53 + 1) ∧
                I56 (v53 + 1) A69 ∧ m57 (v53 + 1) A69 < m57 v53 A54))) ∧
      (¬ ((A19 (o + 17) (F2 3039 o)) ≤ v18) →
        (0 ≤ 3 + v18 ∧ 3 + v18 < 1800) ∧
        (0 ≤ v18 ∧ v18 < 264) ∧
        ∀ A74 : jAr, A74 = upA A19 (o + 29) v18 (A19 (o + 1) (3 + v18)) →
        jR (v18 + 1) ∧
        I21 (v18 + 1) A74 ∧ m22 (v18 + 1) A74 < m22 v18 A19)) ∧
  (¬ (¬ z6 = 0) →
    ∃ P77 : Int → jFl → jAr → Prop, wpX9_refuses o 5 F2 A P77 ∧ ∀ z79 F80 A81, P77 z79 F80 A81 →
    ∀ z86 : Int, z86 = (if z79 < 0 then 0 else 1) →
    Q z86 F80 A81)
theorem wX9_on {G : jG} {l : Launch} {d : Nat} {N : jSh} {o : Nat} {F : jFl} {A : jAr} {Q : Int → jFl → jAr → Prop} (hd : 4 ≤ d) (hM : mShape G N o) (hW : jWf N F A) (h : wpX9_on o F A Q) : jCall G l d mX9_on [.ref o] N F A (jmB N Q) := by
  refine jCall.of (ls := [.ref o, jD, jD, jD, jD]) (by decide) rfl (Nat.le_of_ble_eq_true rfl) rfl ?_
  unfold wpX9_on at h
  refine j_aload_n dX9_on_0 rfl ?_
  refine j_getI dX9_on_1 flX9_13_10 hM.1 rfl ?_
  obtain ⟨v1, ev1⟩ : ∃ x : Int, x = F 3003 o := ⟨_, rfl⟩
  have h := h v1 ev1
  refine jnmI (e := ev1) ?_
  refine j_istore_n dX9_on_4 rfl ?_
  refine j_aload_n dX9_on_5 rfl ?_
  refine j_iconst dX9_on_6 ?_
  refine j_putI dX9_on_7 flX9_13_10 hM.1 hM.2.1 rfl ?_
  obtain ⟨F2, eF2⟩ : ∃ x : jFl, x = upF F 3003 o 0 := ⟨_, rfl⟩
  have hW3 : jWf N F2 A := eF2 ▸ jWf_F (f := 3003) (a := o) (z := 0) hW (jRk_0 rfl (by decide))
  refine jnmF (e := eF2) ?_
  have h := h F2 eF2
  refine j_aload_n dX9_on_10 rfl ?_
  refine j_iload_n dX9_on_11 rfl ?_
  obtain ⟨P4, hp5, h⟩ := h
  refine j_invV (As := [vI v1]) (rest := []) dX9_on_12 lkX9_561 hM.1 rfl rfl (wX9_isImage (d := 3) (Nat.le_of_ble_eq_true rfl) hM hW3 (ev1 ▸ (hW.fi rfl)) hp5) rfl rfl (Nat.le_of_ble_eq_true rfl) (Nat.le_trans (Nat.le_of_ble_eq_true rfl) hd) (jkpB fun z6 p7 r8 => ?_)
  have h := h z6 p7
  obtain ⟨h1, h2⟩ := h
  refine j_if_ne 32 dX9_on_15 rfl (jR_b r8) (fun q9 => ?_) (fun q9 => ?_)
  · have h := h1 q9
    clear h1 h2
    refine j_aload_n dX9_on_32 rfl ?_
    refine j_getFR dX9_on_33 flX9_142_10 hM.1 rfl (mf_year hM) ?_
    refine j_iconst dX9_on_36 ?_
    refine j_aload_n dX9_on_37 rfl ?_
    refine j_getFR dX9_on_38 flX9_7_10 hM.1 rfl (mf_tape hM) ?_
    refine j_iconst dX9_on_41 ?_
    refine j_iald (n := 1800) dX9_on_42 (mt_tape hM) (ml_tape hM) (by decide) ?_
    refine j_bipush dX9_on_43 ?_
    obtain ⟨c11, h⟩ := h
    refine j_ishl dX9_on_45 c11 ?_
    refine j_aload_n dX9_on_46 rfl ?_
    refine j_getFR dX9_on_47 flX9_7_10 hM.1 rfl (mf_tape hM) ?_
    refine j_iconst dX9_on_50 ?_
    refine j_iald (n := 1800) dX9_on_51 (mt_tape hM) (ml_tape hM) (by decide) ?_
    obtain ⟨c13, h⟩ := h
    refine j_ior dX9_on_52 c13.1 c13.2 ?_
    obtain ⟨r15, h⟩ := h
    refine j_iast (n := 22) dX9_on_53 (mt_year hM) (Nat.le_trans hM.2.1 (Nat.le_add_right _ _)) (ml_year hM) (by decide) ?_
    obtain ⟨A16, eA16⟩ : ∃ x : jAr, x = upA A (o + 28) 0 (jor ((A (o + 1) 0) * 2 ^ 8) (A (o + 1) 1)) := ⟨_, rfl⟩
    have hW17 : jWf N F2 A16 := eA16 ▸ jWf_A (i := 0) (z := jor ((A (o + 1) 0) * 2 ^ 8) (A (o + 1) 1)) hW3 (mt_year hM) (jRk_0 rfl r15)
    refine jnmA (e := eA16) ?_
    have h := h A16 eA16
    refine j_iconst dX9_on_54 ?_
    refine j_istore_n dX9_on_55 rfl ?_
    obtain ⟨I21, m22, h0, hs⟩ := h
    have lp : ∀ (n : Nat) (v18 : Int) (A19 : jAr), m22 v18 A19 < n → jWf N F2 A19 → jR v18 → I21 v18 A19 → J G l d mX9_on 56 [.ref o, jD, vI v18, jD, jD] [] N F2 A19 (jmB N Q) := by
      intro nI21
      induction nI21 with
      | zero =>
        intro v18 A19 hmu
        exact absurd hmu (Nat.not_lt_zero _)
      | succ nI21 ihI21 =>
        intro v18 A19 hmuI21 hW20 rv18 hI
        have h := hs v18 A19 hI
        refine j_iload_n dX9_on_56 rfl ?_
        refine j_aload_n dX9_on_57 rfl ?_
        refine j_getFR dX9_on_58 flX9_100_10 hM.1 rfl (mf_laws hM) ?_
        refine j_aload_n dX9_on_61 rfl ?_
        refine j_getI dX9_on_62 flX9_51_10 hM.1 rfl ?_
        obtain ⟨c23, h⟩ := h
        refine j_iald (n := 2) dX9_on_65 (mt_laws hM) (ml_laws hM) c23 ?_
        obtain ⟨h1, h2⟩ := h
        refine j_icmp_ge 89 dX9_on_66 rfl rv18 (hW20.ai (mt_laws hM) rfl) (fun q24 => ?_) (fun q24 => ?_)
        · have h := h1 q24
          clear h1 h2
          refine j_iconst dX9_on_89 ?_
          refine j_aload_n dX9_on_90 rfl ?_
          refine j_getFR dX9_on_91 flX9_100_10 hM.1 rfl (mf_laws hM) ?_
          refine j_aload_n dX9_on_94 rfl ?_
          refine j_getI dX9_on_95 flX9_51_10 hM.1 rfl ?_
          obtain ⟨c25, h⟩ := h
          refine j_iald (n := 2) dX9_on_98 (mt_laws hM) (ml_laws hM) c25 ?_
          refine j_iadd dX9_on_99 ?_
          obtain ⟨r26, h⟩ := h
          obtain ⟨v27, ev27⟩ : ∃ x : Int, x = 3 + (A19 (o + 17) (F2 3039 o)) := ⟨_, rfl⟩
          have h := h v27 ev27
          refine jnmI (e := ev27) ?_
          refine j_istore_n dX9_on_100 rfl ?_
          refine j_iconst dX9_on_101 ?_
          refine j_istore_n dX9_on_102 rfl ?_
          obtain ⟨I32, m33, h0, hs⟩ := h
          have lp : ∀ (n : Nat) (v28 : Int) (v29 : Int) (A30 : jAr), m33 v28 v29 A30 < n → jWf N F2 A30 → jR v28 → jR v29 → I32 v28 v29 A30 → J G l d mX9_on 103 [.ref o, jD, vI v28, vI v29, jD] [] N F2 A30 (jmB N Q) := by
            intro nI32
            induction nI32 with
            | zero =>
              intro v28 v29 A30 hmu
              exact absurd hmu (Nat.not_lt_zero _)
            | succ nI32 ihI32 =>
              intro v28 v29 A30 hmuI32 hW31 rv28 rv29 hI
              have h := hs v28 v29 A30 hI
              refine j_iload_n dX9_on_103 rfl ?_
              refine j_aload_n dX9_on_104 rfl ?_
              refine j_getFR dX9_on_105 flX9_100_10 hM.1 rfl (mf_laws hM) ?_
              refine j_aload_n dX9_on_108 rfl ?_
              refine j_getI dX9_on_109 flX9_51_10 hM.1 rfl ?_
              obtain ⟨c34, h⟩ := h
              refine j_iald (n := 2) dX9_on_112 (mt_laws hM) (ml_laws hM) c34 ?_
              obtain ⟨h1, h2⟩ := h
              refine j_icmp_ge 230 dX9_on_113 rfl rv29 (hW31.ai (mt_laws hM) rfl) (fun q35 => ?_) (fun q35 => ?_)
              · have h := h1 q35
                clear h1 h2
                refine j_aload_n dX9_on_230 rfl ?_
                refine j_getFR dX9_on_231 flX9_160_10 hM.1 rfl (mf_bookMany hM) ?_
                refine j_iconst dX9_on_234 ?_
                refine j_iconst dX9_on_235 ?_
                refine j_iast (n := 22) dX9_on_236 (mt_bookMany hM) (Nat.le_trans hM.2.1 (Nat.le_add_right _ _)) (ml_bookMany hM) (by decide) ?_
                obtain ⟨A37, eA37⟩ : ∃ x : jAr, x = upA A30 (o + 34) 0 0 := ⟨_, rfl⟩
                have hW38 : jWf N F2 A37 := eA37 ▸ jWf_A (i := 0) (z := 0) hW31 (mt_bookMany hM) (jRk_0 rfl (by decide))
                refine jnmA (e := eA37) ?_
                have h := h A37 eA37
                refine j_aload_n dX9_on_237 rfl ?_
                refine j_iconst dX9_on_238 ?_
                refine j_putI dX9_on_239 flX9_169_10 hM.1 hM.2.1 rfl ?_
                obtain ⟨F39, eF39⟩ : ∃ x : jFl, x = upF F2 3156 o 0 := ⟨_, rfl⟩
                have hW40 : jWf N F39 A37 := eF39 ▸ jWf_F (f := 3156) (a := o) (z := 0) hW38 (jRk_0 rfl (by decide))
                refine jnmF (e := eF39) ?_
                have h := h F39 eF39
                refine j_iconst dX9_on_242 ?_
                exact j_zret dX9_on_243 rfl (nr_bool (by decide)) ⟨_, rfl, rfl, hW40, h, (by decide)⟩
              · have h := h2 q35
                clear h1 h2
                refine j_aload_n dX9_on_116 rfl ?_
                refine j_getFR dX9_on_117 flX9_154_10 hM.1 rfl (mf_sung hM) ?_
                refine j_iload_n dX9_on_120 rfl ?_
                refine j_aload_n dX9_on_121 rfl ?_
                refine j_getFR dX9_on_122 flX9_7_10 hM.1 rfl (mf_tape hM) ?_
                refine j_iload_n dX9_on_125 rfl ?_
                obtain ⟨c41, h⟩ := h
                refine j_iald (n := 1800) dX9_on_126 (mt_tape hM) (ml_tape hM) c41 ?_
                obtain ⟨c42, h⟩ := h
                refine j_iast (n := 264) dX9_on_127 (mt_sung hM) (Nat.le_trans hM.2.1 (Nat.le_add_right _ _)) (ml_sung hM) c42 ?_
                obtain ⟨A43, eA43⟩ : ∃ x : jAr, x = upA A30 (o + 32) v29 (A30 (o + 1) v28) := ⟨_, rfl⟩
                have hW44 : jWf N F2 A43 := eA43 ▸ jWf_A (i := v29) (z := A30 (o + 1) v28) hW31 (mt_sung hM) (jRk_0 rfl (hW31.ai (mt_tape hM) rfl))
                refine jnmA (e := eA43) ?_
                have h := h A43 eA43
                refine j_aload_n dX9_on_128 rfl ?_
                refine j_getFR dX9_on_129 flX9_148_10 hM.1 rfl (mf_main hM) ?_
                refine j_iload_n dX9_on_132 rfl ?_
                refine j_aload_n dX9_on_133 rfl ?_
                refine j_getFR dX9_on_134 flX9_7_10 hM.1 rfl (mf_tape hM) ?_
                refine j_iload_n dX9_on_137 rfl ?_
                refine j_iconst dX9_on_138 ?_
                refine j_iadd dX9_on_139 ?_
                obtain ⟨c45, h⟩ := h
                refine j_iald (n := 1800) dX9_on_140 (mt_tape hM) (ml_tape hM) c45 ?_
                obtain ⟨c46, h⟩ := h
                refine j_iast (n := 264) dX9_on_141 (mt_main hM) (Nat.le_trans hM.2.1 (Nat.le_add_right _ _)) (ml_main hM) c46 ?_
                obtain ⟨A47, eA47⟩ : ∃ x : jAr, x = upA A43 (o + 30) v29 (A43 (o + 1) (v28 + 1)) := ⟨_, rfl⟩
                have hW48 : jWf N F2 A47 := eA47 ▸ jWf_A (i := v29) (z := A43 (o + 1) (v28 + 1)) hW44 (mt_main hM) (jRk_0 rfl (hW44.ai (mt_tape hM) rfl))
                refine jnmA (e := eA47) ?_
                have h := h A47 eA47
                refine j_aload_n dX9_on_142 rfl ?_
                refine j_getFR dX9_on_143 flX9_151_10 hM.1 rfl (mf_except hM) ?_
                refine j_iload_n dX9_on_146 rfl ?_
                refine j_aload_n dX9_on_147 rfl ?_
                refine j_getFR dX9_on_148 flX9_7_10 hM.1 rfl (mf_tape hM) ?_
                refine j_iload_n dX9_on_151 rfl ?_
                refine j_iconst dX9_on_152 ?_
                refine j_iadd dX9_on_153 ?_
                obtain ⟨c49, h⟩ := h
                refine j_iald (n := 1800) dX9_on_154 (mt_tape hM) (ml_tape hM) c49 ?_
                obtain ⟨c50, h⟩ := h
                refine j_iast (n := 264) dX9_on_155 (mt_except hM) (Nat.le_trans hM.2.1 (Nat.le_add_right _ _)) (ml_except hM) c50 ?_
                obtain ⟨A51, eA51⟩ : ∃ x : jAr, x = upA A47 (o + 31) v29 (A47 (o + 1) (v28 + 2)) := ⟨_, rfl⟩
                have hW52 : jWf N F2 A51 := eA51 ▸ jWf_A (i := v29) (z := A47 (o + 1) (v28 + 2)) hW48 (mt_except hM) (jRk_0 rfl (hW48.ai (mt_tape hM) rfl))
                refine jnmA (e := eA51) ?_
                have h := h A51 eA51
                refine j_iconst dX9_on_156 ?_
                refine j_istore dX9_on_157 rfl ?_
                obtain ⟨I56, m57, h0, hs⟩ := h
                have lp : ∀ (n : Nat) (v53 : Int) (A54 : jAr), m57 v53 A54 < n → jWf N F2 A54 → jR v53 → I56 v53 A54 → J G l d mX9_on 159 [.ref o, jD, vI v28, vI v29, vI v53] [] N F2 A54 (jmB N Q) := by
                  intro nI56
                  induction nI56 with
                  | zero =>
                    intro v53 A54 hmu
                    exact absurd hmu (Nat.not_lt_zero _)
                  | succ nI56 ihI56 =>
                    intro v53 A54 hmuI56 hW55 rv53 hI
                    have h := hs v53 A54 hI
                    refine j_iload dX9_on_159 rfl ?_
                    refine j_aload_n dX9_on_161 rfl ?_
                    refine j_getFR dX9_on_162 flX9_148_10 hM.1 rfl (mf_main hM) ?_
                    refine j_iload_n dX9_on_165 rfl ?_
                    obtain ⟨c58, h⟩ := h
                    refine j_iald (n := 264) dX9_on_166 (mt_main hM) (ml_main hM) c58 ?_
                    refine j_aload_n dX9_on_167 rfl ?_
                    refine j_getFR dX9_on_168 flX9_151_10 hM.1 rfl (mf_except hM) ?_
                    refine j_iload_n dX9_on_171 rfl ?_
                    obtain ⟨c59, h⟩ := h
                    refine j_iald (n := 264) dX9_on_172 (mt_except hM) (ml_except hM) c59 ?_
                    refine j_iadd dX9_on_173 ?_
                    obtain ⟨r60, h⟩ := h
                    obtain ⟨h1, h2⟩ := h
                    refine j_icmp_ge 206 dX9_on_174 rfl rv53 r60 (fun q61 => ?_) (fun q61 => ?_)
                    · have h := h1 q61
                      clear h1 h2
                      refine j_iload_n dX9_on_206 rfl ?_
                      refine j_iconst dX9_on_207 ?_
                      refine j_aload_n dX9_on_208 rfl ?_
                      refine j_getFR dX9_on_209 flX9_148_10 hM.1 rfl (mf_main hM) ?_
                      refine j_iload_n dX9_on_212 rfl ?_
                      obtain ⟨c62, h⟩ := h
                      refine j_iald (n := 264) dX9_on_213 (mt_main hM) (ml_main hM) c62 ?_
                      refine j_iadd dX9_on_214 ?_
                      refine j_aload_n dX9_on_215 rfl ?_
                      refine j_getFR dX9_on_216 flX9_151_10 hM.1 rfl (mf_except hM) ?_
                      refine j_iload_n dX9_on_219 rfl ?_
                      obtain ⟨c63, h⟩ := h
                      refine j_iald (n := 264) dX9_on_220 (mt_except hM) (ml_except hM) c63 ?_
                      refine j_iadd dX9_on_221 ?_
                      refine j_iadd dX9_on_222 ?_
                      obtain ⟨r64, h⟩ := h
                      obtain ⟨v65, ev65⟩ : ∃ x : Int, x = v28 + ((3 + (A54 (o + 30) v29)) + (A54 (o + 31) v29)) := ⟨_, rfl⟩
                      have h := h v65 ev65
                      refine jnmI (e := ev65) ?_
                      refine j_istore_n dX9_on_223 rfl ?_
                      obtain ⟨r66, h⟩ := h
                      refine j_iinc dX9_on_224 rfl rfl ?_
                      refine j_goto 103 dX9_on_227 rfl ?_
                      exact J.wk ((((((jWk.nil).no).eq).eq).no).eq) (ihI32 _ _ _ (Nat.lt_of_lt_of_le h.2 (Nat.le_of_lt_succ hmuI32)) hW55 (ev65 ▸ r64) r66 h.1)
                    · have h := h2 q61
                      clear h1 h2
                      refine j_aload_n dX9_on_177 rfl ?_
                      refine j_getFR dX9_on_178 flX9_157_10 hM.1 rfl (mf_rows hM) ?_
                      refine j_bipush dX9_on_181 ?_
                      refine j_iload_n dX9_on_183 rfl ?_
                      refine j_imul dX9_on_184 ?_
                      refine j_iload dX9_on_185 rfl ?_
                      refine j_iadd dX9_on_187 ?_
                      refine j_aload_n dX9_on_188 rfl ?_
                      refine j_getFR dX9_on_189 flX9_7_10 hM.1 rfl (mf_tape hM) ?_
                      refine j_iload_n dX9_on_192 rfl ?_
                      refine j_iconst dX9_on_193 ?_
                      refine j_iadd dX9_on_194 ?_
                      refine j_iload dX9_on_195 rfl ?_
                      refine j_iadd dX9_on_197 ?_
                      obtain ⟨c67, h⟩ := h
                      refine j_iald (n := 1800) dX9_on_198 (mt_tape hM) (ml_tape hM) c67 ?_
                      obtain ⟨c68, h⟩ := h
                      refine j_iast (n := 3168) dX9_on_199 (mt_rows hM) (Nat.le_trans hM.2.1 (Nat.le_add_right _ _)) (ml_rows hM) c68 ?_
                      obtain ⟨A69, eA69⟩ : ∃ x : jAr, x = upA A54 (o + 33) ((12 * v29) + v53) (A54 (o + 1) ((v28 + 3) + v53)) := ⟨_, rfl⟩
                      have hW70 : jWf N F2 A69 := eA69 ▸ jWf_A (i := (12 * v29) + v53) (z := A54 (o + 1) ((v28 + 3) + v53)) hW55 (mt_rows hM) (jRk_0 rfl (hW55.ai (mt_tape hM) rfl))
                      refine jnmA (e := eA69) ?_
                      have h := h A69 eA69
                      obtain ⟨r71, h⟩ := h
                      refine j_iinc dX9_on_200 rfl rfl ?_
                      refine j_goto 159 dX9_on_203 rfl ?_
                      exact J.wk ((((((jWk.nil).eq).eq).eq).no).eq) (ihI56 _ _ (Nat.lt_of_lt_of_le h.2 (Nat.le_of_lt_succ hmuI56)) hW70 r71 h.1)
                exact J.wk ((((((jWk.nil).eq).eq).eq).no).eq) (lp _ _ _ (Nat.lt_succ_self _) hW52 (by decide) h0)
          exact J.wk ((((((jWk.nil).no).eq).eq).no).eq) (lp _ _ _ _ (Nat.lt_succ_self _) hW20 (ev27 ▸ r26) (by decide) h0)
        · have h := h2 q24
          clear h1 h2
          refine j_aload_n dX9_on_69 rfl ?_
          refine j_getFR dX9_on_70 flX9_145_10 hM.1 rfl (mf_orderOf hM) ?_
          refine j_iload_n dX9_on_73 rfl ?_
          refine j_aload_n dX9_on_74 rfl ?_
          refine j_getFR dX9_on_75 flX9_7_10 hM.1 rfl (mf_tape hM) ?_
          refine j_iconst dX9_on_78 ?_
          refine j_iload_n dX9_on_79 rfl ?_
          refine j_iadd dX9_on_80 ?_
          obtain ⟨c72, h⟩ := h
          refine j_iald (n := 1800) dX9_on_81 (mt_tape hM) (ml_tape hM) c72 ?_
          obtain ⟨c73, h⟩ := h
          refine j_iast (n := 264) dX9_on_82 (mt_orderOf hM) (Nat.le_trans hM.2.1 (Nat.le_add_right _ _)) (ml_orderOf hM) c73 ?_
          obtain ⟨A74, eA74⟩ : ∃ x : jAr, x = upA A19 (o + 29) v18 (A19 (o + 1) (3 + v18)) := ⟨_, rfl⟩
          have hW75 : jWf N F2 A74 := eA74 ▸ jWf_A (i := v18) (z := A19 (o + 1) (3 + v18)) hW20 (mt_orderOf hM) (jRk_0 rfl (hW20.ai (mt_tape hM) rfl))
          refine jnmA (e := eA74) ?_
          have h := h A74 eA74
          obtain ⟨r76, h⟩ := h
          refine j_iinc dX9_on_83 rfl rfl ?_
          refine j_goto 56 dX9_on_86 rfl ?_
          exact J.wk ((((((jWk.nil).no).no).eq).no).eq) (ihI21 _ _ (Nat.lt_of_lt_of_le h.2 (Nat.le_of_lt_succ hmuI21)) hW75 r76 h.1)
    exact J.wk ((((((jWk.nil).no).no).eq).no).eq) (lp _ _ _ (Nat.lt_succ_self _) hW17 (by decide) h0)
  · have h := h2 q9
    clear h1 h2
    refine j_aload_n dX9_on_18 rfl ?_
    refine j_iconst dX9_on_19 ?_
    obtain ⟨P77, hp78, h⟩ := h
    refine j_invV (As := [vI 5]) (rest := []) dX9_on_20 lkX9_254 hM.1 rfl rfl (wX9_refuses (d := 1) (Nat.le_of_ble_eq_true rfl) hM hW3 (by decide) hp78) rfl rfl (Nat.le_of_ble_eq_true rfl) (Nat.le_trans (Nat.le_of_ble_eq_true rfl) hd) (jkmI fun z79 F80 A81 hW82 p83 r84 => ?_)
    have h := h z79 F80 A81 p83
    have jn87 : ∀ z86 : Int, z86 = (if z79 < 0 then 0 else 1) → J G l d mX9_on 31 [.ref o, vI v1, jD, jD, jD] [vI z86] N F80 A81 (jmB N Q) := by
      intro z86 ez86
      have h := h z86 ez86
      exact j_zret dX9_on_31 rfl (nr_bool (ez86 ▸ (jB_ite (by decide) (by decide)))) ⟨_, rfl, rfl, hW82, h, (ez86 ▸ (jB_ite (by decide) (by decide)))⟩
    clear h
    refine j_if_lt 30 dX9_on_23 rfl r84 (fun q85 => ?_) (fun q85 => ?_)
    · refine j_iconst dX9_on_30 ?_
      exact jn87 _ ((if_pos q85).symm)
    · refine j_iconst dX9_on_26 ?_
      refine j_goto 31 dX9_on_27 rfl ?_
      exact jn87 _ ((if_neg q85).symm)
