set_option maxRecDepth 100000
set_option linter.unusedVariables false
/-! walks of ChildSaysModel: printed by gen/walk.py -/
/-- isAgainst(II)Z -/
def wpX9_isAgainst (o : Nat) (a1 : Int) (a2 : Int) (F : jFl) (A : jAr) (Q : Int → Prop) : Prop :=
  ∃ P1 : Int → Prop, wpX9_stands o 0 a1 F A P1 ∧ ∀ z3, P1 z3 →
  ((z3 = 0) →
    Q 0) ∧
  (¬ (z3 = 0) →
    ∃ P7 : Int → Prop, wpX9_stands o 0 a2 F A P7 ∧ ∀ z9, P7 z9 →
    ((z9 = 0) →
      Q 0) ∧
    (¬ (z9 = 0) →
      ∃ P13 : Int → Prop, wpX9_nevers o a1 F A P13 ∧ ∀ z15, P13 z15 →
      ∃ P18 : Int → Prop, wpX9_nevers o a2 F A P18 ∧ ∀ z20, P18 z20 →
      (((0 : Int) ≤ z15 + z20 ∧ (z15 + z20 : Int) ≤ 2147483647) ∧ ((0 : Int) < 2 ∧ (2 : Int) ≤ 2147483647)) ∧
      jR ((z15 + z20) % 2) ∧
      ((¬ ((z15 + z20) % 2) = 0) →
        ∃ P26 : Int → Prop, wpX9_nextPlain o a1 0 F A P26 ∧ ∀ z28, P26 z28 →
        ∃ P31 : Int → Prop, wpX9_nextPlain o a2 0 F A P31 ∧ ∀ z33, P31 z33 →
        ∃ (I38 : Int → Int → Prop) (m39 : Int → Int → Nat), I38 z28 z33 ∧ ∀ (v36 : Int) (v37 : Int), I38 v36 v37 →
          (0 ≤ a1 ∧ a1 < 264) ∧
          ∃ K42 : Prop, (
            K42 →
            (0 ≤ a1 ∧ a1 < 264) ∧
            ((v36 < (A (o + 30) a1)) →
              Q 0) ∧
            (¬ (v36 < (A (o + 30) a1)) →
              (0 ≤ a2 ∧ a2 < 264) ∧
              ∀ z49 : Int, z49 = (if v37 < (A (o + 30) a2) then 0 else 1) →
              Q z49)) ∧
          (((A (o + 30) a1) ≤ v36) →
            K42 ) ∧
          (¬ ((A (o + 30) a1) ≤ v36) →
            (0 ≤ a2 ∧ a2 < 264) ∧
            (((A (o + 30) a2) ≤ v37) →
              K42 ) ∧
            (¬ ((A (o + 30) a2) ≤ v37) →
              (0 ≤ (12 * a1) + v36 ∧ (12 * a1) + v36 < 3168) ∧
              (0 ≤ (12 * a2) + v37 ∧ (12 * a2) + v37 < 3168) ∧
              ((¬ (A (o + 33) ((12 * a1) + v36)) = (A (o + 33) ((12 * a2) + v37))) →
                K42 ) ∧
              (¬ (¬ (A (o + 33) ((12 * a1) + v36)) = (A (o + 33) ((12 * a2) + v37))) →
                jR (v36 + 1) ∧
                ∃ P57 : Int → Prop, wpX9_nextPlain o a1 (v36 + 1) F A P57 ∧ ∀ z59, P57 z59 →
                jR (v37 + 1) ∧
                ∃ P63 : Int → Prop, wpX9_nextPlain o a2 (v37 + 1) F A P63 ∧ ∀ z65, P63 z65 →
                I38 z59 z65 ∧ m39 z59 z65 < m39 v36 v37)))) ∧
      (¬ (¬ ((z15 + z20) % 2) = 0) →
        Q 0)))
theorem wX9_isAgainst {G : jG} {l : Launch} {d : Nat} {N : jSh} {o : Nat} {F : jFl} {A : jAr} {a1 a2 : Int} {Q : Int → Prop} (hd : 3 ≤ d) (hM : mShape G N o) (hW : jWf N F A) (ra1 : jR a1) (ra2 : jR a2) (h : wpX9_isAgainst o a1 a2 F A Q) : jCall G l d mX9_isAgainst [.ref o, vI a1, vI a2] N F A (jpB N F A Q) := by
  refine jCall.of (ls := [.ref o, vI a1, vI a2, jD, jD]) (by decide) rfl (Nat.le_of_ble_eq_true rfl) rfl ?_
  unfold wpX9_isAgainst at h
  refine j_aload_n dX9_isAgainst_0 rfl ?_
  refine j_iconst dX9_isAgainst_1 ?_
  refine j_iload_n dX9_isAgainst_2 rfl ?_
  obtain ⟨P1, hp2, h⟩ := h
  refine j_invV (As := [vI 0, vI a1]) (rest := []) dX9_isAgainst_3 lkX9_399 hM.1 rfl rfl (wX9_stands (d := 1) (Nat.le_of_ble_eq_true rfl) hM hW (by decide) ra1 hp2) rfl rfl (Nat.le_of_ble_eq_true rfl) (Nat.le_trans (Nat.le_of_ble_eq_true rfl) hd) (jkpB fun z3 p4 r5 => ?_)
  have h := h z3 p4
  obtain ⟨h1, h2⟩ := h
  refine j_if_eq 34 dX9_isAgainst_6 rfl (jR_b r5) (fun q6 => ?_) (fun q6 => ?_)
  · have h := h1 q6
    clear h1 h2
    refine j_iconst dX9_isAgainst_34 ?_
    exact j_zret dX9_isAgainst_35 rfl (nr_bool (by decide)) ⟨_, rfl, rfl, rfl, rfl, h, (by decide)⟩
  · have h := h2 q6
    clear h1 h2
    refine j_aload_n dX9_isAgainst_9 rfl ?_
    refine j_iconst dX9_isAgainst_10 ?_
    refine j_iload_n dX9_isAgainst_11 rfl ?_
    obtain ⟨P7, hp8, h⟩ := h
    refine j_invV (As := [vI 0, vI a2]) (rest := []) dX9_isAgainst_12 lkX9_399 hM.1 rfl rfl (wX9_stands (d := 1) (Nat.le_of_ble_eq_true rfl) hM hW (by decide) ra2 hp8) rfl rfl (Nat.le_of_ble_eq_true rfl) (Nat.le_trans (Nat.le_of_ble_eq_true rfl) hd) (jkpB fun z9 p10 r11 => ?_)
    have h := h z9 p10
    obtain ⟨h1, h2⟩ := h
    refine j_if_eq 34 dX9_isAgainst_15 rfl (jR_b r11) (fun q12 => ?_) (fun q12 => ?_)
    · have h := h1 q12
      clear h1 h2
      refine j_iconst dX9_isAgainst_34 ?_
      exact j_zret dX9_isAgainst_35 rfl (nr_bool (by decide)) ⟨_, rfl, rfl, rfl, rfl, h, (by decide)⟩
    · have h := h2 q12
      clear h1 h2
      refine j_aload_n dX9_isAgainst_18 rfl ?_
      refine j_iload_n dX9_isAgainst_19 rfl ?_
      obtain ⟨P13, hp14, h⟩ := h
      refine j_invV (As := [vI a1]) (rest := []) dX9_isAgainst_20 lkX9_532 hM.1 rfl rfl (wX9_nevers (d := 2) (Nat.le_of_ble_eq_true rfl) hM hW ra1 hp14) rfl rfl (Nat.le_of_ble_eq_true rfl) (Nat.le_trans (Nat.le_of_ble_eq_true rfl) hd) (jkpI fun z15 p16 r17 => ?_)
      have h := h z15 p16
      refine j_aload_n dX9_isAgainst_23 rfl ?_
      refine j_iload_n dX9_isAgainst_24 rfl ?_
      obtain ⟨P18, hp19, h⟩ := h
      refine j_invV (As := [vI a2]) (rest := [vI z15]) dX9_isAgainst_25 lkX9_532 hM.1 rfl rfl (wX9_nevers (d := 2) (Nat.le_of_ble_eq_true rfl) hM hW ra2 hp19) rfl rfl (Nat.le_of_ble_eq_true rfl) (Nat.le_trans (Nat.le_of_ble_eq_true rfl) hd) (jkpI fun z20 p21 r22 => ?_)
      have h := h z20 p21
      refine j_iadd dX9_isAgainst_28 ?_
      refine j_iconst dX9_isAgainst_29 ?_
      obtain ⟨c23, h⟩ := h
      refine j_irem dX9_isAgainst_30 c23.1 c23.2 ?_
      obtain ⟨r24, h⟩ := h
      obtain ⟨h1, h2⟩ := h
      refine j_if_ne 36 dX9_isAgainst_31 rfl r24 (fun q25 => ?_) (fun q25 => ?_)
      · have h := h1 q25
        clear h1 h2
        refine j_aload_n dX9_isAgainst_36 rfl ?_
        refine j_iload_n dX9_isAgainst_37 rfl ?_
        refine j_iconst dX9_isAgainst_38 ?_
        obtain ⟨P26, hp27, h⟩ := h
        refine j_invV (As := [vI a1, vI 0]) (rest := []) dX9_isAgainst_39 lkX9_535 hM.1 rfl rfl (wX9_nextPlain (d := 2) (Nat.le_of_ble_eq_true rfl) hM hW ra1 (by decide) hp27) rfl rfl (Nat.le_of_ble_eq_true rfl) (Nat.le_trans (Nat.le_of_ble_eq_true rfl) hd) (jkpI fun z28 p29 r30 => ?_)
        have h := h z28 p29
        refine j_istore_n dX9_isAgainst_42 rfl ?_
        refine j_aload_n dX9_isAgainst_43 rfl ?_
        refine j_iload_n dX9_isAgainst_44 rfl ?_
        refine j_iconst dX9_isAgainst_45 ?_
        obtain ⟨P31, hp32, h⟩ := h
        refine j_invV (As := [vI a2, vI 0]) (rest := []) dX9_isAgainst_46 lkX9_535 hM.1 rfl rfl (wX9_nextPlain (d := 2) (Nat.le_of_ble_eq_true rfl) hM hW ra2 (by decide) hp32) rfl rfl (Nat.le_of_ble_eq_true rfl) (Nat.le_trans (Nat.le_of_ble_eq_true rfl) hd) (jkpI fun z33 p34 r35 => ?_)
        have h := h z33 p34
        refine j_istore dX9_isAgainst_49 rfl ?_
        obtain ⟨I38, m39, h0, hs⟩ := h
        have lp : ∀ (n : Nat) (v36 : Int) (v37 : Int), m39 v36 v37 < n → jR v36 → jR v37 → I38 v36 v37 → J G l d mX9_isAgainst 51 [.ref o, vI a1, vI a2, vI v36, vI v37] [] N F A (jpB N F A Q) := by
          intro nI38
          induction nI38 with
          | zero =>
            intro v36 v37 hmu
            exact absurd hmu (Nat.not_lt_zero _)
          | succ nI38 ihI38 =>
            intro v36 v37 hmuI38 rv36 rv37 hI
            have h := hs v36 v37 hI
            refine j_iload_n dX9_isAgainst_51 rfl ?_
            refine j_aload_n dX9_isAgainst_52 rfl ?_
            refine j_getFR dX9_isAgainst_53 flX9_148_10 hM.1 rfl (mf_main hM) ?_
            refine j_iload_n dX9_isAgainst_56 rfl ?_
            obtain ⟨c40, h⟩ := h
            refine j_iald (n := 264) dX9_isAgainst_57 (mt_main hM) (ml_main hM) c40 ?_
            obtain ⟨K42, hK44, h⟩ := h
            have jn43 : K42  → J G l d mX9_isAgainst 121 [.ref o, vI a1, vI a2, vI v36, vI v37] [] N F A (jpB N F A Q) := by
              intro   h
              have h := hK44  h
              refine j_iload_n dX9_isAgainst_121 rfl ?_
              refine j_aload_n dX9_isAgainst_122 rfl ?_
              refine j_getFR dX9_isAgainst_123 flX9_148_10 hM.1 rfl (mf_main hM) ?_
              refine j_iload_n dX9_isAgainst_126 rfl ?_
              obtain ⟨c45, h⟩ := h
              refine j_iald (n := 264) dX9_isAgainst_127 (mt_main hM) (ml_main hM) c45 ?_
              obtain ⟨h1, h2⟩ := h
              refine j_icmp_lt 146 dX9_isAgainst_128 rfl rv36 (hW.ai (mt_main hM) rfl) (fun q46 => ?_) (fun q46 => ?_)
              · have h := h1 q46
                clear h1 h2
                refine j_iconst dX9_isAgainst_146 ?_
                exact j_zret dX9_isAgainst_147 rfl (nr_bool (by decide)) ⟨_, rfl, rfl, rfl, rfl, h, (by decide)⟩
              · have h := h2 q46
                clear h1 h2
                refine j_iload dX9_isAgainst_131 rfl ?_
                refine j_aload_n dX9_isAgainst_133 rfl ?_
                refine j_getFR dX9_isAgainst_134 flX9_148_10 hM.1 rfl (mf_main hM) ?_
                refine j_iload_n dX9_isAgainst_137 rfl ?_
                obtain ⟨c47, h⟩ := h
                refine j_iald (n := 264) dX9_isAgainst_138 (mt_main hM) (ml_main hM) c47 ?_
                have jn50 : ∀ z49 : Int, z49 = (if v37 < (A (o + 30) a2) then 0 else 1) → J G l d mX9_isAgainst 147 [.ref o, vI a1, vI a2, vI v36, vI v37] [vI z49] N F A (jpB N F A Q) := by
                  intro z49 ez49
                  have h := h z49 ez49
                  exact j_zret dX9_isAgainst_147 rfl (nr_bool (ez49 ▸ (jB_ite (by decide) (by decide)))) ⟨_, rfl, rfl, rfl, rfl, h, (ez49 ▸ (jB_ite (by decide) (by decide)))⟩
                clear h
                refine j_icmp_lt 146 dX9_isAgainst_139 rfl rv37 (hW.ai (mt_main hM) rfl) (fun q48 => ?_) (fun q48 => ?_)
                · refine j_iconst dX9_isAgainst_146 ?_
                  exact jn50 _ ((if_pos q48).symm)
                · refine j_iconst dX9_isAgainst_142 ?_
                  refine j_goto 147 dX9_isAgainst_143 rfl ?_
                  exact jn50 _ ((if_neg q48).symm)
            obtain ⟨h1, h2⟩ := h
            refine j_icmp_ge 121 dX9_isAgainst_58 rfl rv36 (hW.ai (mt_main hM) rfl) (fun q41 => ?_) (fun q41 => ?_)
            · have h := h1 q41
              clear h1 h2
              exact J.wk ((((((jWk.nil).eq).eq).eq).eq).eq) (jn43   h)
            · have h := h2 q41
              clear h1 h2
              refine j_iload dX9_isAgainst_61 rfl ?_
              refine j_aload_n dX9_isAgainst_63 rfl ?_
              refine j_getFR dX9_isAgainst_64 flX9_148_10 hM.1 rfl (mf_main hM) ?_
              refine j_iload_n dX9_isAgainst_67 rfl ?_
              obtain ⟨c51, h⟩ := h
              refine j_iald (n := 264) dX9_isAgainst_68 (mt_main hM) (ml_main hM) c51 ?_
              obtain ⟨h1, h2⟩ := h
              refine j_icmp_ge 121 dX9_isAgainst_69 rfl rv37 (hW.ai (mt_main hM) rfl) (fun q52 => ?_) (fun q52 => ?_)
              · have h := h1 q52
                clear h1 h2
                exact J.wk ((((((jWk.nil).eq).eq).eq).eq).eq) (jn43   h)
              · have h := h2 q52
                clear h1 h2
                refine j_aload_n dX9_isAgainst_72 rfl ?_
                refine j_getFR dX9_isAgainst_73 flX9_157_10 hM.1 rfl (mf_rows hM) ?_
                refine j_bipush dX9_isAgainst_76 ?_
                refine j_iload_n dX9_isAgainst_78 rfl ?_
                refine j_imul dX9_isAgainst_79 ?_
                refine j_iload_n dX9_isAgainst_80 rfl ?_
                refine j_iadd dX9_isAgainst_81 ?_
                obtain ⟨c53, h⟩ := h
                refine j_iald (n := 3168) dX9_isAgainst_82 (mt_rows hM) (ml_rows hM) c53 ?_
                refine j_aload_n dX9_isAgainst_83 rfl ?_
                refine j_getFR dX9_isAgainst_84 flX9_157_10 hM.1 rfl (mf_rows hM) ?_
                refine j_bipush dX9_isAgainst_87 ?_
                refine j_iload_n dX9_isAgainst_89 rfl ?_
                refine j_imul dX9_isAgainst_90 ?_
                refine j_iload dX9_isAgainst_91 rfl ?_
                refine j_iadd dX9_isAgainst_93 ?_
                obtain ⟨c54, h⟩ := h
                refine j_iald (n := 3168) dX9_isAgainst_94 (mt_rows hM) (ml_rows hM) c54 ?_
                obtain ⟨h1, h2⟩ := h
                refine j_icmp_ne 121 dX9_isAgainst_95 rfl (hW.ai (mt_rows hM) rfl) (hW.ai (mt_rows hM) rfl) (fun q55 => ?_) (fun q55 => ?_)
                · have h := h1 q55
                  clear h1 h2
                  exact J.wk ((((((jWk.nil).eq).eq).eq).eq).eq) (jn43   h)
                · have h := h2 q55
                  clear h1 h2
                  refine j_aload_n dX9_isAgainst_98 rfl ?_
                  refine j_iload_n dX9_isAgainst_99 rfl ?_
                  refine j_iload_n dX9_isAgainst_100 rfl ?_
                  refine j_iconst dX9_isAgainst_101 ?_
                  refine j_iadd dX9_isAgainst_102 ?_
                  obtain ⟨r56, h⟩ := h
                  obtain ⟨P57, hp58, h⟩ := h
                  refine j_invV (As := [vI a1, vI (v36 + 1)]) (rest := []) dX9_isAgainst_103 lkX9_535 hM.1 rfl rfl (wX9_nextPlain (d := 2) (Nat.le_of_ble_eq_true rfl) hM hW ra1 r56 hp58) rfl rfl (Nat.le_of_ble_eq_true rfl) (Nat.le_trans (Nat.le_of_ble_eq_true rfl) hd) (jkpI fun z59 p60 r61 => ?_)
                  have h := h z59 p60
                  refine j_istore_n dX9_isAgainst_106 rfl ?_
                  refine j_aload_n dX9_isAgainst_107 rfl ?_
                  refine j_iload_n dX9_isAgainst_108 rfl ?_
                  refine j_iload dX9_isAgainst_109 rfl ?_
                  refine j_iconst dX9_isAgainst_111 ?_
                  refine j_iadd dX9_isAgainst_112 ?_
                  obtain ⟨r62, h⟩ := h
                  obtain ⟨P63, hp64, h⟩ := h
                  refine j_invV (As := [vI a2, vI (v37 + 1)]) (rest := []) dX9_isAgainst_113 lkX9_535 hM.1 rfl rfl (wX9_nextPlain (d := 2) (Nat.le_of_ble_eq_true rfl) hM hW ra2 r62 hp64) rfl rfl (Nat.le_of_ble_eq_true rfl) (Nat.le_trans (Nat.le_of_ble_eq_true rfl) hd) (jkpI fun z65 p66 r67 => ?_)
                  have h := h z65 p66
                  refine j_istore dX9_isAgainst_116 rfl ?_
                  refine j_goto 51 dX9_isAgainst_118 rfl ?_
                  exact J.wk ((((((jWk.nil).eq).eq).eq).eq).eq) (ihI38 _ _ (Nat.lt_of_lt_of_le h.2 (Nat.le_of_lt_succ hmuI38)) r61 r67 h.1)
        exact J.wk ((((((jWk.nil).eq).eq).eq).eq).eq) (lp _ _ _ (Nat.lt_succ_self _) r30 r35 h0)
      · have h := h2 q25
        clear h1 h2
        refine j_iconst dX9_isAgainst_34 ?_
        exact j_zret dX9_isAgainst_35 rfl (nr_bool (by decide)) ⟨_, rfl, rfl, rfl, rfl, h, (by decide)⟩
/-- utters(I)V -/
def wpX9_utters (o : Nat) (a1 : Int) (F : jFl) (A : jAr) (Q : jFl → jAr → Prop) : Prop :=
  ∃ K3 : Int → Prop, (
    ∀ (v2 : Int), K3 v2 →
    ∃ K8 : Int → Prop, (
      ∀ (v7 : Int), K8 v7 →
      jR (v2 + v7) ∧
      ∀ v12 : Int, v12 = v2 + v7 →
      ∀ F13 : jFl, F13 = upF F 3177 o 0 →
      ∀ F15 : jFl, F15 = upF F13 3180 o 0 →
      ∀ F17 : jFl, F17 = upF F15 3183 o 3 →
      ∃ (I26 : Int → Int → Int → Int → jFl → jAr → Prop) (m27 : Int → Int → Int → Int → jFl → jAr → Nat), I26 v12 (-1) 1 0 F17 A ∧ ∀ (v19 : Int) (v20 : Int) (v21 : Int) (v22 : Int) (F23 : jFl) (A24 : jAr), I26 v19 v20 v21 v22 F23 A24 →
        (((F23 3165 o) ≤ v22) →
          ∀ z30 : Int, z30 = (if (F23 3168 o) ≤ 0 then 0 else 1) →
          jR (v19 - z30) ∧
          ∀ v33 : Int, v33 = v19 - z30 →
          ∃ (I40 : Int → Int → Int → Int → jAr → Prop) (m41 : Int → Int → Int → Int → jAr → Nat), I40 v33 v20 v21 0 A24 ∧ ∀ (v34 : Int) (v35 : Int) (v36 : Int) (v37 : Int) (A38 : jAr), I40 v34 v35 v36 v37 A38 →
            ∃ K43 : Prop, (
              K43 →
              ∃ K48 : Int → Prop, (
                ∀ (v47 : Int), K48 v47 →
                ∀ F51 : jFl, F51 = upF F23 3180 o v47 →
                ∀ z55 : Int, z55 = (if 0 ≤ v34 then (if v36 = 0 then 1 else 0) else 2) →
                ∀ F57 : jFl, F57 = upF F51 3183 o z55 →
                Q F57 A38) ∧
              ((0 ≤ v34) →
                K48 (F23 3168 o)) ∧
              (¬ (0 ≤ v34) →
                K48 0)) ∧
            (((F23 3168 o) ≤ v37) →
              K43 ) ∧
            (¬ ((F23 3168 o) ≤ v37) →
              ((v34 < 0) →
                K43 ) ∧
              (¬ (v34 < 0) →
                (0 ≤ (F23 3165 o) + v37 ∧ (F23 3165 o) + v37 < 12) ∧
                ∃ P61 : Int → Prop, wpX9_saidBy o a1 (A38 (o + 36) ((F23 3165 o) + v37)) F23 A38 P61 ∧ ∀ z63, P61 z63 →
                ∃ P66 : Int → Prop, wpX9_costs o v35 z63 F23 A38 P66 ∧ ∀ z68, P66 z68 →
                jR (v34 - z68) ∧
                ∀ v72 : Int, v72 = v34 - z68 →
                (0 ≤ (F23 3165 o) + v37 ∧ (F23 3165 o) + v37 < 12) ∧
                ∀ A74 : jAr, A74 = upA A38 (o + 37) ((F23 3165 o) + v37) z63 →
                ((v36 = 0) →
                  jR (v37 + 1) ∧
                  I40 v72 z63 0 (v37 + 1) A74 ∧ m41 v72 z63 0 (v37 + 1) A74 < m41 v34 v35 v36 v37 A38) ∧
                (¬ (v36 = 0) →
                  (0 ≤ (F23 3165 o) + v37 ∧ (F23 3165 o) + v37 < 12) ∧
                  ∀ z80 : Int, z80 = (if ¬ z63 = (A74 (o + 36) ((F23 3165 o) + v37)) then 0 else 1) →
                  jR (v37 + 1) ∧
                  I40 v72 z63 z80 (v37 + 1) A74 ∧ m41 v72 z63 z80 (v37 + 1) A74 < m41 v34 v35 v36 v37 A38)))) ∧
        (¬ ((F23 3165 o) ≤ v22) →
          (0 ≤ v22 ∧ v22 < 12) ∧
          ∃ P84 : Int → Prop, wpX9_saidBy o a1 (A24 (o + 36) v22) F23 A24 P84 ∧ ∀ z86, P84 z86 →
          ∃ P89 : Int → Prop, wpX9_costs o v20 z86 F23 A24 P89 ∧ ∀ z91, P89 z91 →
          jR (v19 - z91) ∧
          ∀ v95 : Int, v95 = v19 - z91 →
          ((0 ≤ v95) →
            (0 ≤ v22 ∧ v22 < 12) ∧
            ∀ A98 : jAr, A98 = upA A24 (o + 37) v22 z86 →
            ∃ K102 : Int → Prop, (
              ∀ (v101 : Int), K102 v101 →
              jR ((F23 3177 o) + 1) ∧
              ∀ F106 : jFl, F106 = upF F23 3177 o ((F23 3177 o) + 1) →
              jR (v22 + 1) ∧
              I26 v95 z86 v101 (v22 + 1) F106 A98 ∧ m27 v95 z86 v101 (v22 + 1) F106 A98 < m27 v19 v20 v21 v22 F23 A24) ∧
            ((v21 = 0) →
              K102 0) ∧
            (¬ (v21 = 0) →
              (0 ≤ v22 ∧ v22 < 12) ∧
              ∀ z111 : Int, z111 = (if ¬ z86 = (A98 (o + 36) v22) then 0 else 1) →
              K102 z111)) ∧
          (¬ (0 ≤ v95) →
            ∀ F113 : jFl, F113 = upF F23 3177 o 0 →
            Q F113 A24))) ∧
    (((F 3171 o) = 0) →
      K8 0) ∧
    (¬ ((F 3171 o) = 0) →
      (0 ≤ F 3039 o ∧ F 3039 o < 2) ∧
      K8 (A (o + 25) (F 3039 o)))) ∧
  ((¬ (F 3186 o) = (-1)) →
    K3 (F 3186 o)) ∧
  (¬ (¬ (F 3186 o) = (-1)) →
    (0 ≤ (10 * (F 3039 o)) + a1 ∧ (10 * (F 3039 o)) + a1 < 20) ∧
    K3 (A (o + 15) ((10 * (F 3039 o)) + a1)))
theorem wX9_utters {G : jG} {l : Launch} {d : Nat} {N : jSh} {o : Nat} {F : jFl} {A : jAr} {a1 : Int} {Q : jFl → jAr → Prop} (hd : 3 ≤ d) (hM : mShape G N o) (hW : jWf N F A) (ra1 : jR a1) (h : wpX9_utters o a1 F A Q) : jCall G l d mX9_utters [.ref o, vI a1] N F A (jmV N Q) := by
  refine jCall.of (ls := [.ref o, vI a1, jD, jD, jD, jD, jD]) (by decide) rfl (Nat.le_of_ble_eq_true rfl) rfl ?_
  unfold wpX9_utters at h
  refine j_aload_n dX9_utters_0 rfl ?_
  refine j_getI dX9_utters_1 flX9_200_10 hM.1 rfl ?_
  refine j_iconst dX9_utters_4 ?_
  obtain ⟨K3, hK5, h⟩ := h
  have jn4 : ∀ (v2 : Int), jR v2 → K3 v2 → J G l d mX9_utters 29 [.ref o, vI a1, jD, jD, jD, jD, jD] [vI v2] N F A (jmV N Q) := by
    intro v2 rv2 h
    have h := hK5 v2 h
    refine j_aload_n dX9_utters_29 rfl ?_
    refine j_getI dX9_utters_30 flX9_184_10 hM.1 rfl ?_
    obtain ⟨K8, hK10, h⟩ := h
    have jn9 : ∀ (v7 : Int), jR v7 → K8 v7 → J G l d mX9_utters 49 [.ref o, vI a1, jD, jD, jD, jD, jD] [vI v7, vI v2] N F A (jmV N Q) := by
      intro v7 rv7 h
      have h := hK10 v7 h
      refine j_iadd dX9_utters_49 ?_
      obtain ⟨r11, h⟩ := h
      obtain ⟨v12, ev12⟩ : ∃ x : Int, x = v2 + v7 := ⟨_, rfl⟩
      have h := h v12 ev12
      refine jnmI (e := ev12) ?_
      refine j_istore_n dX9_utters_50 rfl ?_
      refine j_iconst dX9_utters_51 ?_
      refine j_istore_n dX9_utters_52 rfl ?_
      refine j_iconst dX9_utters_53 ?_
      refine j_istore dX9_utters_54 rfl ?_
      refine j_aload_n dX9_utters_56 rfl ?_
      refine j_iconst dX9_utters_57 ?_
      refine j_putI dX9_utters_58 flX9_191_10 hM.1 hM.2.1 rfl ?_
      obtain ⟨F13, eF13⟩ : ∃ x : jFl, x = upF F 3177 o 0 := ⟨_, rfl⟩
      have hW14 : jWf N F13 A := eF13 ▸ jWf_F (f := 3177) (a := o) (z := 0) hW (jRk_0 rfl (by decide))
      refine jnmF (e := eF13) ?_
      have h := h F13 eF13
      refine j_aload_n dX9_utters_61 rfl ?_
      refine j_iconst dX9_utters_62 ?_
      refine j_putI dX9_utters_63 flX9_194_10 hM.1 hM.2.1 rfl ?_
      obtain ⟨F15, eF15⟩ : ∃ x : jFl, x = upF F13 3180 o 0 := ⟨_, rfl⟩
      have hW16 : jWf N F15 A := eF15 ▸ jWf_F (f := 3180) (a := o) (z := 0) hW14 (jRk_0 rfl (by decide))
      refine jnmF (e := eF15) ?_
      have h := h F15 eF15
      refine j_aload_n dX9_utters_66 rfl ?_
      refine j_iconst dX9_utters_67 ?_
      refine j_putI dX9_utters_68 flX9_197_10 hM.1 hM.2.1 rfl ?_
      obtain ⟨F17, eF17⟩ : ∃ x : jFl, x = upF F15 3183 o 3 := ⟨_, rfl⟩
      have hW18 : jWf N F17 A := eF17 ▸ jWf_F (f := 3183) (a := o) (z := 3) hW16 (jRk_0 rfl (by decide))
      refine jnmF (e := eF17) ?_
      have h := h F17 eF17
      refine j_iconst dX9_utters_71 ?_
      refine j_istore dX9_utters_72 rfl ?_
      obtain ⟨I26, m27, h0, hs⟩ := h
      have lp : ∀ (n : Nat) (v19 : Int) (v20 : Int) (v21 : Int) (v22 : Int) (F23 : jFl) (A24 : jAr), m27 v19 v20 v21 v22 F23 A24 < n → jWf N F23 A24 → jR v19 → jR v20 → jR v21 → jR v22 → I26 v19 v20 v21 v22 F23 A24 → J G l d mX9_utters 74 [.ref o, vI a1, vI v19, vI v20, vI v21, vI v22, jD] [] N F23 A24 (jmV N Q) := by
        intro nI26
        induction nI26 with
        | zero =>
          intro v19 v20 v21 v22 F23 A24 hmu
          exact absurd hmu (Nat.not_lt_zero _)
        | succ nI26 ihI26 =>
          intro v19 v20 v21 v22 F23 A24 hmuI26 hW25 rv19 rv20 rv21 rv22 hI
          have h := hs v19 v20 v21 v22 F23 A24 hI
          refine j_iload dX9_utters_74 rfl ?_
          refine j_aload_n dX9_utters_76 rfl ?_
          refine j_getI dX9_utters_77 flX9_178_10 hM.1 rfl ?_
          obtain ⟨h1, h2⟩ := h
          refine j_icmp_ge 169 dX9_utters_80 rfl rv22 (hW25.fi rfl) (fun q28 => ?_) (fun q28 => ?_)
          · have h := h1 q28
            clear h1 h2
            refine j_iload_n dX9_utters_169 rfl ?_
            refine j_aload_n dX9_utters_170 rfl ?_
            refine j_getI dX9_utters_171 flX9_181_10 hM.1 rfl ?_
            have jn31 : ∀ z30 : Int, z30 = (if (F23 3168 o) ≤ 0 then 0 else 1) → J G l d mX9_utters 182 [.ref o, vI a1, vI v19, vI v20, vI v21, vI v22, jD] [vI z30, vI v19] N F23 A24 (jmV N Q) := by
              intro z30 ez30
              have h := h z30 ez30
              refine j_isub dX9_utters_182 ?_
              obtain ⟨r32, h⟩ := h
              obtain ⟨v33, ev33⟩ : ∃ x : Int, x = v19 - z30 := ⟨_, rfl⟩
              have h := h v33 ev33
              refine jnmI (e := ev33) ?_
              refine j_istore_n dX9_utters_183 rfl ?_
              refine j_iconst dX9_utters_184 ?_
              refine j_istore dX9_utters_185 rfl ?_
              obtain ⟨I40, m41, h0, hs⟩ := h
              have lp : ∀ (n : Nat) (v34 : Int) (v35 : Int) (v36 : Int) (v37 : Int) (A38 : jAr), m41 v34 v35 v36 v37 A38 < n → jWf N F23 A38 → jR v34 → jR v35 → jR v36 → jR v37 → I40 v34 v35 v36 v37 A38 → J G l d mX9_utters 187 [.ref o, vI a1, vI v34, vI v35, vI v36, vI v37, jD] [] N F23 A38 (jmV N Q) := by
                intro nI40
                induction nI40 with
                | zero =>
                  intro v34 v35 v36 v37 A38 hmu
                  exact absurd hmu (Nat.not_lt_zero _)
                | succ nI40 ihI40 =>
                  intro v34 v35 v36 v37 A38 hmuI40 hW39 rv34 rv35 rv36 rv37 hI
                  have h := hs v34 v35 v36 v37 A38 hI
                  refine j_iload dX9_utters_187 rfl ?_
                  refine j_aload_n dX9_utters_189 rfl ?_
                  refine j_getI dX9_utters_190 flX9_181_10 hM.1 rfl ?_
                  obtain ⟨K43, hK45, h⟩ := h
                  have jn44 : K43  → J G l d mX9_utters 281 [.ref o, jD, vI v34, jD, vI v36, jD, jD] [] N F23 A38 (jmV N Q) := by
                    intro   h
                    have h := hK45  h
                    refine j_aload_n dX9_utters_281 rfl ?_
                    refine j_iload_n dX9_utters_282 rfl ?_
                    obtain ⟨K48, hK50, h⟩ := h
                    have jn49 : ∀ (v47 : Int), jR v47 → K48 v47 → J G l d mX9_utters 294 [.ref o, jD, vI v34, jD, vI v36, jD, jD] [vI v47, .ref o] N F23 A38 (jmV N Q) := by
                      intro v47 rv47 h
                      have h := hK50 v47 h
                      refine j_putI dX9_utters_294 flX9_194_10 hM.1 hM.2.1 rfl ?_
                      obtain ⟨F51, eF51⟩ : ∃ x : jFl, x = upF F23 3180 o v47 := ⟨_, rfl⟩
                      have hW52 : jWf N F51 A38 := eF51 ▸ jWf_F (f := 3180) (a := o) (z := v47) hW39 (jRk_0 rfl rv47)
                      refine jnmF (e := eF51) ?_
                      have h := h F51 eF51
                      refine j_aload_n dX9_utters_297 rfl ?_
                      refine j_iload_n dX9_utters_298 rfl ?_
                      have jn56 : ∀ z55 : Int, z55 = (if 0 ≤ v34 then (if v36 = 0 then 1 else 0) else 2) → J G l d mX9_utters 316 [.ref o, jD, vI v34, jD, vI v36, jD, jD] [vI z55, .ref o] N F51 A38 (jmV N Q) := by
                        intro z55 ez55
                        have h := h z55 ez55
                        refine j_putI dX9_utters_316 flX9_197_10 hM.1 hM.2.1 rfl ?_
                        obtain ⟨F57, eF57⟩ : ∃ x : jFl, x = upF F51 3183 o z55 := ⟨_, rfl⟩
                        have hW58 : jWf N F57 A38 := eF57 ▸ jWf_F (f := 3183) (a := o) (z := z55) hW52 (jRk_0 rfl (ez55 ▸ (jR_ite (jR_ite (by decide) (by decide)) (by decide))))
                        refine jnmF (e := eF57) ?_
                        have h := h F57 eF57
                        exact j_vret dX9_utters_319 rfl ⟨rfl, rfl, hW58, h⟩
                      clear h
                      refine j_if_ge 306 dX9_utters_299 rfl rv34 (fun q53 => ?_) (fun q53 => ?_)
                      · refine j_iload dX9_utters_306 rfl ?_
                        refine j_if_eq 315 dX9_utters_308 rfl rv36 (fun q54 => ?_) (fun q54 => ?_)
                        · refine j_iconst dX9_utters_315 ?_
                          exact jn56 _ (((if_pos q53).trans (if_pos q54)).symm)
                        · refine j_iconst dX9_utters_311 ?_
                          refine j_goto 316 dX9_utters_312 rfl ?_
                          exact jn56 _ (((if_pos q53).trans (if_neg q54)).symm)
                      · refine j_iconst dX9_utters_302 ?_
                        refine j_goto 316 dX9_utters_303 rfl ?_
                        exact jn56 _ ((if_neg q53).symm)
                    obtain ⟨h1, h2⟩ := h
                    refine j_if_ge 290 dX9_utters_283 rfl rv34 (fun q46 => ?_) (fun q46 => ?_)
                    · have h := h1 q46
                      clear h1 h2
                      refine j_aload_n dX9_utters_290 rfl ?_
                      refine j_getI dX9_utters_291 flX9_181_10 hM.1 rfl ?_
                      exact J.wk ((((((((jWk.nil).no).no).eq).no).eq).no).eq) (jn49 _ (hW39.fi rfl) h)
                    · have h := h2 q46
                      clear h1 h2
                      refine j_iconst dX9_utters_286 ?_
                      refine j_goto 294 dX9_utters_287 rfl ?_
                      exact J.wk ((((((((jWk.nil).no).no).eq).no).eq).no).eq) (jn49 _ (by decide) h)
                  obtain ⟨h1, h2⟩ := h
                  refine j_icmp_ge 281 dX9_utters_193 rfl rv37 (hW39.fi rfl) (fun q42 => ?_) (fun q42 => ?_)
                  · have h := h1 q42
                    clear h1 h2
                    exact J.wk ((((((((jWk.nil).no).no).eq).no).eq).no).eq) (jn44   h)
                  · have h := h2 q42
                    clear h1 h2
                    refine j_iload_n dX9_utters_196 rfl ?_
                    obtain ⟨h1, h2⟩ := h
                    refine j_if_lt 281 dX9_utters_197 rfl rv34 (fun q59 => ?_) (fun q59 => ?_)
                    · have h := h1 q59
                      clear h1 h2
                      exact J.wk ((((((((jWk.nil).no).no).eq).no).eq).no).eq) (jn44   h)
                    · have h := h2 q59
                      clear h1 h2
                      refine j_aload_n dX9_utters_200 rfl ?_
                      refine j_iload_n dX9_utters_201 rfl ?_
                      refine j_aload_n dX9_utters_202 rfl ?_
                      refine j_getFR dX9_utters_203 flX9_175_10 hM.1 rfl (mf_told hM) ?_
                      refine j_aload_n dX9_utters_206 rfl ?_
                      refine j_getI dX9_utters_207 flX9_178_10 hM.1 rfl ?_
                      refine j_iload dX9_utters_210 rfl ?_
                      refine j_iadd dX9_utters_212 ?_
                      obtain ⟨c60, h⟩ := h
                      refine j_iald (n := 12) dX9_utters_213 (mt_told hM) (ml_told hM) c60 ?_
                      obtain ⟨P61, hp62, h⟩ := h
                      refine j_invV (As := [vI a1, vI (A38 (o + 36) ((F23 3165 o) + v37))]) (rest := []) dX9_utters_214 lkX9_423 hM.1 rfl rfl (wX9_saidBy (d := 2) (Nat.le_of_ble_eq_true rfl) hM hW39 ra1 (hW39.ai (mt_told hM) rfl) hp62) rfl rfl (Nat.le_of_ble_eq_true rfl) (Nat.le_trans (Nat.le_of_ble_eq_true rfl) hd) (jkpI fun z63 p64 r65 => ?_)
                      have h := h z63 p64
                      refine j_istore dX9_utters_217 rfl ?_
                      refine j_iload_n dX9_utters_219 rfl ?_
                      refine j_aload_n dX9_utters_220 rfl ?_
                      refine j_iload_n dX9_utters_221 rfl ?_
                      refine j_iload dX9_utters_222 rfl ?_
                      obtain ⟨P66, hp67, h⟩ := h
                      refine j_invV (As := [vI v35, vI z63]) (rest := [vI v34]) dX9_utters_224 lkX9_426 hM.1 rfl rfl (wX9_costs (d := 1) (Nat.le_of_ble_eq_true rfl) hM hW39 rv35 r65 hp67) rfl rfl (Nat.le_of_ble_eq_true rfl) (Nat.le_trans (Nat.le_of_ble_eq_true rfl) hd) (jkpI fun z68 p69 r70 => ?_)
                      have h := h z68 p69
                      refine j_isub dX9_utters_227 ?_
                      obtain ⟨r71, h⟩ := h
                      obtain ⟨v72, ev72⟩ : ∃ x : Int, x = v34 - z68 := ⟨_, rfl⟩
                      have h := h v72 ev72
                      refine jnmI (e := ev72) ?_
                      refine j_istore_n dX9_utters_228 rfl ?_
                      refine j_aload_n dX9_utters_229 rfl ?_
                      refine j_getFR dX9_utters_230 flX9_188_10 hM.1 rfl (mf_said hM) ?_
                      refine j_aload_n dX9_utters_233 rfl ?_
                      refine j_getI dX9_utters_234 flX9_178_10 hM.1 rfl ?_
                      refine j_iload dX9_utters_237 rfl ?_
                      refine j_iadd dX9_utters_239 ?_
                      refine j_iload dX9_utters_240 rfl ?_
                      obtain ⟨c73, h⟩ := h
                      refine j_iast (n := 12) dX9_utters_242 (mt_said hM) (Nat.le_trans hM.2.1 (Nat.le_add_right _ _)) (ml_said hM) c73 ?_
                      obtain ⟨A74, eA74⟩ : ∃ x : jAr, x = upA A38 (o + 37) ((F23 3165 o) + v37) z63 := ⟨_, rfl⟩
                      have hW75 : jWf N F23 A74 := eA74 ▸ jWf_A (i := (F23 3165 o) + v37) (z := z63) hW39 (mt_said hM) (jRk_0 rfl r65)
                      refine jnmA (e := eA74) ?_
                      have h := h A74 eA74
                      refine j_iload dX9_utters_243 rfl ?_
                      obtain ⟨h1, h2⟩ := h
                      refine j_if_eq 269 dX9_utters_245 rfl rv36 (fun q76 => ?_) (fun q76 => ?_)
                      · have h := h1 q76
                        clear h1 h2
                        refine j_iconst dX9_utters_269 ?_
                        refine j_istore dX9_utters_270 rfl ?_
                        refine j_iload dX9_utters_272 rfl ?_
                        refine j_istore_n dX9_utters_274 rfl ?_
                        obtain ⟨r77, h⟩ := h
                        refine j_iinc dX9_utters_275 rfl rfl ?_
                        refine j_goto 187 dX9_utters_278 rfl ?_
                        exact J.wk ((((((((jWk.nil).no).eq).eq).eq).eq).eq).eq) (ihI40 _ _ _ _ _ (Nat.lt_of_lt_of_le h.2 (Nat.le_of_lt_succ hmuI40)) hW75 (ev72 ▸ r71) r65 (by decide) r77 h.1)
                      · have h := h2 q76
                        clear h1 h2
                        refine j_iload dX9_utters_248 rfl ?_
                        refine j_aload_n dX9_utters_250 rfl ?_
                        refine j_getFR dX9_utters_251 flX9_175_10 hM.1 rfl (mf_told hM) ?_
                        refine j_aload_n dX9_utters_254 rfl ?_
                        refine j_getI dX9_utters_255 flX9_178_10 hM.1 rfl ?_
                        refine j_iload dX9_utters_258 rfl ?_
                        refine j_iadd dX9_utters_260 ?_
                        obtain ⟨c78, h⟩ := h
                        refine j_iald (n := 12) dX9_utters_261 (mt_told hM) (ml_told hM) c78 ?_
                        have jn81 : ∀ z80 : Int, z80 = (if ¬ z63 = (A74 (o + 36) ((F23 3165 o) + v37)) then 0 else 1) → J G l d mX9_utters 270 [.ref o, vI a1, vI v72, vI v35, vI v36, vI v37, vI z63] [vI z80] N F23 A74 (jmV N Q) := by
                          intro z80 ez80
                          have h := h z80 ez80
                          refine j_istore dX9_utters_270 rfl ?_
                          refine j_iload dX9_utters_272 rfl ?_
                          refine j_istore_n dX9_utters_274 rfl ?_
                          obtain ⟨r82, h⟩ := h
                          refine j_iinc dX9_utters_275 rfl rfl ?_
                          refine j_goto 187 dX9_utters_278 rfl ?_
                          exact J.wk ((((((((jWk.nil).no).eq).eq).eq).eq).eq).eq) (ihI40 _ _ _ _ _ (Nat.lt_of_lt_of_le h.2 (Nat.le_of_lt_succ hmuI40)) hW75 (ev72 ▸ r71) r65 (ez80 ▸ (jR_ite (by decide) (by decide))) r82 h.1)
                        clear h
                        refine j_icmp_ne 269 dX9_utters_262 rfl r65 (hW75.ai (mt_told hM) rfl) (fun q79 => ?_) (fun q79 => ?_)
                        · refine j_iconst dX9_utters_269 ?_
                          exact jn81 _ ((if_pos q79).symm)
                        · refine j_iconst dX9_utters_265 ?_
                          refine j_goto 270 dX9_utters_266 rfl ?_
                          exact jn81 _ ((if_neg q79).symm)
              exact J.wk ((((((((jWk.nil).no).eq).eq).eq).eq).eq).eq) (lp _ _ _ _ _ _ (Nat.lt_succ_self _) hW25 (ev33 ▸ r32) rv20 rv21 (by decide) h0)
            clear h
            refine j_if_le 181 dX9_utters_174 rfl (hW25.fi rfl) (fun q29 => ?_) (fun q29 => ?_)
            · refine j_iconst dX9_utters_181 ?_
              exact jn31 _ ((if_pos q29).symm)
            · refine j_iconst dX9_utters_177 ?_
              refine j_goto 182 dX9_utters_178 rfl ?_
              exact jn31 _ ((if_neg q29).symm)
          · have h := h2 q28
            clear h1 h2
            refine j_aload_n dX9_utters_83 rfl ?_
            refine j_iload_n dX9_utters_84 rfl ?_
            refine j_aload_n dX9_utters_85 rfl ?_
            refine j_getFR dX9_utters_86 flX9_175_10 hM.1 rfl (mf_told hM) ?_
            refine j_iload dX9_utters_89 rfl ?_
            obtain ⟨c83, h⟩ := h
            refine j_iald (n := 12) dX9_utters_91 (mt_told hM) (ml_told hM) c83 ?_
            obtain ⟨P84, hp85, h⟩ := h
            refine j_invV (As := [vI a1, vI (A24 (o + 36) v22)]) (rest := []) dX9_utters_92 lkX9_423 hM.1 rfl rfl (wX9_saidBy (d := 2) (Nat.le_of_ble_eq_true rfl) hM hW25 ra1 (hW25.ai (mt_told hM) rfl) hp85) rfl rfl (Nat.le_of_ble_eq_true rfl) (Nat.le_trans (Nat.le_of_ble_eq_true rfl) hd) (jkpI fun z86 p87 r88 => ?_)
            have h := h z86 p87
            refine j_istore dX9_utters_95 rfl ?_
            refine j_iload_n dX9_utters_97 rfl ?_
            refine j_aload_n dX9_utters_98 rfl ?_
            refine j_iload_n dX9_utters_99 rfl ?_
            refine j_iload dX9_utters_100 rfl ?_
            obtain ⟨P89, hp90, h⟩ := h
            refine j_invV (As := [vI v20, vI z86]) (rest := [vI v19]) dX9_utters_102 lkX9_426 hM.1 rfl rfl (wX9_costs (d := 1) (Nat.le_of_ble_eq_true rfl) hM hW25 rv20 r88 hp90) rfl rfl (Nat.le_of_ble_eq_true rfl) (Nat.le_trans (Nat.le_of_ble_eq_true rfl) hd) (jkpI fun z91 p92 r93 => ?_)
            have h := h z91 p92
            refine j_isub dX9_utters_105 ?_
            obtain ⟨r94, h⟩ := h
            obtain ⟨v95, ev95⟩ : ∃ x : Int, x = v19 - z91 := ⟨_, rfl⟩
            have h := h v95 ev95
            refine jnmI (e := ev95) ?_
            refine j_istore_n dX9_utters_106 rfl ?_
            refine j_iload_n dX9_utters_107 rfl ?_
            obtain ⟨h1, h2⟩ := h
            refine j_if_ge 117 dX9_utters_108 rfl (ev95 ▸ r94) (fun q96 => ?_) (fun q96 => ?_)
            · have h := h1 q96
              clear h1 h2
              refine j_aload_n dX9_utters_117 rfl ?_
              refine j_getFR dX9_utters_118 flX9_188_10 hM.1 rfl (mf_said hM) ?_
              refine j_iload dX9_utters_121 rfl ?_
              refine j_iload dX9_utters_123 rfl ?_
              obtain ⟨c97, h⟩ := h
              refine j_iast (n := 12) dX9_utters_125 (mt_said hM) (Nat.le_trans hM.2.1 (Nat.le_add_right _ _)) (ml_said hM) c97 ?_
              obtain ⟨A98, eA98⟩ : ∃ x : jAr, x = upA A24 (o + 37) v22 z86 := ⟨_, rfl⟩
              have hW99 : jWf N F23 A98 := eA98 ▸ jWf_A (i := v22) (z := z86) hW25 (mt_said hM) (jRk_0 rfl r88)
              refine jnmA (e := eA98) ?_
              have h := h A98 eA98
              refine j_iload dX9_utters_126 rfl ?_
              obtain ⟨K102, hK104, h⟩ := h
              have jn103 : ∀ (v101 : Int), jR v101 → K102 v101 → J G l d mX9_utters 148 [.ref o, vI a1, vI v95, jD, jD, vI v22, vI z86] [vI v101] N F23 A98 (jmV N Q) := by
                intro v101 rv101 h
                have h := hK104 v101 h
                refine j_istore dX9_utters_148 rfl ?_
                refine j_iload dX9_utters_150 rfl ?_
                refine j_istore_n dX9_utters_152 rfl ?_
                refine j_aload_n dX9_utters_153 rfl ?_
                refine j_dup dX9_utters_154 rfl ?_
                refine j_getI dX9_utters_155 flX9_191_10 hM.1 rfl ?_
                refine j_iconst dX9_utters_158 ?_
                refine j_iadd dX9_utters_159 ?_
                obtain ⟨r105, h⟩ := h
                refine j_putI dX9_utters_160 flX9_191_10 hM.1 hM.2.1 rfl ?_
                obtain ⟨F106, eF106⟩ : ∃ x : jFl, x = upF F23 3177 o ((F23 3177 o) + 1) := ⟨_, rfl⟩
                have hW107 : jWf N F106 A98 := eF106 ▸ jWf_F (f := 3177) (a := o) (z := (F23 3177 o) + 1) hW99 (jRk_0 rfl r105)
                refine jnmF (e := eF106) ?_
                have h := h F106 eF106
                obtain ⟨r108, h⟩ := h
                refine j_iinc dX9_utters_163 rfl rfl ?_
                refine j_goto 74 dX9_utters_166 rfl ?_
                exact J.wk ((((((((jWk.nil).no).eq).eq).eq).eq).eq).eq) (ihI26 _ _ _ _ _ _ (Nat.lt_of_lt_of_le h.2 (Nat.le_of_lt_succ hmuI26)) hW107 (ev95 ▸ r94) r88 rv101 r108 h.1)
              obtain ⟨h1, h2⟩ := h
              refine j_if_eq 147 dX9_utters_128 rfl rv21 (fun q100 => ?_) (fun q100 => ?_)
              · have h := h1 q100
                clear h1 h2
                refine j_iconst dX9_utters_147 ?_
                exact J.wk ((((((((jWk.nil).eq).eq).no).no).eq).eq).eq) (jn103 _ (by decide) h)
              · have h := h2 q100
                clear h1 h2
                refine j_iload dX9_utters_131 rfl ?_
                refine j_aload_n dX9_utters_133 rfl ?_
                refine j_getFR dX9_utters_134 flX9_175_10 hM.1 rfl (mf_told hM) ?_
                refine j_iload dX9_utters_137 rfl ?_
                obtain ⟨c109, h⟩ := h
                refine j_iald (n := 12) dX9_utters_139 (mt_told hM) (ml_told hM) c109 ?_
                have jn112 : ∀ z111 : Int, z111 = (if ¬ z86 = (A98 (o + 36) v22) then 0 else 1) → J G l d mX9_utters 148 [.ref o, vI a1, vI v95, vI v20, vI v21, vI v22, vI z86] [vI z111] N F23 A98 (jmV N Q) := by
                  intro z111 ez111
                  have h := h z111 ez111
                  exact J.wk ((((((((jWk.nil).eq).eq).no).no).eq).eq).eq) (jn103 _ (ez111 ▸ (jR_ite (by decide) (by decide))) h)
                clear h
                refine j_icmp_ne 147 dX9_utters_140 rfl r88 (hW99.ai (mt_told hM) rfl) (fun q110 => ?_) (fun q110 => ?_)
                · refine j_iconst dX9_utters_147 ?_
                  exact jn112 _ ((if_pos q110).symm)
                · refine j_iconst dX9_utters_143 ?_
                  refine j_goto 148 dX9_utters_144 rfl ?_
                  exact jn112 _ ((if_neg q110).symm)
            · have h := h2 q96
              clear h1 h2
              refine j_aload_n dX9_utters_111 rfl ?_
              refine j_iconst dX9_utters_112 ?_
              refine j_putI dX9_utters_113 flX9_191_10 hM.1 hM.2.1 rfl ?_
              obtain ⟨F113, eF113⟩ : ∃ x : jFl, x = upF F23 3177 o 0 := ⟨_, rfl⟩
              have hW114 : jWf N F113 A24 := eF113 ▸ jWf_F (f := 3177) (a := o) (z := 0) hW25 (jRk_0 rfl (by decide))
              refine jnmF (e := eF113) ?_
              have h := h F113 eF113
              exact j_vret dX9_utters_116 rfl ⟨rfl, rfl, hW114, h⟩
      exact J.wk ((((((((jWk.nil).no).eq).eq).eq).eq).eq).eq) (lp _ _ _ _ _ _ _ (Nat.lt_succ_self _) hW18 (ev12 ▸ r11) (by decide) (by decide) (by decide) h0)
    obtain ⟨h1, h2⟩ := h
    refine j_if_eq 48 dX9_utters_33 rfl (hW.fi rfl) (fun q6 => ?_) (fun q6 => ?_)
    · have h := h1 q6
      clear h1 h2
      refine j_iconst dX9_utters_48 ?_
      exact J.wk ((((((((jWk.nil).no).no).no).no).no).eq).eq) (jn9 _ (by decide) h)
    · have h := h2 q6
      clear h1 h2
      refine j_aload_n dX9_utters_36 rfl ?_
      refine j_getFR dX9_utters_37 flX9_124_10 hM.1 rfl (mf_tune hM) ?_
      refine j_aload_n dX9_utters_40 rfl ?_
      refine j_getI dX9_utters_41 flX9_51_10 hM.1 rfl ?_
      obtain ⟨c115, h⟩ := h
      refine j_iald (n := 2) dX9_utters_44 (mt_tune hM) (ml_tune hM) c115 ?_
      refine j_goto 49 dX9_utters_45 rfl ?_
      exact J.wk ((((((((jWk.nil).no).no).no).no).no).eq).eq) (jn9 _ (hW.ai (mt_tune hM) rfl) h)
  obtain ⟨h1, h2⟩ := h
  refine j_icmp_ne 25 dX9_utters_5 rfl (hW.fi rfl) (by decide) (fun q1 => ?_) (fun q1 => ?_)
  · have h := h1 q1
    clear h1 h2
    refine j_aload_n dX9_utters_25 rfl ?_
    refine j_getI dX9_utters_26 flX9_200_10 hM.1 rfl ?_
    exact J.wk ((((((((jWk.nil).no).no).no).no).no).eq).eq) (jn4 _ (hW.fi rfl) h)
  · have h := h2 q1
    clear h1 h2
    refine j_aload_n dX9_utters_8 rfl ?_
    refine j_getFR dX9_utters_9 flX9_94_10 hM.1 rfl (mf_holds hM) ?_
    refine j_bipush dX9_utters_12 ?_
    refine j_aload_n dX9_utters_14 rfl ?_
    refine j_getI dX9_utters_15 flX9_51_10 hM.1 rfl ?_
    refine j_imul dX9_utters_18 ?_
    refine j_iload_n dX9_utters_19 rfl ?_
    refine j_iadd dX9_utters_20 ?_
    obtain ⟨c116, h⟩ := h
    refine j_iald (n := 20) dX9_utters_21 (mt_holds hM) (ml_holds hM) c116 ?_
    refine j_goto 29 dX9_utters_22 rfl ?_
    exact J.wk ((((((((jWk.nil).no).no).no).no).no).eq).eq) (jn4 _ (hW.ai (mt_holds hM) rfl) h)
/-- looked(I)I -/
def wpX9_looked (o : Nat) (a1 : Int) (F : jFl) (A : jAr) (Q : Int → jFl → jAr → Prop) : Prop :=
  ∃ P1 : jFl → jAr → Prop, wpX9_lex o F A P1 ∧ ∀ F4 A5, P1 F4 A5 →
  (((F4 3024 o) ≤ 0) →
    ∃ K14 : jFl → jAr → Prop, (
      ∀ (F11 : jFl) (A12 : jAr), K14 F11 A12 →
      ∃ K19 : Int → Prop, (
        ∀ (v18 : Int), K19 v18 →
        ((¬ (F11 3024 o) = 0) →
          (((F11 3024 o) ≤ 0) →
            Q v18 F11 A12) ∧
          (¬ ((F11 3024 o) ≤ 0) →
            Q 0 F11 A12)) ∧
        (¬ (¬ (F11 3024 o) = 0) →
          ((¬ v18 = (-1)) →
            (((F11 3024 o) ≤ 0) →
              Q v18 F11 A12) ∧
            (¬ ((F11 3024 o) ≤ 0) →
              Q 0 F11 A12)) ∧
          (¬ (¬ v18 = (-1)) →
            ∃ P26 : jFl → jAr → Prop, wpX9_blame o 3 (F11 3012 o) F11 A12 P26 ∧ ∀ F29 A30, P26 F29 A30 →
            (((F29 3024 o) ≤ 0) →
              Q v18 F29 A30) ∧
            (¬ ((F29 3024 o) ≤ 0) →
              Q 0 F29 A30)))) ∧
      (((F11 3024 o) ≤ 0) →
        ∃ P35 : Int → Prop, wpX9_named o a1 (F11 3022 o) F11 A12 P35 ∧ ∀ z37, P35 z37 →
        K19 z37) ∧
      (¬ ((F11 3024 o) ≤ 0) →
        K19 0)) ∧
    ((¬ (F4 3009 o) = 1) →
      ∃ P40 : jFl → jAr → Prop, wpX9_blame o 1 (F4 3012 o) F4 A5 P40 ∧ ∀ F43 A44, P40 F43 A44 →
      K14 F43 A44) ∧
    (¬ (¬ (F4 3009 o) = 1) →
      ∃ P48 : Int → Prop, wpX9_isOwn o (F4 3022 o) F4 A5 P48 ∧ ∀ z50, P48 z50 →
      ((z50 = 0) →
        K14 F4 A5) ∧
      (¬ (z50 = 0) →
        ∃ P54 : jFl → jAr → Prop, wpX9_blame o 1 (F4 3012 o) F4 A5 P54 ∧ ∀ F57 A58, P54 F57 A58 →
        K14 F57 A58))) ∧
  (¬ ((F4 3024 o) ≤ 0) →
    Q 0 F4 A5)
theorem wX9_looked {G : jG} {l : Launch} {d : Nat} {N : jSh} {o : Nat} {F : jFl} {A : jAr} {a1 : Int} {Q : Int → jFl → jAr → Prop} (hd : 3 ≤ d) (hM : mShape G N o) (hW : jWf N F A) (ra1 : jR a1) (h : wpX9_looked o a1 F A Q) : jCall G l d mX9_looked [.ref o, vI a1] N F A (jmI N Q) := by
  refine jCall.of (ls := [.ref o, vI a1, jD]) (by decide) rfl (Nat.le_of_ble_eq_true rfl) rfl ?_
  unfold wpX9_looked at h
  refine j_aload_n dX9_looked_0 rfl ?_
  obtain ⟨P1, hp2, h⟩ := h
  refine j_invV (As := []) (rest := []) dX9_looked_1 lkX9_273 hM.1 rfl rfl (wX9_lex (d := 2) (Nat.le_of_ble_eq_true rfl) hM hW  hp2) rfl rfl (Nat.le_of_ble_eq_true rfl) (Nat.le_trans (Nat.le_of_ble_eq_true rfl) hd) (jkmV fun F4 A5 hW6 p7 => ?_)
  have h := h F4 A5 p7
  refine j_aload_n dX9_looked_4 rfl ?_
  refine j_getI dX9_looked_5 flX9_36_10 hM.1 rfl ?_
  obtain ⟨h1, h2⟩ := h
  refine j_if_le 13 dX9_looked_8 rfl (hW6.fi rfl) (fun q9 => ?_) (fun q9 => ?_)
  · have h := h1 q9
    clear h1 h2
    refine j_aload_n dX9_looked_13 rfl ?_
    refine j_getI dX9_looked_14 flX9_20_10 hM.1 rfl ?_
    refine j_iconst dX9_looked_17 ?_
    obtain ⟨K14, hK16, h⟩ := h
    have jn15 : ∀ (F11 : jFl) (A12 : jAr), jWf N F11 A12 → K14 F11 A12 → J G l d mX9_looked 41 [.ref o, vI a1, jD] [] N F11 A12 (jmI N Q) := by
      intro F11 A12 hW13  h
      have h := hK16 F11 A12 h
      refine j_aload_n dX9_looked_41 rfl ?_
      refine j_getI dX9_looked_42 flX9_36_10 hM.1 rfl ?_
      obtain ⟨K19, hK21, h⟩ := h
      have jn20 : ∀ (v18 : Int), jR v18 → K19 v18 → J G l d mX9_looked 61 [.ref o, jD, jD] [vI v18] N F11 A12 (jmI N Q) := by
        intro v18 rv18 h
        have h := hK21 v18 h
        refine j_istore_n dX9_looked_61 rfl ?_
        refine j_aload_n dX9_looked_62 rfl ?_
        refine j_getI dX9_looked_63 flX9_36_10 hM.1 rfl ?_
        obtain ⟨h1, h2⟩ := h
        refine j_if_ne 83 dX9_looked_66 rfl (hW13.fi rfl) (fun q22 => ?_) (fun q22 => ?_)
        · have h := h1 q22
          clear h1 h2
          refine j_aload_n dX9_looked_83 rfl ?_
          refine j_getI dX9_looked_84 flX9_36_10 hM.1 rfl ?_
          obtain ⟨h1, h2⟩ := h
          refine j_if_le 94 dX9_looked_87 rfl (hW13.fi rfl) (fun q23 => ?_) (fun q23 => ?_)
          · have h := h1 q23
            clear h1 h2
            refine j_iload_n dX9_looked_94 rfl ?_
            exact j_iret dX9_looked_95 rfl ⟨_, rfl, rfl, hW13, h, rv18⟩
          · have h := h2 q23
            clear h1 h2
            refine j_iconst dX9_looked_90 ?_
            refine j_goto 95 dX9_looked_91 rfl ?_
            exact j_iret dX9_looked_95 rfl ⟨_, rfl, rfl, hW13, h, (by decide)⟩
        · have h := h2 q22
          clear h1 h2
          refine j_iload_n dX9_looked_69 rfl ?_
          refine j_iconst dX9_looked_70 ?_
          obtain ⟨h1, h2⟩ := h
          refine j_icmp_ne 83 dX9_looked_71 rfl rv18 (by decide) (fun q24 => ?_) (fun q24 => ?_)
          · have h := h1 q24
            clear h1 h2
            refine j_aload_n dX9_looked_83 rfl ?_
            refine j_getI dX9_looked_84 flX9_36_10 hM.1 rfl ?_
            obtain ⟨h1, h2⟩ := h
            refine j_if_le 94 dX9_looked_87 rfl (hW13.fi rfl) (fun q25 => ?_) (fun q25 => ?_)
            · have h := h1 q25
              clear h1 h2
              refine j_iload_n dX9_looked_94 rfl ?_
              exact j_iret dX9_looked_95 rfl ⟨_, rfl, rfl, hW13, h, rv18⟩
            · have h := h2 q25
              clear h1 h2
              refine j_iconst dX9_looked_90 ?_
              refine j_goto 95 dX9_looked_91 rfl ?_
              exact j_iret dX9_looked_95 rfl ⟨_, rfl, rfl, hW13, h, (by decide)⟩
          · have h := h2 q24
            clear h1 h2
            refine j_aload_n dX9_looked_74 rfl ?_
            refine j_iconst dX9_looked_75 ?_
            refine j_aload_n dX9_looked_76 rfl ?_
            refine j_getI dX9_looked_77 flX9_23_10 hM.1 rfl ?_
            obtain ⟨P26, hp27, h⟩ := h
            refine j_invV (As := [vI 3, vI (F11 3012 o)]) (rest := []) dX9_looked_80 lkX9_262 hM.1 rfl rfl (wX9_blame (d := 1) (Nat.le_of_ble_eq_true rfl) hM hW13 (by decide) (hW13.fi rfl) hp27) rfl rfl (Nat.le_of_ble_eq_true rfl) (Nat.le_trans (Nat.le_of_ble_eq_true rfl) hd) (jkmV fun F29 A30 hW31 p32 => ?_)
            have h := h F29 A30 p32
            refine j_aload_n dX9_looked_83 rfl ?_
            refine j_getI dX9_looked_84 flX9_36_10 hM.1 rfl ?_
            obtain ⟨h1, h2⟩ := h
            refine j_if_le 94 dX9_looked_87 rfl (hW31.fi rfl) (fun q34 => ?_) (fun q34 => ?_)
            · have h := h1 q34
              clear h1 h2
              refine j_iload_n dX9_looked_94 rfl ?_
              exact j_iret dX9_looked_95 rfl ⟨_, rfl, rfl, hW31, h, rv18⟩
            · have h := h2 q34
              clear h1 h2
              refine j_iconst dX9_looked_90 ?_
              refine j_goto 95 dX9_looked_91 rfl ?_
              exact j_iret dX9_looked_95 rfl ⟨_, rfl, rfl, hW31, h, (by decide)⟩
      obtain ⟨h1, h2⟩ := h
      refine j_if_le 52 dX9_looked_45 rfl (hW13.fi rfl) (fun q17 => ?_) (fun q17 => ?_)
      · have h := h1 q17
        clear h1 h2
        refine j_aload_n dX9_looked_52 rfl ?_
        refine j_iload_n dX9_looked_53 rfl ?_
        refine j_aload_n dX9_looked_54 rfl ?_
        refine j_getL dX9_looked_55 flX9_32_10 hM.1 rfl ?_
        obtain ⟨P35, hp36, h⟩ := h
        refine j_invV (As := [vI a1, vL (F11 3022 o)]) (rest := []) dX9_looked_58 lkX9_335 hM.1 rfl rfl (wX9_named (d := 2) (Nat.le_of_ble_eq_true rfl) hM hW13 ra1 (hW13.fl rfl) hp36) rfl rfl (Nat.le_of_ble_eq_true rfl) (Nat.le_trans (Nat.le_of_ble_eq_true rfl) hd) (jkpI fun z37 p38 r39 => ?_)
        have h := h z37 p38
        exact J.wk ((((jWk.nil).no).no).eq) (jn20 _ r39 h)
      · have h := h2 q17
        clear h1 h2
        refine j_iconst dX9_looked_48 ?_
        refine j_goto 61 dX9_looked_49 rfl ?_
        exact J.wk ((((jWk.nil).no).no).eq) (jn20 _ (by decide) h)
    obtain ⟨h1, h2⟩ := h
    refine j_icmp_ne 32 dX9_looked_18 rfl (hW6.fi rfl) (by decide) (fun q10 => ?_) (fun q10 => ?_)
    · have h := h1 q10
      clear h1 h2
      refine j_aload_n dX9_looked_32 rfl ?_
      refine j_iconst dX9_looked_33 ?_
      refine j_aload_n dX9_looked_34 rfl ?_
      refine j_getI dX9_looked_35 flX9_23_10 hM.1 rfl ?_
      obtain ⟨P40, hp41, h⟩ := h
      refine j_invV (As := [vI 1, vI (F4 3012 o)]) (rest := []) dX9_looked_38 lkX9_262 hM.1 rfl rfl (wX9_blame (d := 1) (Nat.le_of_ble_eq_true rfl) hM hW6 (by decide) (hW6.fi rfl) hp41) rfl rfl (Nat.le_of_ble_eq_true rfl) (Nat.le_trans (Nat.le_of_ble_eq_true rfl) hd) (jkmV fun F43 A44 hW45 p46 => ?_)
      have h := h F43 A44 p46
      exact J.wk ((((jWk.nil).no).eq).eq) (jn15 _ _ hW45  h)
    · have h := h2 q10
      clear h1 h2
      refine j_aload_n dX9_looked_21 rfl ?_
      refine j_aload_n dX9_looked_22 rfl ?_
      refine j_getL dX9_looked_23 flX9_32_10 hM.1 rfl ?_
      obtain ⟨P48, hp49, h⟩ := h
      refine j_invV (As := [vL (F4 3022 o)]) (rest := []) dX9_looked_26 lkX9_332 hM.1 rfl rfl (wX9_isOwn (d := 1) (Nat.le_of_ble_eq_true rfl) hM hW6 (hW6.fl rfl) hp49) rfl rfl (Nat.le_of_ble_eq_true rfl) (Nat.le_trans (Nat.le_of_ble_eq_true rfl) hd) (jkpB fun z50 p51 r52 => ?_)
      have h := h z50 p51
      obtain ⟨h1, h2⟩ := h
      refine j_if_eq 41 dX9_looked_29 rfl (jR_b r52) (fun q53 => ?_) (fun q53 => ?_)
      · have h := h1 q53
        clear h1 h2
        exact J.wk ((((jWk.nil).no).eq).eq) (jn15 _ _ hW6  h)
      · have h := h2 q53
        clear h1 h2
        refine j_aload_n dX9_looked_32 rfl ?_
        refine j_iconst dX9_looked_33 ?_
        refine j_aload_n dX9_looked_34 rfl ?_
        refine j_getI dX9_looked_35 flX9_23_10 hM.1 rfl ?_
        obtain ⟨P54, hp55, h⟩ := h
        refine j_invV (As := [vI 1, vI (F4 3012 o)]) (rest := []) dX9_looked_38 lkX9_262 hM.1 rfl rfl (wX9_blame (d := 1) (Nat.le_of_ble_eq_true rfl) hM hW6 (by decide) (hW6.fi rfl) hp55) rfl rfl (Nat.le_of_ble_eq_true rfl) (Nat.le_trans (Nat.le_of_ble_eq_true rfl) hd) (jkmV fun F57 A58 hW59 p60 => ?_)
        have h := h F57 A58 p60
        exact J.wk ((((jWk.nil).no).eq).eq) (jn15 _ _ hW59  h)
  · have h := h2 q9
    clear h1 h2
    refine j_iconst dX9_looked_11 ?_
    exact j_iret dX9_looked_12 rfl ⟨_, rfl, rfl, hW6, h, (by decide)⟩
/-- counts(Z)Z -/
def wpX9_counts (o : Nat) (a1 : Int) (F : jFl) (A : jAr) (Q : Int → jFl → jAr → Prop) : Prop :=
  ∃ K5 : jFl → jAr → Prop, (
    ∀ (F2 : jFl) (A3 : jAr), K5 F2 A3 →
    ((¬ (F2 3024 o) = 0) →
      ∀ z10 : Int, z10 = (if ¬ (F2 3024 o) = 0 then 0 else 1) →
      Q z10 F2 A3) ∧
    (¬ (¬ (F2 3024 o) = 0) →
      ∃ P12 : jFl → jAr → Prop, wpX9_ahead o F2 A3 P12 ∧ ∀ F15 A16, P12 F15 A16 →
      ∀ z21 : Int, z21 = (if ¬ (F15 3024 o) = 0 then 0 else 1) →
      Q z21 F15 A16)) ∧
  ((¬ (F 3024 o) = 0) →
    K5 F A) ∧
  (¬ (¬ (F 3024 o) = 0) →
    ((a1 = 0) →
      K5 F A) ∧
    (¬ (a1 = 0) →
      ∃ P24 : jFl → jAr → Prop, wpX9_blame o 5 (F 3012 o) F A P24 ∧ ∀ F27 A28, P24 F27 A28 →
      K5 F27 A28))
theorem wX9_counts {G : jG} {l : Launch} {d : Nat} {N : jSh} {o : Nat} {F : jFl} {A : jAr} {a1 : Int} {Q : Int → jFl → jAr → Prop} (hd : 3 ≤ d) (hM : mShape G N o) (hW : jWf N F A) (ba1 : a1 = 0 ∨ a1 = 1) (h : wpX9_counts o a1 F A Q) : jCall G l d mX9_counts [.ref o, vI a1] N F A (jmB N Q) := by
  refine jCall.of (ls := [.ref o, vI a1]) (by decide) rfl (Nat.le_of_ble_eq_true rfl) rfl ?_
  unfold wpX9_counts at h
  refine j_aload_n dX9_counts_0 rfl ?_
  refine j_getI dX9_counts_1 flX9_36_10 hM.1 rfl ?_
  obtain ⟨K5, hK7, h⟩ := h
  have jn6 : ∀ (F2 : jFl) (A3 : jAr), jWf N F2 A3 → K5 F2 A3 → J G l d mX9_counts 20 [.ref o, jD] [] N F2 A3 (jmB N Q) := by
    intro F2 A3 hW4  h
    have h := hK7 F2 A3 h
    refine j_aload_n dX9_counts_20 rfl ?_
    refine j_getI dX9_counts_21 flX9_36_10 hM.1 rfl ?_
    obtain ⟨h1, h2⟩ := h
    refine j_if_ne 31 dX9_counts_24 rfl (hW4.fi rfl) (fun q8 => ?_) (fun q8 => ?_)
    · have h := h1 q8
      clear h1 h2
      refine j_aload_n dX9_counts_31 rfl ?_
      refine j_getI dX9_counts_32 flX9_36_10 hM.1 rfl ?_
      have jn11 : ∀ z10 : Int, z10 = (if ¬ (F2 3024 o) = 0 then 0 else 1) → J G l d mX9_counts 43 [.ref o, jD] [vI z10] N F2 A3 (jmB N Q) := by
        intro z10 ez10
        have h := h z10 ez10
        exact j_zret dX9_counts_43 rfl (nr_bool (ez10 ▸ (jB_ite (by decide) (by decide)))) ⟨_, rfl, rfl, hW4, h, (ez10 ▸ (jB_ite (by decide) (by decide)))⟩
      clear h
      refine j_if_ne 42 dX9_counts_35 rfl (hW4.fi rfl) (fun q9 => ?_) (fun q9 => ?_)
      · refine j_iconst dX9_counts_42 ?_
        exact jn11 _ ((if_pos q9).symm)
      · refine j_iconst dX9_counts_38 ?_
        refine j_goto 43 dX9_counts_39 rfl ?_
        exact jn11 _ ((if_neg q9).symm)
    · have h := h2 q8
      clear h1 h2
      refine j_aload_n dX9_counts_27 rfl ?_
      obtain ⟨P12, hp13, h⟩ := h
      refine j_invV (As := []) (rest := []) dX9_counts_28 lkX9_279 hM.1 rfl rfl (wX9_ahead (d := 2) (Nat.le_of_ble_eq_true rfl) hM hW4  hp13) rfl rfl (Nat.le_of_ble_eq_true rfl) (Nat.le_trans (Nat.le_of_ble_eq_true rfl) hd) (jkmV fun F15 A16 hW17 p18 => ?_)
      have h := h F15 A16 p18
      refine j_aload_n dX9_counts_31 rfl ?_
      refine j_getI dX9_counts_32 flX9_36_10 hM.1 rfl ?_
      have jn22 : ∀ z21 : Int, z21 = (if ¬ (F15 3024 o) = 0 then 0 else 1) → J G l d mX9_counts 43 [.ref o, jD] [vI z21] N F15 A16 (jmB N Q) := by
        intro z21 ez21
        have h := h z21 ez21
        exact j_zret dX9_counts_43 rfl (nr_bool (ez21 ▸ (jB_ite (by decide) (by decide)))) ⟨_, rfl, rfl, hW17, h, (ez21 ▸ (jB_ite (by decide) (by decide)))⟩
      clear h
      refine j_if_ne 42 dX9_counts_35 rfl (hW17.fi rfl) (fun q20 => ?_) (fun q20 => ?_)
      · refine j_iconst dX9_counts_42 ?_
        exact jn22 _ ((if_pos q20).symm)
      · refine j_iconst dX9_counts_38 ?_
        refine j_goto 43 dX9_counts_39 rfl ?_
        exact jn22 _ ((if_neg q20).symm)
  obtain ⟨h1, h2⟩ := h
  refine j_if_ne 20 dX9_counts_4 rfl (hW.fi rfl) (fun q1 => ?_) (fun q1 => ?_)
  · have h := h1 q1
    clear h1 h2
    exact J.wk (((jWk.nil).no).eq) (jn6 _ _ hW  h)
  · have h := h2 q1
    clear h1 h2
    refine j_iload_n dX9_counts_7 rfl ?_
    obtain ⟨h1, h2⟩ := h
    refine j_if_eq 20 dX9_counts_8 rfl (jR_b ba1) (fun q23 => ?_) (fun q23 => ?_)
    · have h := h1 q23
      clear h1 h2
      exact J.wk (((jWk.nil).no).eq) (jn6 _ _ hW  h)
    · have h := h2 q23
      clear h1 h2
      refine j_aload_n dX9_counts_11 rfl ?_
      refine j_iconst dX9_counts_12 ?_
      refine j_aload_n dX9_counts_13 rfl ?_
      refine j_getI dX9_counts_14 flX9_23_10 hM.1 rfl ?_
      obtain ⟨P24, hp25, h⟩ := h
      refine j_invV (As := [vI 5, vI (F 3012 o)]) (rest := []) dX9_counts_17 lkX9_262 hM.1 rfl rfl (wX9_blame (d := 1) (Nat.le_of_ble_eq_true rfl) hM hW (by decide) (hW.fi rfl) hp25) rfl rfl (Nat.le_of_ble_eq_true rfl) (Nat.le_trans (Nat.le_of_ble_eq_true rfl) hd) (jkmV fun F27 A28 hW29 p30 => ?_)
      have h := h F27 A28 p30
      exact J.wk (((jWk.nil).no).eq) (jn6 _ _ hW29  h)
/-- fresh()J -/
def wpX9_fresh (o : Nat) (F : jFl) (A : jAr) (Q : Int → jFl → jAr → Prop) : Prop :=
  ∃ P1 : jFl → jAr → Prop, wpX9_lex o F A P1 ∧ ∀ F4 A5, P1 F4 A5 →
  (((F4 3024 o) ≤ 0) →
    ∃ K14 : jFl → jAr → Prop, (
      ∀ (F11 : jFl) (A12 : jAr), K14 F11 A12 →
      ∃ (I21 : Int → jFl → jAr → Prop) (m22 : Int → jFl → jAr → Nat), I21 0 F11 A12 ∧ ∀ (v17 : Int) (F18 : jFl) (A19 : jAr), I21 v17 F18 A19 →
        ∃ K24 : Prop, (
          K24 →
          ∀ v27 : Int, v27 = F18 3022 o →
          ((¬ (F18 3024 o) = 0) →
            Q v27 F18 A19) ∧
          (¬ (¬ (F18 3024 o) = 0) →
            ∃ P29 : jFl → jAr → Prop, wpX9_ahead o F18 A19 P29 ∧ ∀ F32 A33, P29 F32 A33 →
            Q v27 F32 A33)) ∧
        ((3 < v17) →
          K24 ) ∧
        (¬ (3 < v17) →
          ((¬ (F18 3024 o) = 0) →
            K24 ) ∧
          (¬ (¬ (F18 3024 o) = 0) →
            ∃ P38 : Int → Prop, wpX9_named o v17 (F18 3022 o) F18 A19 P38 ∧ ∀ z40, P38 z40 →
            ((z40 = (-1)) →
              jR (v17 + 1) ∧
              I21 (v17 + 1) F18 A19 ∧ m22 (v17 + 1) F18 A19 < m22 v17 F18 A19) ∧
            (¬ (z40 = (-1)) →
              ∃ P45 : jFl → jAr → Prop, wpX9_blame o 2 (F18 3012 o) F18 A19 P45 ∧ ∀ F48 A49, P45 F48 A49 →
              jR (v17 + 1) ∧
              I21 (v17 + 1) F48 A49 ∧ m22 (v17 + 1) F48 A49 < m22 v17 F18 A19)))) ∧
    ((¬ (F4 3009 o) = 1) →
      ∃ P54 : jFl → jAr → Prop, wpX9_blame o 1 (F4 3012 o) F4 A5 P54 ∧ ∀ F57 A58, P54 F57 A58 →
      K14 F57 A58) ∧
    (¬ (¬ (F4 3009 o) = 1) →
      ∃ P62 : Int → Prop, wpX9_isOwn o (F4 3022 o) F4 A5 P62 ∧ ∀ z64, P62 z64 →
      ((z64 = 0) →
        K14 F4 A5) ∧
      (¬ (z64 = 0) →
        ∃ P68 : jFl → jAr → Prop, wpX9_blame o 1 (F4 3012 o) F4 A5 P68 ∧ ∀ F71 A72, P68 F71 A72 →
        K14 F71 A72))) ∧
  (¬ ((F4 3024 o) ≤ 0) →
    Q 0 F4 A5)
theorem wX9_fresh {G : jG} {l : Launch} {d : Nat} {N : jSh} {o : Nat} {F : jFl} {A : jAr} {Q : Int → jFl → jAr → Prop} (hd : 3 ≤ d) (hM : mShape G N o) (hW : jWf N F A) (h : wpX9_fresh o F A Q) : jCall G l d mX9_fresh [.ref o] N F A (jmL N Q) := by
  refine jCall.of (ls := [.ref o, jD, jD]) (by decide) rfl (Nat.le_of_ble_eq_true rfl) rfl ?_
  unfold wpX9_fresh at h
  refine j_aload_n dX9_fresh_0 rfl ?_
  obtain ⟨P1, hp2, h⟩ := h
  refine j_invV (As := []) (rest := []) dX9_fresh_1 lkX9_273 hM.1 rfl rfl (wX9_lex (d := 2) (Nat.le_of_ble_eq_true rfl) hM hW  hp2) rfl rfl (Nat.le_of_ble_eq_true rfl) (Nat.le_trans (Nat.le_of_ble_eq_true rfl) hd) (jkmV fun F4 A5 hW6 p7 => ?_)
  have h := h F4 A5 p7
  refine j_aload_n dX9_fresh_4 rfl ?_
  refine j_getI dX9_fresh_5 flX9_36_10 hM.1 rfl ?_
  obtain ⟨h1, h2⟩ := h
  refine j_if_le 13 dX9_fresh_8 rfl (hW6.fi rfl) (fun q9 => ?_) (fun q9 => ?_)
  · have h := h1 q9
    clear h1 h2
    refine j_aload_n dX9_fresh_13 rfl ?_
    refine j_getI dX9_fresh_14 flX9_20_10 hM.1 rfl ?_
    refine j_iconst dX9_fresh_17 ?_
    obtain ⟨K14, hK16, h⟩ := h
    have jn15 : ∀ (F11 : jFl) (A12 : jAr), jWf N F11 A12 → K14 F11 A12 → J G l d mX9_fresh 41 [.ref o, jD, jD] [] N F11 A12 (jmL N Q) := by
      intro F11 A12 hW13  h
      have h := hK16 F11 A12 h
      refine j_iconst dX9_fresh_41 ?_
      refine j_istore_n dX9_fresh_42 rfl ?_
      obtain ⟨I21, m22, h0, hs⟩ := h
      have lp : ∀ (n : Nat) (v17 : Int) (F18 : jFl) (A19 : jAr), m22 v17 F18 A19 < n → jWf N F18 A19 → jR v17 → I21 v17 F18 A19 → J G l d mX9_fresh 43 [.ref o, vI v17, jD] [] N F18 A19 (jmL N Q) := by
        intro nI21
        induction nI21 with
        | zero =>
          intro v17 F18 A19 hmu
          exact absurd hmu (Nat.not_lt_zero _)
        | succ nI21 ihI21 =>
          intro v17 F18 A19 hmuI21 hW20 rv17 hI
          have h := hs v17 F18 A19 hI
          refine j_iload_n dX9_fresh_43 rfl ?_
          refine j_iconst dX9_fresh_44 ?_
          obtain ⟨K24, hK26, h⟩ := h
          have jn25 : K24  → J G l d mX9_fresh 83 [.ref o, jD, jD] [] N F18 A19 (jmL N Q) := by
            intro   h
            have h := hK26  h
            refine j_aload_n dX9_fresh_83 rfl ?_
            refine j_getL dX9_fresh_84 flX9_32_10 hM.1 rfl ?_
            obtain ⟨v27, ev27⟩ : ∃ x : Int, x = F18 3022 o := ⟨_, rfl⟩
            have h := h v27 ev27
            refine jnmL (e := ev27) ?_
            refine j_lstore_n dX9_fresh_87 rfl (Nat.le_of_ble_eq_true rfl) ?_
            refine j_aload_n dX9_fresh_88 rfl ?_
            refine j_getI dX9_fresh_89 flX9_36_10 hM.1 rfl ?_
            obtain ⟨h1, h2⟩ := h
            refine j_if_ne 99 dX9_fresh_92 rfl (hW20.fi rfl) (fun q28 => ?_) (fun q28 => ?_)
            · have h := h1 q28
              clear h1 h2
              refine j_lload_n dX9_fresh_99 rfl ?_
              exact j_lret dX9_fresh_100 rfl ⟨_, rfl, rfl, hW20, h, (ev27 ▸ (hW20.fl rfl))⟩
            · have h := h2 q28
              clear h1 h2
              refine j_aload_n dX9_fresh_95 rfl ?_
              obtain ⟨P29, hp30, h⟩ := h
              refine j_invV (As := []) (rest := []) dX9_fresh_96 lkX9_279 hM.1 rfl rfl (wX9_ahead (d := 2) (Nat.le_of_ble_eq_true rfl) hM hW20  hp30) rfl rfl (Nat.le_of_ble_eq_true rfl) (Nat.le_trans (Nat.le_of_ble_eq_true rfl) hd) (jkmV fun F32 A33 hW34 p35 => ?_)
              have h := h F32 A33 p35
              refine j_lload_n dX9_fresh_99 rfl ?_
              exact j_lret dX9_fresh_100 rfl ⟨_, rfl, rfl, hW34, h, (ev27 ▸ (hW20.fl rfl))⟩
          obtain ⟨h1, h2⟩ := h
          refine j_icmp_gt 83 dX9_fresh_45 rfl rv17 (by decide) (fun q23 => ?_) (fun q23 => ?_)
          · have h := h1 q23
            clear h1 h2
            exact J.wk ((((jWk.nil).no).no).eq) (jn25   h)
          · have h := h2 q23
            clear h1 h2
            refine j_aload_n dX9_fresh_48 rfl ?_
            refine j_getI dX9_fresh_49 flX9_36_10 hM.1 rfl ?_
            obtain ⟨h1, h2⟩ := h
            refine j_if_ne 83 dX9_fresh_52 rfl (hW20.fi rfl) (fun q37 => ?_) (fun q37 => ?_)
            · have h := h1 q37
              clear h1 h2
              exact J.wk ((((jWk.nil).no).no).eq) (jn25   h)
            · have h := h2 q37
              clear h1 h2
              refine j_aload_n dX9_fresh_55 rfl ?_
              refine j_iload_n dX9_fresh_56 rfl ?_
              refine j_aload_n dX9_fresh_57 rfl ?_
              refine j_getL dX9_fresh_58 flX9_32_10 hM.1 rfl ?_
              obtain ⟨P38, hp39, h⟩ := h
              refine j_invV (As := [vI v17, vL (F18 3022 o)]) (rest := []) dX9_fresh_61 lkX9_335 hM.1 rfl rfl (wX9_named (d := 2) (Nat.le_of_ble_eq_true rfl) hM hW20 rv17 (hW20.fl rfl) hp39) rfl rfl (Nat.le_of_ble_eq_true rfl) (Nat.le_trans (Nat.le_of_ble_eq_true rfl) hd) (jkpI fun z40 p41 r42 => ?_)
              have h := h z40 p41
              refine j_iconst dX9_fresh_64 ?_
              obtain ⟨h1, h2⟩ := h
              refine j_icmp_eq 77 dX9_fresh_65 rfl r42 (by decide) (fun q43 => ?_) (fun q43 => ?_)
              · have h := h1 q43
                clear h1 h2
                obtain ⟨r44, h⟩ := h
                refine j_iinc dX9_fresh_77 rfl rfl ?_
                refine j_goto 43 dX9_fresh_80 rfl ?_
                exact J.wk ((((jWk.nil).no).eq).eq) (ihI21 _ _ _ (Nat.lt_of_lt_of_le h.2 (Nat.le_of_lt_succ hmuI21)) hW20 r44 h.1)
              · have h := h2 q43
                clear h1 h2
                refine j_aload_n dX9_fresh_68 rfl ?_
                refine j_iconst dX9_fresh_69 ?_
                refine j_aload_n dX9_fresh_70 rfl ?_
                refine j_getI dX9_fresh_71 flX9_23_10 hM.1 rfl ?_
                obtain ⟨P45, hp46, h⟩ := h
                refine j_invV (As := [vI 2, vI (F18 3012 o)]) (rest := []) dX9_fresh_74 lkX9_262 hM.1 rfl rfl (wX9_blame (d := 1) (Nat.le_of_ble_eq_true rfl) hM hW20 (by decide) (hW20.fi rfl) hp46) rfl rfl (Nat.le_of_ble_eq_true rfl) (Nat.le_trans (Nat.le_of_ble_eq_true rfl) hd) (jkmV fun F48 A49 hW50 p51 => ?_)
                have h := h F48 A49 p51
                obtain ⟨r53, h⟩ := h
                refine j_iinc dX9_fresh_77 rfl rfl ?_
                refine j_goto 43 dX9_fresh_80 rfl ?_
                exact J.wk ((((jWk.nil).no).eq).eq) (ihI21 _ _ _ (Nat.lt_of_lt_of_le h.2 (Nat.le_of_lt_succ hmuI21)) hW50 r53 h.1)
      exact J.wk ((((jWk.nil).no).eq).eq) (lp _ _ _ _ (Nat.lt_succ_self _) hW13 (by decide) h0)
    obtain ⟨h1, h2⟩ := h
    refine j_icmp_ne 32 dX9_fresh_18 rfl (hW6.fi rfl) (by decide) (fun q10 => ?_) (fun q10 => ?_)
    · have h := h1 q10
      clear h1 h2
      refine j_aload_n dX9_fresh_32 rfl ?_
      refine j_iconst dX9_fresh_33 ?_
      refine j_aload_n dX9_fresh_34 rfl ?_
      refine j_getI dX9_fresh_35 flX9_23_10 hM.1 rfl ?_
      obtain ⟨P54, hp55, h⟩ := h
      refine j_invV (As := [vI 1, vI (F4 3012 o)]) (rest := []) dX9_fresh_38 lkX9_262 hM.1 rfl rfl (wX9_blame (d := 1) (Nat.le_of_ble_eq_true rfl) hM hW6 (by decide) (hW6.fi rfl) hp55) rfl rfl (Nat.le_of_ble_eq_true rfl) (Nat.le_trans (Nat.le_of_ble_eq_true rfl) hd) (jkmV fun F57 A58 hW59 p60 => ?_)
      have h := h F57 A58 p60
      exact J.wk ((((jWk.nil).no).no).eq) (jn15 _ _ hW59  h)
    · have h := h2 q10
      clear h1 h2
      refine j_aload_n dX9_fresh_21 rfl ?_
      refine j_aload_n dX9_fresh_22 rfl ?_
      refine j_getL dX9_fresh_23 flX9_32_10 hM.1 rfl ?_
      obtain ⟨P62, hp63, h⟩ := h
      refine j_invV (As := [vL (F4 3022 o)]) (rest := []) dX9_fresh_26 lkX9_332 hM.1 rfl rfl (wX9_isOwn (d := 1) (Nat.le_of_ble_eq_true rfl) hM hW6 (hW6.fl rfl) hp63) rfl rfl (Nat.le_of_ble_eq_true rfl) (Nat.le_trans (Nat.le_of_ble_eq_true rfl) hd) (jkpB fun z64 p65 r66 => ?_)
      have h := h z64 p65
      obtain ⟨h1, h2⟩ := h
      refine j_if_eq 41 dX9_fresh_29 rfl (jR_b r66) (fun q67 => ?_) (fun q67 => ?_)
      · have h := h1 q67
        clear h1 h2
        exact J.wk ((((jWk.nil).no).no).eq) (jn15 _ _ hW6  h)
      · have h := h2 q67
        clear h1 h2
        refine j_aload_n dX9_fresh_32 rfl ?_
        refine j_iconst dX9_fresh_33 ?_
        refine j_aload_n dX9_fresh_34 rfl ?_
        refine j_getI dX9_fresh_35 flX9_23_10 hM.1 rfl ?_
        obtain ⟨P68, hp69, h⟩ := h
        refine j_invV (As := [vI 1, vI (F4 3012 o)]) (rest := []) dX9_fresh_38 lkX9_262 hM.1 rfl rfl (wX9_blame (d := 1) (Nat.le_of_ble_eq_true rfl) hM hW6 (by decide) (hW6.fi rfl) hp69) rfl rfl (Nat.le_of_ble_eq_true rfl) (Nat.le_trans (Nat.le_of_ble_eq_true rfl) hd) (jkmV fun F71 A72 hW73 p74 => ?_)
        have h := h F71 A72 p74
        exact J.wk ((((jWk.nil).no).no).eq) (jn15 _ _ hW73  h)
  · have h := h2 q9
    clear h1 h2
    refine j_lconst 0 rfl dX9_fresh_11 ?_
    exact j_lret dX9_fresh_12 rfl ⟨_, rfl, rfl, hW6, h, (by decide)⟩
/-- must(J)V -/
def wpX9_must (o : Nat) (a1 : Int) (F : jFl) (A : jAr) (Q : jFl → jAr → Prop) : Prop :=
  ∃ P1 : jFl → jAr → Prop, wpX9_lex o F A P1 ∧ ∀ F4 A5, P1 F4 A5 →
  (((F4 3024 o) ≤ 0) →
    ∃ P10 : Int → Prop, wpX9_isWord o a1 F4 A5 P10 ∧ ∀ z12, P10 z12 →
    ((¬ z12 = 0) →
      ((¬ (F4 3024 o) = 0) →
        Q F4 A5) ∧
      (¬ (¬ (F4 3024 o) = 0) →
        ∃ P17 : jFl → jAr → Prop, wpX9_ahead o F4 A5 P17 ∧ ∀ F20 A21, P17 F20 A21 →
        Q F20 A21)) ∧
    (¬ (¬ z12 = 0) →
      ∃ P25 : jFl → jAr → Prop, wpX9_blame o 1 (F4 3012 o) F4 A5 P25 ∧ ∀ F28 A29, P25 F28 A29 →
      ((¬ (F28 3024 o) = 0) →
        Q F28 A29) ∧
      (¬ (¬ (F28 3024 o) = 0) →
        ∃ P34 : jFl → jAr → Prop, wpX9_ahead o F28 A29 P34 ∧ ∀ F37 A38, P34 F37 A38 →
        Q F37 A38))) ∧
  (¬ ((F4 3024 o) ≤ 0) →
    Q F4 A5)
theorem wX9_must {G : jG} {l : Launch} {d : Nat} {N : jSh} {o : Nat} {F : jFl} {A : jAr} {a1 : Int} {Q : jFl → jAr → Prop} (hd : 3 ≤ d) (hM : mShape G N o) (hW : jWf N F A) (ra1 : jRL a1) (h : wpX9_must o a1 F A Q) : jCall G l d mX9_must [.ref o, vL a1] N F A (jmV N Q) := by
  refine jCall.of (ls := [.ref o, vL a1, jD]) (by decide) rfl (Nat.le_of_ble_eq_true rfl) rfl ?_
  unfold wpX9_must at h
  refine j_aload_n dX9_must_0 rfl ?_
  obtain ⟨P1, hp2, h⟩ := h
  refine j_invV (As := []) (rest := []) dX9_must_1 lkX9_273 hM.1 rfl rfl (wX9_lex (d := 2) (Nat.le_of_ble_eq_true rfl) hM hW  hp2) rfl rfl (Nat.le_of_ble_eq_true rfl) (Nat.le_trans (Nat.le_of_ble_eq_true rfl) hd) (jkmV fun F4 A5 hW6 p7 => ?_)
  have h := h F4 A5 p7
  refine j_aload_n dX9_must_4 rfl ?_
  refine j_getI dX9_must_5 flX9_36_10 hM.1 rfl ?_
  obtain ⟨h1, h2⟩ := h
  refine j_if_le 12 dX9_must_8 rfl (hW6.fi rfl) (fun q9 => ?_) (fun q9 => ?_)
  · have h := h1 q9
    clear h1 h2
    refine j_aload_n dX9_must_12 rfl ?_
    refine j_lload_n dX9_must_13 rfl ?_
    obtain ⟨P10, hp11, h⟩ := h
    refine j_invV (As := [vL a1]) (rest := []) dX9_must_14 lkX9_328 hM.1 rfl rfl (wX9_isWord (d := 1) (Nat.le_of_ble_eq_true rfl) hM hW6 ra1 hp11) rfl rfl (Nat.le_of_ble_eq_true rfl) (Nat.le_trans (Nat.le_of_ble_eq_true rfl) hd) (jkpB fun z12 p13 r14 => ?_)
    have h := h z12 p13
    obtain ⟨h1, h2⟩ := h
    refine j_if_ne 29 dX9_must_17 rfl (jR_b r14) (fun q15 => ?_) (fun q15 => ?_)
    · have h := h1 q15
      clear h1 h2
      refine j_aload_n dX9_must_29 rfl ?_
      refine j_getI dX9_must_30 flX9_36_10 hM.1 rfl ?_
      obtain ⟨h1, h2⟩ := h
      refine j_if_ne 40 dX9_must_33 rfl (hW6.fi rfl) (fun q16 => ?_) (fun q16 => ?_)
      · have h := h1 q16
        clear h1 h2
        exact j_vret dX9_must_40 rfl ⟨rfl, rfl, hW6, h⟩
      · have h := h2 q16
        clear h1 h2
        refine j_aload_n dX9_must_36 rfl ?_
        obtain ⟨P17, hp18, h⟩ := h
        refine j_invV (As := []) (rest := []) dX9_must_37 lkX9_279 hM.1 rfl rfl (wX9_ahead (d := 2) (Nat.le_of_ble_eq_true rfl) hM hW6  hp18) rfl rfl (Nat.le_of_ble_eq_true rfl) (Nat.le_trans (Nat.le_of_ble_eq_true rfl) hd) (jkmV fun F20 A21 hW22 p23 => ?_)
        have h := h F20 A21 p23
        exact j_vret dX9_must_40 rfl ⟨rfl, rfl, hW22, h⟩
    · have h := h2 q15
      clear h1 h2
      refine j_aload_n dX9_must_20 rfl ?_
      refine j_iconst dX9_must_21 ?_
      refine j_aload_n dX9_must_22 rfl ?_
      refine j_getI dX9_must_23 flX9_23_10 hM.1 rfl ?_
      obtain ⟨P25, hp26, h⟩ := h
      refine j_invV (As := [vI 1, vI (F4 3012 o)]) (rest := []) dX9_must_26 lkX9_262 hM.1 rfl rfl (wX9_blame (d := 1) (Nat.le_of_ble_eq_true rfl) hM hW6 (by decide) (hW6.fi rfl) hp26) rfl rfl (Nat.le_of_ble_eq_true rfl) (Nat.le_trans (Nat.le_of_ble_eq_true rfl) hd) (jkmV fun F28 A29 hW30 p31 => ?_)
      have h := h F28 A29 p31
      refine j_aload_n dX9_must_29 rfl ?_
      refine j_getI dX9_must_30 flX9_36_10 hM.1 rfl ?_
      obtain ⟨h1, h2⟩ := h
      refine j_if_ne 40 dX9_must_33 rfl (hW30.fi rfl) (fun q33 => ?_) (fun q33 => ?_)
      · have h := h1 q33
        clear h1 h2
        exact j_vret dX9_must_40 rfl ⟨rfl, rfl, hW30, h⟩
      · have h := h2 q33
        clear h1 h2
        refine j_aload_n dX9_must_36 rfl ?_
        obtain ⟨P34, hp35, h⟩ := h
        refine j_invV (As := []) (rest := []) dX9_must_37 lkX9_279 hM.1 rfl rfl (wX9_ahead (d := 2) (Nat.le_of_ble_eq_true rfl) hM hW30  hp35) rfl rfl (Nat.le_of_ble_eq_true rfl) (Nat.le_trans (Nat.le_of_ble_eq_true rfl) hd) (jkmV fun F37 A38 hW39 p40 => ?_)
        have h := h F37 A38 p40
        exact j_vret dX9_must_40 rfl ⟨rfl, rfl, hW39, h⟩
  · have h := h2 q9
    clear h1 h2
    exact j_vret dX9_must_11 rfl ⟨rfl, rfl, hW6, h⟩
/-- number(II)I -/
def wpX9_number (o : Nat) (a1 : Int) (a2 : Int) (F : jFl) (A : jAr) (Q : Int → jFl → jAr → Prop) : Prop :=
  ∃ P1 : jFl → jAr → Prop, wpX9_lex o F A P1 ∧ ∀ F4 A5, P1 F4 A5 →
  (((F4 3024 o) ≤ 0) →
    ∃ K14 : jFl → jAr → Prop, (
      ∀ (F11 : jFl) (A12 : jAr), K14 F11 A12 →
      ∃ K21 : jFl → jAr → Prop, (
        ∀ (F18 : jFl) (A19 : jAr), K21 F18 A19 →
        ∀ v24 : Int, v24 = F18 3018 o →
        ((¬ (F18 3024 o) = 0) →
          Q v24 F18 A19) ∧
        (¬ (¬ (F18 3024 o) = 0) →
          ∃ P26 : jFl → jAr → Prop, wpX9_ahead o F18 A19 P26 ∧ ∀ F29 A30, P26 F29 A30 →
          Q v24 F29 A30)) ∧
      ((¬ (F11 3024 o) = 0) →
        K21 F11 A12) ∧
      (¬ (¬ (F11 3024 o) = 0) →
        ∃ P34 : Int → Prop, wpX9_is o (F11 3018 o) a1 a2 F11 A12 P34 ∧ ∀ z36, P34 z36 →
        ((¬ z36 = 0) →
          K21 F11 A12) ∧
        (¬ (¬ z36 = 0) →
          ∃ P40 : jFl → jAr → Prop, wpX9_blame o 4 (F11 3012 o) F11 A12 P40 ∧ ∀ F43 A44, P40 F43 A44 →
          K21 F43 A44))) ∧
    (((F4 3009 o) = 2) →
      K14 F4 A5) ∧
    (¬ ((F4 3009 o) = 2) →
      ∃ P48 : jFl → jAr → Prop, wpX9_blame o 1 (F4 3012 o) F4 A5 P48 ∧ ∀ F51 A52, P48 F51 A52 →
      K14 F51 A52)) ∧
  (¬ ((F4 3024 o) ≤ 0) →
    Q 0 F4 A5)
theorem wX9_number {G : jG} {l : Launch} {d : Nat} {N : jSh} {o : Nat} {F : jFl} {A : jAr} {a1 a2 : Int} {Q : Int → jFl → jAr → Prop} (hd : 3 ≤ d) (hM : mShape G N o) (hW : jWf N F A) (ra1 : jR a1) (ra2 : jR a2) (h : wpX9_number o a1 a2 F A Q) : jCall G l d mX9_number [.ref o, vI a1, vI a2] N F A (jmI N Q) := by
  refine jCall.of (ls := [.ref o, vI a1, vI a2, jD]) (by decide) rfl (Nat.le_of_ble_eq_true rfl) rfl ?_
  unfold wpX9_number at h
  refine j_aload_n dX9_number_0 rfl ?_
  obtain ⟨P1, hp2, h⟩ := h
  refine j_invV (As := []) (rest := []) dX9_number_1 lkX9_273 hM.1 rfl rfl (wX9_lex (d := 2) (Nat.le_of_ble_eq_true rfl) hM hW  hp2) rfl rfl (Nat.le_of_ble_eq_true rfl) (Nat.le_trans (Nat.le_of_ble_eq_true rfl) hd) (jkmV fun F4 A5 hW6 p7 => ?_)
  have h := h F4 A5 p7
  refine j_aload_n dX9_number_4 rfl ?_
  refine j_getI dX9_number_5 flX9_36_10 hM.1 rfl ?_
  obtain ⟨h1, h2⟩ := h
  refine j_if_le 13 dX9_number_8 rfl (hW6.fi rfl) (fun q9 => ?_) (fun q9 => ?_)
  · have h := h1 q9
    clear h1 h2
    refine j_aload_n dX9_number_13 rfl ?_
    refine j_getI dX9_number_14 flX9_20_10 hM.1 rfl ?_
    refine j_iconst dX9_number_17 ?_
    obtain ⟨K14, hK16, h⟩ := h
    have jn15 : ∀ (F11 : jFl) (A12 : jAr), jWf N F11 A12 → K14 F11 A12 → J G l d mX9_number 30 [.ref o, vI a1, vI a2, jD] [] N F11 A12 (jmI N Q) := by
      intro F11 A12 hW13  h
      have h := hK16 F11 A12 h
      refine j_aload_n dX9_number_30 rfl ?_
      refine j_getI dX9_number_31 flX9_36_10 hM.1 rfl ?_
      obtain ⟨K21, hK23, h⟩ := h
      have jn22 : ∀ (F18 : jFl) (A19 : jAr), jWf N F18 A19 → K21 F18 A19 → J G l d mX9_number 58 [.ref o, jD, jD, jD] [] N F18 A19 (jmI N Q) := by
        intro F18 A19 hW20  h
        have h := hK23 F18 A19 h
        refine j_aload_n dX9_number_58 rfl ?_
        refine j_getI dX9_number_59 flX9_29_10 hM.1 rfl ?_
        obtain ⟨v24, ev24⟩ : ∃ x : Int, x = F18 3018 o := ⟨_, rfl⟩
        have h := h v24 ev24
        refine jnmI (e := ev24) ?_
        refine j_istore_n dX9_number_62 rfl ?_
        refine j_aload_n dX9_number_63 rfl ?_
        refine j_getI dX9_number_64 flX9_36_10 hM.1 rfl ?_
        obtain ⟨h1, h2⟩ := h
        refine j_if_ne 74 dX9_number_67 rfl (hW20.fi rfl) (fun q25 => ?_) (fun q25 => ?_)
        · have h := h1 q25
          clear h1 h2
          refine j_iload_n dX9_number_74 rfl ?_
          exact j_iret dX9_number_75 rfl ⟨_, rfl, rfl, hW20, h, (ev24 ▸ (hW20.fi rfl))⟩
        · have h := h2 q25
          clear h1 h2
          refine j_aload_n dX9_number_70 rfl ?_
          obtain ⟨P26, hp27, h⟩ := h
          refine j_invV (As := []) (rest := []) dX9_number_71 lkX9_279 hM.1 rfl rfl (wX9_ahead (d := 2) (Nat.le_of_ble_eq_true rfl) hM hW20  hp27) rfl rfl (Nat.le_of_ble_eq_true rfl) (Nat.le_trans (Nat.le_of_ble_eq_true rfl) hd) (jkmV fun F29 A30 hW31 p32 => ?_)
          have h := h F29 A30 p32
          refine j_iload_n dX9_number_74 rfl ?_
          exact j_iret dX9_number_75 rfl ⟨_, rfl, rfl, hW31, h, (ev24 ▸ (hW20.fi rfl))⟩
      obtain ⟨h1, h2⟩ := h
      refine j_if_ne 58 dX9_number_34 rfl (hW13.fi rfl) (fun q17 => ?_) (fun q17 => ?_)
      · have h := h1 q17
        clear h1 h2
        exact J.wk (((((jWk.nil).no).no).no).eq) (jn22 _ _ hW13  h)
      · have h := h2 q17
        clear h1 h2
        refine j_aload_n dX9_number_37 rfl ?_
        refine j_getI dX9_number_38 flX9_29_10 hM.1 rfl ?_
        refine j_iload_n dX9_number_41 rfl ?_
        refine j_iload_n dX9_number_42 rfl ?_
        obtain ⟨P34, hp35, h⟩ := h
        refine j_invS (As := [vI (F11 3018 o), vI a1, vI a2]) (rest := []) dX9_number_43 lkX9_324 (wX9_is (d := 1) (Nat.le_of_ble_eq_true rfl) hM hW13 (hW13.fi rfl) ra1 ra2 hp35) rfl rfl (Nat.le_of_ble_eq_true rfl) (Nat.le_trans (Nat.le_of_ble_eq_true rfl) hd) (jkpB fun z36 p37 r38 => ?_)
        have h := h z36 p37
        obtain ⟨h1, h2⟩ := h
        refine j_if_ne 58 dX9_number_46 rfl (jR_b r38) (fun q39 => ?_) (fun q39 => ?_)
        · have h := h1 q39
          clear h1 h2
          exact J.wk (((((jWk.nil).no).no).no).eq) (jn22 _ _ hW13  h)
        · have h := h2 q39
          clear h1 h2
          refine j_aload_n dX9_number_49 rfl ?_
          refine j_iconst dX9_number_50 ?_
          refine j_aload_n dX9_number_51 rfl ?_
          refine j_getI dX9_number_52 flX9_23_10 hM.1 rfl ?_
          obtain ⟨P40, hp41, h⟩ := h
          refine j_invV (As := [vI 4, vI (F11 3012 o)]) (rest := []) dX9_number_55 lkX9_262 hM.1 rfl rfl (wX9_blame (d := 1) (Nat.le_of_ble_eq_true rfl) hM hW13 (by decide) (hW13.fi rfl) hp41) rfl rfl (Nat.le_of_ble_eq_true rfl) (Nat.le_trans (Nat.le_of_ble_eq_true rfl) hd) (jkmV fun F43 A44 hW45 p46 => ?_)
          have h := h F43 A44 p46
          exact J.wk (((((jWk.nil).no).no).no).eq) (jn22 _ _ hW45  h)
    obtain ⟨h1, h2⟩ := h
    refine j_icmp_eq 30 dX9_number_18 rfl (hW6.fi rfl) (by decide) (fun q10 => ?_) (fun q10 => ?_)
    · have h := h1 q10
      clear h1 h2
      exact J.wk (((((jWk.nil).no).eq).eq).eq) (jn15 _ _ hW6  h)
    · have h := h2 q10
      clear h1 h2
      refine j_aload_n dX9_number_21 rfl ?_
      refine j_iconst dX9_number_22 ?_
      refine j_aload_n dX9_number_23 rfl ?_
      refine j_getI dX9_number_24 flX9_23_10 hM.1 rfl ?_
      obtain ⟨P48, hp49, h⟩ := h
      refine j_invV (As := [vI 1, vI (F4 3012 o)]) (rest := []) dX9_number_27 lkX9_262 hM.1 rfl rfl (wX9_blame (d := 1) (Nat.le_of_ble_eq_true rfl) hM hW6 (by decide) (hW6.fi rfl) hp49) rfl rfl (Nat.le_of_ble_eq_true rfl) (Nat.le_trans (Nat.le_of_ble_eq_true rfl) hd) (jkmV fun F51 A52 hW53 p54 => ?_)
      have h := h F51 A52 p54
      exact J.wk (((((jWk.nil).no).eq).eq).eq) (jn15 _ _ hW53  h)
  · have h := h2 q9
    clear h1 h2
    refine j_iconst dX9_number_11 ?_
    exact j_iret dX9_number_12 rfl ⟨_, rfl, rfl, hW6, h, (by decide)⟩
/-- takesTape()V -/
def wpX9_takesTape (o : Nat) (F : jFl) (A : jAr) (Q : jFl → jAr → Prop) : Prop :=
  ∀ F1 : jFl, F1 = upF F 3006 o (F 3003 o) →
  ∀ F3 : jFl, F3 = upF F1 3003 o 0 →
  ∀ F5 : jFl, F5 = upF F3 3015 o 0 →
  ∀ F7 : jFl, F7 = upF F5 3024 o 0 →
  ∀ F9 : jFl, F9 = upF F7 3027 o (-1) →
  ∃ P11 : jFl → jAr → Prop, wpX9_ahead o F9 A P11 ∧ ∀ F14 A15, P11 F14 A15 →
  Q F14 A15
theorem wX9_takesTape {G : jG} {l : Launch} {d : Nat} {N : jSh} {o : Nat} {F : jFl} {A : jAr} {Q : jFl → jAr → Prop} (hd : 3 ≤ d) (hM : mShape G N o) (hW : jWf N F A) (h : wpX9_takesTape o F A Q) : jCall G l d mX9_takesTape [.ref o] N F A (jmV N Q) := by
  refine jCall.of (ls := [.ref o]) (by decide) rfl (Nat.le_of_ble_eq_true rfl) rfl ?_
  unfold wpX9_takesTape at h
  refine j_aload_n dX9_takesTape_0 rfl ?_
  refine j_aload_n dX9_takesTape_1 rfl ?_
  refine j_getI dX9_takesTape_2 flX9_13_10 hM.1 rfl ?_
  refine j_putI dX9_takesTape_5 flX9_17_10 hM.1 hM.2.1 rfl ?_
  obtain ⟨F1, eF1⟩ : ∃ x : jFl, x = upF F 3006 o (F 3003 o) := ⟨_, rfl⟩
  have hW2 : jWf N F1 A := eF1 ▸ jWf_F (f := 3006) (a := o) (z := F 3003 o) hW (jRk_0 rfl (hW.fi rfl))
  refine jnmF (e := eF1) ?_
  have h := h F1 eF1
  refine j_aload_n dX9_takesTape_8 rfl ?_
  refine j_iconst dX9_takesTape_9 ?_
  refine j_putI dX9_takesTape_10 flX9_13_10 hM.1 hM.2.1 rfl ?_
  obtain ⟨F3, eF3⟩ : ∃ x : jFl, x = upF F1 3003 o 0 := ⟨_, rfl⟩
  have hW4 : jWf N F3 A := eF3 ▸ jWf_F (f := 3003) (a := o) (z := 0) hW2 (jRk_0 rfl (by decide))
  refine jnmF (e := eF3) ?_
  have h := h F3 eF3
  refine j_aload_n dX9_takesTape_13 rfl ?_
  refine j_iconst dX9_takesTape_14 ?_
  refine j_putI dX9_takesTape_15 flX9_26_10 hM.1 hM.2.1 rfl ?_
  obtain ⟨F5, eF5⟩ : ∃ x : jFl, x = upF F3 3015 o 0 := ⟨_, rfl⟩
  have hW6 : jWf N F5 A := eF5 ▸ jWf_F (f := 3015) (a := o) (z := 0) hW4 (jRk_0 rfl (by decide))
  refine jnmF (e := eF5) ?_
  have h := h F5 eF5
  refine j_aload_n dX9_takesTape_18 rfl ?_
  refine j_iconst dX9_takesTape_19 ?_
  refine j_putI dX9_takesTape_20 flX9_36_10 hM.1 hM.2.1 rfl ?_
  obtain ⟨F7, eF7⟩ : ∃ x : jFl, x = upF F5 3024 o 0 := ⟨_, rfl⟩
  have hW8 : jWf N F7 A := eF7 ▸ jWf_F (f := 3024) (a := o) (z := 0) hW6 (jRk_0 rfl (by decide))
  refine jnmF (e := eF7) ?_
  have h := h F7 eF7
  refine j_aload_n dX9_takesTape_23 rfl ?_
  refine j_iconst dX9_takesTape_24 ?_
  refine j_putI dX9_takesTape_25 flX9_39_10 hM.1 hM.2.1 rfl ?_
  obtain ⟨F9, eF9⟩ : ∃ x : jFl, x = upF F7 3027 o (-1) := ⟨_, rfl⟩
  have hW10 : jWf N F9 A := eF9 ▸ jWf_F (f := 3027) (a := o) (z := (-1)) hW8 (jRk_0 rfl (by decide))
  refine jnmF (e := eF9) ?_
  have h := h F9 eF9
  refine j_aload_n dX9_takesTape_28 rfl ?_
  obtain ⟨P11, hp12, h⟩ := h
  refine j_invV (As := []) (rest := []) dX9_takesTape_29 lkX9_279 hM.1 rfl rfl (wX9_ahead (d := 2) (Nat.le_of_ble_eq_true rfl) hM hW10  hp12) rfl rfl (Nat.le_of_ble_eq_true rfl) (Nat.le_trans (Nat.le_of_ble_eq_true rfl) hd) (jkmV fun F14 A15 hW16 p17 => ?_)
  have h := h F14 A15 p17
  exact j_vret dX9_takesTape_32 rfl ⟨rfl, rfl, hW16, h⟩
/-- must(I)V -/
def wpX9_must_2 (o : Nat) (a1 : Int) (F : jFl) (A : jAr) (Q : jFl → jAr → Prop) : Prop :=
  ∃ P1 : jFl → jAr → Prop, wpX9_lex o F A P1 ∧ ∀ F4 A5, P1 F4 A5 →
  ∃ P9 : Int → Prop, wpX9_isSign o a1 F4 A5 P9 ∧ ∀ z11, P9 z11 →
  ((¬ z11 = 0) →
    ((¬ (F4 3024 o) = 0) →
      Q F4 A5) ∧
    (¬ (¬ (F4 3024 o) = 0) →
      ∃ P16 : jFl → jAr → Prop, wpX9_ahead o F4 A5 P16 ∧ ∀ F19 A20, P16 F19 A20 →
      Q F19 A20)) ∧
  (¬ (¬ z11 = 0) →
    ∃ P24 : jFl → jAr → Prop, wpX9_blame o 1 (F4 3012 o) F4 A5 P24 ∧ ∀ F27 A28, P24 F27 A28 →
    ((¬ (F27 3024 o) = 0) →
      Q F27 A28) ∧
    (¬ (¬ (F27 3024 o) = 0) →
      ∃ P33 : jFl → jAr → Prop, wpX9_ahead o F27 A28 P33 ∧ ∀ F36 A37, P33 F36 A37 →
      Q F36 A37))
theorem wX9_must_2 {G : jG} {l : Launch} {d : Nat} {N : jSh} {o : Nat} {F : jFl} {A : jAr} {a1 : Int} {Q : jFl → jAr → Prop} (hd : 3 ≤ d) (hM : mShape G N o) (hW : jWf N F A) (ra1 : jR a1) (h : wpX9_must_2 o a1 F A Q) : jCall G l d mX9_must_2 [.ref o, vI a1] N F A (jmV N Q) := by
  refine jCall.of (ls := [.ref o, vI a1]) (by decide) rfl (Nat.le_of_ble_eq_true rfl) rfl ?_
  unfold wpX9_must_2 at h
  refine j_aload_n dX9_must_2_0 rfl ?_
  obtain ⟨P1, hp2, h⟩ := h
  refine j_invV (As := []) (rest := []) dX9_must_2_1 lkX9_273 hM.1 rfl rfl (wX9_lex (d := 2) (Nat.le_of_ble_eq_true rfl) hM hW  hp2) rfl rfl (Nat.le_of_ble_eq_true rfl) (Nat.le_trans (Nat.le_of_ble_eq_true rfl) hd) (jkmV fun F4 A5 hW6 p7 => ?_)
  have h := h F4 A5 p7
  refine j_aload_n dX9_must_2_4 rfl ?_
  refine j_iload_n dX9_must_2_5 rfl ?_
  obtain ⟨P9, hp10, h⟩ := h
  refine j_invV (As := [vI a1]) (rest := []) dX9_must_2_6 lkX9_276 hM.1 rfl rfl (wX9_isSign (d := 1) (Nat.le_of_ble_eq_true rfl) hM hW6 ra1 hp10) rfl rfl (Nat.le_of_ble_eq_true rfl) (Nat.le_trans (Nat.le_of_ble_eq_true rfl) hd) (jkpB fun z11 p12 r13 => ?_)
  have h := h z11 p12
  obtain ⟨h1, h2⟩ := h
  refine j_if_ne 21 dX9_must_2_9 rfl (jR_b r13) (fun q14 => ?_) (fun q14 => ?_)
  · have h := h1 q14
    clear h1 h2
    refine j_aload_n dX9_must_2_21 rfl ?_
    refine j_getI dX9_must_2_22 flX9_36_10 hM.1 rfl ?_
    obtain ⟨h1, h2⟩ := h
    refine j_if_ne 32 dX9_must_2_25 rfl (hW6.fi rfl) (fun q15 => ?_) (fun q15 => ?_)
    · have h := h1 q15
      clear h1 h2
      exact j_vret dX9_must_2_32 rfl ⟨rfl, rfl, hW6, h⟩
    · have h := h2 q15
      clear h1 h2
      refine j_aload_n dX9_must_2_28 rfl ?_
      obtain ⟨P16, hp17, h⟩ := h
      refine j_invV (As := []) (rest := []) dX9_must_2_29 lkX9_279 hM.1 rfl rfl (wX9_ahead (d := 2) (Nat.le_of_ble_eq_true rfl) hM hW6  hp17) rfl rfl (Nat.le_of_ble_eq_true rfl) (Nat.le_trans (Nat.le_of_ble_eq_true rfl) hd) (jkmV fun F19 A20 hW21 p22 => ?_)
      have h := h F19 A20 p22
      exact j_vret dX9_must_2_32 rfl ⟨rfl, rfl, hW21, h⟩
  · have h := h2 q14
    clear h1 h2
    refine j_aload_n dX9_must_2_12 rfl ?_
    refine j_iconst dX9_must_2_13 ?_
    refine j_aload_n dX9_must_2_14 rfl ?_
    refine j_getI dX9_must_2_15 flX9_23_10 hM.1 rfl ?_
    obtain ⟨P24, hp25, h⟩ := h
    refine j_invV (As := [vI 1, vI (F4 3012 o)]) (rest := []) dX9_must_2_18 lkX9_262 hM.1 rfl rfl (wX9_blame (d := 1) (Nat.le_of_ble_eq_true rfl) hM hW6 (by decide) (hW6.fi rfl) hp25) rfl rfl (Nat.le_of_ble_eq_true rfl) (Nat.le_trans (Nat.le_of_ble_eq_true rfl) hd) (jkmV fun F27 A28 hW29 p30 => ?_)
    have h := h F27 A28 p30
    refine j_aload_n dX9_must_2_21 rfl ?_
    refine j_getI dX9_must_2_22 flX9_36_10 hM.1 rfl ?_
    obtain ⟨h1, h2⟩ := h
    refine j_if_ne 32 dX9_must_2_25 rfl (hW29.fi rfl) (fun q32 => ?_) (fun q32 => ?_)
    · have h := h1 q32
      clear h1 h2
      exact j_vret dX9_must_2_32 rfl ⟨rfl, rfl, hW29, h⟩
    · have h := h2 q32
      clear h1 h2
      refine j_aload_n dX9_must_2_28 rfl ?_
      obtain ⟨P33, hp34, h⟩ := h
      refine j_invV (As := []) (rest := []) dX9_must_2_29 lkX9_279 hM.1 rfl rfl (wX9_ahead (d := 2) (Nat.le_of_ble_eq_true rfl) hM hW29  hp34) rfl rfl (Nat.le_of_ble_eq_true rfl) (Nat.le_trans (Nat.le_of_ble_eq_true rfl) hd) (jkmV fun F36 A37 hW38 p39 => ?_)
      have h := h F36 A37 p39
      exact j_vret dX9_must_2_32 rfl ⟨rfl, rfl, hW38, h⟩
