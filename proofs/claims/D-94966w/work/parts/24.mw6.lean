set_option maxRecDepth 100000
set_option linter.unusedVariables false
/-! walks of ChildSaysModel: printed by gen/walk.py -/
/-- saidMeans()I -/
def wpX9_saidMeans (o : Nat) (F : jFl) (A : jAr) (Q : Int → Prop) : Prop :=
  ∃ (I4 : Int → Int → Int → Prop) (m5 : Int → Int → Int → Nat), I4 0 0 0 ∧ ∀ (v1 : Int) (v2 : Int) (v3 : Int), I4 v1 v2 v3 →
    (((F 3177 o) ≤ v3) →
      (((0 : Int) ≤ v2 ∧ (v2 : Int) ≤ 2147483647) ∧ ((0 : Int) < 2 ∧ (2 : Int) ≤ 2147483647)) ∧
      jR (v2 % 2) ∧
      ∃ K11 : Int → Prop, (
        ∀ (v10 : Int), K11 v10 →
        ∃ (I16 : Int → Int → Prop) (m17 : Int → Int → Nat), I16 v10 0 ∧ ∀ (v14 : Int) (v15 : Int), I16 v14 v15 →
          (((F 3180 o) ≤ v15) →
            Q v14) ∧
          (¬ ((F 3180 o) ≤ v15) →
            (0 ≤ (F 3177 o) + v15 ∧ (F 3177 o) + v15 < 12) ∧
            (0 ≤ (24 * (F 3039 o)) + (A (o + 37) ((F 3177 o) + v15)) ∧ (24 * (F 3039 o)) + (A (o + 37) ((F 3177 o) + v15)) < 48) ∧
            jR (v14 - (A (o + 7) ((24 * (F 3039 o)) + (A (o + 37) ((F 3177 o) + v15))))) ∧
            ∀ v22 : Int, v22 = v14 - (A (o + 7) ((24 * (F 3039 o)) + (A (o + 37) ((F 3177 o) + v15)))) →
            jR (v15 + 1) ∧
            I16 v22 (v15 + 1) ∧ m17 v22 (v15 + 1) < m17 v14 v15)) ∧
      ((¬ (v2 % 2) = 1) →
        K11 v1) ∧
      (¬ (¬ (v2 % 2) = 1) →
        jR (-v1) ∧
        ∀ v25 : Int, v25 = -v1 →
        K11 v25)) ∧
    (¬ ((F 3177 o) ≤ v3) →
      (0 ≤ v3 ∧ v3 < 12) ∧
      (0 ≤ (24 * (F 3039 o)) + (A (o + 37) v3) ∧ (24 * (F 3039 o)) + (A (o + 37) v3) < 48) ∧
      jR (v1 + (A (o + 7) ((24 * (F 3039 o)) + (A (o + 37) v3)))) ∧
      ∀ v29 : Int, v29 = v1 + (A (o + 7) ((24 * (F 3039 o)) + (A (o + 37) v3))) →
      (0 ≤ v3 ∧ v3 < 12) ∧
      ∃ P31 : Int → Prop, wpX9_isNever o (A (o + 37) v3) F A P31 ∧ ∀ z33, P31 z33 →
      ∀ z37 : Int, z37 = (if z33 = 0 then 0 else 1) →
      jR (v2 + z37) ∧
      ∀ v40 : Int, v40 = v2 + z37 →
      jR (v3 + 1) ∧
      I4 v29 v40 (v3 + 1) ∧ m5 v29 v40 (v3 + 1) < m5 v1 v2 v3)
theorem wX9_saidMeans {G : jG} {l : Launch} {d : Nat} {N : jSh} {o : Nat} {F : jFl} {A : jAr} {Q : Int → Prop} (hd : 2 ≤ d) (hM : mShape G N o) (hW : jWf N F A) (h : wpX9_saidMeans o F A Q) : jCall G l d mX9_saidMeans [.ref o] N F A (jpI N F A Q) := by
  refine jCall.of (ls := [.ref o, jD, jD, jD]) (by decide) rfl (Nat.le_of_ble_eq_true rfl) rfl ?_
  unfold wpX9_saidMeans at h
  refine j_iconst dX9_saidMeans_0 ?_
  refine j_istore_n dX9_saidMeans_1 rfl ?_
  refine j_iconst dX9_saidMeans_2 ?_
  refine j_istore_n dX9_saidMeans_3 rfl ?_
  refine j_iconst dX9_saidMeans_4 ?_
  refine j_istore_n dX9_saidMeans_5 rfl ?_
  obtain ⟨I4, m5, h0, hs⟩ := h
  have lp : ∀ (n : Nat) (v1 : Int) (v2 : Int) (v3 : Int), m5 v1 v2 v3 < n → jR v1 → jR v2 → jR v3 → I4 v1 v2 v3 → J G l d mX9_saidMeans 6 [.ref o, vI v1, vI v2, vI v3] [] N F A (jpI N F A Q) := by
    intro nI4
    induction nI4 with
    | zero =>
      intro v1 v2 v3 hmu
      exact absurd hmu (Nat.not_lt_zero _)
    | succ nI4 ihI4 =>
      intro v1 v2 v3 hmuI4 rv1 rv2 rv3 hI
      have h := hs v1 v2 v3 hI
      refine j_iload_n dX9_saidMeans_6 rfl ?_
      refine j_aload_n dX9_saidMeans_7 rfl ?_
      refine j_getI dX9_saidMeans_8 flX9_191_10 hM.1 rfl ?_
      obtain ⟨h1, h2⟩ := h
      refine j_icmp_ge 63 dX9_saidMeans_11 rfl rv3 (hW.fi rfl) (fun q6 => ?_) (fun q6 => ?_)
      · have h := h1 q6
        clear h1 h2
        refine j_iload_n dX9_saidMeans_63 rfl ?_
        refine j_iconst dX9_saidMeans_64 ?_
        obtain ⟨c7, h⟩ := h
        refine j_irem dX9_saidMeans_65 c7.1 c7.2 ?_
        refine j_iconst dX9_saidMeans_66 ?_
        obtain ⟨r8, h⟩ := h
        obtain ⟨K11, hK13, h⟩ := h
        have jn12 : ∀ (v10 : Int), jR v10 → K11 v10 → J G l d mX9_saidMeans 73 [.ref o, vI v10, jD, jD] [] N F A (jpI N F A Q) := by
          intro v10 rv10 h
          have h := hK13 v10 h
          refine j_iconst dX9_saidMeans_73 ?_
          refine j_istore_n dX9_saidMeans_74 rfl ?_
          obtain ⟨I16, m17, h0, hs⟩ := h
          have lp : ∀ (n : Nat) (v14 : Int) (v15 : Int), m17 v14 v15 < n → jR v14 → jR v15 → I16 v14 v15 → J G l d mX9_saidMeans 75 [.ref o, vI v14, jD, vI v15] [] N F A (jpI N F A Q) := by
            intro nI16
            induction nI16 with
            | zero =>
              intro v14 v15 hmu
              exact absurd hmu (Nat.not_lt_zero _)
            | succ nI16 ihI16 =>
              intro v14 v15 hmuI16 rv14 rv15 hI
              have h := hs v14 v15 hI
              refine j_iload_n dX9_saidMeans_75 rfl ?_
              refine j_aload_n dX9_saidMeans_76 rfl ?_
              refine j_getI dX9_saidMeans_77 flX9_194_10 hM.1 rfl ?_
              obtain ⟨h1, h2⟩ := h
              refine j_icmp_ge 116 dX9_saidMeans_80 rfl rv15 (hW.fi rfl) (fun q18 => ?_) (fun q18 => ?_)
              · have h := h1 q18
                clear h1 h2
                refine j_iload_n dX9_saidMeans_116 rfl ?_
                exact j_iret dX9_saidMeans_117 rfl ⟨_, rfl, rfl, rfl, rfl, h, rv14⟩
              · have h := h2 q18
                clear h1 h2
                refine j_iload_n dX9_saidMeans_83 rfl ?_
                refine j_aload_n dX9_saidMeans_84 rfl ?_
                refine j_getFR dX9_saidMeans_85 flX9_70_10 hM.1 rfl (mf_worth hM) ?_
                refine j_bipush dX9_saidMeans_88 ?_
                refine j_aload_n dX9_saidMeans_90 rfl ?_
                refine j_getI dX9_saidMeans_91 flX9_51_10 hM.1 rfl ?_
                refine j_imul dX9_saidMeans_94 ?_
                refine j_aload_n dX9_saidMeans_95 rfl ?_
                refine j_getFR dX9_saidMeans_96 flX9_188_10 hM.1 rfl (mf_said hM) ?_
                refine j_aload_n dX9_saidMeans_99 rfl ?_
                refine j_getI dX9_saidMeans_100 flX9_191_10 hM.1 rfl ?_
                refine j_iload_n dX9_saidMeans_103 rfl ?_
                refine j_iadd dX9_saidMeans_104 ?_
                obtain ⟨c19, h⟩ := h
                refine j_iald (n := 12) dX9_saidMeans_105 (mt_said hM) (ml_said hM) c19 ?_
                refine j_iadd dX9_saidMeans_106 ?_
                obtain ⟨c20, h⟩ := h
                refine j_iald (n := 48) dX9_saidMeans_107 (mt_worth hM) (ml_worth hM) c20 ?_
                refine j_isub dX9_saidMeans_108 ?_
                obtain ⟨r21, h⟩ := h
                obtain ⟨v22, ev22⟩ : ∃ x : Int, x = v14 - (A (o + 7) ((24 * (F 3039 o)) + (A (o + 37) ((F 3177 o) + v15)))) := ⟨_, rfl⟩
                have h := h v22 ev22
                refine jnmI (e := ev22) ?_
                refine j_istore_n dX9_saidMeans_109 rfl ?_
                obtain ⟨r23, h⟩ := h
                refine j_iinc dX9_saidMeans_110 rfl rfl ?_
                refine j_goto 75 dX9_saidMeans_113 rfl ?_
                exact J.wk (((((jWk.nil).eq).no).eq).eq) (ihI16 _ _ (Nat.lt_of_lt_of_le h.2 (Nat.le_of_lt_succ hmuI16)) (ev22 ▸ r21) r23 h.1)
          exact J.wk (((((jWk.nil).eq).no).eq).eq) (lp _ _ _ (Nat.lt_succ_self _) rv10 (by decide) h0)
        obtain ⟨h1, h2⟩ := h
        refine j_icmp_ne 73 dX9_saidMeans_67 rfl r8 (by decide) (fun q9 => ?_) (fun q9 => ?_)
        · have h := h1 q9
          clear h1 h2
          exact J.wk (((((jWk.nil).no).no).eq).eq) (jn12 _ rv1 h)
        · have h := h2 q9
          clear h1 h2
          refine j_iload_n dX9_saidMeans_70 rfl ?_
          refine j_ineg dX9_saidMeans_71 ?_
          obtain ⟨r24, h⟩ := h
          obtain ⟨v25, ev25⟩ : ∃ x : Int, x = -v1 := ⟨_, rfl⟩
          have h := h v25 ev25
          refine jnmI (e := ev25) ?_
          refine j_istore_n dX9_saidMeans_72 rfl ?_
          exact J.wk (((((jWk.nil).no).no).eq).eq) (jn12 _ (ev25 ▸ r24) h)
      · have h := h2 q6
        clear h1 h2
        refine j_iload_n dX9_saidMeans_14 rfl ?_
        refine j_aload_n dX9_saidMeans_15 rfl ?_
        refine j_getFR dX9_saidMeans_16 flX9_70_10 hM.1 rfl (mf_worth hM) ?_
        refine j_bipush dX9_saidMeans_19 ?_
        refine j_aload_n dX9_saidMeans_21 rfl ?_
        refine j_getI dX9_saidMeans_22 flX9_51_10 hM.1 rfl ?_
        refine j_imul dX9_saidMeans_25 ?_
        refine j_aload_n dX9_saidMeans_26 rfl ?_
        refine j_getFR dX9_saidMeans_27 flX9_188_10 hM.1 rfl (mf_said hM) ?_
        refine j_iload_n dX9_saidMeans_30 rfl ?_
        obtain ⟨c26, h⟩ := h
        refine j_iald (n := 12) dX9_saidMeans_31 (mt_said hM) (ml_said hM) c26 ?_
        refine j_iadd dX9_saidMeans_32 ?_
        obtain ⟨c27, h⟩ := h
        refine j_iald (n := 48) dX9_saidMeans_33 (mt_worth hM) (ml_worth hM) c27 ?_
        refine j_iadd dX9_saidMeans_34 ?_
        obtain ⟨r28, h⟩ := h
        obtain ⟨v29, ev29⟩ : ∃ x : Int, x = v1 + (A (o + 7) ((24 * (F 3039 o)) + (A (o + 37) v3))) := ⟨_, rfl⟩
        have h := h v29 ev29
        refine jnmI (e := ev29) ?_
        refine j_istore_n dX9_saidMeans_35 rfl ?_
        refine j_iload_n dX9_saidMeans_36 rfl ?_
        refine j_aload_n dX9_saidMeans_37 rfl ?_
        refine j_aload_n dX9_saidMeans_38 rfl ?_
        refine j_getFR dX9_saidMeans_39 flX9_188_10 hM.1 rfl (mf_said hM) ?_
        refine j_iload_n dX9_saidMeans_42 rfl ?_
        obtain ⟨c30, h⟩ := h
        refine j_iald (n := 12) dX9_saidMeans_43 (mt_said hM) (ml_said hM) c30 ?_
        obtain ⟨P31, hp32, h⟩ := h
        refine j_invV (As := [vI (A (o + 37) v3)]) (rest := [vI v2]) dX9_saidMeans_44 lkX9_529 hM.1 rfl rfl (wX9_isNever (d := 1) (Nat.le_of_ble_eq_true rfl) hM hW (hW.ai (mt_said hM) rfl) hp32) rfl rfl (Nat.le_of_ble_eq_true rfl) (Nat.le_trans (Nat.le_of_ble_eq_true rfl) hd) (jkpB fun z33 p34 r35 => ?_)
        have h := h z33 p34
        have jn38 : ∀ z37 : Int, z37 = (if z33 = 0 then 0 else 1) → J G l d mX9_saidMeans 55 [.ref o, vI v29, vI v2, vI v3] [vI z37, vI v2] N F A (jpI N F A Q) := by
          intro z37 ez37
          have h := h z37 ez37
          refine j_iadd dX9_saidMeans_55 ?_
          obtain ⟨r39, h⟩ := h
          obtain ⟨v40, ev40⟩ : ∃ x : Int, x = v2 + z37 := ⟨_, rfl⟩
          have h := h v40 ev40
          refine jnmI (e := ev40) ?_
          refine j_istore_n dX9_saidMeans_56 rfl ?_
          obtain ⟨r41, h⟩ := h
          refine j_iinc dX9_saidMeans_57 rfl rfl ?_
          refine j_goto 6 dX9_saidMeans_60 rfl ?_
          exact J.wk (((((jWk.nil).eq).eq).eq).eq) (ihI4 _ _ _ (Nat.lt_of_lt_of_le h.2 (Nat.le_of_lt_succ hmuI4)) (ev29 ▸ r28) (ev40 ▸ r39) r41 h.1)
        clear h
        refine j_if_eq 54 dX9_saidMeans_47 rfl (jR_b r35) (fun q36 => ?_) (fun q36 => ?_)
        · refine j_iconst dX9_saidMeans_54 ?_
          exact jn38 _ ((if_pos q36).symm)
        · refine j_iconst dX9_saidMeans_50 ?_
          refine j_goto 55 dX9_saidMeans_51 rfl ?_
          exact jn38 _ ((if_neg q36).symm)
  exact J.wk (((((jWk.nil).eq).eq).eq).eq) (lp _ _ _ _ (Nat.lt_succ_self _) (by decide) (by decide) (by decide) h0)
/-- image()I -/
def wpX9_image (o : Nat) (F : jFl) (A : jAr) (Q : Int → jFl → jAr → Prop) : Prop :=
  ∀ F1 : jFl, F1 = upF F 3237 o 0 →
  ((0 : Int) ≤ 8 ∧ (8 : Int) < 32) ∧
  ∃ P5 : jFl → jAr → Prop, wpX9_writes o ((A (o + 28) 0) / 2 ^ 8) F1 A P5 ∧ ∀ F8 A9, P5 F8 A9 →
  ∃ P14 : jFl → jAr → Prop, wpX9_writes o (A9 (o + 28) 0) F8 A9 P14 ∧ ∀ F17 A18, P14 F17 A18 →
  (0 ≤ F17 3039 o ∧ F17 3039 o < 2) ∧
  ∃ P23 : jFl → jAr → Prop, wpX9_writes o (A18 (o + 17) (F17 3039 o)) F17 A18 P23 ∧ ∀ F26 A27, P23 F26 A27 →
  ∃ (I35 : Int → jFl → jAr → Prop) (m36 : Int → jFl → jAr → Nat), I35 0 F26 A27 ∧ ∀ (v31 : Int) (F32 : jFl) (A33 : jAr), I35 v31 F32 A33 →
    (0 ≤ F32 3039 o ∧ F32 3039 o < 2) ∧
    (((A33 (o + 17) (F32 3039 o)) ≤ v31) →
      ∃ (I43 : Int → jFl → jAr → Prop) (m44 : Int → jFl → jAr → Nat), I43 0 F32 A33 ∧ ∀ (v39 : Int) (F40 : jFl) (A41 : jAr), I43 v39 F40 A41 →
        (0 ≤ F40 3039 o ∧ F40 3039 o < 2) ∧
        (((A41 (o + 17) (F40 3039 o)) ≤ v39) →
          ∃ (I49 : Int → Int → Prop) (m50 : Int → Int → Nat), I49 71 0 ∧ ∀ (v47 : Int) (v48 : Int), I49 v47 v48 →
            (((F40 3237 o) ≤ v48) →
              ∃ P52 : jFl → jAr → Prop, wpX9_writes o v47 F40 A41 P52 ∧ ∀ F55 A56, P52 F55 A56 →
              Q (F55 3237 o) F55 A56) ∧
            (¬ ((F40 3237 o) ≤ v48) →
              (0 ≤ v48 ∧ v48 < 210) ∧
              (((0 : Int) ≤ (3 * v47) + (A41 (o + 48) v48) ∧ ((3 * v47) + (A41 (o + 48) v48) : Int) ≤ 2147483647) ∧ ((0 : Int) < 253 ∧ (253 : Int) ≤ 2147483647)) ∧
              jR (((3 * v47) + (A41 (o + 48) v48)) % 253) ∧
              ∀ v63 : Int, v63 = ((3 * v47) + (A41 (o + 48) v48)) % 253 →
              jR (v48 + 1) ∧
              I49 v63 (v48 + 1) ∧ m50 v63 (v48 + 1) < m50 v47 v48)) ∧
        (¬ ((A41 (o + 17) (F40 3039 o)) ≤ v39) →
          (0 ≤ v39 ∧ v39 < 264) ∧
          ∃ P66 : jFl → jAr → Prop, wpX9_writes o (A41 (o + 32) v39) F40 A41 P66 ∧ ∀ F69 A70, P66 F69 A70 →
          (0 ≤ v39 ∧ v39 < 264) ∧
          ∃ P75 : jFl → jAr → Prop, wpX9_writes o (A70 (o + 30) v39) F69 A70 P75 ∧ ∀ F78 A79, P75 F78 A79 →
          (0 ≤ v39 ∧ v39 < 264) ∧
          ∃ P84 : jFl → jAr → Prop, wpX9_writes o (A79 (o + 31) v39) F78 A79 P84 ∧ ∀ F87 A88, P84 F87 A88 →
          ∃ (I96 : Int → jFl → jAr → Prop) (m97 : Int → jFl → jAr → Nat), I96 0 F87 A88 ∧ ∀ (v92 : Int) (F93 : jFl) (A94 : jAr), I96 v92 F93 A94 →
            (0 ≤ v39 ∧ v39 < 264) ∧
            (0 ≤ v39 ∧ v39 < 264) ∧
            jR ((A94 (o + 30) v39) + (A94 (o + 31) v39)) ∧
            ((((A94 (o + 30) v39) + (A94 (o + 31) v39)) ≤ v92) →
              jR (v39 + 1) ∧
              I43 (v39 + 1) F93 A94 ∧ m44 (v39 + 1) F93 A94 < m44 v39 F40 A41) ∧
            (¬ (((A94 (o + 30) v39) + (A94 (o + 31) v39)) ≤ v92) →
              (0 ≤ (12 * v39) + v92 ∧ (12 * v39) + v92 < 3168) ∧
              ∃ P104 : jFl → jAr → Prop, wpX9_writes o (A94 (o + 33) ((12 * v39) + v92)) F93 A94 P104 ∧ ∀ F107 A108, P104 F107 A108 →
              jR (v92 + 1) ∧
              I96 (v92 + 1) F107 A108 ∧ m97 (v92 + 1) F107 A108 < m97 v92 F93 A94))) ∧
    (¬ ((A33 (o + 17) (F32 3039 o)) ≤ v31) →
      (0 ≤ v31 ∧ v31 < 264) ∧
      ∃ P114 : jFl → jAr → Prop, wpX9_writes o (A33 (o + 29) v31) F32 A33 P114 ∧ ∀ F117 A118, P114 F117 A118 →
      jR (v31 + 1) ∧
      I35 (v31 + 1) F117 A118 ∧ m36 (v31 + 1) F117 A118 < m36 v31 F32 A33)
theorem wX9_image {G : jG} {l : Launch} {d : Nat} {N : jSh} {o : Nat} {F : jFl} {A : jAr} {Q : Int → jFl → jAr → Prop} (hd : 2 ≤ d) (hM : mShape G N o) (hW : jWf N F A) (h : wpX9_image o F A Q) : jCall G l d mX9_image [.ref o] N F A (jmI N Q) := by
  refine jCall.of (ls := [.ref o, jD, jD]) (by decide) rfl (Nat.le_of_ble_eq_true rfl) rfl ?_
  unfold wpX9_image at h
  refine j_aload_n dX9_image_0 rfl ?_
  refine j_iconst dX9_image_1 ?_
  refine j_putI dX9_image_2 flX9_251_10 hM.1 hM.2.1 rfl ?_
  obtain ⟨F1, eF1⟩ : ∃ x : jFl, x = upF F 3237 o 0 := ⟨_, rfl⟩
  have hW2 : jWf N F1 A := eF1 ▸ jWf_F (f := 3237) (a := o) (z := 0) hW (jRk_0 rfl (by decide))
  refine jnmF (e := eF1) ?_
  have h := h F1 eF1
  refine j_aload_n dX9_image_5 rfl ?_
  refine j_aload_n dX9_image_6 rfl ?_
  refine j_getFR dX9_image_7 flX9_142_10 hM.1 rfl (mf_year hM) ?_
  refine j_iconst dX9_image_10 ?_
  refine j_iald (n := 22) dX9_image_11 (mt_year hM) (ml_year hM) (by decide) ?_
  refine j_bipush dX9_image_12 ?_
  obtain ⟨c4, h⟩ := h
  refine j_ishr dX9_image_14 (hW2.ai (mt_year hM) rfl) c4 ?_
  obtain ⟨P5, hp6, h⟩ := h
  refine j_invV (As := [vI ((A (o + 28) 0) / 2 ^ 8)]) (rest := []) dX9_image_15 lkX9_555 hM.1 rfl rfl (wX9_writes (d := 1) (Nat.le_of_ble_eq_true rfl) hM hW2 (jR_shr (hW2.ai (mt_year hM) rfl)) hp6) rfl rfl (Nat.le_of_ble_eq_true rfl) (Nat.le_trans (Nat.le_of_ble_eq_true rfl) hd) (jkmV fun F8 A9 hW10 p11 => ?_)
  have h := h F8 A9 p11
  refine j_aload_n dX9_image_18 rfl ?_
  refine j_aload_n dX9_image_19 rfl ?_
  refine j_getFR dX9_image_20 flX9_142_10 hM.1 rfl (mf_year hM) ?_
  refine j_iconst dX9_image_23 ?_
  refine j_iald (n := 22) dX9_image_24 (mt_year hM) (ml_year hM) (by decide) ?_
  obtain ⟨P14, hp15, h⟩ := h
  refine j_invV (As := [vI (A9 (o + 28) 0)]) (rest := []) dX9_image_25 lkX9_555 hM.1 rfl rfl (wX9_writes (d := 1) (Nat.le_of_ble_eq_true rfl) hM hW10 (hW10.ai (mt_year hM) rfl) hp15) rfl rfl (Nat.le_of_ble_eq_true rfl) (Nat.le_trans (Nat.le_of_ble_eq_true rfl) hd) (jkmV fun F17 A18 hW19 p20 => ?_)
  have h := h F17 A18 p20
  refine j_aload_n dX9_image_28 rfl ?_
  refine j_aload_n dX9_image_29 rfl ?_
  refine j_getFR dX9_image_30 flX9_100_10 hM.1 rfl (mf_laws hM) ?_
  refine j_aload_n dX9_image_33 rfl ?_
  refine j_getI dX9_image_34 flX9_51_10 hM.1 rfl ?_
  obtain ⟨c22, h⟩ := h
  refine j_iald (n := 2) dX9_image_37 (mt_laws hM) (ml_laws hM) c22 ?_
  obtain ⟨P23, hp24, h⟩ := h
  refine j_invV (As := [vI (A18 (o + 17) (F17 3039 o))]) (rest := []) dX9_image_38 lkX9_555 hM.1 rfl rfl (wX9_writes (d := 1) (Nat.le_of_ble_eq_true rfl) hM hW19 (hW19.ai (mt_laws hM) rfl) hp24) rfl rfl (Nat.le_of_ble_eq_true rfl) (Nat.le_trans (Nat.le_of_ble_eq_true rfl) hd) (jkmV fun F26 A27 hW28 p29 => ?_)
  have h := h F26 A27 p29
  refine j_iconst dX9_image_41 ?_
  refine j_istore_n dX9_image_42 rfl ?_
  obtain ⟨I35, m36, h0, hs⟩ := h
  have lp : ∀ (n : Nat) (v31 : Int) (F32 : jFl) (A33 : jAr), m36 v31 F32 A33 < n → jWf N F32 A33 → jR v31 → I35 v31 F32 A33 → J G l d mX9_image 43 [.ref o, vI v31, jD] [] N F32 A33 (jmI N Q) := by
    intro nI35
    induction nI35 with
    | zero =>
      intro v31 F32 A33 hmu
      exact absurd hmu (Nat.not_lt_zero _)
    | succ nI35 ihI35 =>
      intro v31 F32 A33 hmuI35 hW34 rv31 hI
      have h := hs v31 F32 A33 hI
      refine j_iload_n dX9_image_43 rfl ?_
      refine j_aload_n dX9_image_44 rfl ?_
      refine j_getFR dX9_image_45 flX9_100_10 hM.1 rfl (mf_laws hM) ?_
      refine j_aload_n dX9_image_48 rfl ?_
      refine j_getI dX9_image_49 flX9_51_10 hM.1 rfl ?_
      obtain ⟨c37, h⟩ := h
      refine j_iald (n := 2) dX9_image_52 (mt_laws hM) (ml_laws hM) c37 ?_
      obtain ⟨h1, h2⟩ := h
      refine j_icmp_ge 72 dX9_image_53 rfl rv31 (hW34.ai (mt_laws hM) rfl) (fun q38 => ?_) (fun q38 => ?_)
      · have h := h1 q38
        clear h1 h2
        refine j_iconst dX9_image_72 ?_
        refine j_istore_n dX9_image_73 rfl ?_
        obtain ⟨I43, m44, h0, hs⟩ := h
        have lp : ∀ (n : Nat) (v39 : Int) (F40 : jFl) (A41 : jAr), m44 v39 F40 A41 < n → jWf N F40 A41 → jR v39 → I43 v39 F40 A41 → J G l d mX9_image 74 [.ref o, vI v39, jD] [] N F40 A41 (jmI N Q) := by
          intro nI43
          induction nI43 with
          | zero =>
            intro v39 F40 A41 hmu
            exact absurd hmu (Nat.not_lt_zero _)
          | succ nI43 ihI43 =>
            intro v39 F40 A41 hmuI43 hW42 rv39 hI
            have h := hs v39 F40 A41 hI
            refine j_iload_n dX9_image_74 rfl ?_
            refine j_aload_n dX9_image_75 rfl ?_
            refine j_getFR dX9_image_76 flX9_100_10 hM.1 rfl (mf_laws hM) ?_
            refine j_aload_n dX9_image_79 rfl ?_
            refine j_getI dX9_image_80 flX9_51_10 hM.1 rfl ?_
            obtain ⟨c45, h⟩ := h
            refine j_iald (n := 2) dX9_image_83 (mt_laws hM) (ml_laws hM) c45 ?_
            obtain ⟨h1, h2⟩ := h
            refine j_icmp_ge 163 dX9_image_84 rfl rv39 (hW42.ai (mt_laws hM) rfl) (fun q46 => ?_) (fun q46 => ?_)
            · have h := h1 q46
              clear h1 h2
              refine j_bipush dX9_image_163 ?_
              refine j_istore_n dX9_image_165 rfl ?_
              refine j_iconst dX9_image_166 ?_
              refine j_istore_n dX9_image_167 rfl ?_
              obtain ⟨I49, m50, h0, hs⟩ := h
              have lp : ∀ (n : Nat) (v47 : Int) (v48 : Int), m50 v47 v48 < n → jR v47 → jR v48 → I49 v47 v48 → J G l d mX9_image 168 [.ref o, vI v47, vI v48] [] N F40 A41 (jmI N Q) := by
                intro nI49
                induction nI49 with
                | zero =>
                  intro v47 v48 hmu
                  exact absurd hmu (Nat.not_lt_zero _)
                | succ nI49 ihI49 =>
                  intro v47 v48 hmuI49 rv47 rv48 hI
                  have h := hs v47 v48 hI
                  refine j_iload_n dX9_image_168 rfl ?_
                  refine j_aload_n dX9_image_169 rfl ?_
                  refine j_getI dX9_image_170 flX9_251_10 hM.1 rfl ?_
                  obtain ⟨h1, h2⟩ := h
                  refine j_icmp_ge 197 dX9_image_173 rfl rv48 (hW42.fi rfl) (fun q51 => ?_) (fun q51 => ?_)
                  · have h := h1 q51
                    clear h1 h2
                    refine j_aload_n dX9_image_197 rfl ?_
                    refine j_iload_n dX9_image_198 rfl ?_
                    obtain ⟨P52, hp53, h⟩ := h
                    refine j_invV (As := [vI v47]) (rest := []) dX9_image_199 lkX9_555 hM.1 rfl rfl (wX9_writes (d := 1) (Nat.le_of_ble_eq_true rfl) hM hW42 rv47 hp53) rfl rfl (Nat.le_of_ble_eq_true rfl) (Nat.le_trans (Nat.le_of_ble_eq_true rfl) hd) (jkmV fun F55 A56 hW57 p58 => ?_)
                    have h := h F55 A56 p58
                    refine j_aload_n dX9_image_202 rfl ?_
                    refine j_getI dX9_image_203 flX9_251_10 hM.1 rfl ?_
                    exact j_iret dX9_image_206 rfl ⟨_, rfl, rfl, hW57, h, (hW57.fi rfl)⟩
                  · have h := h2 q51
                    clear h1 h2
                    refine j_iconst dX9_image_176 ?_
                    refine j_iload_n dX9_image_177 rfl ?_
                    refine j_imul dX9_image_178 ?_
                    refine j_aload_n dX9_image_179 rfl ?_
                    refine j_getFR dX9_image_180 flX9_248_10 hM.1 rfl (mf_out hM) ?_
                    refine j_iload_n dX9_image_183 rfl ?_
                    obtain ⟨c60, h⟩ := h
                    refine j_iald (n := 210) dX9_image_184 (mt_out hM) (ml_out hM) c60 ?_
                    refine j_iadd dX9_image_185 ?_
                    refine j_sipush dX9_image_186 ?_
                    obtain ⟨c61, h⟩ := h
                    refine j_irem dX9_image_189 c61.1 c61.2 ?_
                    obtain ⟨r62, h⟩ := h
                    obtain ⟨v63, ev63⟩ : ∃ x : Int, x = ((3 * v47) + (A41 (o + 48) v48)) % 253 := ⟨_, rfl⟩
                    have h := h v63 ev63
                    refine jnmI (e := ev63) ?_
                    refine j_istore_n dX9_image_190 rfl ?_
                    obtain ⟨r64, h⟩ := h
                    refine j_iinc dX9_image_191 rfl rfl ?_
                    refine j_goto 168 dX9_image_194 rfl ?_
                    exact J.wk ((((jWk.nil).eq).eq).eq) (ihI49 _ _ (Nat.lt_of_lt_of_le h.2 (Nat.le_of_lt_succ hmuI49)) (ev63 ▸ r62) r64 h.1)
              exact J.wk ((((jWk.nil).eq).eq).eq) (lp _ _ _ (Nat.lt_succ_self _) (by decide) (by decide) h0)
            · have h := h2 q46
              clear h1 h2
              refine j_aload_n dX9_image_87 rfl ?_
              refine j_aload_n dX9_image_88 rfl ?_
              refine j_getFR dX9_image_89 flX9_154_10 hM.1 rfl (mf_sung hM) ?_
              refine j_iload_n dX9_image_92 rfl ?_
              obtain ⟨c65, h⟩ := h
              refine j_iald (n := 264) dX9_image_93 (mt_sung hM) (ml_sung hM) c65 ?_
              obtain ⟨P66, hp67, h⟩ := h
              refine j_invV (As := [vI (A41 (o + 32) v39)]) (rest := []) dX9_image_94 lkX9_555 hM.1 rfl rfl (wX9_writes (d := 1) (Nat.le_of_ble_eq_true rfl) hM hW42 (hW42.ai (mt_sung hM) rfl) hp67) rfl rfl (Nat.le_of_ble_eq_true rfl) (Nat.le_trans (Nat.le_of_ble_eq_true rfl) hd) (jkmV fun F69 A70 hW71 p72 => ?_)
              have h := h F69 A70 p72
              refine j_aload_n dX9_image_97 rfl ?_
              refine j_aload_n dX9_image_98 rfl ?_
              refine j_getFR dX9_image_99 flX9_148_10 hM.1 rfl (mf_main hM) ?_
              refine j_iload_n dX9_image_102 rfl ?_
              obtain ⟨c74, h⟩ := h
              refine j_iald (n := 264) dX9_image_103 (mt_main hM) (ml_main hM) c74 ?_
              obtain ⟨P75, hp76, h⟩ := h
              refine j_invV (As := [vI (A70 (o + 30) v39)]) (rest := []) dX9_image_104 lkX9_555 hM.1 rfl rfl (wX9_writes (d := 1) (Nat.le_of_ble_eq_true rfl) hM hW71 (hW71.ai (mt_main hM) rfl) hp76) rfl rfl (Nat.le_of_ble_eq_true rfl) (Nat.le_trans (Nat.le_of_ble_eq_true rfl) hd) (jkmV fun F78 A79 hW80 p81 => ?_)
              have h := h F78 A79 p81
              refine j_aload_n dX9_image_107 rfl ?_
              refine j_aload_n dX9_image_108 rfl ?_
              refine j_getFR dX9_image_109 flX9_151_10 hM.1 rfl (mf_except hM) ?_
              refine j_iload_n dX9_image_112 rfl ?_
              obtain ⟨c83, h⟩ := h
              refine j_iald (n := 264) dX9_image_113 (mt_except hM) (ml_except hM) c83 ?_
              obtain ⟨P84, hp85, h⟩ := h
              refine j_invV (As := [vI (A79 (o + 31) v39)]) (rest := []) dX9_image_114 lkX9_555 hM.1 rfl rfl (wX9_writes (d := 1) (Nat.le_of_ble_eq_true rfl) hM hW80 (hW80.ai (mt_except hM) rfl) hp85) rfl rfl (Nat.le_of_ble_eq_true rfl) (Nat.le_trans (Nat.le_of_ble_eq_true rfl) hd) (jkmV fun F87 A88 hW89 p90 => ?_)
              have h := h F87 A88 p90
              refine j_iconst dX9_image_117 ?_
              refine j_istore_n dX9_image_118 rfl ?_
              obtain ⟨I96, m97, h0, hs⟩ := h
              have lp : ∀ (n : Nat) (v92 : Int) (F93 : jFl) (A94 : jAr), m97 v92 F93 A94 < n → jWf N F93 A94 → jR v92 → I96 v92 F93 A94 → J G l d mX9_image 119 [.ref o, vI v39, vI v92] [] N F93 A94 (jmI N Q) := by
                intro nI96
                induction nI96 with
                | zero =>
                  intro v92 F93 A94 hmu
                  exact absurd hmu (Nat.not_lt_zero _)
                | succ nI96 ihI96 =>
                  intro v92 F93 A94 hmuI96 hW95 rv92 hI
                  have h := hs v92 F93 A94 hI
                  refine j_iload_n dX9_image_119 rfl ?_
                  refine j_aload_n dX9_image_120 rfl ?_
                  refine j_getFR dX9_image_121 flX9_148_10 hM.1 rfl (mf_main hM) ?_
                  refine j_iload_n dX9_image_124 rfl ?_
                  obtain ⟨c98, h⟩ := h
                  refine j_iald (n := 264) dX9_image_125 (mt_main hM) (ml_main hM) c98 ?_
                  refine j_aload_n dX9_image_126 rfl ?_
                  refine j_getFR dX9_image_127 flX9_151_10 hM.1 rfl (mf_except hM) ?_
                  refine j_iload_n dX9_image_130 rfl ?_
                  obtain ⟨c99, h⟩ := h
                  refine j_iald (n := 264) dX9_image_131 (mt_except hM) (ml_except hM) c99 ?_
                  refine j_iadd dX9_image_132 ?_
                  obtain ⟨r100, h⟩ := h
                  obtain ⟨h1, h2⟩ := h
                  refine j_icmp_ge 157 dX9_image_133 rfl rv92 r100 (fun q101 => ?_) (fun q101 => ?_)
                  · have h := h1 q101
                    clear h1 h2
                    obtain ⟨r102, h⟩ := h
                    refine j_iinc dX9_image_157 rfl rfl ?_
                    refine j_goto 74 dX9_image_160 rfl ?_
                    exact J.wk ((((jWk.nil).no).eq).eq) (ihI43 _ _ _ (Nat.lt_of_lt_of_le h.2 (Nat.le_of_lt_succ hmuI43)) hW95 r102 h.1)
                  · have h := h2 q101
                    clear h1 h2
                    refine j_aload_n dX9_image_136 rfl ?_
                    refine j_aload_n dX9_image_137 rfl ?_
                    refine j_getFR dX9_image_138 flX9_157_10 hM.1 rfl (mf_rows hM) ?_
                    refine j_bipush dX9_image_141 ?_
                    refine j_iload_n dX9_image_143 rfl ?_
                    refine j_imul dX9_image_144 ?_
                    refine j_iload_n dX9_image_145 rfl ?_
                    refine j_iadd dX9_image_146 ?_
                    obtain ⟨c103, h⟩ := h
                    refine j_iald (n := 3168) dX9_image_147 (mt_rows hM) (ml_rows hM) c103 ?_
                    obtain ⟨P104, hp105, h⟩ := h
                    refine j_invV (As := [vI (A94 (o + 33) ((12 * v39) + v92))]) (rest := []) dX9_image_148 lkX9_555 hM.1 rfl rfl (wX9_writes (d := 1) (Nat.le_of_ble_eq_true rfl) hM hW95 (hW95.ai (mt_rows hM) rfl) hp105) rfl rfl (Nat.le_of_ble_eq_true rfl) (Nat.le_trans (Nat.le_of_ble_eq_true rfl) hd) (jkmV fun F107 A108 hW109 p110 => ?_)
                    have h := h F107 A108 p110
                    obtain ⟨r112, h⟩ := h
                    refine j_iinc dX9_image_151 rfl rfl ?_
                    refine j_goto 119 dX9_image_154 rfl ?_
                    exact J.wk ((((jWk.nil).eq).eq).eq) (ihI96 _ _ _ (Nat.lt_of_lt_of_le h.2 (Nat.le_of_lt_succ hmuI96)) hW109 r112 h.1)
              exact J.wk ((((jWk.nil).eq).eq).eq) (lp _ _ _ _ (Nat.lt_succ_self _) hW89 (by decide) h0)
        exact J.wk ((((jWk.nil).no).eq).eq) (lp _ _ _ _ (Nat.lt_succ_self _) hW34 (by decide) h0)
      · have h := h2 q38
        clear h1 h2
        refine j_aload_n dX9_image_56 rfl ?_
        refine j_aload_n dX9_image_57 rfl ?_
        refine j_getFR dX9_image_58 flX9_145_10 hM.1 rfl (mf_orderOf hM) ?_
        refine j_iload_n dX9_image_61 rfl ?_
        obtain ⟨c113, h⟩ := h
        refine j_iald (n := 264) dX9_image_62 (mt_orderOf hM) (ml_orderOf hM) c113 ?_
        obtain ⟨P114, hp115, h⟩ := h
        refine j_invV (As := [vI (A33 (o + 29) v31)]) (rest := []) dX9_image_63 lkX9_555 hM.1 rfl rfl (wX9_writes (d := 1) (Nat.le_of_ble_eq_true rfl) hM hW34 (hW34.ai (mt_orderOf hM) rfl) hp115) rfl rfl (Nat.le_of_ble_eq_true rfl) (Nat.le_trans (Nat.le_of_ble_eq_true rfl) hd) (jkmV fun F117 A118 hW119 p120 => ?_)
        have h := h F117 A118 p120
        obtain ⟨r122, h⟩ := h
        refine j_iinc dX9_image_66 rfl rfl ?_
        refine j_goto 43 dX9_image_69 rfl ?_
        exact J.wk ((((jWk.nil).no).eq).eq) (ihI35 _ _ _ (Nat.lt_of_lt_of_le h.2 (Nat.le_of_lt_succ hmuI35)) hW119 r122 h.1)
  exact J.wk ((((jWk.nil).no).eq).eq) (lp _ _ _ _ (Nat.lt_succ_self _) hW28 (by decide) h0)
/-- lawOn(II)I -/
def wpX9_lawOn (o : Nat) (a1 : Int) (a2 : Int) (F : jFl) (A : jAr) (Q : Int → Prop) : Prop :=
  jR (a1 + 3) ∧
  ((a2 < (a1 + 3)) →
    Q (-1)) ∧
  (¬ (a2 < (a1 + 3)) →
    (0 ≤ a1 ∧ a1 < 1800) ∧
    ((1 < (A (o + 1) a1)) →
      Q (-1)) ∧
    (¬ (1 < (A (o + 1) a1)) →
      (0 ≤ a1 + 1 ∧ a1 + 1 < 1800) ∧
      ((8 < (A (o + 1) (a1 + 1))) →
        Q (-1)) ∧
      (¬ (8 < (A (o + 1) (a1 + 1))) →
        (0 ≤ a1 + 2 ∧ a1 + 2 < 1800) ∧
        ((4 < (A (o + 1) (a1 + 2))) →
          Q (-1)) ∧
        (¬ (4 < (A (o + 1) (a1 + 2))) →
          (0 ≤ a1 + 1 ∧ a1 + 1 < 1800) ∧
          ((¬ (A (o + 1) (a1 + 1)) = 0) →
            (0 ≤ a1 + 1 ∧ a1 + 1 < 1800) ∧
            (0 ≤ a1 + 2 ∧ a1 + 2 < 1800) ∧
            jR (((a1 + 3) + (A (o + 1) (a1 + 1))) + (A (o + 1) (a1 + 2))) ∧
            ∀ v14 : Int, v14 = ((a1 + 3) + (A (o + 1) (a1 + 1))) + (A (o + 1) (a1 + 2)) →
            ((v14 ≤ a2) →
              jR (a1 + 3) ∧
              ∀ v17 : Int, v17 = a1 + 3 →
              ∃ (I19 : Int → Prop) (m20 : Int → Nat), I19 v17 ∧ ∀ (v18 : Int), I19 v18 →
                ((v14 ≤ v18) →
                  Q v14) ∧
                (¬ (v14 ≤ v18) →
                  (0 ≤ v18 ∧ v18 < 1800) ∧
                  ∃ P23 : Int → Prop, wpX9_isWordOf o (A (o + 1) v18) F A P23 ∧ ∀ z25, P23 z25 →
                  ((¬ z25 = 0) →
                    jR (v18 + 1) ∧
                    I19 (v18 + 1) ∧ m20 (v18 + 1) < m20 v18) ∧
                  (¬ (¬ z25 = 0) →
                    Q (-1)))) ∧
            (¬ (v14 ≤ a2) →
              Q (-1))) ∧
          (¬ (¬ (A (o + 1) (a1 + 1)) = 0) →
            (0 ≤ a1 + 2 ∧ a1 + 2 < 1800) ∧
            (((A (o + 1) (a1 + 2)) ≤ 0) →
              (0 ≤ a1 + 1 ∧ a1 + 1 < 1800) ∧
              (0 ≤ a1 + 2 ∧ a1 + 2 < 1800) ∧
              jR (((a1 + 3) + (A (o + 1) (a1 + 1))) + (A (o + 1) (a1 + 2))) ∧
              ∀ v35 : Int, v35 = ((a1 + 3) + (A (o + 1) (a1 + 1))) + (A (o + 1) (a1 + 2)) →
              ((v35 ≤ a2) →
                jR (a1 + 3) ∧
                ∀ v38 : Int, v38 = a1 + 3 →
                ∃ (I40 : Int → Prop) (m41 : Int → Nat), I40 v38 ∧ ∀ (v39 : Int), I40 v39 →
                  ((v35 ≤ v39) →
                    Q v35) ∧
                  (¬ (v35 ≤ v39) →
                    (0 ≤ v39 ∧ v39 < 1800) ∧
                    ∃ P44 : Int → Prop, wpX9_isWordOf o (A (o + 1) v39) F A P44 ∧ ∀ z46, P44 z46 →
                    ((¬ z46 = 0) →
                      jR (v39 + 1) ∧
                      I40 (v39 + 1) ∧ m41 (v39 + 1) < m41 v39) ∧
                    (¬ (¬ z46 = 0) →
                      Q (-1)))) ∧
              (¬ (v35 ≤ a2) →
                Q (-1))) ∧
            (¬ ((A (o + 1) (a1 + 2)) ≤ 0) →
              Q (-1)))))))
theorem wX9_lawOn {G : jG} {l : Launch} {d : Nat} {N : jSh} {o : Nat} {F : jFl} {A : jAr} {a1 a2 : Int} {Q : Int → Prop} (hd : 2 ≤ d) (hM : mShape G N o) (hW : jWf N F A) (ra1 : jR a1) (ra2 : jR a2) (h : wpX9_lawOn o a1 a2 F A Q) : jCall G l d mX9_lawOn [.ref o, vI a1, vI a2] N F A (jpI N F A Q) := by
  refine jCall.of (ls := [.ref o, vI a1, vI a2, jD, jD]) (by decide) rfl (Nat.le_of_ble_eq_true rfl) rfl ?_
  unfold wpX9_lawOn at h
  refine j_iload_n dX9_lawOn_0 rfl ?_
  refine j_iconst dX9_lawOn_1 ?_
  refine j_iadd dX9_lawOn_2 ?_
  refine j_iload_n dX9_lawOn_3 rfl ?_
  obtain ⟨r1, h⟩ := h
  obtain ⟨h1, h2⟩ := h
  refine j_icmp_gt 64 dX9_lawOn_4 rfl r1 ra2 (fun q2 => ?_) (fun q2 => ?_)
  · have h := h1 q2
    clear h1 h2
    refine j_iconst dX9_lawOn_64 ?_
    exact j_iret dX9_lawOn_65 rfl ⟨_, rfl, rfl, rfl, rfl, h, (by decide)⟩
  · have h := h2 q2
    clear h1 h2
    refine j_aload_n dX9_lawOn_7 rfl ?_
    refine j_getFR dX9_lawOn_8 flX9_7_10 hM.1 rfl (mf_tape hM) ?_
    refine j_iload_n dX9_lawOn_11 rfl ?_
    obtain ⟨c3, h⟩ := h
    refine j_iald (n := 1800) dX9_lawOn_12 (mt_tape hM) (ml_tape hM) c3 ?_
    refine j_iconst dX9_lawOn_13 ?_
    obtain ⟨h1, h2⟩ := h
    refine j_icmp_gt 64 dX9_lawOn_14 rfl (hW.ai (mt_tape hM) rfl) (by decide) (fun q4 => ?_) (fun q4 => ?_)
    · have h := h1 q4
      clear h1 h2
      refine j_iconst dX9_lawOn_64 ?_
      exact j_iret dX9_lawOn_65 rfl ⟨_, rfl, rfl, rfl, rfl, h, (by decide)⟩
    · have h := h2 q4
      clear h1 h2
      refine j_aload_n dX9_lawOn_17 rfl ?_
      refine j_getFR dX9_lawOn_18 flX9_7_10 hM.1 rfl (mf_tape hM) ?_
      refine j_iload_n dX9_lawOn_21 rfl ?_
      refine j_iconst dX9_lawOn_22 ?_
      refine j_iadd dX9_lawOn_23 ?_
      obtain ⟨c5, h⟩ := h
      refine j_iald (n := 1800) dX9_lawOn_24 (mt_tape hM) (ml_tape hM) c5 ?_
      refine j_bipush dX9_lawOn_25 ?_
      obtain ⟨h1, h2⟩ := h
      refine j_icmp_gt 64 dX9_lawOn_27 rfl (hW.ai (mt_tape hM) rfl) (by decide) (fun q6 => ?_) (fun q6 => ?_)
      · have h := h1 q6
        clear h1 h2
        refine j_iconst dX9_lawOn_64 ?_
        exact j_iret dX9_lawOn_65 rfl ⟨_, rfl, rfl, rfl, rfl, h, (by decide)⟩
      · have h := h2 q6
        clear h1 h2
        refine j_aload_n dX9_lawOn_30 rfl ?_
        refine j_getFR dX9_lawOn_31 flX9_7_10 hM.1 rfl (mf_tape hM) ?_
        refine j_iload_n dX9_lawOn_34 rfl ?_
        refine j_iconst dX9_lawOn_35 ?_
        refine j_iadd dX9_lawOn_36 ?_
        obtain ⟨c7, h⟩ := h
        refine j_iald (n := 1800) dX9_lawOn_37 (mt_tape hM) (ml_tape hM) c7 ?_
        refine j_iconst dX9_lawOn_38 ?_
        obtain ⟨h1, h2⟩ := h
        refine j_icmp_gt 64 dX9_lawOn_39 rfl (hW.ai (mt_tape hM) rfl) (by decide) (fun q8 => ?_) (fun q8 => ?_)
        · have h := h1 q8
          clear h1 h2
          refine j_iconst dX9_lawOn_64 ?_
          exact j_iret dX9_lawOn_65 rfl ⟨_, rfl, rfl, rfl, rfl, h, (by decide)⟩
        · have h := h2 q8
          clear h1 h2
          refine j_aload_n dX9_lawOn_42 rfl ?_
          refine j_getFR dX9_lawOn_43 flX9_7_10 hM.1 rfl (mf_tape hM) ?_
          refine j_iload_n dX9_lawOn_46 rfl ?_
          refine j_iconst dX9_lawOn_47 ?_
          refine j_iadd dX9_lawOn_48 ?_
          obtain ⟨c9, h⟩ := h
          refine j_iald (n := 1800) dX9_lawOn_49 (mt_tape hM) (ml_tape hM) c9 ?_
          obtain ⟨h1, h2⟩ := h
          refine j_if_ne 66 dX9_lawOn_50 rfl (hW.ai (mt_tape hM) rfl) (fun q10 => ?_) (fun q10 => ?_)
          · have h := h1 q10
            clear h1 h2
            refine j_iload_n dX9_lawOn_66 rfl ?_
            refine j_iconst dX9_lawOn_67 ?_
            refine j_iadd dX9_lawOn_68 ?_
            refine j_aload_n dX9_lawOn_69 rfl ?_
            refine j_getFR dX9_lawOn_70 flX9_7_10 hM.1 rfl (mf_tape hM) ?_
            refine j_iload_n dX9_lawOn_73 rfl ?_
            refine j_iconst dX9_lawOn_74 ?_
            refine j_iadd dX9_lawOn_75 ?_
            obtain ⟨c11, h⟩ := h
            refine j_iald (n := 1800) dX9_lawOn_76 (mt_tape hM) (ml_tape hM) c11 ?_
            refine j_iadd dX9_lawOn_77 ?_
            refine j_aload_n dX9_lawOn_78 rfl ?_
            refine j_getFR dX9_lawOn_79 flX9_7_10 hM.1 rfl (mf_tape hM) ?_
            refine j_iload_n dX9_lawOn_82 rfl ?_
            refine j_iconst dX9_lawOn_83 ?_
            refine j_iadd dX9_lawOn_84 ?_
            obtain ⟨c12, h⟩ := h
            refine j_iald (n := 1800) dX9_lawOn_85 (mt_tape hM) (ml_tape hM) c12 ?_
            refine j_iadd dX9_lawOn_86 ?_
            obtain ⟨r13, h⟩ := h
            obtain ⟨v14, ev14⟩ : ∃ x : Int, x = ((a1 + 3) + (A (o + 1) (a1 + 1))) + (A (o + 1) (a1 + 2)) := ⟨_, rfl⟩
            have h := h v14 ev14
            refine jnmI (e := ev14) ?_
            refine j_istore_n dX9_lawOn_87 rfl ?_
            refine j_iload_n dX9_lawOn_88 rfl ?_
            refine j_iload_n dX9_lawOn_89 rfl ?_
            obtain ⟨h1, h2⟩ := h
            refine j_icmp_le 95 dX9_lawOn_90 rfl (ev14 ▸ r13) ra2 (fun q15 => ?_) (fun q15 => ?_)
            · have h := h1 q15
              clear h1 h2
              refine j_iload_n dX9_lawOn_95 rfl ?_
              refine j_iconst dX9_lawOn_96 ?_
              refine j_iadd dX9_lawOn_97 ?_
              obtain ⟨r16, h⟩ := h
              obtain ⟨v17, ev17⟩ : ∃ x : Int, x = a1 + 3 := ⟨_, rfl⟩
              have h := h v17 ev17
              refine jnmI (e := ev17) ?_
              refine j_istore dX9_lawOn_98 rfl ?_
              obtain ⟨I19, m20, h0, hs⟩ := h
              have lp : ∀ (n : Nat) (v18 : Int), m20 v18 < n → jR v18 → I19 v18 → J G l d mX9_lawOn 100 [.ref o, jD, jD, vI v14, vI v18] [] N F A (jpI N F A Q) := by
                intro nI19
                induction nI19 with
                | zero =>
                  intro v18 hmu
                  exact absurd hmu (Nat.not_lt_zero _)
                | succ nI19 ihI19 =>
                  intro v18 hmuI19 rv18 hI
                  have h := hs v18 hI
                  refine j_iload dX9_lawOn_100 rfl ?_
                  refine j_iload_n dX9_lawOn_102 rfl ?_
                  obtain ⟨h1, h2⟩ := h
                  refine j_icmp_ge 128 dX9_lawOn_103 rfl rv18 (ev14 ▸ r13) (fun q21 => ?_) (fun q21 => ?_)
                  · have h := h1 q21
                    clear h1 h2
                    refine j_iload_n dX9_lawOn_128 rfl ?_
                    exact j_iret dX9_lawOn_129 rfl ⟨_, rfl, rfl, rfl, rfl, h, (ev14 ▸ r13)⟩
                  · have h := h2 q21
                    clear h1 h2
                    refine j_aload_n dX9_lawOn_106 rfl ?_
                    refine j_aload_n dX9_lawOn_107 rfl ?_
                    refine j_getFR dX9_lawOn_108 flX9_7_10 hM.1 rfl (mf_tape hM) ?_
                    refine j_iload dX9_lawOn_111 rfl ?_
                    obtain ⟨c22, h⟩ := h
                    refine j_iald (n := 1800) dX9_lawOn_113 (mt_tape hM) (ml_tape hM) c22 ?_
                    obtain ⟨P23, hp24, h⟩ := h
                    refine j_invV (As := [vI (A (o + 1) v18)]) (rest := []) dX9_lawOn_114 lkX9_409 hM.1 rfl rfl (wX9_isWordOf (d := 1) (Nat.le_of_ble_eq_true rfl) hM hW (hW.ai (mt_tape hM) rfl) hp24) rfl rfl (Nat.le_of_ble_eq_true rfl) (Nat.le_trans (Nat.le_of_ble_eq_true rfl) hd) (jkpB fun z25 p26 r27 => ?_)
                    have h := h z25 p26
                    obtain ⟨h1, h2⟩ := h
                    refine j_if_ne 122 dX9_lawOn_117 rfl (jR_b r27) (fun q28 => ?_) (fun q28 => ?_)
                    · have h := h1 q28
                      clear h1 h2
                      obtain ⟨r29, h⟩ := h
                      refine j_iinc dX9_lawOn_122 rfl rfl ?_
                      refine j_goto 100 dX9_lawOn_125 rfl ?_
                      exact J.wk ((((((jWk.nil).eq).eq).no).no).eq) (ihI19 _ (Nat.lt_of_lt_of_le h.2 (Nat.le_of_lt_succ hmuI19)) r29 h.1)
                    · have h := h2 q28
                      clear h1 h2
                      refine j_iconst dX9_lawOn_120 ?_
                      exact j_iret dX9_lawOn_121 rfl ⟨_, rfl, rfl, rfl, rfl, h, (by decide)⟩
              exact J.wk ((((((jWk.nil).eq).eq).no).no).eq) (lp _ _ (Nat.lt_succ_self _) (ev17 ▸ r16) h0)
            · have h := h2 q15
              clear h1 h2
              refine j_iconst dX9_lawOn_93 ?_
              exact j_iret dX9_lawOn_94 rfl ⟨_, rfl, rfl, rfl, rfl, h, (by decide)⟩
          · have h := h2 q10
            clear h1 h2
            refine j_aload_n dX9_lawOn_53 rfl ?_
            refine j_getFR dX9_lawOn_54 flX9_7_10 hM.1 rfl (mf_tape hM) ?_
            refine j_iload_n dX9_lawOn_57 rfl ?_
            refine j_iconst dX9_lawOn_58 ?_
            refine j_iadd dX9_lawOn_59 ?_
            obtain ⟨c30, h⟩ := h
            refine j_iald (n := 1800) dX9_lawOn_60 (mt_tape hM) (ml_tape hM) c30 ?_
            obtain ⟨h1, h2⟩ := h
            refine j_if_le 66 dX9_lawOn_61 rfl (hW.ai (mt_tape hM) rfl) (fun q31 => ?_) (fun q31 => ?_)
            · have h := h1 q31
              clear h1 h2
              refine j_iload_n dX9_lawOn_66 rfl ?_
              refine j_iconst dX9_lawOn_67 ?_
              refine j_iadd dX9_lawOn_68 ?_
              refine j_aload_n dX9_lawOn_69 rfl ?_
              refine j_getFR dX9_lawOn_70 flX9_7_10 hM.1 rfl (mf_tape hM) ?_
              refine j_iload_n dX9_lawOn_73 rfl ?_
              refine j_iconst dX9_lawOn_74 ?_
              refine j_iadd dX9_lawOn_75 ?_
              obtain ⟨c32, h⟩ := h
              refine j_iald (n := 1800) dX9_lawOn_76 (mt_tape hM) (ml_tape hM) c32 ?_
              refine j_iadd dX9_lawOn_77 ?_
              refine j_aload_n dX9_lawOn_78 rfl ?_
              refine j_getFR dX9_lawOn_79 flX9_7_10 hM.1 rfl (mf_tape hM) ?_
              refine j_iload_n dX9_lawOn_82 rfl ?_
              refine j_iconst dX9_lawOn_83 ?_
              refine j_iadd dX9_lawOn_84 ?_
              obtain ⟨c33, h⟩ := h
              refine j_iald (n := 1800) dX9_lawOn_85 (mt_tape hM) (ml_tape hM) c33 ?_
              refine j_iadd dX9_lawOn_86 ?_
              obtain ⟨r34, h⟩ := h
              obtain ⟨v35, ev35⟩ : ∃ x : Int, x = ((a1 + 3) + (A (o + 1) (a1 + 1))) + (A (o + 1) (a1 + 2)) := ⟨_, rfl⟩
              have h := h v35 ev35
              refine jnmI (e := ev35) ?_
              refine j_istore_n dX9_lawOn_87 rfl ?_
              refine j_iload_n dX9_lawOn_88 rfl ?_
              refine j_iload_n dX9_lawOn_89 rfl ?_
              obtain ⟨h1, h2⟩ := h
              refine j_icmp_le 95 dX9_lawOn_90 rfl (ev35 ▸ r34) ra2 (fun q36 => ?_) (fun q36 => ?_)
              · have h := h1 q36
                clear h1 h2
                refine j_iload_n dX9_lawOn_95 rfl ?_
                refine j_iconst dX9_lawOn_96 ?_
                refine j_iadd dX9_lawOn_97 ?_
                obtain ⟨r37, h⟩ := h
                obtain ⟨v38, ev38⟩ : ∃ x : Int, x = a1 + 3 := ⟨_, rfl⟩
                have h := h v38 ev38
                refine jnmI (e := ev38) ?_
                refine j_istore dX9_lawOn_98 rfl ?_
                obtain ⟨I40, m41, h0, hs⟩ := h
                have lp : ∀ (n : Nat) (v39 : Int), m41 v39 < n → jR v39 → I40 v39 → J G l d mX9_lawOn 100 [.ref o, jD, jD, vI v35, vI v39] [] N F A (jpI N F A Q) := by
                  intro nI40
                  induction nI40 with
                  | zero =>
                    intro v39 hmu
                    exact absurd hmu (Nat.not_lt_zero _)
                  | succ nI40 ihI40 =>
                    intro v39 hmuI40 rv39 hI
                    have h := hs v39 hI
                    refine j_iload dX9_lawOn_100 rfl ?_
                    refine j_iload_n dX9_lawOn_102 rfl ?_
                    obtain ⟨h1, h2⟩ := h
                    refine j_icmp_ge 128 dX9_lawOn_103 rfl rv39 (ev35 ▸ r34) (fun q42 => ?_) (fun q42 => ?_)
                    · have h := h1 q42
                      clear h1 h2
                      refine j_iload_n dX9_lawOn_128 rfl ?_
                      exact j_iret dX9_lawOn_129 rfl ⟨_, rfl, rfl, rfl, rfl, h, (ev35 ▸ r34)⟩
                    · have h := h2 q42
                      clear h1 h2
                      refine j_aload_n dX9_lawOn_106 rfl ?_
                      refine j_aload_n dX9_lawOn_107 rfl ?_
                      refine j_getFR dX9_lawOn_108 flX9_7_10 hM.1 rfl (mf_tape hM) ?_
                      refine j_iload dX9_lawOn_111 rfl ?_
                      obtain ⟨c43, h⟩ := h
                      refine j_iald (n := 1800) dX9_lawOn_113 (mt_tape hM) (ml_tape hM) c43 ?_
                      obtain ⟨P44, hp45, h⟩ := h
                      refine j_invV (As := [vI (A (o + 1) v39)]) (rest := []) dX9_lawOn_114 lkX9_409 hM.1 rfl rfl (wX9_isWordOf (d := 1) (Nat.le_of_ble_eq_true rfl) hM hW (hW.ai (mt_tape hM) rfl) hp45) rfl rfl (Nat.le_of_ble_eq_true rfl) (Nat.le_trans (Nat.le_of_ble_eq_true rfl) hd) (jkpB fun z46 p47 r48 => ?_)
                      have h := h z46 p47
                      obtain ⟨h1, h2⟩ := h
                      refine j_if_ne 122 dX9_lawOn_117 rfl (jR_b r48) (fun q49 => ?_) (fun q49 => ?_)
                      · have h := h1 q49
                        clear h1 h2
                        obtain ⟨r50, h⟩ := h
                        refine j_iinc dX9_lawOn_122 rfl rfl ?_
                        refine j_goto 100 dX9_lawOn_125 rfl ?_
                        exact J.wk ((((((jWk.nil).eq).eq).no).no).eq) (ihI40 _ (Nat.lt_of_lt_of_le h.2 (Nat.le_of_lt_succ hmuI40)) r50 h.1)
                      · have h := h2 q49
                        clear h1 h2
                        refine j_iconst dX9_lawOn_120 ?_
                        exact j_iret dX9_lawOn_121 rfl ⟨_, rfl, rfl, rfl, rfl, h, (by decide)⟩
                exact J.wk ((((((jWk.nil).eq).eq).no).no).eq) (lp _ _ (Nat.lt_succ_self _) (ev38 ▸ r37) h0)
              · have h := h2 q36
                clear h1 h2
                refine j_iconst dX9_lawOn_93 ?_
                exact j_iret dX9_lawOn_94 rfl ⟨_, rfl, rfl, rfl, rfl, h, (by decide)⟩
            · have h := h2 q31
              clear h1 h2
              refine j_iconst dX9_lawOn_64 ?_
              exact j_iret dX9_lawOn_65 rfl ⟨_, rfl, rfl, rfl, rfl, h, (by decide)⟩
/-- letter(III)I -/
def wpX9_letter (o : Nat) (a1 : Int) (a2 : Int) (a3 : Int) (F : jFl) (A : jAr) (Q : Int → Prop) : Prop :=
  ∃ P1 : Int → Prop, wpX9_is o a1 0 3 F A P1 ∧ ∀ z3, P1 z3 →
  ((z3 = 0) →
    Q (-1)) ∧
  (¬ (z3 = 0) →
    ∃ P7 : Int → Prop, wpX9_manyOf o (F 3039 o) a1 F A P7 ∧ ∀ z9, P7 z9 →
    jR (z9 - 1) ∧
    ∃ P13 : Int → Prop, wpX9_is o a2 0 (z9 - 1) F A P13 ∧ ∀ z15, P13 z15 →
    ((z15 = 0) →
      Q (-1)) ∧
    (¬ (z15 = 0) →
      ∃ P19 : Int → Prop, wpX9_is o a3 0 5 F A P19 ∧ ∀ z21, P19 z21 →
      ((¬ z21 = 0) →
        ∃ P25 : Int → Prop, wpX9_nameOf o (F 3039 o) a1 a2 F A P25 ∧ ∀ z27, P25 z27 →
        ∃ (I32 : Int → Int → Prop) (m33 : Int → Int → Nat), I32 0 z27 ∧ ∀ (v30 : Int) (v31 : Int), I32 v30 v31 →
          (((jcmp v31 0) ≤ 0) →
            ((a3 < v30) →
              ((0 : Int) ≤ 8 * ((v30 - 1) - a3) ∧ (8 * ((v30 - 1) - a3) : Int) < 64) ∧
              (((0 : Int) ≤ z27 / 2 ^ (8 * ((v30 - 1) - a3)).toNat ∧ (z27 / 2 ^ (8 * ((v30 - 1) - a3)).toNat : Int) ≤ 9223372036854775807) ∧ ((0 : Int) ≤ 255 ∧ (255 : Int) ≤ 9223372036854775807)) ∧
              jR (((jand (z27 / 2 ^ (8 * ((v30 - 1) - a3)).toNat) 255) - 97) + 1) ∧
              Q (((jand (z27 / 2 ^ (8 * ((v30 - 1) - a3)).toNat) 255) - 97) + 1)) ∧
            (¬ (a3 < v30) →
              Q 0)) ∧
          (¬ ((jcmp v31 0) ≤ 0) →
            jR (v30 + 1) ∧
            ((0 : Int) ≤ 8 ∧ (8 : Int) < 64) ∧
            ∀ v41 : Int, v41 = v31 / 2 ^ 8 →
            I32 (v30 + 1) v41 ∧ m33 (v30 + 1) v41 < m33 v30 v31)) ∧
      (¬ (¬ z21 = 0) →
        Q (-1))))
theorem wX9_letter {G : jG} {l : Launch} {d : Nat} {N : jSh} {o : Nat} {F : jFl} {A : jAr} {a1 a2 a3 : Int} {Q : Int → Prop} (hd : 2 ≤ d) (hM : mShape G N o) (hW : jWf N F A) (ra1 : jR a1) (ra2 : jR a2) (ra3 : jR a3) (h : wpX9_letter o a1 a2 a3 F A Q) : jCall G l d mX9_letter [.ref o, vI a1, vI a2, vI a3] N F A (jpI N F A Q) := by
  refine jCall.of (ls := [.ref o, vI a1, vI a2, vI a3, jD, jD, jD, jD, jD]) (by decide) rfl (Nat.le_of_ble_eq_true rfl) rfl ?_
  unfold wpX9_letter at h
  refine j_iload_n dX9_letter_0 rfl ?_
  refine j_iconst dX9_letter_1 ?_
  refine j_iconst dX9_letter_2 ?_
  obtain ⟨P1, hp2, h⟩ := h
  refine j_invS (As := [vI a1, vI 0, vI 3]) (rest := []) dX9_letter_3 lkX9_324 (wX9_is (d := 1) (Nat.le_of_ble_eq_true rfl) hM hW ra1 (by decide) (by decide) hp2) rfl rfl (Nat.le_of_ble_eq_true rfl) (Nat.le_trans (Nat.le_of_ble_eq_true rfl) hd) (jkpB fun z3 p4 r5 => ?_)
  have h := h z3 p4
  obtain ⟨h1, h2⟩ := h
  refine j_if_eq 37 dX9_letter_6 rfl (jR_b r5) (fun q6 => ?_) (fun q6 => ?_)
  · have h := h1 q6
    clear h1 h2
    refine j_iconst dX9_letter_37 ?_
    exact j_iret dX9_letter_38 rfl ⟨_, rfl, rfl, rfl, rfl, h, (by decide)⟩
  · have h := h2 q6
    clear h1 h2
    refine j_iload_n dX9_letter_9 rfl ?_
    refine j_iconst dX9_letter_10 ?_
    refine j_aload_n dX9_letter_11 rfl ?_
    refine j_aload_n dX9_letter_12 rfl ?_
    refine j_getI dX9_letter_13 flX9_51_10 hM.1 rfl ?_
    refine j_iload_n dX9_letter_16 rfl ?_
    obtain ⟨P7, hp8, h⟩ := h
    refine j_invV (As := [vI (F 3039 o), vI a1]) (rest := [vI 0, vI a2]) dX9_letter_17 lkX9_316 hM.1 rfl rfl (wX9_manyOf (d := 1) (Nat.le_of_ble_eq_true rfl) hM hW (hW.fi rfl) ra1 hp8) rfl rfl (Nat.le_of_ble_eq_true rfl) (Nat.le_trans (Nat.le_of_ble_eq_true rfl) hd) (jkpI fun z9 p10 r11 => ?_)
    have h := h z9 p10
    refine j_iconst dX9_letter_20 ?_
    refine j_isub dX9_letter_21 ?_
    obtain ⟨r12, h⟩ := h
    obtain ⟨P13, hp14, h⟩ := h
    refine j_invS (As := [vI a2, vI 0, vI (z9 - 1)]) (rest := []) dX9_letter_22 lkX9_324 (wX9_is (d := 1) (Nat.le_of_ble_eq_true rfl) hM hW ra2 (by decide) r12 hp14) rfl rfl (Nat.le_of_ble_eq_true rfl) (Nat.le_trans (Nat.le_of_ble_eq_true rfl) hd) (jkpB fun z15 p16 r17 => ?_)
    have h := h z15 p16
    obtain ⟨h1, h2⟩ := h
    refine j_if_eq 37 dX9_letter_25 rfl (jR_b r17) (fun q18 => ?_) (fun q18 => ?_)
    · have h := h1 q18
      clear h1 h2
      refine j_iconst dX9_letter_37 ?_
      exact j_iret dX9_letter_38 rfl ⟨_, rfl, rfl, rfl, rfl, h, (by decide)⟩
    · have h := h2 q18
      clear h1 h2
      refine j_iload_n dX9_letter_28 rfl ?_
      refine j_iconst dX9_letter_29 ?_
      refine j_iconst dX9_letter_30 ?_
      obtain ⟨P19, hp20, h⟩ := h
      refine j_invS (As := [vI a3, vI 0, vI 5]) (rest := []) dX9_letter_31 lkX9_324 (wX9_is (d := 1) (Nat.le_of_ble_eq_true rfl) hM hW ra3 (by decide) (by decide) hp20) rfl rfl (Nat.le_of_ble_eq_true rfl) (Nat.le_trans (Nat.le_of_ble_eq_true rfl) hd) (jkpB fun z21 p22 r23 => ?_)
      have h := h z21 p22
      obtain ⟨h1, h2⟩ := h
      refine j_if_ne 39 dX9_letter_34 rfl (jR_b r23) (fun q24 => ?_) (fun q24 => ?_)
      · have h := h1 q24
        clear h1 h2
        refine j_aload_n dX9_letter_39 rfl ?_
        refine j_aload_n dX9_letter_40 rfl ?_
        refine j_getI dX9_letter_41 flX9_51_10 hM.1 rfl ?_
        refine j_iload_n dX9_letter_44 rfl ?_
        refine j_iload_n dX9_letter_45 rfl ?_
        obtain ⟨P25, hp26, h⟩ := h
        refine j_invV (As := [vI (F 3039 o), vI a1, vI a2]) (rest := []) dX9_letter_46 lkX9_320 hM.1 rfl rfl (wX9_nameOf (d := 1) (Nat.le_of_ble_eq_true rfl) hM hW (hW.fi rfl) ra1 ra2 hp26) rfl rfl (Nat.le_of_ble_eq_true rfl) (Nat.le_trans (Nat.le_of_ble_eq_true rfl) hd) (jkpL fun z27 p28 r29 => ?_)
        have h := h z27 p28
        refine j_lstore dX9_letter_49 rfl (Nat.le_of_ble_eq_true rfl) ?_
        refine j_iconst dX9_letter_51 ?_
        refine j_istore dX9_letter_52 rfl ?_
        refine j_lload dX9_letter_54 rfl ?_
        refine j_lstore dX9_letter_56 rfl (Nat.le_of_ble_eq_true rfl) ?_
        obtain ⟨I32, m33, h0, hs⟩ := h
        have lp : ∀ (n : Nat) (v30 : Int) (v31 : Int), m33 v30 v31 < n → jR v30 → jRL v31 → I32 v30 v31 → J G l d mX9_letter 58 [.ref o, jD, jD, vI a3, vL z27, jD, vI v30, vL v31, jD] [] N F A (jpI N F A Q) := by
          intro nI32
          induction nI32 with
          | zero =>
            intro v30 v31 hmu
            exact absurd hmu (Nat.not_lt_zero _)
          | succ nI32 ihI32 =>
            intro v30 v31 hmuI32 rv30 rv31 hI
            have h := hs v30 v31 hI
            refine j_lload dX9_letter_58 rfl ?_
            refine j_lconst 0 rfl dX9_letter_60 ?_
            refine j_lcmp dX9_letter_61 rv31 (by decide) ?_
            obtain ⟨h1, h2⟩ := h
            refine j_if_le 78 dX9_letter_62 rfl jcmp_R (fun q34 => ?_) (fun q34 => ?_)
            · have h := h1 q34
              clear h1 h2
              refine j_iload_n dX9_letter_78 rfl ?_
              refine j_iload dX9_letter_79 rfl ?_
              obtain ⟨h1, h2⟩ := h
              refine j_icmp_lt 88 dX9_letter_81 rfl ra3 rv30 (fun q35 => ?_) (fun q35 => ?_)
              · have h := h1 q35
                clear h1 h2
                refine j_lload dX9_letter_88 rfl ?_
                refine j_bipush dX9_letter_90 ?_
                refine j_iload dX9_letter_92 rfl ?_
                refine j_iconst dX9_letter_94 ?_
                refine j_isub dX9_letter_95 ?_
                refine j_iload_n dX9_letter_96 rfl ?_
                refine j_isub dX9_letter_97 ?_
                refine j_imul dX9_letter_98 ?_
                obtain ⟨c36, h⟩ := h
                refine j_lshr dX9_letter_99 r29 c36 ?_
                refine j_ldc2 (n := 255) dX9_letter_100 q2501 ?_
                obtain ⟨c37, h⟩ := h
                refine j_land dX9_letter_103 c37.1 c37.2 ?_
                refine j_l2i dX9_letter_104 ?_
                refine j_bipush dX9_letter_105 ?_
                refine j_isub dX9_letter_107 ?_
                refine j_iconst dX9_letter_108 ?_
                refine j_iadd dX9_letter_109 ?_
                obtain ⟨r38, h⟩ := h
                exact j_iret dX9_letter_110 rfl ⟨_, rfl, rfl, rfl, rfl, h, r38⟩
              · have h := h2 q35
                clear h1 h2
                refine j_iconst dX9_letter_84 ?_
                refine j_goto 110 dX9_letter_85 rfl ?_
                exact j_iret dX9_letter_110 rfl ⟨_, rfl, rfl, rfl, rfl, h, (by decide)⟩
            · have h := h2 q34
              clear h1 h2
              obtain ⟨r39, h⟩ := h
              refine j_iinc dX9_letter_65 rfl rfl ?_
              refine j_lload dX9_letter_68 rfl ?_
              refine j_bipush dX9_letter_70 ?_
              obtain ⟨c40, h⟩ := h
              refine j_lshr dX9_letter_72 rv31 c40 ?_
              obtain ⟨v41, ev41⟩ : ∃ x : Int, x = v31 / 2 ^ 8 := ⟨_, rfl⟩
              have h := h v41 ev41
              refine jnmL (e := ev41) ?_
              refine j_lstore dX9_letter_73 rfl (Nat.le_of_ble_eq_true rfl) ?_
              refine j_goto 58 dX9_letter_75 rfl ?_
              exact J.wk ((((((((((jWk.nil).no).eq).eq).no).eq).eq).no).no).eq) (ihI32 _ _ (Nat.lt_of_lt_of_le h.2 (Nat.le_of_lt_succ hmuI32)) r39 (ev41 ▸ (jRL_shr rv31)) h.1)
        exact J.wk ((((((((((jWk.nil).no).eq).eq).no).eq).eq).no).no).eq) (lp _ _ _ (Nat.lt_succ_self _) (by decide) r29 h0)
      · have h := h2 q24
        clear h1 h2
        refine j_iconst dX9_letter_37 ?_
        exact j_iret dX9_letter_38 rfl ⟨_, rfl, rfl, rfl, rfl, h, (by decide)⟩
/-- octet(I)I -/
def wpX9_octet (o : Nat) (a1 : Int) (F : jFl) (A : jAr) (Q : Int → Prop) : Prop :=
  jR ((F 3237 o) - 1) ∧
  ∃ P2 : Int → Prop, wpX9_is o a1 0 ((F 3237 o) - 1) F A P2 ∧ ∀ z4, P2 z4 →
  ((z4 = 0) →
    Q (-1)) ∧
  (¬ (z4 = 0) →
    (0 ≤ a1 ∧ a1 < 210) ∧
    Q (A (o + 48) a1))
theorem wX9_octet {G : jG} {l : Launch} {d : Nat} {N : jSh} {o : Nat} {F : jFl} {A : jAr} {a1 : Int} {Q : Int → Prop} (hd : 2 ≤ d) (hM : mShape G N o) (hW : jWf N F A) (ra1 : jR a1) (h : wpX9_octet o a1 F A Q) : jCall G l d mX9_octet [.ref o, vI a1] N F A (jpI N F A Q) := by
  refine jCall.of (ls := [.ref o, vI a1]) (by decide) rfl (Nat.le_of_ble_eq_true rfl) rfl ?_
  unfold wpX9_octet at h
  refine j_iload_n dX9_octet_0 rfl ?_
  refine j_iconst dX9_octet_1 ?_
  refine j_aload_n dX9_octet_2 rfl ?_
  refine j_getI dX9_octet_3 flX9_251_10 hM.1 rfl ?_
  refine j_iconst dX9_octet_6 ?_
  refine j_isub dX9_octet_7 ?_
  obtain ⟨r1, h⟩ := h
  obtain ⟨P2, hp3, h⟩ := h
  refine j_invS (As := [vI a1, vI 0, vI ((F 3237 o) - 1)]) (rest := []) dX9_octet_8 lkX9_324 (wX9_is (d := 1) (Nat.le_of_ble_eq_true rfl) hM hW ra1 (by decide) r1 hp3) rfl rfl (Nat.le_of_ble_eq_true rfl) (Nat.le_trans (Nat.le_of_ble_eq_true rfl) hd) (jkpB fun z4 p5 r6 => ?_)
  have h := h z4 p5
  obtain ⟨h1, h2⟩ := h
  refine j_if_eq 23 dX9_octet_11 rfl (jR_b r6) (fun q7 => ?_) (fun q7 => ?_)
  · have h := h1 q7
    clear h1 h2
    refine j_iconst dX9_octet_23 ?_
    exact j_iret dX9_octet_24 rfl ⟨_, rfl, rfl, rfl, rfl, h, (by decide)⟩
  · have h := h2 q7
    clear h1 h2
    refine j_aload_n dX9_octet_14 rfl ?_
    refine j_getFR dX9_octet_15 flX9_248_10 hM.1 rfl (mf_out hM) ?_
    refine j_iload_n dX9_octet_18 rfl ?_
    obtain ⟨c8, h⟩ := h
    refine j_iald (n := 210) dX9_octet_19 (mt_out hM) (ml_out hM) c8 ?_
    refine j_goto 24 dX9_octet_20 rfl ?_
    exact j_iret dX9_octet_24 rfl ⟨_, rfl, rfl, rfl, rfl, h, (hW.ai (mt_out hM) rfl)⟩
/-- order(I)I -/
def wpX9_order (o : Nat) (a1 : Int) (F : jFl) (A : jAr) (Q : Int → Prop) : Prop :=
  ∃ P1 : Int → Prop, wpX9_isLaw o a1 F A P1 ∧ ∀ z3, P1 z3 →
  ((z3 = 0) →
    Q (-1)) ∧
  (¬ (z3 = 0) →
    (0 ≤ a1 ∧ a1 < 264) ∧
    Q (A (o + 29) a1))
theorem wX9_order {G : jG} {l : Launch} {d : Nat} {N : jSh} {o : Nat} {F : jFl} {A : jAr} {a1 : Int} {Q : Int → Prop} (hd : 2 ≤ d) (hM : mShape G N o) (hW : jWf N F A) (ra1 : jR a1) (h : wpX9_order o a1 F A Q) : jCall G l d mX9_order [.ref o, vI a1] N F A (jpI N F A Q) := by
  refine jCall.of (ls := [.ref o, vI a1]) (by decide) rfl (Nat.le_of_ble_eq_true rfl) rfl ?_
  unfold wpX9_order at h
  refine j_aload_n dX9_order_0 rfl ?_
  refine j_iload_n dX9_order_1 rfl ?_
  obtain ⟨P1, hp2, h⟩ := h
  refine j_invV (As := [vI a1]) (rest := []) dX9_order_2 lkX9_396 hM.1 rfl rfl (wX9_isLaw (d := 1) (Nat.le_of_ble_eq_true rfl) hM hW ra1 hp2) rfl rfl (Nat.le_of_ble_eq_true rfl) (Nat.le_trans (Nat.le_of_ble_eq_true rfl) hd) (jkpB fun z3 p4 r5 => ?_)
  have h := h z3 p4
  obtain ⟨h1, h2⟩ := h
  refine j_if_eq 17 dX9_order_5 rfl (jR_b r5) (fun q6 => ?_) (fun q6 => ?_)
  · have h := h1 q6
    clear h1 h2
    refine j_iconst dX9_order_17 ?_
    exact j_iret dX9_order_18 rfl ⟨_, rfl, rfl, rfl, rfl, h, (by decide)⟩
  · have h := h2 q6
    clear h1 h2
    refine j_aload_n dX9_order_8 rfl ?_
    refine j_getFR dX9_order_9 flX9_145_10 hM.1 rfl (mf_orderOf hM) ?_
    refine j_iload_n dX9_order_12 rfl ?_
    obtain ⟨c7, h⟩ := h
    refine j_iald (n := 264) dX9_order_13 (mt_orderOf hM) (ml_orderOf hM) c7 ?_
    refine j_goto 18 dX9_order_14 rfl ?_
    exact j_iret dX9_order_18 rfl ⟨_, rfl, rfl, rfl, rfl, h, (hW.ai (mt_orderOf hM) rfl)⟩
/-- seed(I)Z -/
def wpX9_seed (o : Nat) (a1 : Int) (F : jFl) (A : jAr) (Q : Int → jFl → jAr → Prop) : Prop :=
  ((0 ≤ a1) →
    ∀ F2 : jFl, F2 = upF F 3160 o a1 →
    Q 1 F2 A) ∧
  (¬ (0 ≤ a1) →
    ∃ P4 : Int → jFl → jAr → Prop, wpX9_refuses o 5 F A P4 ∧ ∀ z6 F7 A8, P4 z6 F7 A8 →
    ∀ z13 : Int, z13 = (if z6 < 0 then 0 else 1) →
    Q z13 F7 A8)
theorem wX9_seed {G : jG} {l : Launch} {d : Nat} {N : jSh} {o : Nat} {F : jFl} {A : jAr} {a1 : Int} {Q : Int → jFl → jAr → Prop} (hd : 2 ≤ d) (hM : mShape G N o) (hW : jWf N F A) (ra1 : jR a1) (h : wpX9_seed o a1 F A Q) : jCall G l d mX9_seed [.ref o, vI a1] N F A (jmB N Q) := by
  refine jCall.of (ls := [.ref o, vI a1]) (by decide) rfl (Nat.le_of_ble_eq_true rfl) rfl ?_
  unfold wpX9_seed at h
  refine j_iload_n dX9_seed_0 rfl ?_
  obtain ⟨h1, h2⟩ := h
  refine j_if_ge 18 dX9_seed_1 rfl ra1 (fun q1 => ?_) (fun q1 => ?_)
  · have h := h1 q1
    clear h1 h2
    refine j_aload_n dX9_seed_18 rfl ?_
    refine j_iload_n dX9_seed_19 rfl ?_
    refine j_i2l dX9_seed_20 ra1 ?_
    refine j_putL dX9_seed_21 flX9_172_10 hM.1 hM.2.1 rfl ?_
    obtain ⟨F2, eF2⟩ : ∃ x : jFl, x = upF F 3160 o a1 := ⟨_, rfl⟩
    have hW3 : jWf N F2 A := eF2 ▸ jWf_F (f := 3160) (a := o) (z := a1) hW (jRk_1 rfl (jR_L ra1))
    refine jnmF (e := eF2) ?_
    have h := h F2 eF2
    refine j_iconst dX9_seed_24 ?_
    exact j_zret dX9_seed_25 rfl (nr_bool (by decide)) ⟨_, rfl, rfl, hW3, h, (by decide)⟩
  · have h := h2 q1
    clear h1 h2
    refine j_aload_n dX9_seed_4 rfl ?_
    refine j_iconst dX9_seed_5 ?_
    obtain ⟨P4, hp5, h⟩ := h
    refine j_invV (As := [vI 5]) (rest := []) dX9_seed_6 lkX9_254 hM.1 rfl rfl (wX9_refuses (d := 1) (Nat.le_of_ble_eq_true rfl) hM hW (by decide) hp5) rfl rfl (Nat.le_of_ble_eq_true rfl) (Nat.le_trans (Nat.le_of_ble_eq_true rfl) hd) (jkmI fun z6 F7 A8 hW9 p10 r11 => ?_)
    have h := h z6 F7 A8 p10
    have jn14 : ∀ z13 : Int, z13 = (if z6 < 0 then 0 else 1) → J G l d mX9_seed 17 [.ref o, vI a1] [vI z13] N F7 A8 (jmB N Q) := by
      intro z13 ez13
      have h := h z13 ez13
      exact j_zret dX9_seed_17 rfl (nr_bool (ez13 ▸ (jB_ite (by decide) (by decide)))) ⟨_, rfl, rfl, hW9, h, (ez13 ▸ (jB_ite (by decide) (by decide)))⟩
    clear h
    refine j_if_lt 16 dX9_seed_9 rfl r11 (fun q12 => ?_) (fun q12 => ?_)
    · refine j_iconst dX9_seed_16 ?_
      exact jn14 _ ((if_pos q12).symm)
    · refine j_iconst dX9_seed_12 ?_
      refine j_goto 17 dX9_seed_13 rfl ?_
      exact jn14 _ ((if_neg q12).symm)
/-- status(I)I -/
def wpX9_status (o : Nat) (a1 : Int) (F : jFl) (A : jAr) (Q : Int → Prop) : Prop :=
  ∃ P1 : Int → Prop, wpX9_is o a1 0 5 F A P1 ∧ ∀ z3, P1 z3 →
  ((z3 = 0) →
    Q (-1)) ∧
  (¬ (z3 = 0) →
    (0 ≤ a1 ∧ a1 < 6) ∧
    Q (A (o + 27) a1))
theorem wX9_status {G : jG} {l : Launch} {d : Nat} {N : jSh} {o : Nat} {F : jFl} {A : jAr} {a1 : Int} {Q : Int → Prop} (hd : 2 ≤ d) (hM : mShape G N o) (hW : jWf N F A) (ra1 : jR a1) (h : wpX9_status o a1 F A Q) : jCall G l d mX9_status [.ref o, vI a1] N F A (jpI N F A Q) := by
  refine jCall.of (ls := [.ref o, vI a1]) (by decide) rfl (Nat.le_of_ble_eq_true rfl) rfl ?_
  unfold wpX9_status at h
  refine j_iload_n dX9_status_0 rfl ?_
  refine j_iconst dX9_status_1 ?_
  refine j_iconst dX9_status_2 ?_
  obtain ⟨P1, hp2, h⟩ := h
  refine j_invS (As := [vI a1, vI 0, vI 5]) (rest := []) dX9_status_3 lkX9_324 (wX9_is (d := 1) (Nat.le_of_ble_eq_true rfl) hM hW ra1 (by decide) (by decide) hp2) rfl rfl (Nat.le_of_ble_eq_true rfl) (Nat.le_trans (Nat.le_of_ble_eq_true rfl) hd) (jkpB fun z3 p4 r5 => ?_)
  have h := h z3 p4
  obtain ⟨h1, h2⟩ := h
  refine j_if_eq 18 dX9_status_6 rfl (jR_b r5) (fun q6 => ?_) (fun q6 => ?_)
  · have h := h1 q6
    clear h1 h2
    refine j_iconst dX9_status_18 ?_
    exact j_iret dX9_status_19 rfl ⟨_, rfl, rfl, rfl, rfl, h, (by decide)⟩
  · have h := h2 q6
    clear h1 h2
    refine j_aload_n dX9_status_9 rfl ?_
    refine j_getFR dX9_status_10 flX9_139_10 hM.1 rfl (mf_refused hM) ?_
    refine j_iload_n dX9_status_13 rfl ?_
    obtain ⟨c7, h⟩ := h
    refine j_iald (n := 6) dX9_status_14 (mt_refused hM) (ml_refused hM) c7 ?_
    refine j_goto 19 dX9_status_15 rfl ?_
    exact j_iret dX9_status_19 rfl ⟨_, rfl, rfl, rfl, rfl, h, (hW.ai (mt_refused hM) rfl)⟩
/-- undo()Z -/
def wpX9_undo (o : Nat) (F : jFl) (A : jAr) (Q : Int → jFl → jAr → Prop) : Prop :=
  ((¬ (F 3156 o) = 0) →
    jR ((F 3156 o) - 1) ∧
    ∀ F3 : jFl, F3 = upF F 3156 o ((F 3156 o) - 1) →
    ∃ P5 : Int → Prop, wpX9_ring o (F3 3156 o) F3 A P5 ∧ ∀ z7, P5 z7 →
    ∃ P10 : jFl → jAr → Prop, wpX9_copies o 0 z7 F3 A P10 ∧ ∀ F13 A14, P10 F13 A14 →
    Q 1 F13 A14) ∧
  (¬ (¬ (F 3156 o) = 0) →
    ∃ P18 : Int → jFl → jAr → Prop, wpX9_refuses o 4 F A P18 ∧ ∀ z20 F21 A22, P18 z20 F21 A22 →
    ∀ z27 : Int, z27 = (if z20 < 0 then 0 else 1) →
    Q z27 F21 A22)
theorem wX9_undo {G : jG} {l : Launch} {d : Nat} {N : jSh} {o : Nat} {F : jFl} {A : jAr} {Q : Int → jFl → jAr → Prop} (hd : 2 ≤ d) (hM : mShape G N o) (hW : jWf N F A) (h : wpX9_undo o F A Q) : jCall G l d mX9_undo [.ref o] N F A (jmB N Q) := by
  refine jCall.of (ls := [.ref o]) (by decide) rfl (Nat.le_of_ble_eq_true rfl) rfl ?_
  unfold wpX9_undo at h
  refine j_aload_n dX9_undo_0 rfl ?_
  refine j_getI dX9_undo_1 flX9_169_10 hM.1 rfl ?_
  obtain ⟨h1, h2⟩ := h
  refine j_if_ne 21 dX9_undo_4 rfl (hW.fi rfl) (fun q1 => ?_) (fun q1 => ?_)
  · have h := h1 q1
    clear h1 h2
    refine j_aload_n dX9_undo_21 rfl ?_
    refine j_dup dX9_undo_22 rfl ?_
    refine j_getI dX9_undo_23 flX9_169_10 hM.1 rfl ?_
    refine j_iconst dX9_undo_26 ?_
    refine j_isub dX9_undo_27 ?_
    obtain ⟨r2, h⟩ := h
    refine j_putI dX9_undo_28 flX9_169_10 hM.1 hM.2.1 rfl ?_
    obtain ⟨F3, eF3⟩ : ∃ x : jFl, x = upF F 3156 o ((F 3156 o) - 1) := ⟨_, rfl⟩
    have hW4 : jWf N F3 A := eF3 ▸ jWf_F (f := 3156) (a := o) (z := (F 3156 o) - 1) hW (jRk_0 rfl r2)
    refine jnmF (e := eF3) ?_
    have h := h F3 eF3
    refine j_aload_n dX9_undo_31 rfl ?_
    refine j_iconst dX9_undo_32 ?_
    refine j_aload_n dX9_undo_33 rfl ?_
    refine j_aload_n dX9_undo_34 rfl ?_
    refine j_getI dX9_undo_35 flX9_169_10 hM.1 rfl ?_
    obtain ⟨P5, hp6, h⟩ := h
    refine j_invV (As := [vI (F3 3156 o)]) (rest := [vI 0, .ref o]) dX9_undo_38 lkX9_403 hM.1 rfl rfl (wX9_ring (d := 1) (Nat.le_of_ble_eq_true rfl) hM hW4 (hW4.fi rfl) hp6) rfl rfl (Nat.le_of_ble_eq_true rfl) (Nat.le_trans (Nat.le_of_ble_eq_true rfl) hd) (jkpI fun z7 p8 r9 => ?_)
    have h := h z7 p8
    obtain ⟨P10, hp11, h⟩ := h
    refine j_invV (As := [vI 0, vI z7]) (rest := []) dX9_undo_41 lkX9_406 hM.1 rfl rfl (wX9_copies (d := 1) (Nat.le_of_ble_eq_true rfl) hM hW4 (by decide) r9 hp11) rfl rfl (Nat.le_of_ble_eq_true rfl) (Nat.le_trans (Nat.le_of_ble_eq_true rfl) hd) (jkmV fun F13 A14 hW15 p16 => ?_)
    have h := h F13 A14 p16
    refine j_iconst dX9_undo_44 ?_
    exact j_zret dX9_undo_45 rfl (nr_bool (by decide)) ⟨_, rfl, rfl, hW15, h, (by decide)⟩
  · have h := h2 q1
    clear h1 h2
    refine j_aload_n dX9_undo_7 rfl ?_
    refine j_iconst dX9_undo_8 ?_
    obtain ⟨P18, hp19, h⟩ := h
    refine j_invV (As := [vI 4]) (rest := []) dX9_undo_9 lkX9_254 hM.1 rfl rfl (wX9_refuses (d := 1) (Nat.le_of_ble_eq_true rfl) hM hW (by decide) hp19) rfl rfl (Nat.le_of_ble_eq_true rfl) (Nat.le_trans (Nat.le_of_ble_eq_true rfl) hd) (jkmI fun z20 F21 A22 hW23 p24 r25 => ?_)
    have h := h z20 F21 A22 p24
    have jn28 : ∀ z27 : Int, z27 = (if z20 < 0 then 0 else 1) → J G l d mX9_undo 20 [.ref o] [vI z27] N F21 A22 (jmB N Q) := by
      intro z27 ez27
      have h := h z27 ez27
      exact j_zret dX9_undo_20 rfl (nr_bool (ez27 ▸ (jB_ite (by decide) (by decide)))) ⟨_, rfl, rfl, hW23, h, (ez27 ▸ (jB_ite (by decide) (by decide)))⟩
    clear h
    refine j_if_lt 19 dX9_undo_12 rfl r25 (fun q26 => ?_) (fun q26 => ?_)
    · refine j_iconst dX9_undo_19 ?_
      exact jn28 _ ((if_pos q26).symm)
    · refine j_iconst dX9_undo_15 ?_
      refine j_goto 20 dX9_undo_16 rfl ?_
      exact jn28 _ ((if_neg q26).symm)
/-- word(II)I -/
def wpX9_word (o : Nat) (a1 : Int) (a2 : Int) (F : jFl) (A : jAr) (Q : Int → Prop) : Prop :=
  ∃ P1 : Int → Prop, wpX9_isWordOf o a1 F A P1 ∧ ∀ z3, P1 z3 →
  ((¬ z3 = 0) →
    jR ((24 * (F 3039 o)) + a1) ∧
    ∀ v8 : Int, v8 = (24 * (F 3039 o)) + a1 →
    (a2 = 0 →
      (0 ≤ v8 ∧ v8 < 48) ∧
      Q (A (o + 4) v8)) ∧
    (a2 = 1 →
      (0 ≤ v8 ∧ v8 < 48) ∧
      Q (A (o + 5) v8)) ∧
    (a2 = 2 →
      (0 ≤ v8 ∧ v8 < 48) ∧
      Q (A (o + 6) v8)) ∧
    (a2 = 3 →
      (0 ≤ v8 ∧ v8 < 48) ∧
      Q (A (o + 7) v8)) ∧
    (a2 = 4 →
      (0 ≤ v8 ∧ v8 < 48) ∧
      Q (A (o + 8) v8)) ∧
    (a2 = 5 →
      ∃ (I16 : Int → Int → Prop) (m17 : Int → Int → Nat), I16 0 0 ∧ ∀ (v14 : Int) (v15 : Int), I16 v14 v15 →
        (0 ≤ F 3039 o ∧ F 3039 o < 2) ∧
        (((A (o + 17) (F 3039 o)) ≤ v15) →
          Q v14) ∧
        (¬ ((A (o + 17) (F 3039 o)) ≤ v15) →
          ∃ P20 : Int → Prop, wpX9_stands o 0 v15 F A P20 ∧ ∀ z22, P20 z22 →
          ((z22 = 0) →
            jR (v14 + 0) ∧
            ∀ v27 : Int, v27 = v14 + 0 →
            jR (v15 + 1) ∧
            I16 v27 (v15 + 1) ∧ m17 v27 (v15 + 1) < m17 v14 v15) ∧
          (¬ (z22 = 0) →
            ∃ P29 : Int → Prop, wpX9_hasWord o v15 a1 F A P29 ∧ ∀ z31, P29 z31 →
            ∀ z35 : Int, z35 = (if z31 = 0 then 0 else 1) →
            jR (v14 + z35) ∧
            ∀ v38 : Int, v38 = v14 + z35 →
            jR (v15 + 1) ∧
            I16 v38 (v15 + 1) ∧ m17 v38 (v15 + 1) < m17 v14 v15))) ∧
    (¬ a2 = 0 → ¬ a2 = 1 → ¬ a2 = 2 → ¬ a2 = 3 → ¬ a2 = 4 → ¬ a2 = 5 →
      Q (-1))) ∧
  (¬ (¬ z3 = 0) →
    Q (-1))
theorem wX9_word {G : jG} {l : Launch} {d : Nat} {N : jSh} {o : Nat} {F : jFl} {A : jAr} {a1 a2 : Int} {Q : Int → Prop} (hd : 2 ≤ d) (hM : mShape G N o) (hW : jWf N F A) (ra1 : jR a1) (ra2 : jR a2) (h : wpX9_word o a1 a2 F A Q) : jCall G l d mX9_word [.ref o, vI a1, vI a2] N F A (jpI N F A Q) := by
  refine jCall.of (ls := [.ref o, vI a1, vI a2, jD, jD, jD]) (by decide) rfl (Nat.le_of_ble_eq_true rfl) rfl ?_
  unfold wpX9_word at h
  refine j_aload_n dX9_word_0 rfl ?_
  refine j_iload_n dX9_word_1 rfl ?_
  obtain ⟨P1, hp2, h⟩ := h
  refine j_invV (As := [vI a1]) (rest := []) dX9_word_2 lkX9_409 hM.1 rfl rfl (wX9_isWordOf (d := 1) (Nat.le_of_ble_eq_true rfl) hM hW ra1 hp2) rfl rfl (Nat.le_of_ble_eq_true rfl) (Nat.le_trans (Nat.le_of_ble_eq_true rfl) hd) (jkpB fun z3 p4 r5 => ?_)
  have h := h z3 p4
  obtain ⟨h1, h2⟩ := h
  refine j_if_ne 10 dX9_word_5 rfl (jR_b r5) (fun q6 => ?_) (fun q6 => ?_)
  · have h := h1 q6
    clear h1 h2
    refine j_bipush dX9_word_10 ?_
    refine j_aload_n dX9_word_12 rfl ?_
    refine j_getI dX9_word_13 flX9_51_10 hM.1 rfl ?_
    refine j_imul dX9_word_16 ?_
    refine j_iload_n dX9_word_17 rfl ?_
    refine j_iadd dX9_word_18 ?_
    obtain ⟨r7, h⟩ := h
    obtain ⟨v8, ev8⟩ : ∃ x : Int, x = (24 * (F 3039 o)) + a1 := ⟨_, rfl⟩
    have h := h v8 ev8
    refine jnmI (e := ev8) ?_
    refine j_istore_n dX9_word_19 rfl ?_
    refine j_iload_n dX9_word_20 rfl ?_
    obtain ⟨h1, h⟩ := h
    by_cases q40 : a2 = 0
    · refine j_tableIn (off := 39) 60 dX9_word_21 ra2 (by rw [q40]; decide) (by rw [q40]; decide) (by rw [q40]; rfl) rfl ?_
      have h := h1 q40
      clear h1
      refine j_aload_n dX9_word_60 rfl ?_
      refine j_getFR dX9_word_61 flX9_61_10 hM.1 rfl (mf_beats hM) ?_
      refine j_iload_n dX9_word_64 rfl ?_
      obtain ⟨c9, h⟩ := h
      refine j_iald (n := 48) dX9_word_65 (mt_beats hM) (ml_beats hM) c9 ?_
      exact j_iret dX9_word_66 rfl ⟨_, rfl, rfl, rfl, rfl, h, (hW.ai (mt_beats hM) rfl)⟩
    clear h1
    obtain ⟨h1, h⟩ := h
    by_cases q41 : a2 = 1
    · refine j_tableIn (off := 46) 67 dX9_word_21 ra2 (by rw [q41]; decide) (by rw [q41]; decide) (by rw [q41]; rfl) rfl ?_
      have h := h1 q41
      clear h1
      refine j_aload_n dX9_word_67 rfl ?_
      refine j_getFR dX9_word_68 flX9_64_10 hM.1 rfl (mf_begins hM) ?_
      refine j_iload_n dX9_word_71 rfl ?_
      obtain ⟨c10, h⟩ := h
      refine j_iald (n := 48) dX9_word_72 (mt_begins hM) (ml_begins hM) c10 ?_
      exact j_iret dX9_word_73 rfl ⟨_, rfl, rfl, rfl, rfl, h, (hW.ai (mt_begins hM) rfl)⟩
    clear h1
    obtain ⟨h1, h⟩ := h
    by_cases q42 : a2 = 2
    · refine j_tableIn (off := 53) 74 dX9_word_21 ra2 (by rw [q42]; decide) (by rw [q42]; decide) (by rw [q42]; rfl) rfl ?_
      have h := h1 q42
      clear h1
      refine j_aload_n dX9_word_74 rfl ?_
      refine j_getFR dX9_word_75 flX9_67_10 hM.1 rfl (mf_endsOn hM) ?_
      refine j_iload_n dX9_word_78 rfl ?_
      obtain ⟨c11, h⟩ := h
      refine j_iald (n := 48) dX9_word_79 (mt_endsOn hM) (ml_endsOn hM) c11 ?_
      exact j_iret dX9_word_80 rfl ⟨_, rfl, rfl, rfl, rfl, h, (hW.ai (mt_endsOn hM) rfl)⟩
    clear h1
    obtain ⟨h1, h⟩ := h
    by_cases q43 : a2 = 3
    · refine j_tableIn (off := 60) 81 dX9_word_21 ra2 (by rw [q43]; decide) (by rw [q43]; decide) (by rw [q43]; rfl) rfl ?_
      have h := h1 q43
      clear h1
      refine j_aload_n dX9_word_81 rfl ?_
      refine j_getFR dX9_word_82 flX9_70_10 hM.1 rfl (mf_worth hM) ?_
      refine j_iload_n dX9_word_85 rfl ?_
      obtain ⟨c12, h⟩ := h
      refine j_iald (n := 48) dX9_word_86 (mt_worth hM) (ml_worth hM) c12 ?_
      exact j_iret dX9_word_87 rfl ⟨_, rfl, rfl, rfl, rfl, h, (hW.ai (mt_worth hM) rfl)⟩
    clear h1
    obtain ⟨h1, h⟩ := h
    by_cases q44 : a2 = 4
    · refine j_tableIn (off := 67) 88 dX9_word_21 ra2 (by rw [q44]; decide) (by rw [q44]; decide) (by rw [q44]; rfl) rfl ?_
      have h := h1 q44
      clear h1
      refine j_aload_n dX9_word_88 rfl ?_
      refine j_getFR dX9_word_89 flX9_73_10 hM.1 rfl (mf_never hM) ?_
      refine j_iload_n dX9_word_92 rfl ?_
      obtain ⟨c13, h⟩ := h
      refine j_iald (n := 48) dX9_word_93 (mt_never hM) (ml_never hM) c13 ?_
      exact j_iret dX9_word_94 rfl ⟨_, rfl, rfl, rfl, rfl, h, (hW.ai (mt_never hM) rfl)⟩
    clear h1
    obtain ⟨h1, h⟩ := h
    by_cases q45 : a2 = 5
    · refine j_tableIn (off := 74) 95 dX9_word_21 ra2 (by rw [q45]; decide) (by rw [q45]; decide) (by rw [q45]; rfl) rfl ?_
      have h := h1 q45
      clear h1
      refine j_iconst dX9_word_95 ?_
      refine j_istore dX9_word_96 rfl ?_
      refine j_iconst dX9_word_98 ?_
      refine j_istore dX9_word_99 rfl ?_
      obtain ⟨I16, m17, h0, hs⟩ := h
      have lp : ∀ (n : Nat) (v14 : Int) (v15 : Int), m17 v14 v15 < n → jR v14 → jR v15 → I16 v14 v15 → J G l d mX9_word 101 [.ref o, vI a1, jD, jD, vI v14, vI v15] [] N F A (jpI N F A Q) := by
        intro nI16
        induction nI16 with
        | zero =>
          intro v14 v15 hmu
          exact absurd hmu (Nat.not_lt_zero _)
        | succ nI16 ihI16 =>
          intro v14 v15 hmuI16 rv14 rv15 hI
          have h := hs v14 v15 hI
          refine j_iload dX9_word_101 rfl ?_
          refine j_aload_n dX9_word_103 rfl ?_
          refine j_getFR dX9_word_104 flX9_100_10 hM.1 rfl (mf_laws hM) ?_
          refine j_aload_n dX9_word_107 rfl ?_
          refine j_getI dX9_word_108 flX9_51_10 hM.1 rfl ?_
          obtain ⟨c18, h⟩ := h
          refine j_iald (n := 2) dX9_word_111 (mt_laws hM) (ml_laws hM) c18 ?_
          obtain ⟨h1, h2⟩ := h
          refine j_icmp_ge 151 dX9_word_112 rfl rv15 (hW.ai (mt_laws hM) rfl) (fun q19 => ?_) (fun q19 => ?_)
          · have h := h1 q19
            clear h1 h2
            refine j_iload dX9_word_151 rfl ?_
            exact j_iret dX9_word_153 rfl ⟨_, rfl, rfl, rfl, rfl, h, rv14⟩
          · have h := h2 q19
            clear h1 h2
            refine j_iload dX9_word_115 rfl ?_
            refine j_aload_n dX9_word_117 rfl ?_
            refine j_iconst dX9_word_118 ?_
            refine j_iload dX9_word_119 rfl ?_
            obtain ⟨P20, hp21, h⟩ := h
            refine j_invV (As := [vI 0, vI v15]) (rest := [vI v14]) dX9_word_121 lkX9_399 hM.1 rfl rfl (wX9_stands (d := 1) (Nat.le_of_ble_eq_true rfl) hM hW (by decide) rv15 hp21) rfl rfl (Nat.le_of_ble_eq_true rfl) (Nat.le_trans (Nat.le_of_ble_eq_true rfl) hd) (jkpB fun z22 p23 r24 => ?_)
            have h := h z22 p23
            obtain ⟨h1, h2⟩ := h
            refine j_if_eq 141 dX9_word_124 rfl (jR_b r24) (fun q25 => ?_) (fun q25 => ?_)
            · have h := h1 q25
              clear h1 h2
              refine j_iconst dX9_word_141 ?_
              refine j_iadd dX9_word_142 ?_
              obtain ⟨r26, h⟩ := h
              obtain ⟨v27, ev27⟩ : ∃ x : Int, x = v14 + 0 := ⟨_, rfl⟩
              have h := h v27 ev27
              refine jnmI (e := ev27) ?_
              refine j_istore dX9_word_143 rfl ?_
              obtain ⟨r28, h⟩ := h
              refine j_iinc dX9_word_145 rfl rfl ?_
              refine j_goto 101 dX9_word_148 rfl ?_
              exact J.wk (((((((jWk.nil).eq).eq).no).no).eq).eq) (ihI16 _ _ (Nat.lt_of_lt_of_le h.2 (Nat.le_of_lt_succ hmuI16)) (ev27 ▸ r26) r28 h.1)
            · have h := h2 q25
              clear h1 h2
              refine j_aload_n dX9_word_127 rfl ?_
              refine j_iload dX9_word_128 rfl ?_
              refine j_iload_n dX9_word_130 rfl ?_
              obtain ⟨P29, hp30, h⟩ := h
              refine j_invV (As := [vI v15, vI a1]) (rest := [vI v14]) dX9_word_131 lkX9_482 hM.1 rfl rfl (wX9_hasWord (d := 1) (Nat.le_of_ble_eq_true rfl) hM hW rv15 ra1 hp30) rfl rfl (Nat.le_of_ble_eq_true rfl) (Nat.le_trans (Nat.le_of_ble_eq_true rfl) hd) (jkpB fun z31 p32 r33 => ?_)
              have h := h z31 p32
              have jn36 : ∀ z35 : Int, z35 = (if z31 = 0 then 0 else 1) → J G l d mX9_word 142 [.ref o, vI a1, jD, jD, vI v14, vI v15] [vI z35, vI v14] N F A (jpI N F A Q) := by
                intro z35 ez35
                have h := h z35 ez35
                refine j_iadd dX9_word_142 ?_
                obtain ⟨r37, h⟩ := h
                obtain ⟨v38, ev38⟩ : ∃ x : Int, x = v14 + z35 := ⟨_, rfl⟩
                have h := h v38 ev38
                refine jnmI (e := ev38) ?_
                refine j_istore dX9_word_143 rfl ?_
                obtain ⟨r39, h⟩ := h
                refine j_iinc dX9_word_145 rfl rfl ?_
                refine j_goto 101 dX9_word_148 rfl ?_
                exact J.wk (((((((jWk.nil).eq).eq).no).no).eq).eq) (ihI16 _ _ (Nat.lt_of_lt_of_le h.2 (Nat.le_of_lt_succ hmuI16)) (ev38 ▸ r37) r39 h.1)
              clear h
              refine j_if_eq 141 dX9_word_134 rfl (jR_b r33) (fun q34 => ?_) (fun q34 => ?_)
              · refine j_iconst dX9_word_141 ?_
                exact jn36 _ ((if_pos q34).symm)
              · refine j_iconst dX9_word_137 ?_
                refine j_goto 142 dX9_word_138 rfl ?_
                exact jn36 _ ((if_neg q34).symm)
      exact J.wk (((((((jWk.nil).eq).eq).no).no).eq).eq) (lp _ _ _ (Nat.lt_succ_self _) (by decide) (by decide) h0)
    clear h1
    have h := h q40 q41 q42 q43 q44 q45
    refine j_tableOut 154 dX9_word_21 ra2 (by omega) rfl ?_
    refine j_iconst dX9_word_154 ?_
    exact j_iret dX9_word_155 rfl ⟨_, rfl, rfl, rfl, rfl, h, (by decide)⟩
  · have h := h2 q6
    clear h1 h2
    refine j_iconst dX9_word_8 ?_
    exact j_iret dX9_word_9 rfl ⟨_, rfl, rfl, rfl, rfl, h, (by decide)⟩
