set_option maxRecDepth 100000
set_option linter.unusedVariables false
/-! walks of ChildSaysModel: printed by gen/walk.py -/
/-- isAsNow(II)Z -/
def wpX9_isAsNow (o : Nat) (a1 : Int) (a2 : Int) (F : jFl) (A : jAr) (Q : Int → Prop) : Prop :=
  jR ((12 * a1) + a2) ∧
  ∀ v2 : Int, v2 = (12 * a1) + a2 →
  (0 ≤ v2 ∧ v2 < 264) ∧
  (0 ≤ a2 ∧ a2 < 264) ∧
  ((¬ (A (o + 30) v2) = (A (o + 30) a2)) →
    Q 0) ∧
  (¬ (¬ (A (o + 30) v2) = (A (o + 30) a2)) →
    (0 ≤ v2 ∧ v2 < 264) ∧
    (0 ≤ a2 ∧ a2 < 264) ∧
    (((A (o + 31) v2) = (A (o + 31) a2)) →
      ∃ (I10 : Int → Prop) (m11 : Int → Nat), I10 0 ∧ ∀ (v9 : Int), I10 v9 →
        (0 ≤ a2 ∧ a2 < 264) ∧
        (0 ≤ a2 ∧ a2 < 264) ∧
        jR ((A (o + 30) a2) + (A (o + 31) a2)) ∧
        ((((A (o + 30) a2) + (A (o + 31) a2)) ≤ v9) →
          Q 1) ∧
        (¬ (((A (o + 30) a2) + (A (o + 31) a2)) ≤ v9) →
          (0 ≤ (12 * v2) + v9 ∧ (12 * v2) + v9 < 3168) ∧
          (0 ≤ (12 * a2) + v9 ∧ (12 * a2) + v9 < 3168) ∧
          (((A (o + 33) ((12 * v2) + v9)) = (A (o + 33) ((12 * a2) + v9))) →
            jR (v9 + 1) ∧
            I10 (v9 + 1) ∧ m11 (v9 + 1) < m11 v9) ∧
          (¬ ((A (o + 33) ((12 * v2) + v9)) = (A (o + 33) ((12 * a2) + v9))) →
            Q 0))) ∧
    (¬ ((A (o + 31) v2) = (A (o + 31) a2)) →
      Q 0))
theorem wX9_isAsNow {G : jG} {l : Launch} {d : Nat} {N : jSh} {o : Nat} {F : jFl} {A : jAr} {a1 a2 : Int} {Q : Int → Prop} (hd : 1 ≤ d) (hM : mShape G N o) (hW : jWf N F A) (ra1 : jR a1) (ra2 : jR a2) (h : wpX9_isAsNow o a1 a2 F A Q) : jCall G l d mX9_isAsNow [.ref o, vI a1, vI a2] N F A (jpB N F A Q) := by
  refine jCall.of (ls := [.ref o, vI a1, vI a2, jD, jD]) (by decide) rfl (Nat.le_of_ble_eq_true rfl) rfl ?_
  unfold wpX9_isAsNow at h
  refine j_bipush dX9_isAsNow_0 ?_
  refine j_iload_n dX9_isAsNow_2 rfl ?_
  refine j_imul dX9_isAsNow_3 ?_
  refine j_iload_n dX9_isAsNow_4 rfl ?_
  refine j_iadd dX9_isAsNow_5 ?_
  obtain ⟨r1, h⟩ := h
  obtain ⟨v2, ev2⟩ : ∃ x : Int, x = (12 * a1) + a2 := ⟨_, rfl⟩
  have h := h v2 ev2
  refine jnmI (e := ev2) ?_
  refine j_istore_n dX9_isAsNow_6 rfl ?_
  refine j_aload_n dX9_isAsNow_7 rfl ?_
  refine j_getFR dX9_isAsNow_8 flX9_148_10 hM.1 rfl (mf_main hM) ?_
  refine j_iload_n dX9_isAsNow_11 rfl ?_
  obtain ⟨c3, h⟩ := h
  refine j_iald (n := 264) dX9_isAsNow_12 (mt_main hM) (ml_main hM) c3 ?_
  refine j_aload_n dX9_isAsNow_13 rfl ?_
  refine j_getFR dX9_isAsNow_14 flX9_148_10 hM.1 rfl (mf_main hM) ?_
  refine j_iload_n dX9_isAsNow_17 rfl ?_
  obtain ⟨c4, h⟩ := h
  refine j_iald (n := 264) dX9_isAsNow_18 (mt_main hM) (ml_main hM) c4 ?_
  obtain ⟨h1, h2⟩ := h
  refine j_icmp_ne 37 dX9_isAsNow_19 rfl (hW.ai (mt_main hM) rfl) (hW.ai (mt_main hM) rfl) (fun q5 => ?_) (fun q5 => ?_)
  · have h := h1 q5
    clear h1 h2
    refine j_iconst dX9_isAsNow_37 ?_
    exact j_zret dX9_isAsNow_38 rfl (nr_bool (by decide)) ⟨_, rfl, rfl, rfl, rfl, h, (by decide)⟩
  · have h := h2 q5
    clear h1 h2
    refine j_aload_n dX9_isAsNow_22 rfl ?_
    refine j_getFR dX9_isAsNow_23 flX9_151_10 hM.1 rfl (mf_except hM) ?_
    refine j_iload_n dX9_isAsNow_26 rfl ?_
    obtain ⟨c6, h⟩ := h
    refine j_iald (n := 264) dX9_isAsNow_27 (mt_except hM) (ml_except hM) c6 ?_
    refine j_aload_n dX9_isAsNow_28 rfl ?_
    refine j_getFR dX9_isAsNow_29 flX9_151_10 hM.1 rfl (mf_except hM) ?_
    refine j_iload_n dX9_isAsNow_32 rfl ?_
    obtain ⟨c7, h⟩ := h
    refine j_iald (n := 264) dX9_isAsNow_33 (mt_except hM) (ml_except hM) c7 ?_
    obtain ⟨h1, h2⟩ := h
    refine j_icmp_eq 39 dX9_isAsNow_34 rfl (hW.ai (mt_except hM) rfl) (hW.ai (mt_except hM) rfl) (fun q8 => ?_) (fun q8 => ?_)
    · have h := h1 q8
      clear h1 h2
      refine j_iconst dX9_isAsNow_39 ?_
      refine j_istore dX9_isAsNow_40 rfl ?_
      obtain ⟨I10, m11, h0, hs⟩ := h
      have lp : ∀ (n : Nat) (v9 : Int), m11 v9 < n → jR v9 → I10 v9 → J G l d mX9_isAsNow 42 [.ref o, jD, vI a2, vI v2, vI v9] [] N F A (jpB N F A Q) := by
        intro nI10
        induction nI10 with
        | zero =>
          intro v9 hmu
          exact absurd hmu (Nat.not_lt_zero _)
        | succ nI10 ihI10 =>
          intro v9 hmuI10 rv9 hI
          have h := hs v9 hI
          refine j_iload dX9_isAsNow_42 rfl ?_
          refine j_aload_n dX9_isAsNow_44 rfl ?_
          refine j_getFR dX9_isAsNow_45 flX9_148_10 hM.1 rfl (mf_main hM) ?_
          refine j_iload_n dX9_isAsNow_48 rfl ?_
          obtain ⟨c12, h⟩ := h
          refine j_iald (n := 264) dX9_isAsNow_49 (mt_main hM) (ml_main hM) c12 ?_
          refine j_aload_n dX9_isAsNow_50 rfl ?_
          refine j_getFR dX9_isAsNow_51 flX9_151_10 hM.1 rfl (mf_except hM) ?_
          refine j_iload_n dX9_isAsNow_54 rfl ?_
          obtain ⟨c13, h⟩ := h
          refine j_iald (n := 264) dX9_isAsNow_55 (mt_except hM) (ml_except hM) c13 ?_
          refine j_iadd dX9_isAsNow_56 ?_
          obtain ⟨r14, h⟩ := h
          obtain ⟨h1, h2⟩ := h
          refine j_icmp_ge 95 dX9_isAsNow_57 rfl rv9 r14 (fun q15 => ?_) (fun q15 => ?_)
          · have h := h1 q15
            clear h1 h2
            refine j_iconst dX9_isAsNow_95 ?_
            exact j_zret dX9_isAsNow_96 rfl (nr_bool (by decide)) ⟨_, rfl, rfl, rfl, rfl, h, (by decide)⟩
          · have h := h2 q15
            clear h1 h2
            refine j_aload_n dX9_isAsNow_60 rfl ?_
            refine j_getFR dX9_isAsNow_61 flX9_157_10 hM.1 rfl (mf_rows hM) ?_
            refine j_bipush dX9_isAsNow_64 ?_
            refine j_iload_n dX9_isAsNow_66 rfl ?_
            refine j_imul dX9_isAsNow_67 ?_
            refine j_iload dX9_isAsNow_68 rfl ?_
            refine j_iadd dX9_isAsNow_70 ?_
            obtain ⟨c16, h⟩ := h
            refine j_iald (n := 3168) dX9_isAsNow_71 (mt_rows hM) (ml_rows hM) c16 ?_
            refine j_aload_n dX9_isAsNow_72 rfl ?_
            refine j_getFR dX9_isAsNow_73 flX9_157_10 hM.1 rfl (mf_rows hM) ?_
            refine j_bipush dX9_isAsNow_76 ?_
            refine j_iload_n dX9_isAsNow_78 rfl ?_
            refine j_imul dX9_isAsNow_79 ?_
            refine j_iload dX9_isAsNow_80 rfl ?_
            refine j_iadd dX9_isAsNow_82 ?_
            obtain ⟨c17, h⟩ := h
            refine j_iald (n := 3168) dX9_isAsNow_83 (mt_rows hM) (ml_rows hM) c17 ?_
            obtain ⟨h1, h2⟩ := h
            refine j_icmp_eq 89 dX9_isAsNow_84 rfl (hW.ai (mt_rows hM) rfl) (hW.ai (mt_rows hM) rfl) (fun q18 => ?_) (fun q18 => ?_)
            · have h := h1 q18
              clear h1 h2
              obtain ⟨r19, h⟩ := h
              refine j_iinc dX9_isAsNow_89 rfl rfl ?_
              refine j_goto 42 dX9_isAsNow_92 rfl ?_
              exact J.wk ((((((jWk.nil).eq).eq).eq).no).eq) (ihI10 _ (Nat.lt_of_lt_of_le h.2 (Nat.le_of_lt_succ hmuI10)) r19 h.1)
            · have h := h2 q18
              clear h1 h2
              refine j_iconst dX9_isAsNow_87 ?_
              exact j_zret dX9_isAsNow_88 rfl (nr_bool (by decide)) ⟨_, rfl, rfl, rfl, rfl, h, (by decide)⟩
      exact J.wk ((((((jWk.nil).eq).eq).eq).no).eq) (lp _ _ (Nat.lt_succ_self _) (by decide) h0)
    · have h := h2 q8
      clear h1 h2
      refine j_iconst dX9_isAsNow_37 ?_
      exact j_zret dX9_isAsNow_38 rfl (nr_bool (by decide)) ⟨_, rfl, rfl, rfl, rfl, h, (by decide)⟩
/-- tellsBack()V -/
def wpX9_tellsBack (o : Nat) (F : jFl) (A : jAr) (Q : jFl → jAr → Prop) : Prop :=
  ∀ F1 : jFl, F1 = upF F 3165 o (F 3177 o) →
  ∀ F3 : jFl, F3 = upF F1 3168 o (F1 3180 o) →
  ∃ (I8 : Int → jAr → Prop) (m9 : Int → jAr → Nat), I8 0 A ∧ ∀ (v5 : Int) (A6 : jAr), I8 v5 A6 →
    jR ((F3 3177 o) + (F3 3180 o)) ∧
    ((((F3 3177 o) + (F3 3180 o)) ≤ v5) →
      Q F3 A6) ∧
    (¬ (((F3 3177 o) + (F3 3180 o)) ≤ v5) →
      (0 ≤ v5 ∧ v5 < 12) ∧
      (0 ≤ v5 ∧ v5 < 12) ∧
      ∀ A14 : jAr, A14 = upA A6 (o + 36) v5 (A6 (o + 37) v5) →
      jR (v5 + 1) ∧
      I8 (v5 + 1) A14 ∧ m9 (v5 + 1) A14 < m9 v5 A6)
theorem wX9_tellsBack {G : jG} {l : Launch} {d : Nat} {N : jSh} {o : Nat} {F : jFl} {A : jAr} {Q : jFl → jAr → Prop} (hd : 1 ≤ d) (hM : mShape G N o) (hW : jWf N F A) (h : wpX9_tellsBack o F A Q) : jCall G l d mX9_tellsBack [.ref o] N F A (jmV N Q) := by
  refine jCall.of (ls := [.ref o, jD]) (by decide) rfl (Nat.le_of_ble_eq_true rfl) rfl ?_
  unfold wpX9_tellsBack at h
  refine j_aload_n dX9_tellsBack_0 rfl ?_
  refine j_aload_n dX9_tellsBack_1 rfl ?_
  refine j_getI dX9_tellsBack_2 flX9_191_10 hM.1 rfl ?_
  refine j_putI dX9_tellsBack_5 flX9_178_10 hM.1 hM.2.1 rfl ?_
  obtain ⟨F1, eF1⟩ : ∃ x : jFl, x = upF F 3165 o (F 3177 o) := ⟨_, rfl⟩
  have hW2 : jWf N F1 A := eF1 ▸ jWf_F (f := 3165) (a := o) (z := F 3177 o) hW (jRk_0 rfl (hW.fi rfl))
  refine jnmF (e := eF1) ?_
  have h := h F1 eF1
  refine j_aload_n dX9_tellsBack_8 rfl ?_
  refine j_aload_n dX9_tellsBack_9 rfl ?_
  refine j_getI dX9_tellsBack_10 flX9_194_10 hM.1 rfl ?_
  refine j_putI dX9_tellsBack_13 flX9_181_10 hM.1 hM.2.1 rfl ?_
  obtain ⟨F3, eF3⟩ : ∃ x : jFl, x = upF F1 3168 o (F1 3180 o) := ⟨_, rfl⟩
  have hW4 : jWf N F3 A := eF3 ▸ jWf_F (f := 3168) (a := o) (z := F1 3180 o) hW2 (jRk_0 rfl (hW2.fi rfl))
  refine jnmF (e := eF3) ?_
  have h := h F3 eF3
  refine j_iconst dX9_tellsBack_16 ?_
  refine j_istore_n dX9_tellsBack_17 rfl ?_
  obtain ⟨I8, m9, h0, hs⟩ := h
  have lp : ∀ (n : Nat) (v5 : Int) (A6 : jAr), m9 v5 A6 < n → jWf N F3 A6 → jR v5 → I8 v5 A6 → J G l d mX9_tellsBack 18 [.ref o, vI v5] [] N F3 A6 (jmV N Q) := by
    intro nI8
    induction nI8 with
    | zero =>
      intro v5 A6 hmu
      exact absurd hmu (Nat.not_lt_zero _)
    | succ nI8 ihI8 =>
      intro v5 A6 hmuI8 hW7 rv5 hI
      have h := hs v5 A6 hI
      refine j_iload_n dX9_tellsBack_18 rfl ?_
      refine j_aload_n dX9_tellsBack_19 rfl ?_
      refine j_getI dX9_tellsBack_20 flX9_191_10 hM.1 rfl ?_
      refine j_aload_n dX9_tellsBack_23 rfl ?_
      refine j_getI dX9_tellsBack_24 flX9_194_10 hM.1 rfl ?_
      refine j_iadd dX9_tellsBack_27 ?_
      obtain ⟨r10, h⟩ := h
      obtain ⟨h1, h2⟩ := h
      refine j_icmp_ge 49 dX9_tellsBack_28 rfl rv5 r10 (fun q11 => ?_) (fun q11 => ?_)
      · have h := h1 q11
        clear h1 h2
        exact j_vret dX9_tellsBack_49 rfl ⟨rfl, rfl, hW7, h⟩
      · have h := h2 q11
        clear h1 h2
        refine j_aload_n dX9_tellsBack_31 rfl ?_
        refine j_getFR dX9_tellsBack_32 flX9_175_10 hM.1 rfl (mf_told hM) ?_
        refine j_iload_n dX9_tellsBack_35 rfl ?_
        refine j_aload_n dX9_tellsBack_36 rfl ?_
        refine j_getFR dX9_tellsBack_37 flX9_188_10 hM.1 rfl (mf_said hM) ?_
        refine j_iload_n dX9_tellsBack_40 rfl ?_
        obtain ⟨c12, h⟩ := h
        refine j_iald (n := 12) dX9_tellsBack_41 (mt_said hM) (ml_said hM) c12 ?_
        obtain ⟨c13, h⟩ := h
        refine j_iast (n := 12) dX9_tellsBack_42 (mt_told hM) (Nat.le_trans hM.2.1 (Nat.le_add_right _ _)) (ml_told hM) c13 ?_
        obtain ⟨A14, eA14⟩ : ∃ x : jAr, x = upA A6 (o + 36) v5 (A6 (o + 37) v5) := ⟨_, rfl⟩
        have hW15 : jWf N F3 A14 := eA14 ▸ jWf_A (i := v5) (z := A6 (o + 37) v5) hW7 (mt_told hM) (jRk_0 rfl (hW7.ai (mt_said hM) rfl))
        refine jnmA (e := eA14) ?_
        have h := h A14 eA14
        obtain ⟨r16, h⟩ := h
        refine j_iinc dX9_tellsBack_43 rfl rfl ?_
        refine j_goto 18 dX9_tellsBack_46 rfl ?_
        exact J.wk (((jWk.nil).eq).eq) (ihI8 _ _ (Nat.lt_of_lt_of_le h.2 (Nat.le_of_lt_succ hmuI8)) hW15 r16 h.1)
  exact J.wk (((jWk.nil).eq).eq) (lp _ _ _ (Nat.lt_succ_self _) hW4 (by decide) h0)
/-- isApart(II)Z -/
def wpX9_isApart (o : Nat) (a1 : Int) (a2 : Int) (F : jFl) (A : jAr) (Q : Int → Prop) : Prop :=
  ∃ P1 : Int → Prop, wpX9_stands o 0 a1 F A P1 ∧ ∀ z3, P1 z3 →
  ((z3 = 0) →
    Q 0) ∧
  (¬ (z3 = 0) →
    ∃ P7 : Int → Prop, wpX9_stands o 0 a2 F A P7 ∧ ∀ z9, P7 z9 →
    ((z9 = 0) →
      Q 0) ∧
    (¬ (z9 = 0) →
      (0 ≤ a1 ∧ a1 < 264) ∧
      (((A (o + 30) a1) ≤ 1) →
        Q 0) ∧
      (¬ ((A (o + 30) a1) ≤ 1) →
        (0 ≤ a2 ∧ a2 < 264) ∧
        (((A (o + 30) a2) ≤ 1) →
          Q 0) ∧
        (¬ ((A (o + 30) a2) ≤ 1) →
          (0 ≤ 12 * a1 ∧ 12 * a1 < 3168) ∧
          (0 ≤ 12 * a2 ∧ 12 * a2 < 3168) ∧
          ((¬ (A (o + 33) (12 * a1)) = (A (o + 33) (12 * a2))) →
            Q 0) ∧
          (¬ (¬ (A (o + 33) (12 * a1)) = (A (o + 33) (12 * a2))) →
            (0 ≤ (12 * a1) + 1 ∧ (12 * a1) + 1 < 3168) ∧
            (0 ≤ (12 * a2) + 1 ∧ (12 * a2) + 1 < 3168) ∧
            ∀ z23 : Int, z23 = (if ¬ (A (o + 33) ((12 * a1) + 1)) = (A (o + 33) ((12 * a2) + 1)) then 0 else 1) →
            Q z23)))))
theorem wX9_isApart {G : jG} {l : Launch} {d : Nat} {N : jSh} {o : Nat} {F : jFl} {A : jAr} {a1 a2 : Int} {Q : Int → Prop} (hd : 2 ≤ d) (hM : mShape G N o) (hW : jWf N F A) (ra1 : jR a1) (ra2 : jR a2) (h : wpX9_isApart o a1 a2 F A Q) : jCall G l d mX9_isApart [.ref o, vI a1, vI a2] N F A (jpB N F A Q) := by
  refine jCall.of (ls := [.ref o, vI a1, vI a2]) (by decide) rfl (Nat.le_of_ble_eq_true rfl) rfl ?_
  unfold wpX9_isApart at h
  refine j_aload_n dX9_isApart_0 rfl ?_
  refine j_iconst dX9_isApart_1 ?_
  refine j_iload_n dX9_isApart_2 rfl ?_
  obtain ⟨P1, hp2, h⟩ := h
  refine j_invV (As := [vI 0, vI a1]) (rest := []) dX9_isApart_3 lkX9_399 hM.1 rfl rfl (wX9_stands (d := 1) (Nat.le_of_ble_eq_true rfl) hM hW (by decide) ra1 hp2) rfl rfl (Nat.le_of_ble_eq_true rfl) (Nat.le_trans (Nat.le_of_ble_eq_true rfl) hd) (jkpB fun z3 p4 r5 => ?_)
  have h := h z3 p4
  obtain ⟨h1, h2⟩ := h
  refine j_if_eq 88 dX9_isApart_6 rfl (jR_b r5) (fun q6 => ?_) (fun q6 => ?_)
  · have h := h1 q6
    clear h1 h2
    refine j_iconst dX9_isApart_88 ?_
    exact j_zret dX9_isApart_89 rfl (nr_bool (by decide)) ⟨_, rfl, rfl, rfl, rfl, h, (by decide)⟩
  · have h := h2 q6
    clear h1 h2
    refine j_aload_n dX9_isApart_9 rfl ?_
    refine j_iconst dX9_isApart_10 ?_
    refine j_iload_n dX9_isApart_11 rfl ?_
    obtain ⟨P7, hp8, h⟩ := h
    refine j_invV (As := [vI 0, vI a2]) (rest := []) dX9_isApart_12 lkX9_399 hM.1 rfl rfl (wX9_stands (d := 1) (Nat.le_of_ble_eq_true rfl) hM hW (by decide) ra2 hp8) rfl rfl (Nat.le_of_ble_eq_true rfl) (Nat.le_trans (Nat.le_of_ble_eq_true rfl) hd) (jkpB fun z9 p10 r11 => ?_)
    have h := h z9 p10
    obtain ⟨h1, h2⟩ := h
    refine j_if_eq 88 dX9_isApart_15 rfl (jR_b r11) (fun q12 => ?_) (fun q12 => ?_)
    · have h := h1 q12
      clear h1 h2
      refine j_iconst dX9_isApart_88 ?_
      exact j_zret dX9_isApart_89 rfl (nr_bool (by decide)) ⟨_, rfl, rfl, rfl, rfl, h, (by decide)⟩
    · have h := h2 q12
      clear h1 h2
      refine j_aload_n dX9_isApart_18 rfl ?_
      refine j_getFR dX9_isApart_19 flX9_148_10 hM.1 rfl (mf_main hM) ?_
      refine j_iload_n dX9_isApart_22 rfl ?_
      obtain ⟨c13, h⟩ := h
      refine j_iald (n := 264) dX9_isApart_23 (mt_main hM) (ml_main hM) c13 ?_
      refine j_iconst dX9_isApart_24 ?_
      obtain ⟨h1, h2⟩ := h
      refine j_icmp_le 88 dX9_isApart_25 rfl (hW.ai (mt_main hM) rfl) (by decide) (fun q14 => ?_) (fun q14 => ?_)
      · have h := h1 q14
        clear h1 h2
        refine j_iconst dX9_isApart_88 ?_
        exact j_zret dX9_isApart_89 rfl (nr_bool (by decide)) ⟨_, rfl, rfl, rfl, rfl, h, (by decide)⟩
      · have h := h2 q14
        clear h1 h2
        refine j_aload_n dX9_isApart_28 rfl ?_
        refine j_getFR dX9_isApart_29 flX9_148_10 hM.1 rfl (mf_main hM) ?_
        refine j_iload_n dX9_isApart_32 rfl ?_
        obtain ⟨c15, h⟩ := h
        refine j_iald (n := 264) dX9_isApart_33 (mt_main hM) (ml_main hM) c15 ?_
        refine j_iconst dX9_isApart_34 ?_
        obtain ⟨h1, h2⟩ := h
        refine j_icmp_le 88 dX9_isApart_35 rfl (hW.ai (mt_main hM) rfl) (by decide) (fun q16 => ?_) (fun q16 => ?_)
        · have h := h1 q16
          clear h1 h2
          refine j_iconst dX9_isApart_88 ?_
          exact j_zret dX9_isApart_89 rfl (nr_bool (by decide)) ⟨_, rfl, rfl, rfl, rfl, h, (by decide)⟩
        · have h := h2 q16
          clear h1 h2
          refine j_aload_n dX9_isApart_38 rfl ?_
          refine j_getFR dX9_isApart_39 flX9_157_10 hM.1 rfl (mf_rows hM) ?_
          refine j_bipush dX9_isApart_42 ?_
          refine j_iload_n dX9_isApart_44 rfl ?_
          refine j_imul dX9_isApart_45 ?_
          obtain ⟨c17, h⟩ := h
          refine j_iald (n := 3168) dX9_isApart_46 (mt_rows hM) (ml_rows hM) c17 ?_
          refine j_aload_n dX9_isApart_47 rfl ?_
          refine j_getFR dX9_isApart_48 flX9_157_10 hM.1 rfl (mf_rows hM) ?_
          refine j_bipush dX9_isApart_51 ?_
          refine j_iload_n dX9_isApart_53 rfl ?_
          refine j_imul dX9_isApart_54 ?_
          obtain ⟨c18, h⟩ := h
          refine j_iald (n := 3168) dX9_isApart_55 (mt_rows hM) (ml_rows hM) c18 ?_
          obtain ⟨h1, h2⟩ := h
          refine j_icmp_ne 88 dX9_isApart_56 rfl (hW.ai (mt_rows hM) rfl) (hW.ai (mt_rows hM) rfl) (fun q19 => ?_) (fun q19 => ?_)
          · have h := h1 q19
            clear h1 h2
            refine j_iconst dX9_isApart_88 ?_
            exact j_zret dX9_isApart_89 rfl (nr_bool (by decide)) ⟨_, rfl, rfl, rfl, rfl, h, (by decide)⟩
          · have h := h2 q19
            clear h1 h2
            refine j_aload_n dX9_isApart_59 rfl ?_
            refine j_getFR dX9_isApart_60 flX9_157_10 hM.1 rfl (mf_rows hM) ?_
            refine j_bipush dX9_isApart_63 ?_
            refine j_iload_n dX9_isApart_65 rfl ?_
            refine j_imul dX9_isApart_66 ?_
            refine j_iconst dX9_isApart_67 ?_
            refine j_iadd dX9_isApart_68 ?_
            obtain ⟨c20, h⟩ := h
            refine j_iald (n := 3168) dX9_isApart_69 (mt_rows hM) (ml_rows hM) c20 ?_
            refine j_aload_n dX9_isApart_70 rfl ?_
            refine j_getFR dX9_isApart_71 flX9_157_10 hM.1 rfl (mf_rows hM) ?_
            refine j_bipush dX9_isApart_74 ?_
            refine j_iload_n dX9_isApart_76 rfl ?_
            refine j_imul dX9_isApart_77 ?_
            refine j_iconst dX9_isApart_78 ?_
            refine j_iadd dX9_isApart_79 ?_
            obtain ⟨c21, h⟩ := h
            refine j_iald (n := 3168) dX9_isApart_80 (mt_rows hM) (ml_rows hM) c21 ?_
            have jn24 : ∀ z23 : Int, z23 = (if ¬ (A (o + 33) ((12 * a1) + 1)) = (A (o + 33) ((12 * a2) + 1)) then 0 else 1) → J G l d mX9_isApart 89 [.ref o, vI a1, vI a2] [vI z23] N F A (jpB N F A Q) := by
              intro z23 ez23
              have h := h z23 ez23
              exact j_zret dX9_isApart_89 rfl (nr_bool (ez23 ▸ (jB_ite (by decide) (by decide)))) ⟨_, rfl, rfl, rfl, rfl, h, (ez23 ▸ (jB_ite (by decide) (by decide)))⟩
            clear h
            refine j_icmp_ne 88 dX9_isApart_81 rfl (hW.ai (mt_rows hM) rfl) (hW.ai (mt_rows hM) rfl) (fun q22 => ?_) (fun q22 => ?_)
            · refine j_iconst dX9_isApart_88 ?_
              exact jn24 _ ((if_pos q22).symm)
            · refine j_iconst dX9_isApart_84 ?_
              refine j_goto 89 dX9_isApart_85 rfl ?_
              exact jn24 _ ((if_neg q22).symm)
/-- nevers(I)I -/
def wpX9_nevers (o : Nat) (a1 : Int) (F : jFl) (A : jAr) (Q : Int → Prop) : Prop :=
  ∃ (I3 : Int → Int → Prop) (m4 : Int → Int → Nat), I3 0 0 ∧ ∀ (v1 : Int) (v2 : Int), I3 v1 v2 →
    (0 ≤ a1 ∧ a1 < 264) ∧
    (((A (o + 30) a1) ≤ v2) →
      Q v1) ∧
    (¬ ((A (o + 30) a1) ≤ v2) →
      (0 ≤ (12 * a1) + v2 ∧ (12 * a1) + v2 < 3168) ∧
      ∃ P8 : Int → Prop, wpX9_isNever o (A (o + 33) ((12 * a1) + v2)) F A P8 ∧ ∀ z10, P8 z10 →
      ∀ z14 : Int, z14 = (if z10 = 0 then 0 else 1) →
      jR (v1 + z14) ∧
      ∀ v17 : Int, v17 = v1 + z14 →
      jR (v2 + 1) ∧
      I3 v17 (v2 + 1) ∧ m4 v17 (v2 + 1) < m4 v1 v2)
theorem wX9_nevers {G : jG} {l : Launch} {d : Nat} {N : jSh} {o : Nat} {F : jFl} {A : jAr} {a1 : Int} {Q : Int → Prop} (hd : 2 ≤ d) (hM : mShape G N o) (hW : jWf N F A) (ra1 : jR a1) (h : wpX9_nevers o a1 F A Q) : jCall G l d mX9_nevers [.ref o, vI a1] N F A (jpI N F A Q) := by
  refine jCall.of (ls := [.ref o, vI a1, jD, jD]) (by decide) rfl (Nat.le_of_ble_eq_true rfl) rfl ?_
  unfold wpX9_nevers at h
  refine j_iconst dX9_nevers_0 ?_
  refine j_istore_n dX9_nevers_1 rfl ?_
  refine j_iconst dX9_nevers_2 ?_
  refine j_istore_n dX9_nevers_3 rfl ?_
  obtain ⟨I3, m4, h0, hs⟩ := h
  have lp : ∀ (n : Nat) (v1 : Int) (v2 : Int), m4 v1 v2 < n → jR v1 → jR v2 → I3 v1 v2 → J G l d mX9_nevers 4 [.ref o, vI a1, vI v1, vI v2] [] N F A (jpI N F A Q) := by
    intro nI3
    induction nI3 with
    | zero =>
      intro v1 v2 hmu
      exact absurd hmu (Nat.not_lt_zero _)
    | succ nI3 ihI3 =>
      intro v1 v2 hmuI3 rv1 rv2 hI
      have h := hs v1 v2 hI
      refine j_iload_n dX9_nevers_4 rfl ?_
      refine j_aload_n dX9_nevers_5 rfl ?_
      refine j_getFR dX9_nevers_6 flX9_148_10 hM.1 rfl (mf_main hM) ?_
      refine j_iload_n dX9_nevers_9 rfl ?_
      obtain ⟨c5, h⟩ := h
      refine j_iald (n := 264) dX9_nevers_10 (mt_main hM) (ml_main hM) c5 ?_
      obtain ⟨h1, h2⟩ := h
      refine j_icmp_ge 46 dX9_nevers_11 rfl rv2 (hW.ai (mt_main hM) rfl) (fun q6 => ?_) (fun q6 => ?_)
      · have h := h1 q6
        clear h1 h2
        refine j_iload_n dX9_nevers_46 rfl ?_
        exact j_iret dX9_nevers_47 rfl ⟨_, rfl, rfl, rfl, rfl, h, rv1⟩
      · have h := h2 q6
        clear h1 h2
        refine j_iload_n dX9_nevers_14 rfl ?_
        refine j_aload_n dX9_nevers_15 rfl ?_
        refine j_aload_n dX9_nevers_16 rfl ?_
        refine j_getFR dX9_nevers_17 flX9_157_10 hM.1 rfl (mf_rows hM) ?_
        refine j_bipush dX9_nevers_20 ?_
        refine j_iload_n dX9_nevers_22 rfl ?_
        refine j_imul dX9_nevers_23 ?_
        refine j_iload_n dX9_nevers_24 rfl ?_
        refine j_iadd dX9_nevers_25 ?_
        obtain ⟨c7, h⟩ := h
        refine j_iald (n := 3168) dX9_nevers_26 (mt_rows hM) (ml_rows hM) c7 ?_
        obtain ⟨P8, hp9, h⟩ := h
        refine j_invV (As := [vI (A (o + 33) ((12 * a1) + v2))]) (rest := [vI v1]) dX9_nevers_27 lkX9_529 hM.1 rfl rfl (wX9_isNever (d := 1) (Nat.le_of_ble_eq_true rfl) hM hW (hW.ai (mt_rows hM) rfl) hp9) rfl rfl (Nat.le_of_ble_eq_true rfl) (Nat.le_trans (Nat.le_of_ble_eq_true rfl) hd) (jkpB fun z10 p11 r12 => ?_)
        have h := h z10 p11
        have jn15 : ∀ z14 : Int, z14 = (if z10 = 0 then 0 else 1) → J G l d mX9_nevers 38 [.ref o, vI a1, vI v1, vI v2] [vI z14, vI v1] N F A (jpI N F A Q) := by
          intro z14 ez14
          have h := h z14 ez14
          refine j_iadd dX9_nevers_38 ?_
          obtain ⟨r16, h⟩ := h
          obtain ⟨v17, ev17⟩ : ∃ x : Int, x = v1 + z14 := ⟨_, rfl⟩
          have h := h v17 ev17
          refine jnmI (e := ev17) ?_
          refine j_istore_n dX9_nevers_39 rfl ?_
          obtain ⟨r18, h⟩ := h
          refine j_iinc dX9_nevers_40 rfl rfl ?_
          refine j_goto 4 dX9_nevers_43 rfl ?_
          exact J.wk (((((jWk.nil).eq).eq).eq).eq) (ihI3 _ _ (Nat.lt_of_lt_of_le h.2 (Nat.le_of_lt_succ hmuI3)) (ev17 ▸ r16) r18 h.1)
        clear h
        refine j_if_eq 37 dX9_nevers_30 rfl (jR_b r12) (fun q13 => ?_) (fun q13 => ?_)
        · refine j_iconst dX9_nevers_37 ?_
          exact jn15 _ ((if_pos q13).symm)
        · refine j_iconst dX9_nevers_33 ?_
          refine j_goto 38 dX9_nevers_34 rfl ?_
          exact jn15 _ ((if_neg q13).symm)
  exact J.wk (((((jWk.nil).eq).eq).eq).eq) (lp _ _ _ (Nat.lt_succ_self _) (by decide) (by decide) h0)
/-- nextPlain(II)I -/
def wpX9_nextPlain (o : Nat) (a1 : Int) (a2 : Int) (F : jFl) (A : jAr) (Q : Int → Prop) : Prop :=
  ∃ (I2 : Int → Prop) (m3 : Int → Nat), I2 a2 ∧ ∀ (v1 : Int), I2 v1 →
    (0 ≤ a1 ∧ a1 < 264) ∧
    (((A (o + 30) a1) ≤ v1) →
      Q v1) ∧
    (¬ ((A (o + 30) a1) ≤ v1) →
      (0 ≤ (12 * a1) + v1 ∧ (12 * a1) + v1 < 3168) ∧
      ∃ P7 : Int → Prop, wpX9_isNever o (A (o + 33) ((12 * a1) + v1)) F A P7 ∧ ∀ z9, P7 z9 →
      ((z9 = 0) →
        Q v1) ∧
      (¬ (z9 = 0) →
        jR (v1 + 1) ∧
        I2 (v1 + 1) ∧ m3 (v1 + 1) < m3 v1))
theorem wX9_nextPlain {G : jG} {l : Launch} {d : Nat} {N : jSh} {o : Nat} {F : jFl} {A : jAr} {a1 a2 : Int} {Q : Int → Prop} (hd : 2 ≤ d) (hM : mShape G N o) (hW : jWf N F A) (ra1 : jR a1) (ra2 : jR a2) (h : wpX9_nextPlain o a1 a2 F A Q) : jCall G l d mX9_nextPlain [.ref o, vI a1, vI a2] N F A (jpI N F A Q) := by
  refine jCall.of (ls := [.ref o, vI a1, vI a2, jD]) (by decide) rfl (Nat.le_of_ble_eq_true rfl) rfl ?_
  unfold wpX9_nextPlain at h
  refine j_iload_n dX9_nextPlain_0 rfl ?_
  refine j_istore_n dX9_nextPlain_1 rfl ?_
  obtain ⟨I2, m3, h0, hs⟩ := h
  have lp : ∀ (n : Nat) (v1 : Int), m3 v1 < n → jR v1 → I2 v1 → J G l d mX9_nextPlain 2 [.ref o, vI a1, jD, vI v1] [] N F A (jpI N F A Q) := by
    intro nI2
    induction nI2 with
    | zero =>
      intro v1 hmu
      exact absurd hmu (Nat.not_lt_zero _)
    | succ nI2 ihI2 =>
      intro v1 hmuI2 rv1 hI
      have h := hs v1 hI
      refine j_iload_n dX9_nextPlain_2 rfl ?_
      refine j_aload_n dX9_nextPlain_3 rfl ?_
      refine j_getFR dX9_nextPlain_4 flX9_148_10 hM.1 rfl (mf_main hM) ?_
      refine j_iload_n dX9_nextPlain_7 rfl ?_
      obtain ⟨c4, h⟩ := h
      refine j_iald (n := 264) dX9_nextPlain_8 (mt_main hM) (ml_main hM) c4 ?_
      obtain ⟨h1, h2⟩ := h
      refine j_icmp_ge 36 dX9_nextPlain_9 rfl rv1 (hW.ai (mt_main hM) rfl) (fun q5 => ?_) (fun q5 => ?_)
      · have h := h1 q5
        clear h1 h2
        refine j_iload_n dX9_nextPlain_36 rfl ?_
        exact j_iret dX9_nextPlain_37 rfl ⟨_, rfl, rfl, rfl, rfl, h, rv1⟩
      · have h := h2 q5
        clear h1 h2
        refine j_aload_n dX9_nextPlain_12 rfl ?_
        refine j_aload_n dX9_nextPlain_13 rfl ?_
        refine j_getFR dX9_nextPlain_14 flX9_157_10 hM.1 rfl (mf_rows hM) ?_
        refine j_bipush dX9_nextPlain_17 ?_
        refine j_iload_n dX9_nextPlain_19 rfl ?_
        refine j_imul dX9_nextPlain_20 ?_
        refine j_iload_n dX9_nextPlain_21 rfl ?_
        refine j_iadd dX9_nextPlain_22 ?_
        obtain ⟨c6, h⟩ := h
        refine j_iald (n := 3168) dX9_nextPlain_23 (mt_rows hM) (ml_rows hM) c6 ?_
        obtain ⟨P7, hp8, h⟩ := h
        refine j_invV (As := [vI (A (o + 33) ((12 * a1) + v1))]) (rest := []) dX9_nextPlain_24 lkX9_529 hM.1 rfl rfl (wX9_isNever (d := 1) (Nat.le_of_ble_eq_true rfl) hM hW (hW.ai (mt_rows hM) rfl) hp8) rfl rfl (Nat.le_of_ble_eq_true rfl) (Nat.le_trans (Nat.le_of_ble_eq_true rfl) hd) (jkpB fun z9 p10 r11 => ?_)
        have h := h z9 p10
        obtain ⟨h1, h2⟩ := h
        refine j_if_eq 36 dX9_nextPlain_27 rfl (jR_b r11) (fun q12 => ?_) (fun q12 => ?_)
        · have h := h1 q12
          clear h1 h2
          refine j_iload_n dX9_nextPlain_36 rfl ?_
          exact j_iret dX9_nextPlain_37 rfl ⟨_, rfl, rfl, rfl, rfl, h, rv1⟩
        · have h := h2 q12
          clear h1 h2
          obtain ⟨r13, h⟩ := h
          refine j_iinc dX9_nextPlain_30 rfl rfl ?_
          refine j_goto 2 dX9_nextPlain_33 rfl ?_
          exact J.wk (((((jWk.nil).eq).no).eq).eq) (ihI2 _ (Nat.lt_of_lt_of_le h.2 (Nat.le_of_lt_succ hmuI2)) r13 h.1)
  exact J.wk (((((jWk.nil).eq).no).eq).eq) (lp _ _ (Nat.lt_succ_self _) ra2 h0)
