set_option maxRecDepth 100000
set_option linter.unusedVariables false
/-! walks of ChildSaysModel: printed by gen/walk.py -/
/-- statement()V -/
def wpX9_statement (o : Nat) (F : jFl) (A : jAr) (Q : jFl → jAr → Prop) : Prop :=
  ∃ P1 : jFl → jAr → Prop, wpX9_lex o F A P1 ∧ ∀ F4 A5, P1 F4 A5 →
  (((F4 3024 o) ≤ 0) →
    ∃ P10 : Int → Prop, wpX9_isWord o 2003792484 F4 A5 P10 ∧ ∀ z12, P10 z12 →
    ((z12 = 0) →
      ∃ P16 : Int → Prop, wpX9_isWord o 126943972648308 F4 A5 P16 ∧ ∀ z18, P16 z18 →
      ((z18 = 0) →
        ∃ P22 : Int → Prop, wpX9_isWord o 426953501796 F4 A5 P22 ∧ ∀ z24, P22 z24 →
        ((z24 = 0) →
          ∃ P28 : Int → Prop, wpX9_isWord o 7102839 F4 A5 P28 ∧ ∀ z30, P28 z30 →
          ((z30 = 0) →
            ∃ P34 : jFl → jAr → Prop, wpX9_sets o F4 A5 P34 ∧ ∀ F37 A38, P34 F37 A38 →
            Q F37 A38) ∧
          (¬ (z30 = 0) →
            ∃ P42 : jFl → jAr → Prop, wpX9_lawing o F4 A5 P42 ∧ ∀ F45 A46, P42 F45 A46 →
            Q F45 A46)) ∧
        (¬ (z24 = 0) →
          ∃ P50 : jFl → jAr → Prop, wpX9_childing o F4 A5 P50 ∧ ∀ F53 A54, P50 F53 A54 →
          Q F53 A54)) ∧
      (¬ (z18 = 0) →
        ∃ P58 : jFl → jAr → Prop, wpX9_streeting o F4 A5 P58 ∧ ∀ F61 A62, P58 F61 A62 →
        Q F61 A62)) ∧
    (¬ (z12 = 0) →
      ∃ P66 : jFl → jAr → Prop, wpX9_wording o F4 A5 P66 ∧ ∀ F69 A70, P66 F69 A70 →
      Q F69 A70)) ∧
  (¬ ((F4 3024 o) ≤ 0) →
    Q F4 A5)
theorem wX9_statement {G : jG} {l : Launch} {d : Nat} {N : jSh} {o : Nat} {F : jFl} {A : jAr} {Q : jFl → jAr → Prop} (hd : 8 ≤ d) (hM : mShape G N o) (hW : jWf N F A) (h : wpX9_statement o F A Q) : jCall G l d mX9_statement [.ref o] N F A (jmV N Q) := by
  refine jCall.of (ls := [.ref o]) (by decide) rfl (Nat.le_of_ble_eq_true rfl) rfl ?_
  unfold wpX9_statement at h
  refine j_aload_n dX9_statement_0 rfl ?_
  obtain ⟨P1, hp2, h⟩ := h
  refine j_invV (As := []) (rest := []) dX9_statement_1 lkX9_273 hM.1 rfl rfl (wX9_lex (d := 2) (Nat.le_of_ble_eq_true rfl) hM hW  hp2) rfl rfl (Nat.le_of_ble_eq_true rfl) (Nat.le_trans (Nat.le_of_ble_eq_true rfl) hd) (jkmV fun F4 A5 hW6 p7 => ?_)
  have h := h F4 A5 p7
  refine j_aload_n dX9_statement_4 rfl ?_
  refine j_getI dX9_statement_5 flX9_36_10 hM.1 rfl ?_
  obtain ⟨h1, h2⟩ := h
  refine j_if_le 12 dX9_statement_8 rfl (hW6.fi rfl) (fun q9 => ?_) (fun q9 => ?_)
  · have h := h1 q9
    clear h1 h2
    refine j_aload_n dX9_statement_12 rfl ?_
    refine j_ldc2 (n := 2003792484) dX9_statement_13 q2217 ?_
    obtain ⟨P10, hp11, h⟩ := h
    refine j_invV (As := [vL 2003792484]) (rest := []) dX9_statement_16 lkX9_328 hM.1 rfl rfl (wX9_isWord (d := 1) (Nat.le_of_ble_eq_true rfl) hM hW6 (by decide) hp11) rfl rfl (Nat.le_of_ble_eq_true rfl) (Nat.le_trans (Nat.le_of_ble_eq_true rfl) hd) (jkpB fun z12 p13 r14 => ?_)
    have h := h z12 p13
    obtain ⟨h1, h2⟩ := h
    refine j_if_eq 29 dX9_statement_19 rfl (jR_b r14) (fun q15 => ?_) (fun q15 => ?_)
    · have h := h1 q15
      clear h1 h2
      refine j_aload_n dX9_statement_29 rfl ?_
      refine j_ldc2 (n := 126943972648308) dX9_statement_30 q2242 ?_
      obtain ⟨P16, hp17, h⟩ := h
      refine j_invV (As := [vL 126943972648308]) (rest := []) dX9_statement_33 lkX9_328 hM.1 rfl rfl (wX9_isWord (d := 1) (Nat.le_of_ble_eq_true rfl) hM hW6 (by decide) hp17) rfl rfl (Nat.le_of_ble_eq_true rfl) (Nat.le_trans (Nat.le_of_ble_eq_true rfl) hd) (jkpB fun z18 p19 r20 => ?_)
      have h := h z18 p19
      obtain ⟨h1, h2⟩ := h
      refine j_if_eq 46 dX9_statement_36 rfl (jR_b r20) (fun q21 => ?_) (fun q21 => ?_)
      · have h := h1 q21
        clear h1 h2
        refine j_aload_n dX9_statement_46 rfl ?_
        refine j_ldc2 (n := 426953501796) dX9_statement_47 q2244 ?_
        obtain ⟨P22, hp23, h⟩ := h
        refine j_invV (As := [vL 426953501796]) (rest := []) dX9_statement_50 lkX9_328 hM.1 rfl rfl (wX9_isWord (d := 1) (Nat.le_of_ble_eq_true rfl) hM hW6 (by decide) hp23) rfl rfl (Nat.le_of_ble_eq_true rfl) (Nat.le_trans (Nat.le_of_ble_eq_true rfl) hd) (jkpB fun z24 p25 r26 => ?_)
        have h := h z24 p25
        obtain ⟨h1, h2⟩ := h
        refine j_if_eq 63 dX9_statement_53 rfl (jR_b r26) (fun q27 => ?_) (fun q27 => ?_)
        · have h := h1 q27
          clear h1 h2
          refine j_aload_n dX9_statement_63 rfl ?_
          refine j_ldc2 (n := 7102839) dX9_statement_64 q2247 ?_
          obtain ⟨P28, hp29, h⟩ := h
          refine j_invV (As := [vL 7102839]) (rest := []) dX9_statement_67 lkX9_328 hM.1 rfl rfl (wX9_isWord (d := 1) (Nat.le_of_ble_eq_true rfl) hM hW6 (by decide) hp29) rfl rfl (Nat.le_of_ble_eq_true rfl) (Nat.le_trans (Nat.le_of_ble_eq_true rfl) hd) (jkpB fun z30 p31 r32 => ?_)
          have h := h z30 p31
          obtain ⟨h1, h2⟩ := h
          refine j_if_eq 80 dX9_statement_70 rfl (jR_b r32) (fun q33 => ?_) (fun q33 => ?_)
          · have h := h1 q33
            clear h1 h2
            refine j_aload_n dX9_statement_80 rfl ?_
            obtain ⟨P34, hp35, h⟩ := h
            refine j_invV (As := []) (rest := []) dX9_statement_81 lkX9_379 hM.1 rfl rfl (wX9_sets (d := 4) (Nat.le_of_ble_eq_true rfl) hM hW6  hp35) rfl rfl (Nat.le_of_ble_eq_true rfl) (Nat.le_trans (Nat.le_of_ble_eq_true rfl) hd) (jkmV fun F37 A38 hW39 p40 => ?_)
            have h := h F37 A38 p40
            exact j_vret dX9_statement_84 rfl ⟨rfl, rfl, hW39, h⟩
          · have h := h2 q33
            clear h1 h2
            refine j_aload_n dX9_statement_73 rfl ?_
            obtain ⟨P42, hp43, h⟩ := h
            refine j_invV (As := []) (rest := []) dX9_statement_74 lkX9_376 hM.1 rfl rfl (wX9_lawing (d := 7) (Nat.le_of_ble_eq_true rfl) hM hW6  hp43) rfl rfl (Nat.le_of_ble_eq_true rfl) (Nat.le_trans (Nat.le_of_ble_eq_true rfl) hd) (jkmV fun F45 A46 hW47 p48 => ?_)
            have h := h F45 A46 p48
            refine j_goto 84 dX9_statement_77 rfl ?_
            exact j_vret dX9_statement_84 rfl ⟨rfl, rfl, hW47, h⟩
        · have h := h2 q27
          clear h1 h2
          refine j_aload_n dX9_statement_56 rfl ?_
          obtain ⟨P50, hp51, h⟩ := h
          refine j_invV (As := []) (rest := []) dX9_statement_57 lkX9_373 hM.1 rfl rfl (wX9_childing (d := 5) (Nat.le_of_ble_eq_true rfl) hM hW6  hp51) rfl rfl (Nat.le_of_ble_eq_true rfl) (Nat.le_trans (Nat.le_of_ble_eq_true rfl) hd) (jkmV fun F53 A54 hW55 p56 => ?_)
          have h := h F53 A54 p56
          refine j_goto 84 dX9_statement_60 rfl ?_
          exact j_vret dX9_statement_84 rfl ⟨rfl, rfl, hW55, h⟩
      · have h := h2 q21
        clear h1 h2
        refine j_aload_n dX9_statement_39 rfl ?_
        obtain ⟨P58, hp59, h⟩ := h
        refine j_invV (As := []) (rest := []) dX9_statement_40 lkX9_370 hM.1 rfl rfl (wX9_streeting (d := 5) (Nat.le_of_ble_eq_true rfl) hM hW6  hp59) rfl rfl (Nat.le_of_ble_eq_true rfl) (Nat.le_trans (Nat.le_of_ble_eq_true rfl) hd) (jkmV fun F61 A62 hW63 p64 => ?_)
        have h := h F61 A62 p64
        refine j_goto 84 dX9_statement_43 rfl ?_
        exact j_vret dX9_statement_84 rfl ⟨rfl, rfl, hW63, h⟩
    · have h := h2 q15
      clear h1 h2
      refine j_aload_n dX9_statement_22 rfl ?_
      obtain ⟨P66, hp67, h⟩ := h
      refine j_invV (As := []) (rest := []) dX9_statement_23 lkX9_367 hM.1 rfl rfl (wX9_wording (d := 4) (Nat.le_of_ble_eq_true rfl) hM hW6  hp67) rfl rfl (Nat.le_of_ble_eq_true rfl) (Nat.le_trans (Nat.le_of_ble_eq_true rfl) hd) (jkmV fun F69 A70 hW71 p72 => ?_)
      have h := h F69 A70 p72
      refine j_goto 84 dX9_statement_26 rfl ?_
      exact j_vret dX9_statement_84 rfl ⟨rfl, rfl, hW71, h⟩
  · have h := h2 q9
    clear h1 h2
    exact j_vret dX9_statement_11 rfl ⟨rfl, rfl, hW6, h⟩
/-- town()I -/
def wpX9_town (o : Nat) (F : jFl) (A : jAr) (Q : Int → jFl → jAr → Prop) : Prop :=
  jR (1 - (F 3039 o)) ∧
  ∀ F2 : jFl, F2 = upF F 3114 o (1 - (F 3039 o)) →
  (0 ≤ F2 3114 o ∧ F2 3114 o < 2) ∧
  ∀ A5 : jAr, A5 = upA A (o + 2) (F2 3114 o) 0 →
  (0 ≤ F2 3114 o ∧ F2 3114 o < 2) ∧
  ∀ A8 : jAr, A8 = upA A5 (o + 9) (F2 3114 o) 0 →
  (0 ≤ F2 3114 o ∧ F2 3114 o < 2) ∧
  ∀ A11 : jAr, A11 = upA A8 (o + 12) (F2 3114 o) 0 →
  (0 ≤ F2 3114 o ∧ F2 3114 o < 2) ∧
  ∀ A14 : jAr, A14 = upA A11 (o + 17) (F2 3114 o) 0 →
  (0 ≤ F2 3114 o ∧ F2 3114 o < 2) ∧
  ∀ A17 : jAr, A17 = upA A14 (o + 23) (F2 3114 o) 12 →
  (0 ≤ F2 3114 o ∧ F2 3114 o < 2) ∧
  ∀ A20 : jAr, A20 = upA A17 (o + 24) (F2 3114 o) 2 →
  (0 ≤ F2 3114 o ∧ F2 3114 o < 2) ∧
  ∀ A23 : jAr, A23 = upA A20 (o + 25) (F2 3114 o) 0 →
  ∃ P25 : jFl → jAr → Prop, wpX9_takesTape o F2 A23 P25 ∧ ∀ F28 A29, P25 F28 A29 →
  ∃ (I37 : Int → jFl → jAr → Prop) (m38 : Int → jFl → jAr → Nat), I37 0 F28 A29 ∧ ∀ (v33 : Int) (F34 : jFl) (A35 : jAr), I37 v33 F34 A35 →
    ∃ K40 : Prop, (
      K40 →
      ∀ F43 : jFl, F43 = upF F34 3030 o (F34 3024 o) →
      ∀ F45 : jFl, F45 = upF F43 3033 o (F43 3027 o) →
      (((F45 3024 o) ≤ 0) →
        ∀ F48 : jFl, F48 = upF F45 3039 o (F45 3114 o) →
        ∃ P50 : jFl → jAr → Prop, wpX9_begin o F48 A35 P50 ∧ ∀ F53 A54, P50 F53 A54 →
        Q v33 F53 A54) ∧
      (¬ ((F45 3024 o) ≤ 0) →
        ∃ P58 : Int → jFl → jAr → Prop, wpX9_refuses o 1 F45 A35 P58 ∧ ∀ z60 F61 A62, P58 z60 F61 A62 →
        Q z60 F61 A62)) ∧
    ((¬ (F34 3024 o) = 0) →
      K40 ) ∧
    (¬ (¬ (F34 3024 o) = 0) →
      (((F34 3009 o) = 0) →
        K40 ) ∧
      (¬ ((F34 3009 o) = 0) →
        ∃ P67 : jFl → jAr → Prop, wpX9_statement o F34 A35 P67 ∧ ∀ F70 A71, P67 F70 A71 →
        jR (v33 + 1) ∧
        ∃ P76 : jFl → jAr → Prop, wpX9_finishes o (v33 + 1) F70 A71 P76 ∧ ∀ F79 A80, P76 F79 A80 →
        I37 (v33 + 1) F79 A80 ∧ m38 (v33 + 1) F79 A80 < m38 v33 F34 A35))
theorem wX9_town {G : jG} {l : Launch} {d : Nat} {N : jSh} {o : Nat} {F : jFl} {A : jAr} {Q : Int → jFl → jAr → Prop} (hd : 9 ≤ d) (hM : mShape G N o) (hW : jWf N F A) (h : wpX9_town o F A Q) : jCall G l d mX9_town [.ref o] N F A (jmI N Q) := by
  refine jCall.of (ls := [.ref o, jD]) (by decide) rfl (Nat.le_of_ble_eq_true rfl) rfl ?_
  unfold wpX9_town at h
  refine j_aload_n dX9_town_0 rfl ?_
  refine j_iconst dX9_town_1 ?_
  refine j_aload_n dX9_town_2 rfl ?_
  refine j_getI dX9_town_3 flX9_51_10 hM.1 rfl ?_
  refine j_isub dX9_town_6 ?_
  obtain ⟨r1, h⟩ := h
  refine j_putI dX9_town_7 flX9_127_10 hM.1 hM.2.1 rfl ?_
  obtain ⟨F2, eF2⟩ : ∃ x : jFl, x = upF F 3114 o (1 - (F 3039 o)) := ⟨_, rfl⟩
  have hW3 : jWf N F2 A := eF2 ▸ jWf_F (f := 3114) (a := o) (z := 1 - (F 3039 o)) hW (jRk_0 rfl r1)
  refine jnmF (e := eF2) ?_
  have h := h F2 eF2
  refine j_aload_n dX9_town_10 rfl ?_
  refine j_getFR dX9_town_11 flX9_54_10 hM.1 rfl (mf_words hM) ?_
  refine j_aload_n dX9_town_14 rfl ?_
  refine j_getI dX9_town_15 flX9_127_10 hM.1 rfl ?_
  refine j_iconst dX9_town_18 ?_
  obtain ⟨c4, h⟩ := h
  refine j_iast (n := 2) dX9_town_19 (mt_words hM) (Nat.le_trans hM.2.1 (Nat.le_add_right _ _)) (ml_words hM) c4 ?_
  obtain ⟨A5, eA5⟩ : ∃ x : jAr, x = upA A (o + 2) (F2 3114 o) 0 := ⟨_, rfl⟩
  have hW6 : jWf N F2 A5 := eA5 ▸ jWf_A (i := F2 3114 o) (z := 0) hW3 (mt_words hM) (jRk_0 rfl (by decide))
  refine jnmA (e := eA5) ?_
  have h := h A5 eA5
  refine j_aload_n dX9_town_20 rfl ?_
  refine j_getFR dX9_town_21 flX9_76_10 hM.1 rfl (mf_streets hM) ?_
  refine j_aload_n dX9_town_24 rfl ?_
  refine j_getI dX9_town_25 flX9_127_10 hM.1 rfl ?_
  refine j_iconst dX9_town_28 ?_
  obtain ⟨c7, h⟩ := h
  refine j_iast (n := 2) dX9_town_29 (mt_streets hM) (Nat.le_trans hM.2.1 (Nat.le_add_right _ _)) (ml_streets hM) c7 ?_
  obtain ⟨A8, eA8⟩ : ∃ x : jAr, x = upA A5 (o + 9) (F2 3114 o) 0 := ⟨_, rfl⟩
  have hW9 : jWf N F2 A8 := eA8 ▸ jWf_A (i := F2 3114 o) (z := 0) hW6 (mt_streets hM) (jRk_0 rfl (by decide))
  refine jnmA (e := eA8) ?_
  have h := h A8 eA8
  refine j_aload_n dX9_town_30 rfl ?_
  refine j_getFR dX9_town_31 flX9_85_10 hM.1 rfl (mf_children hM) ?_
  refine j_aload_n dX9_town_34 rfl ?_
  refine j_getI dX9_town_35 flX9_127_10 hM.1 rfl ?_
  refine j_iconst dX9_town_38 ?_
  obtain ⟨c10, h⟩ := h
  refine j_iast (n := 2) dX9_town_39 (mt_children hM) (Nat.le_trans hM.2.1 (Nat.le_add_right _ _)) (ml_children hM) c10 ?_
  obtain ⟨A11, eA11⟩ : ∃ x : jAr, x = upA A8 (o + 12) (F2 3114 o) 0 := ⟨_, rfl⟩
  have hW12 : jWf N F2 A11 := eA11 ▸ jWf_A (i := F2 3114 o) (z := 0) hW9 (mt_children hM) (jRk_0 rfl (by decide))
  refine jnmA (e := eA11) ?_
  have h := h A11 eA11
  refine j_aload_n dX9_town_40 rfl ?_
  refine j_getFR dX9_town_41 flX9_100_10 hM.1 rfl (mf_laws hM) ?_
  refine j_aload_n dX9_town_44 rfl ?_
  refine j_getI dX9_town_45 flX9_127_10 hM.1 rfl ?_
  refine j_iconst dX9_town_48 ?_
  obtain ⟨c13, h⟩ := h
  refine j_iast (n := 2) dX9_town_49 (mt_laws hM) (Nat.le_trans hM.2.1 (Nat.le_add_right _ _)) (ml_laws hM) c13 ?_
  obtain ⟨A14, eA14⟩ : ∃ x : jAr, x = upA A11 (o + 17) (F2 3114 o) 0 := ⟨_, rfl⟩
  have hW15 : jWf N F2 A14 := eA14 ▸ jWf_A (i := F2 3114 o) (z := 0) hW12 (mt_laws hM) (jRk_0 rfl (by decide))
  refine jnmA (e := eA14) ?_
  have h := h A14 eA14
  refine j_aload_n dX9_town_50 rfl ?_
  refine j_getFR dX9_town_51 flX9_118_10 hM.1 rfl (mf_head hM) ?_
  refine j_aload_n dX9_town_54 rfl ?_
  refine j_getI dX9_town_55 flX9_127_10 hM.1 rfl ?_
  refine j_bipush dX9_town_58 ?_
  obtain ⟨c16, h⟩ := h
  refine j_iast (n := 2) dX9_town_60 (mt_head hM) (Nat.le_trans hM.2.1 (Nat.le_add_right _ _)) (ml_head hM) c16 ?_
  obtain ⟨A17, eA17⟩ : ∃ x : jAr, x = upA A14 (o + 23) (F2 3114 o) 12 := ⟨_, rfl⟩
  have hW18 : jWf N F2 A17 := eA17 ▸ jWf_A (i := F2 3114 o) (z := 12) hW15 (mt_head hM) (jRk_0 rfl (by decide))
  refine jnmA (e := eA17) ?_
  have h := h A17 eA17
  refine j_aload_n dX9_town_61 rfl ?_
  refine j_getFR dX9_town_62 flX9_121_10 hM.1 rfl (mf_mend hM) ?_
  refine j_aload_n dX9_town_65 rfl ?_
  refine j_getI dX9_town_66 flX9_127_10 hM.1 rfl ?_
  refine j_iconst dX9_town_69 ?_
  obtain ⟨c19, h⟩ := h
  refine j_iast (n := 2) dX9_town_70 (mt_mend hM) (Nat.le_trans hM.2.1 (Nat.le_add_right _ _)) (ml_mend hM) c19 ?_
  obtain ⟨A20, eA20⟩ : ∃ x : jAr, x = upA A17 (o + 24) (F2 3114 o) 2 := ⟨_, rfl⟩
  have hW21 : jWf N F2 A20 := eA20 ▸ jWf_A (i := F2 3114 o) (z := 2) hW18 (mt_mend hM) (jRk_0 rfl (by decide))
  refine jnmA (e := eA20) ?_
  have h := h A20 eA20
  refine j_aload_n dX9_town_71 rfl ?_
  refine j_getFR dX9_town_72 flX9_124_10 hM.1 rfl (mf_tune hM) ?_
  refine j_aload_n dX9_town_75 rfl ?_
  refine j_getI dX9_town_76 flX9_127_10 hM.1 rfl ?_
  refine j_iconst dX9_town_79 ?_
  obtain ⟨c22, h⟩ := h
  refine j_iast (n := 2) dX9_town_80 (mt_tune hM) (Nat.le_trans hM.2.1 (Nat.le_add_right _ _)) (ml_tune hM) c22 ?_
  obtain ⟨A23, eA23⟩ : ∃ x : jAr, x = upA A20 (o + 25) (F2 3114 o) 0 := ⟨_, rfl⟩
  have hW24 : jWf N F2 A23 := eA23 ▸ jWf_A (i := F2 3114 o) (z := 0) hW21 (mt_tune hM) (jRk_0 rfl (by decide))
  refine jnmA (e := eA23) ?_
  have h := h A23 eA23
  refine j_aload_n dX9_town_81 rfl ?_
  obtain ⟨P25, hp26, h⟩ := h
  refine j_invV (As := []) (rest := []) dX9_town_82 lkX9_384 hM.1 rfl rfl (wX9_takesTape (d := 3) (Nat.le_of_ble_eq_true rfl) hM hW24  hp26) rfl rfl (Nat.le_of_ble_eq_true rfl) (Nat.le_trans (Nat.le_of_ble_eq_true rfl) hd) (jkmV fun F28 A29 hW30 p31 => ?_)
  have h := h F28 A29 p31
  refine j_iconst dX9_town_85 ?_
  refine j_istore_n dX9_town_86 rfl ?_
  obtain ⟨I37, m38, h0, hs⟩ := h
  have lp : ∀ (n : Nat) (v33 : Int) (F34 : jFl) (A35 : jAr), m38 v33 F34 A35 < n → jWf N F34 A35 → jR v33 → I37 v33 F34 A35 → J G l d mX9_town 87 [.ref o, vI v33] [] N F34 A35 (jmI N Q) := by
    intro nI37
    induction nI37 with
    | zero =>
      intro v33 F34 A35 hmu
      exact absurd hmu (Nat.not_lt_zero _)
    | succ nI37 ihI37 =>
      intro v33 F34 A35 hmuI37 hW36 rv33 hI
      have h := hs v33 F34 A35 hI
      refine j_aload_n dX9_town_87 rfl ?_
      refine j_getI dX9_town_88 flX9_36_10 hM.1 rfl ?_
      obtain ⟨K40, hK42, h⟩ := h
      have jn41 : K40  → J G l d mX9_town 116 [.ref o, vI v33] [] N F34 A35 (jmI N Q) := by
        intro   h
        have h := hK42  h
        refine j_aload_n dX9_town_116 rfl ?_
        refine j_aload_n dX9_town_117 rfl ?_
        refine j_getI dX9_town_118 flX9_36_10 hM.1 rfl ?_
        refine j_putI dX9_town_121 flX9_42_10 hM.1 hM.2.1 rfl ?_
        obtain ⟨F43, eF43⟩ : ∃ x : jFl, x = upF F34 3030 o (F34 3024 o) := ⟨_, rfl⟩
        have hW44 : jWf N F43 A35 := eF43 ▸ jWf_F (f := 3030) (a := o) (z := F34 3024 o) hW36 (jRk_0 rfl (hW36.fi rfl))
        refine jnmF (e := eF43) ?_
        have h := h F43 eF43
        refine j_aload_n dX9_town_124 rfl ?_
        refine j_aload_n dX9_town_125 rfl ?_
        refine j_getI dX9_town_126 flX9_39_10 hM.1 rfl ?_
        refine j_putI dX9_town_129 flX9_45_10 hM.1 hM.2.1 rfl ?_
        obtain ⟨F45, eF45⟩ : ∃ x : jFl, x = upF F43 3033 o (F43 3027 o) := ⟨_, rfl⟩
        have hW46 : jWf N F45 A35 := eF45 ▸ jWf_F (f := 3033) (a := o) (z := F43 3027 o) hW44 (jRk_0 rfl (hW44.fi rfl))
        refine jnmF (e := eF45) ?_
        have h := h F45 eF45
        refine j_aload_n dX9_town_132 rfl ?_
        refine j_getI dX9_town_133 flX9_36_10 hM.1 rfl ?_
        obtain ⟨h1, h2⟩ := h
        refine j_if_le 145 dX9_town_136 rfl (hW46.fi rfl) (fun q47 => ?_) (fun q47 => ?_)
        · have h := h1 q47
          clear h1 h2
          refine j_aload_n dX9_town_145 rfl ?_
          refine j_aload_n dX9_town_146 rfl ?_
          refine j_getI dX9_town_147 flX9_127_10 hM.1 rfl ?_
          refine j_putI dX9_town_150 flX9_51_10 hM.1 hM.2.1 rfl ?_
          obtain ⟨F48, eF48⟩ : ∃ x : jFl, x = upF F45 3039 o (F45 3114 o) := ⟨_, rfl⟩
          have hW49 : jWf N F48 A35 := eF48 ▸ jWf_F (f := 3039) (a := o) (z := F45 3114 o) hW46 (jRk_0 rfl (hW46.fi rfl))
          refine jnmF (e := eF48) ?_
          have h := h F48 eF48
          refine j_aload_n dX9_town_153 rfl ?_
          obtain ⟨P50, hp51, h⟩ := h
          refine j_invV (As := []) (rest := []) dX9_town_154 lkX9_393 hM.1 rfl rfl (wX9_begin (d := 1) (Nat.le_of_ble_eq_true rfl) hM hW49  hp51) rfl rfl (Nat.le_of_ble_eq_true rfl) (Nat.le_trans (Nat.le_of_ble_eq_true rfl) hd) (jkmV fun F53 A54 hW55 p56 => ?_)
          have h := h F53 A54 p56
          refine j_iload_n dX9_town_157 rfl ?_
          exact j_iret dX9_town_158 rfl ⟨_, rfl, rfl, hW55, h, rv33⟩
        · have h := h2 q47
          clear h1 h2
          refine j_aload_n dX9_town_139 rfl ?_
          refine j_iconst dX9_town_140 ?_
          obtain ⟨P58, hp59, h⟩ := h
          refine j_invV (As := [vI 1]) (rest := []) dX9_town_141 lkX9_254 hM.1 rfl rfl (wX9_refuses (d := 1) (Nat.le_of_ble_eq_true rfl) hM hW46 (by decide) hp59) rfl rfl (Nat.le_of_ble_eq_true rfl) (Nat.le_trans (Nat.le_of_ble_eq_true rfl) hd) (jkmI fun z60 F61 A62 hW63 p64 r65 => ?_)
          have h := h z60 F61 A62 p64
          exact j_iret dX9_town_144 rfl ⟨_, rfl, rfl, hW63, h, r65⟩
      obtain ⟨h1, h2⟩ := h
      refine j_if_ne 116 dX9_town_91 rfl (hW36.fi rfl) (fun q39 => ?_) (fun q39 => ?_)
      · have h := h1 q39
        clear h1 h2
        exact J.wk (((jWk.nil).eq).eq) (jn41   h)
      · have h := h2 q39
        clear h1 h2
        refine j_aload_n dX9_town_94 rfl ?_
        refine j_getI dX9_town_95 flX9_20_10 hM.1 rfl ?_
        obtain ⟨h1, h2⟩ := h
        refine j_if_eq 116 dX9_town_98 rfl (hW36.fi rfl) (fun q66 => ?_) (fun q66 => ?_)
        · have h := h1 q66
          clear h1 h2
          exact J.wk (((jWk.nil).eq).eq) (jn41   h)
        · have h := h2 q66
          clear h1 h2
          refine j_aload_n dX9_town_101 rfl ?_
          obtain ⟨P67, hp68, h⟩ := h
          refine j_invV (As := []) (rest := []) dX9_town_102 lkX9_387 hM.1 rfl rfl (wX9_statement (d := 8) (Nat.le_of_ble_eq_true rfl) hM hW36  hp68) rfl rfl (Nat.le_of_ble_eq_true rfl) (Nat.le_trans (Nat.le_of_ble_eq_true rfl) hd) (jkmV fun F70 A71 hW72 p73 => ?_)
          have h := h F70 A71 p73
          obtain ⟨r75, h⟩ := h
          refine j_iinc dX9_town_105 rfl rfl ?_
          refine j_aload_n dX9_town_108 rfl ?_
          refine j_iload_n dX9_town_109 rfl ?_
          obtain ⟨P76, hp77, h⟩ := h
          refine j_invV (As := [vI (v33 + 1)]) (rest := []) dX9_town_110 lkX9_390 hM.1 rfl rfl (wX9_finishes (d := 4) (Nat.le_of_ble_eq_true rfl) hM hW72 r75 hp77) rfl rfl (Nat.le_of_ble_eq_true rfl) (Nat.le_trans (Nat.le_of_ble_eq_true rfl) hd) (jkmV fun F79 A80 hW81 p82 => ?_)
          have h := h F79 A80 p82
          refine j_goto 87 dX9_town_113 rfl ?_
          exact J.wk (((jWk.nil).eq).eq) (ihI37 _ _ _ (Nat.lt_of_lt_of_le h.2 (Nat.le_of_lt_succ hmuI37)) hW81 r75 h.1)
  exact J.wk (((jWk.nil).eq).eq) (lp _ _ _ _ (Nat.lt_succ_self _) hW30 (by decide) h0)
