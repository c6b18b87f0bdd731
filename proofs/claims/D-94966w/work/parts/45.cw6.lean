set_option maxRecDepth 100000
set_option linter.unusedVariables false
/-! walks of the component and of JDK methods: printed by gen/walkc.py -/
/-- ChildSays$Town.standing()I -/
def wqX1_standing (o : Nat) (N : jSh) (F : jFl) (A : jAr) (Q : Int → Prop) : Prop :=
  ∃ (I4 : Int → Int → Prop) (m5 : Int → Int → Nat), I4 0 0 ∧ ∀ (v1 : Int) (v2 : Int), I4 v1 v2 →
    ∃ b6 : Nat, jfn N 626 o = (b6 : Int) ∧
    jtg N b6 = 20 ∧
    ∃ (P9 : Int → Prop), wqJ2_size b6 N F A P9 ∧
    ∀ z11, P9 z11 →
    ((z11 ≤ v2) →
      Q v1) ∧
    ((¬ (z11 ≤ v2)) →
      ∃ (P17 : Int → Prop), wqJ2_get b6 v2 N F A P17 ∧
      ∀ z19, P17 z19 →
      jcst N "ChildSays$Law" z19 ∧
      ∃ b25 : Nat, z19 = (b25 : Int) ∧
      jtg N b25 = 17 ∧
      ∃ b28 : Nat, jfn N 5102 b25 = (b28 : Int) ∧
      jtg N b28 = 4 ∧
      ∃ (P31 : Int → Prop), wqX3_isOne b28 N F A P31 ∧
      ∀ z33, P31 z33 →
      ((z33 = 0) →
        jR (v2 + 1) ∧
        I4 v1 (v2 + 1) ∧ m5 v1 (v2 + 1) < m5 v1 v2) ∧
      ((¬ (z33 = 0)) →
        jR (v1 + 1) ∧
        jR (v2 + 1) ∧
        I4 (v1 + 1) (v2 + 1) ∧ m5 (v1 + 1) (v2 + 1) < m5 v1 v2))
theorem vX1_standing {G : jG} {l : Launch} {d : Nat} {N : jSh} {F : jFl} {A : jAr} {o : Nat} {Q : Int → Prop} (hd : 5 ≤ d) (hW : jWg G N F A) (ht : jtg N o = 2) (h : wqX1_standing o N F A Q) : jCall G l d mX1_standing [vR (o : Int)] N F A (jpI N F A Q) := by
  unfold wqX1_standing at h
  refine jCall.of (by decide) rfl (ls := [vR (o : Int), jD, jD]) (by simp only [jent_R, jent_I, jent_L, jent_nil]; exact Nat.le_of_ble_eq_true rfl) (by simp only [jloc, jent_R, jent_I, jent_L, jent_nil]; rfl) ?_
  refine j_iconst dX1_standing_0 ?_
  refine j_istore_n dX1_standing_1 (jokR rfl (Nat.le_of_ble_eq_true rfl)) ?_
  refine j_iconst dX1_standing_2 ?_
  refine j_istore_n dX1_standing_3 rfl ?_
  obtain ⟨I4, m5, h0, hs⟩ := h
  have lp : ∀ (n : Nat) (v1 : Int) (v2 : Int), m5 v1 v2 < n → jR v1 → jR v2 → I4 v1 v2 → J G l d mX1_standing 4 [vR (o : Int), vI v1, vI v2] [] N F A (jpI N F A Q) := by
    intro nI4
    induction nI4 with
    | zero =>
      intro v1 v2 hmu
      exact absurd hmu (Nat.not_lt_zero _)
    | succ nI4 ihI4 =>
      intro v1 v2 hmuI4 rv1 rv2 hI
      have h := hs v1 v2 hI
      refine j_iload_n dX1_standing_4 rfl ?_
      refine r_aload_n dX1_standing_5 rfl ?_
      refine r_gRF dX1_standing_6 flX1_31_2 rfl ht rfl ?_
      obtain ⟨b6, hz7, h⟩ := h
      obtain ⟨t8, h⟩ := h
      obtain ⟨P9, hp10, h⟩ := h
      refine r_invV (ci := 20) (As := []) (rest := [vI v2]) dX1_standing_9 lkX1_44 hz7 t8 rfl rfl (vJ2_size (d := 2) (Nat.le_of_ble_eq_true rfl) hW t8  hp10) rfl rfl (Nat.le_of_ble_eq_true rfl) (Nat.le_trans (Nat.le_of_ble_eq_true rfl) hd) (jkpI fun z11 p14 r15 => ?_)
      have h := h z11 p14
      obtain ⟨h1, h2⟩ := h
      refine j_icmp_ge 44 dX1_standing_12 rfl rv2 r15 (fun q16 => ?_) (fun q16 => ?_)
      · have h := h1 q16
        clear h1 h2
        refine j_iload_n dX1_standing_44 rfl ?_
        exact j_iret dX1_standing_45 rfl ⟨_, rfl, rfl, rfl, rfl, h, rv1⟩
      · have h := h2 q16
        clear h1 h2
        refine r_aload_n dX1_standing_15 rfl ?_
        refine r_gRF dX1_standing_16 flX1_31_2 rfl ht rfl ?_
        refine j_iload_n dX1_standing_19 rfl ?_
        obtain ⟨P17, hp18, h⟩ := h
        refine r_invV (ci := 20) (As := [vI v2]) (rest := []) dX1_standing_20 lkX1_48 hz7 t8 rfl rfl (vJ2_get (d := 4) (Nat.le_of_ble_eq_true rfl) hW t8 rv2 hp18) rfl rfl (Nat.le_of_ble_eq_true rfl) (Nat.le_trans (Nat.le_of_ble_eq_true rfl) hd) (jkpR fun z19 p22 r23 => ?_)
        have h := h z19 p22
        obtain ⟨j24, h⟩ := h
        refine r_chk dX1_standing_23 q1272 j24 ?_
        obtain ⟨b25, hz26, h⟩ := h
        obtain ⟨t27, h⟩ := h
        refine r_gRF dX1_standing_26 flX1_54_17 hz26 t27 rfl ?_
        obtain ⟨b28, hz29, h⟩ := h
        obtain ⟨t30, h⟩ := h
        obtain ⟨P31, hp32, h⟩ := h
        refine r_invV (ci := 4) (As := []) (rest := []) dX1_standing_29 lkX1_58 hz29 t30 rfl rfl (vX3_isOne (d := 2) (Nat.le_of_ble_eq_true rfl) hW t30  hp32) rfl rfl (Nat.le_of_ble_eq_true rfl) (Nat.le_trans (Nat.le_of_ble_eq_true rfl) hd) (jkpB fun z33 p36 r37 => ?_)
        have h := h z33 p36
        obtain ⟨h1, h2⟩ := h
        refine j_if_eq 38 dX1_standing_32 rfl (jR_b r37) (fun q38 => ?_) (fun q38 => ?_)
        · have h := h1 q38
          clear h1 h2
          obtain ⟨r39, h⟩ := h
          refine j_iinc dX1_standing_38 rfl rfl ?_
          refine j_goto 4 dX1_standing_41 rfl ?_
          exact J.wk ((((jWk.nil).eq).eq).eq) (ihI4 _ _ (Nat.lt_of_lt_of_le h.2 (Nat.le_of_lt_succ hmuI4)) rv1 r39 h.1)
        · have h := h2 q38
          clear h1 h2
          obtain ⟨r40, h⟩ := h
          refine j_iinc dX1_standing_35 rfl (jokR rfl (Nat.le_of_ble_eq_true rfl)) ?_
          obtain ⟨r41, h⟩ := h
          refine j_iinc dX1_standing_38 rfl rfl ?_
          refine j_goto 4 dX1_standing_41 rfl ?_
          exact J.wk ((((jWk.nil).eq).eq).eq) (ihI4 _ _ (Nat.lt_of_lt_of_le h.2 (Nat.le_of_lt_succ hmuI4)) r40 r41 h.1)
  exact J.wk ((((jWk.nil).eq).eq).eq) (lp _ _ _ (Nat.lt_succ_self _) (by decide) (by decide) h0)
/-- ChildSays$Saying.of(LChildSays$Child;LChildSays$Law;)LChildSays$Saying; -/
def wqX2_of (o : Nat) (a1 : Int) (a2 : Int) (N : jSh) (F : jFl) (A : jAr) (Q : Int → jFl → jAr → Prop) : Prop :=
  ∃ b1 : Nat, a2 = (b1 : Int) ∧
  jtg N b1 = 17 ∧
  ∃ b4 : Nat, a1 = (b4 : Int) ∧
  jtg N b4 = 16 ∧
  (F 5103 b1 = 0 ∨ F 5103 b1 = 1) ∧
  ∃ (P8 : Int → jFl → jAr → Prop), wqX2_of_2 o a1 (jfn N 5102 b1) (F 5103 b1) (F 4803 b4) N F A P8 ∧
  ∀ z10 F11 A12, P8 z10 F11 A12 →
  Q z10 F11 A12
theorem vX2_of {G : jG} {l : Launch} {d : Nat} {N : jSh} {F : jFl} {A : jAr} {o : Nat} {a1 a2 : Int} {Q : Int → jFl → jAr → Prop} (hd : 5 ≤ d) (hW : jWg G N F A) (ht : jtg N o = 3) (h : wqX2_of o a1 a2 N F A Q) : jCall G l d mX2_of [vR (o : Int), vR a1, vR a2] N F A (cmR G N Q) := by
  unfold wqX2_of at h
  refine jCall.of (by decide) rfl (ls := [vR (o : Int), vR a1, vR a2]) (by simp only [jent_R, jent_I, jent_L, jent_nil]; exact Nat.le_of_ble_eq_true rfl) (by simp only [jloc, jent_R, jent_I, jent_L, jent_nil]; rfl) ?_
  refine r_aload_n dX2_of_0 rfl ?_
  refine r_aload_n dX2_of_1 rfl ?_
  refine r_aload_n dX2_of_2 rfl ?_
  obtain ⟨b1, hz2, h⟩ := h
  obtain ⟨t3, h⟩ := h
  refine r_gRF dX2_of_3 flX2_82_17 hz2 t3 rfl ?_
  refine r_aload_n dX2_of_6 rfl ?_
  refine r_gI dX2_of_7 flX2_85_17 hz2 t3 rfl ?_
  refine r_aload_n dX2_of_10 rfl ?_
  obtain ⟨b4, hz5, h⟩ := h
  obtain ⟨t6, h⟩ := h
  refine r_gI dX2_of_11 flX2_89_16 hz5 t6 rfl ?_
  obtain ⟨b7, h⟩ := h
  obtain ⟨P8, hp9, h⟩ := h
  refine r_invV (ci := 3) (As := [vR a1, vR (jfn N 5102 b1), vI (F 5103 b1), vI (F 4803 b4)]) (rest := []) dX2_of_14 lkX2_92 rfl ht rfl rfl (vX2_of_2 (d := 4) (Nat.le_of_ble_eq_true rfl) hW ht b7 (hW.fi rfl) hp9) rfl rfl (Nat.le_of_ble_eq_true rfl) (Nat.le_trans (Nat.le_of_ble_eq_true rfl) hd) (ckmR fun z10 F11 A12 hW13 p15 r16 => ?_)
  have h := h z10 F11 A12 p15
  exact r_aret dX2_of_17 rfl (Or.inl ⟨_, rfl⟩) ⟨_, rfl, rfl, hW13, h, trivial⟩
/-- ChildSays$Sitting.inOrder()LChildSays$Sitting; -/
def wqX4_inOrder (o : Nat) (N : jSh) (F : jFl) (A : jAr) (Q : Int → jFl → jAr → Prop) : Prop :=
  jfn N 0 o = 1 ∧
  ∀ F3 : jFl, F3 = upF F 1506 o 0 →
  ∃ (I9 : Int → jFl → jAr → Prop) (m10 : Int → jFl → jAr → Nat), I9 0 F3 A ∧ ∀ (v4 : Int) (F5 : jFl) (A6 : jAr), I9 v4 F5 A6 →
    ∃ b11 : Nat, jfn N 1511 o = (b11 : Int) ∧
    jtg N b11 = 1 ∧
    ∃ b14 : Nat, F5 311 b11 = (b14 : Int) ∧
    jtg N b14 = 2 ∧
    ∃ b17 : Nat, jfn N 629 b14 = (b17 : Int) ∧
    jtg N b17 = 20 ∧
    ∃ (P20 : Int → Prop), wqJ2_size b17 N F5 A6 P20 ∧
    ∀ z22, P20 z22 →
    ((z22 ≤ v4) →
      Q (o : Int) F5 A6) ∧
    ((¬ (z22 ≤ v4)) →
      ∃ (P28 : Int → Prop), wqJ2_get b17 v4 N F5 A6 P28 ∧
      ∀ z30, P28 z30 →
      jcst N "ChildSays$Law" z30 ∧
      ∃ b36 : Nat, z30 = (b36 : Int) ∧
      jtg N b36 = 17 ∧
      ∃ b39 : Nat, jfn N 5102 b36 = (b39 : Int) ∧
      jtg N b39 = 4 ∧
      ∃ (P42 : Int → Prop), wqX3_isOne b39 N F5 A6 P42 ∧
      ∀ z44, P42 z44 →
      ((z44 = 0) →
        jR (v4 + 1) ∧
        I9 (v4 + 1) F5 A6 ∧ m10 (v4 + 1) F5 A6 < m10 v4 F5 A6) ∧
      ((¬ (z44 = 0)) →
        ∃ (P51 : Int → Prop), wqJ2_get b17 v4 N F5 A6 P51 ∧
        ∀ z53, P51 z53 →
        jcst N "ChildSays$Law" z53 ∧
        ∃ (P59 : jFl → jAr → Prop), wqX4_comes o z53 N F5 A6 P59 ∧
        ∀ F62 A63, P59 F62 A63 →
        jR (v4 + 1) ∧
        I9 (v4 + 1) F62 A63 ∧ m10 (v4 + 1) F62 A63 < m10 v4 F5 A6))
theorem vX4_inOrder {G : jG} {l : Launch} {d : Nat} {N : jSh} {F : jFl} {A : jAr} {o : Nat} {Q : Int → jFl → jAr → Prop} (hd : 5 ≤ d) (hW : jWg G N F A) (ht : jtg N o = 5) (h : wqX4_inOrder o N F A Q) : jCall G l d mX4_inOrder [vR (o : Int)] N F A (cmR G N Q) := by
  unfold wqX4_inOrder at h
  refine jCall.of (by decide) rfl (ls := [vR (o : Int), jD]) (by simp only [jent_R, jent_I, jent_L, jent_nil]; exact Nat.le_of_ble_eq_true rfl) (by simp only [jloc, jent_R, jent_I, jent_L, jent_nil]; rfl) ?_
  refine r_aload_n dX4_inOrder_0 rfl ?_
  refine j_iconst dX4_inOrder_1 ?_
  obtain ⟨w1, h⟩ := h
  refine c_pI hW dX4_inOrder_2 flX4_34_5 rfl ht w1 rfl (by decide) fun F3 eF3 hW2 => ?_
  have h := h F3 eF3
  refine j_iconst dX4_inOrder_5 ?_
  refine j_istore_n dX4_inOrder_6 (jokR rfl (Nat.le_of_ble_eq_true rfl)) ?_
  obtain ⟨I9, m10, h0, hs⟩ := h
  have lp : ∀ (n : Nat) (v4 : Int) (F5 : jFl) (A6 : jAr), m10 v4 F5 A6 < n → jWg G N F5 A6 → jR v4 → I9 v4 F5 A6 → J G l d mX4_inOrder 7 [vR (o : Int), vI v4] [] N F5 A6 (cmR G N Q) := by
    intro nI9
    induction nI9 with
    | zero =>
      intro v4 F5 A6 hmu
      exact absurd hmu (Nat.not_lt_zero _)
    | succ nI9 ihI9 =>
      intro v4 F5 A6 hmuI9 hW7 rv4 hI
      have h := hs v4 F5 A6 hI
      refine j_iload_n dX4_inOrder_7 rfl ?_
      refine r_aload_n dX4_inOrder_8 rfl ?_
      refine r_gRF dX4_inOrder_9 flX4_3_5 rfl ht rfl ?_
      obtain ⟨b11, hz12, h⟩ := h
      obtain ⟨t13, h⟩ := h
      refine r_gRN dX4_inOrder_12 flX4_37_1 hz12 t13 rfl ?_
      obtain ⟨b14, hz15, h⟩ := h
      obtain ⟨t16, h⟩ := h
      refine r_gRF dX4_inOrder_15 flX4_41_2 hz15 t16 rfl ?_
      obtain ⟨b17, hz18, h⟩ := h
      obtain ⟨t19, h⟩ := h
      obtain ⟨P20, hp21, h⟩ := h
      refine r_invV (ci := 20) (As := []) (rest := [vI v4]) dX4_inOrder_18 lkX4_47 hz18 t19 rfl rfl (vJ2_size (d := 2) (Nat.le_of_ble_eq_true rfl) hW7 t19  hp21) rfl rfl (Nat.le_of_ble_eq_true rfl) (Nat.le_trans (Nat.le_of_ble_eq_true rfl) hd) (jkpI fun z22 p25 r26 => ?_)
      have h := h z22 p25
      obtain ⟨h1, h2⟩ := h
      refine j_icmp_ge 77 dX4_inOrder_21 rfl rv4 r26 (fun q27 => ?_) (fun q27 => ?_)
      · have h := h1 q27
        clear h1 h2
        refine r_aload_n dX4_inOrder_77 rfl ?_
        exact r_aret dX4_inOrder_78 rfl (Or.inl ⟨_, rfl⟩) ⟨_, rfl, rfl, hW7, h, trivial⟩
      · have h := h2 q27
        clear h1 h2
        refine r_aload_n dX4_inOrder_24 rfl ?_
        refine r_gRF dX4_inOrder_25 flX4_3_5 rfl ht rfl ?_
        refine r_gRN dX4_inOrder_28 flX4_37_1 hz12 t13 rfl ?_
        refine r_gRF dX4_inOrder_31 flX4_41_2 hz15 t16 rfl ?_
        refine j_iload_n dX4_inOrder_34 rfl ?_
        obtain ⟨P28, hp29, h⟩ := h
        refine r_invV (ci := 20) (As := [vI v4]) (rest := []) dX4_inOrder_35 lkX4_53 hz18 t19 rfl rfl (vJ2_get (d := 4) (Nat.le_of_ble_eq_true rfl) hW7 t19 rv4 hp29) rfl rfl (Nat.le_of_ble_eq_true rfl) (Nat.le_trans (Nat.le_of_ble_eq_true rfl) hd) (jkpR fun z30 p33 r34 => ?_)
        have h := h z30 p33
        obtain ⟨j35, h⟩ := h
        refine r_chk dX4_inOrder_38 q353 j35 ?_
        obtain ⟨b36, hz37, h⟩ := h
        obtain ⟨t38, h⟩ := h
        refine r_gRF dX4_inOrder_41 flX4_57_17 hz37 t38 rfl ?_
        obtain ⟨b39, hz40, h⟩ := h
        obtain ⟨t41, h⟩ := h
        obtain ⟨P42, hp43, h⟩ := h
        refine r_invV (ci := 4) (As := []) (rest := []) dX4_inOrder_44 lkX4_60 hz40 t41 rfl rfl (vX3_isOne (d := 2) (Nat.le_of_ble_eq_true rfl) hW7 t41  hp43) rfl rfl (Nat.le_of_ble_eq_true rfl) (Nat.le_trans (Nat.le_of_ble_eq_true rfl) hd) (jkpB fun z44 p47 r48 => ?_)
        have h := h z44 p47
        obtain ⟨h1, h2⟩ := h
        refine j_if_eq 71 dX4_inOrder_47 rfl (jR_b r48) (fun q49 => ?_) (fun q49 => ?_)
        · have h := h1 q49
          clear h1 h2
          obtain ⟨r50, h⟩ := h
          refine j_iinc dX4_inOrder_71 rfl (jokR rfl (Nat.le_of_ble_eq_true rfl)) ?_
          refine j_goto 7 dX4_inOrder_74 rfl ?_
          exact J.wk (((jWk.nil).eq).eq) (ihI9 _ _ _ (Nat.lt_of_lt_of_le h.2 (Nat.le_of_lt_succ hmuI9)) hW7 r50 h.1)
        · have h := h2 q49
          clear h1 h2
          refine r_aload_n dX4_inOrder_50 rfl ?_
          refine r_aload_n dX4_inOrder_51 rfl ?_
          refine r_gRF dX4_inOrder_52 flX4_3_5 rfl ht rfl ?_
          refine r_gRN dX4_inOrder_55 flX4_37_1 hz12 t13 rfl ?_
          refine r_gRF dX4_inOrder_58 flX4_41_2 hz15 t16 rfl ?_
          refine j_iload_n dX4_inOrder_61 rfl ?_
          obtain ⟨P51, hp52, h⟩ := h
          refine r_invV (ci := 20) (As := [vI v4]) (rest := [vR (o : Int)]) dX4_inOrder_62 lkX4_53 hz18 t19 rfl rfl (vJ2_get (d := 4) (Nat.le_of_ble_eq_true rfl) hW7 t19 rv4 hp52) rfl rfl (Nat.le_of_ble_eq_true rfl) (Nat.le_trans (Nat.le_of_ble_eq_true rfl) hd) (jkpR fun z53 p56 r57 => ?_)
          have h := h z53 p56
          obtain ⟨j58, h⟩ := h
          refine r_chk dX4_inOrder_65 q353 j58 ?_
          obtain ⟨P59, hp60, h⟩ := h
          refine r_invV (ci := 5) (As := [vR z53]) (rest := []) dX4_inOrder_68 lkX4_66 rfl ht rfl rfl (vX4_comes (d := 2) (Nat.le_of_ble_eq_true rfl) hW7 ht  hp60) rfl rfl (Nat.le_of_ble_eq_true rfl) (Nat.le_trans (Nat.le_of_ble_eq_true rfl) hd) (ckmV fun F62 A63 hW64 p66 => ?_)
          have h := h F62 A63 p66
          obtain ⟨r68, h⟩ := h
          refine j_iinc dX4_inOrder_71 rfl (jokR rfl (Nat.le_of_ble_eq_true rfl)) ?_
          refine j_goto 7 dX4_inOrder_74 rfl ?_
          exact J.wk (((jWk.nil).eq).eq) (ihI9 _ _ _ (Nat.lt_of_lt_of_le h.2 (Nat.le_of_lt_succ hmuI9)) hW64 r68 h.1)
  exact J.wk (((jWk.nil).eq).eq) (lp _ _ _ _ (Nat.lt_succ_self _) hW2 (by decide) h0)
/-- ChildSays$Round.next(LChildSays$Row;LChildSays$Child;LChildSays$Law;)Z -/
def wqX6_next (o : Nat) (a1 : Int) (a2 : Int) (a3 : Int) (N : jSh) (F : jFl) (A : jAr) (Q : Int → jFl → jAr → Prop) : Prop :=
  ∃ b1 : Nat, jfn N 2117 o = (b1 : Int) ∧
  jtg N b1 = 1 ∧
  ∃ b4 : Nat, a3 = (b4 : Int) ∧
  jtg N b4 = 17 ∧
  ∃ b7 : Nat, a2 = (b7 : Int) ∧
  jtg N b7 = 16 ∧
  ∃ b10 : Nat, jfn N 326 b1 = (b10 : Int) ∧
  jtg N b10 = 3 ∧
  (F 5103 b4 = 0 ∨ F 5103 b4 = 1) ∧
  ∃ (P14 : Int → jFl → jAr → Prop), wqX2_of_2 b10 a2 a1 (F 5103 b4) (F 4803 b7) N F A P14 ∧
  ∀ z16 F17 A18, P14 z16 F17 A18 →
  ∃ b23 : Nat, z16 = (b23 : Int) ∧
  jtg N b23 = 3 ∧
  ∃ b26 : Nat, a1 = (b26 : Int) ∧
  jtg N b26 = 4 ∧
  ∃ (P29 : Int → jFl → jAr → Prop), wqX3_like b26 (jfn N 902 b23) N F17 A18 P29 ∧
  ∀ z31 F32 A33, P29 z31 F32 A33 →
  ∃ (P38 : Int → Prop), wqX3_isOne b26 N F32 A33 P38 ∧
  ∀ z40, P38 z40 →
  Q z40 F32 A33
theorem vX6_next {G : jG} {l : Launch} {d : Nat} {N : jSh} {F : jFl} {A : jAr} {o : Nat} {a1 a2 a3 : Int} {Q : Int → jFl → jAr → Prop} (hd : 5 ≤ d) (hW : jWg G N F A) (ht : jtg N o = 7) (h : wqX6_next o a1 a2 a3 N F A Q) : jCall G l d mX6_next [vR (o : Int), vR a1, vR a2, vR a3] N F A (cmB G N Q) := by
  unfold wqX6_next at h
  refine jCall.of (by decide) rfl (ls := [vR (o : Int), vR a1, vR a2, vR a3]) (by simp only [jent_R, jent_I, jent_L, jent_nil]; exact Nat.le_of_ble_eq_true rfl) (by simp only [jloc, jent_R, jent_I, jent_L, jent_nil]; rfl) ?_
  refine r_aload_n dX6_next_0 rfl ?_
  refine r_aload_n dX6_next_1 rfl ?_
  refine r_gRF dX6_next_2 flX6_3_7 rfl ht rfl ?_
  obtain ⟨b1, hz2, h⟩ := h
  obtain ⟨t3, h⟩ := h
  refine r_gRFN dX6_next_5 flX6_25_1 hz2 t3 rfl ?_
  refine r_aload_n dX6_next_8 rfl ?_
  refine r_aload_n dX6_next_9 rfl ?_
  refine r_aload_n dX6_next_10 rfl ?_
  obtain ⟨b4, hz5, h⟩ := h
  obtain ⟨t6, h⟩ := h
  refine r_gI dX6_next_11 flX6_29_17 hz5 t6 rfl ?_
  refine r_aload_n dX6_next_14 rfl ?_
  obtain ⟨b7, hz8, h⟩ := h
  obtain ⟨t9, h⟩ := h
  refine r_gI dX6_next_15 flX6_35_16 hz8 t9 rfl ?_
  obtain ⟨b10, hz11, h⟩ := h
  obtain ⟨t12, h⟩ := h
  obtain ⟨b13, h⟩ := h
  obtain ⟨P14, hp15, h⟩ := h
  refine r_invV (ci := 3) (As := [vR a2, vR a1, vI (F 5103 b4), vI (F 4803 b7)]) (rest := [vR a1]) dX6_next_18 lkX6_41 hz11 t12 rfl rfl (vX2_of_2 (d := 4) (Nat.le_of_ble_eq_true rfl) hW t12 b13 (hW.fi rfl) hp15) rfl rfl (Nat.le_of_ble_eq_true rfl) (Nat.le_trans (Nat.le_of_ble_eq_true rfl) hd) (ckmR fun z16 F17 A18 hW19 p21 r22 => ?_)
  have h := h z16 F17 A18 p21
  obtain ⟨b23, hz24, h⟩ := h
  obtain ⟨t25, h⟩ := h
  refine r_gRF dX6_next_21 flX6_47_3 hz24 t25 rfl ?_
  obtain ⟨b26, hz27, h⟩ := h
  obtain ⟨t28, h⟩ := h
  obtain ⟨P29, hp30, h⟩ := h
  refine r_invV (ci := 4) (As := [vR (jfn N 902 b23)]) (rest := []) dX6_next_24 lkX6_50 hz27 t28 rfl rfl (vX3_like (d := 3) (Nat.le_of_ble_eq_true rfl) hW19 t28  hp30) rfl rfl (Nat.le_of_ble_eq_true rfl) (Nat.le_trans (Nat.le_of_ble_eq_true rfl) hd) (ckmR fun z31 F32 A33 hW34 p36 r37 => ?_)
  have h := h z31 F32 A33 p36
  refine j_pop dX6_next_27 (vR_cat _) ?_
  refine r_aload_n dX6_next_28 rfl ?_
  obtain ⟨P38, hp39, h⟩ := h
  refine r_invV (ci := 4) (As := []) (rest := []) dX6_next_29 lkX6_54 hz27 t28 rfl rfl (vX3_isOne (d := 2) (Nat.le_of_ble_eq_true rfl) hW34 t28  hp39) rfl rfl (Nat.le_of_ble_eq_true rfl) (Nat.le_trans (Nat.le_of_ble_eq_true rfl) hd) (jkpB fun z40 p43 r44 => ?_)
  have h := h z40 p43
  exact j_zret dX6_next_32 rfl (nr_bool r44) ⟨_, rfl, rfl, hW34, h, r44⟩
/-- ChildSays$Order.<init>(LChildSays;)V -/
def wqX8_init (o : Nat) (a1 : Int) (N : jSh) (F : jFl) (A : jAr) (Q : jSh → jFl → jAr → Prop) : Prop :=
  jfn N 0 o = 1 ∧
  ∀ N3 : jSh, N3 = jpF N 2714 o a1 →
  ∀ (b5 : Nat) (N6 : jSh) (F7 : jFl), b5 = jnx N3 → N6 = jnew N3 5 0 4 1 → F7 = nwF N3 F →
  ∃ (P13 : jSh → jFl → jAr → Prop), wqX4_init b5 (jfn N6 2714 o) N6 F7 A P13 ∧
  ∀ N18 F16 A17, P13 N18 F16 A17 →
  ∀ N26 : jSh, N26 = jpF N18 2702 o (b5 : Int) →
  ∀ (b28 : Nat) (N29 : jSh) (F30 : jFl) (A31 : jAr), b28 = jnx N26 → N29 = jnew N26 113 12 12 1 → F30 = nwF N26 F16 → A31 = nwA N26 113 A17 →
  ∀ N39 : jSh, N39 = jpF N29 2705 o (b28 : Int) →
  Q N39 F30 A31
theorem vX8_init {G : jG} {l : Launch} {d : Nat} {N : jSh} {F : jFl} {A : jAr} {o : Nat} {a1 : Int} {Q : jSh → jFl → jAr → Prop} (hd : 5 ≤ d) (hW : jWg G N F A) (ht : jtg N o = 9) (h : wqX8_init o a1 N F A Q) : jCall G l d mX8_init [vR (o : Int), vR a1] N F A (cnV G N Q) := by
  unfold wqX8_init at h
  refine jCall.of (by decide) rfl (ls := [vR (o : Int), vR a1]) (by simp only [jent_R, jent_I, jent_L, jent_nil]; exact Nat.le_of_ble_eq_true rfl) (by simp only [jloc, jent_R, jent_I, jent_L, jent_nil]; rfl) ?_
  refine r_aload_n dX8_init_0 rfl ?_
  refine r_aload_n dX8_init_1 rfl ?_
  obtain ⟨w1, h⟩ := h
  refine c_pRF hW dX8_init_2 flX8_3_9 rfl ht w1 rfl (ty := .object "ChildSays") rfl (by intro c hc; cases hc; rfl) (by decide) (by decide +kernel) (Or.inl ⟨_, rfl⟩) fun N3 eN3 hT4 hW2 => ?_
  have h := h N3 eN3
  refine r_aload_n dX8_init_5 rfl ?_
  refine r_objInit dX8_init_6 q466 rfl (Nat.le_trans (Nat.le_of_ble_eq_true rfl) hd) (Nat.le_of_ble_eq_true rfl) ?_
  refine r_aload_n dX8_init_9 rfl ?_
  refine c_new (ci := 5) hW2 dX8_init_10 rfl q467 rfl rfl fun b5 N6 F7 eb5 eN6 eF7 t8 w9 hT10 hW11 => ?_
  have h := h b5 N6 F7 eb5 eN6 eF7
  refine j_dup dX8_init_13 (vR_cat _) ?_
  refine r_aload_n dX8_init_14 rfl ?_
  have t12 : jtg N6 o = 9 := (hT10.tg hW2 (hT4.tg hW ht))
  refine r_gRF dX8_init_15 flX8_3_9 rfl t12 rfl ?_
  obtain ⟨P13, hp14, h⟩ := h
  refine r_invI (As := [vR (jfn N6 2714 o)]) (rest := [vR (b5 : Int), vR (o : Int)]) dX8_init_18 lkX8_17 rfl (vX4_init (d := 4) (Nat.le_of_ble_eq_true rfl) hW11 t8  hp14) rfl rfl (Nat.le_of_ble_eq_true rfl) (Nat.le_trans (Nat.le_of_ble_eq_true rfl) hd) (cknV fun N18 F16 A17 hW19 hT20 p21 => ?_)
  have h := h N18 F16 A17 p21
  have t23 : jtg N18 o = 9 := (hT20.tg hW11 t12)
  have w24 : jfn N18 0 o = 1 := (hT20.ow hW11 (hT10.tg hW2 (hT4.tg hW ht)) (hT10.ow hW2 (hT4.tg hW ht) (hT4.ow hW ht w1)))
  refine c_pRF hW19 dX8_init_21 flX8_20_9 rfl t23 w24 rfl (ty := .object "ChildSays$Sitting") rfl (by intro c hc; cases hc; rfl) (by decide) (by decide +kernel) (Or.inl ⟨_, rfl⟩) fun N26 eN26 hT27 hW25 => ?_
  have h := h N26 eN26
  refine r_aload_n dX8_init_24 rfl ?_
  refine j_bipush dX8_init_25 ?_
  refine c_anew (t := 113) (n := 12) hW25 dX8_init_27 rfl rfl q469 (List.mem_of_elem_eq_true (by decide +kernel)) rfl (Nat.le_of_ble_eq_true rfl) fun b28 N29 F30 A31 eb28 eN29 eF30 eA31 t32 w33 hT34 hW35 => ?_
  have h := h b28 N29 F30 A31 eb28 eN29 eF30 eA31
  have t36 : jtg N29 o = 9 := (hT34.tg hW25 (hT27.tg hW19 t23))
  have w37 : jfn N29 0 o = 1 := (hT34.ow hW25 (hT27.tg hW19 (hT20.tg hW11 (hT10.tg hW2 (hT4.tg hW ht)))) (hT27.ow hW19 (hT20.tg hW11 (hT10.tg hW2 (hT4.tg hW ht))) w24))
  refine c_pRF hW35 dX8_init_30 flX8_26_9 rfl t36 w37 rfl (ty := (.array (.object "ChildSays$Law"))) rfl (by intro c hc; cases hc; rfl) (by decide) (by decide +kernel) (Or.inr ⟨_, rfl⟩) fun N39 eN39 hT40 hW38 => ?_
  have h := h N39 eN39
  exact j_vret dX8_init_33 rfl ⟨rfl, hW38, (((((hT4.trans hT10).trans hT20).trans hT27).trans hT34).trans hT40), h⟩
/-- java/lang/StringLatin1.inflate([BI[BII)V -/
def wqJ10_inflate (S : Nat → Nat) (a1 : Int) (a2 : Int) (a3 : Int) (a4 : Int) (a5 : Int) (N : jSh) (F : jFl) (A : jAr) (Q : jFl → jAr → Prop) : Prop :=
  ∃ (P1 : jFl → jAr → Prop), wqJ6_inflate S a1 a2 a3 a4 a5 N F A P1 ∧
  ∀ F4 A5, P1 F4 A5 →
  Q F4 A5
theorem vJ10_inflate {G : jG} {l : Launch} {d : Nat} {N : jSh} {F : jFl} {A : jAr} {a1 a2 a3 a4 a5 : Int} {Q : jFl → jAr → Prop} (hd : 6 ≤ d) (hW : jWg G N F A) (ra2 : jR a2) (ra4 : jR a4) (ra5 : jR a5) (h : wqJ10_inflate (gS G) a1 a2 a3 a4 a5 N F A Q) : jCall G l d mJ10_inflate [vR a1, vI a2, vR a3, vI a4, vI a5] N F A (cmV G N Q) := by
  unfold wqJ10_inflate at h
  refine jCall.of (by decide) rfl (ls := [vR a1, vI a2, vR a3, vI a4, vI a5]) (by simp only [jent_R, jent_I, jent_L, jent_nil]; exact Nat.le_of_ble_eq_true rfl) (by simp only [jloc, jent_R, jent_I, jent_L, jent_nil]; rfl) ?_
  refine r_aload_n dJ10_inflate_0 rfl ?_
  refine j_iload_n dJ10_inflate_1 rfl ?_
  refine r_aload_n dJ10_inflate_2 rfl ?_
  refine j_iload_n dJ10_inflate_3 rfl ?_
  refine j_iload dJ10_inflate_4 rfl ?_
  obtain ⟨P1, hp2, h⟩ := h
  refine r_invS (As := [vR a1, vI a2, vR a3, vI a4, vI a5]) (rest := []) dJ10_inflate_6 lkJ10_240 (vJ6_inflate (d := 5) (Nat.le_of_ble_eq_true rfl) hW ra2 ra4 ra5 hp2) rfl rfl (Nat.le_of_ble_eq_true rfl) (Nat.le_trans (Nat.le_of_ble_eq_true rfl) hd) (ckmV fun F4 A5 hW6 p8 => ?_)
  have h := h F4 A5 p8
  exact j_vret dJ10_inflate_9 rfl ⟨rfl, rfl, hW6, h⟩
/-- java/util/ArrayList.grow()[Ljava/lang/Object; -/
def wqJ2_grow (S : Nat → Nat) (o : Nat) (N : jSh) (F : jFl) (A : jAr) (Q : Int → jSh → jFl → jAr → Prop) : Prop :=
  jR ((F 6003 o) + 1) ∧
  ∃ (P2 : Int → jSh → jFl → jAr → Prop), wqJ2_grow_2 S o ((F 6003 o) + 1) N F A P2 ∧
  ∀ z4 N7 F5 A6, P2 z4 N7 F5 A6 →
  Q z4 N7 F5 A6
theorem vJ2_grow {G : jG} {l : Launch} {d : Nat} {N : jSh} {F : jFl} {A : jAr} {o : Nat} {Q : Int → jSh → jFl → jAr → Prop} (hd : 6 ≤ d) (hW : jWg G N F A) (ht : jtg N o = 20) (h : wqJ2_grow (gS G) o N F A Q) : jCall G l d mJ2_grow [vR (o : Int)] N F A (cnR G N Q) := by
  unfold wqJ2_grow at h
  refine jCall.of (by decide) rfl (ls := [vR (o : Int)]) (by simp only [jent_R, jent_I, jent_L, jent_nil]; exact Nat.le_of_ble_eq_true rfl) (by simp only [jloc, jent_R, jent_I, jent_L, jent_nil]; rfl) ?_
  refine r_aload_n dJ2_grow_0 rfl ?_
  refine r_aload_n dJ2_grow_1 rfl ?_
  refine r_gI dJ2_grow_2 flJ2_48_20 rfl ht rfl ?_
  refine j_iconst dJ2_grow_5 ?_
  refine j_iadd dJ2_grow_6 ?_
  obtain ⟨r1, h⟩ := h
  obtain ⟨P2, hp3, h⟩ := h
  refine r_invV (ci := 20) (As := [vI ((F 6003 o) + 1)]) (rest := []) dJ2_grow_7 lkJ2_69 rfl ht rfl rfl (vJ2_grow_2 (d := 5) (Nat.le_of_ble_eq_true rfl) hW ht r1 hp3) rfl rfl (Nat.le_of_ble_eq_true rfl) (Nat.le_trans (Nat.le_of_ble_eq_true rfl) hd) (cknR fun z4 N7 F5 A6 hW8 hT9 p10 r11 => ?_)
  have h := h z4 N7 F5 A6 p10
  exact r_aret dJ2_grow_10 rfl (Or.inr ⟨_, rfl⟩) ⟨_, rfl, hW8, hT9, h, trivial⟩
/-- java/lang/AbstractStringBuilder.append(C)Ljava/lang/AbstractStringBuilder; -/
def wqJ3_append (S : Nat → Nat) (o : Nat) (a1 : Int) (N : jSh) (F : jFl) (A : jAr) (Q : Int → jSh → jFl → jAr → Prop) : Prop :=
  jR ((F 7209 o) + 1) ∧
  ∃ (P2 : jSh → jFl → jAr → Prop), wqJ3_ensureCapacityInternal S o ((F 7209 o) + 1) N F A P2 ∧
  ∀ N7 F5 A6, P2 N7 F5 A6 →
  ∃ (P13 : Int → Prop), wqJ3_isLatin1 S o N7 F5 A6 P13 ∧
  ∀ z15, P13 z15 →
  ((z15 = 0) →
    ∃ (P21 : Int → Prop), wqJ3_isLatin1 S o N7 F5 A6 P21 ∧
    ∀ z23, P21 z23 →
    ((z23 = 0) →
      jfn N7 0 o = 1 ∧
      jR ((F5 7209 o) + 1) ∧
      ∀ F32 : jFl, F32 = upF F5 7209 o ((F5 7209 o) + 1) →
      ∃ (P33 : jFl → jAr → Prop), wqJ6_putCharSB S (F5 7202 o) (F5 7209 o) a1 N7 F32 A6 P33 ∧
      ∀ F36 A37, P33 F36 A37 →
      Q (o : Int) N7 F36 A37) ∧
    ((¬ (z23 = 0)) →
      False)) ∧
  ((¬ (z15 = 0)) →
    ∃ (P42 : Int → Prop), wqJ10_canEncode a1 N7 F5 A6 P42 ∧
    ∀ z44, P42 z44 →
    ((z44 = 0) →
      ∃ (P50 : Int → Prop), wqJ3_isLatin1 S o N7 F5 A6 P50 ∧
      ∀ z52, P50 z52 →
      ((z52 = 0) →
        jfn N7 0 o = 1 ∧
        jR ((F5 7209 o) + 1) ∧
        ∀ F61 : jFl, F61 = upF F5 7209 o ((F5 7209 o) + 1) →
        ∃ (P62 : jFl → jAr → Prop), wqJ6_putCharSB S (F5 7202 o) (F5 7209 o) a1 N7 F61 A6 P62 ∧
        ∀ F65 A66, P62 F65 A66 →
        Q (o : Int) N7 F65 A66) ∧
      ((¬ (z52 = 0)) →
        False)) ∧
    ((¬ (z44 = 0)) →
      jfn N7 0 o = 1 ∧
      jR ((F5 7209 o) + 1) ∧
      ∀ F74 : jFl, F74 = upF F5 7209 o ((F5 7209 o) + 1) →
      ∃ b75 : Nat, F5 7202 o = (b75 : Int) ∧
      jtg N7 b75 = 108 ∧
      jfn N7 0 b75 = 1 ∧
      ((0 : Int) ≤ F5 7209 o ∧ (F5 7209 o : Int) < (jln N7 b75 : Int)) ∧
      ∀ A80 : jAr, A80 = upA A6 b75 (F5 7209 o) (jby a1) →
      Q (o : Int) N7 F74 A80))
theorem vJ3_append {G : jG} {l : Launch} {d : Nat} {N : jSh} {F : jFl} {A : jAr} {o : Nat} {a1 : Int} {Q : Int → jSh → jFl → jAr → Prop} (hd : 6 ≤ d) (hW : jWg G N F A) (ht : jtg N o = 21) (ra1 : jR a1) (h : wqJ3_append (gS G) o a1 N F A Q) : jCall G l d mJ3_append [vR (o : Int), vI a1] N F A (cnR G N Q) := by
  unfold wqJ3_append at h
  refine jCall.of (by decide) rfl (ls := [vR (o : Int), vI a1]) (by simp only [jent_R, jent_I, jent_L, jent_nil]; exact Nat.le_of_ble_eq_true rfl) (by simp only [jloc, jent_R, jent_I, jent_L, jent_nil]; rfl) ?_
  refine r_aload_n dJ3_append_0 rfl ?_
  refine r_aload_n dJ3_append_1 rfl ?_
  refine r_gI dJ3_append_2 flJ3_79_21 rfl ht rfl ?_
  refine j_iconst dJ3_append_5 ?_
  refine j_iadd dJ3_append_6 ?_
  obtain ⟨r1, h⟩ := h
  obtain ⟨P2, hp3, h⟩ := h
  refine r_invP (ci := 21) (As := [vI ((F 7209 o) + 1)]) (rest := []) dJ3_append_7 lkPJ3_100 rfl ht rfl (vJ3_ensureCapacityInternal (d := 5) (Nat.le_of_ble_eq_true rfl) hW ht r1 hp3) rfl rfl (Nat.le_of_ble_eq_true rfl) (Nat.le_trans (Nat.le_of_ble_eq_true rfl) hd) (cknV fun N7 F5 A6 hW8 hT9 p10 => ?_)
  have h := h N7 F5 A6 p10
  refine r_aload_n dJ3_append_10 rfl ?_
  have t12 : jtg N7 o = 21 := (hT9.tg hW ht)
  obtain ⟨P13, hp14, h⟩ := h
  refine r_invU (ci := 21) (As := []) (rest := []) rfl dJ3_append_11 lkUJ3_83 rfl t12 (vJ3_isLatin1 (d := 2) (Nat.le_of_ble_eq_true rfl) hW8 t12  hp14) rfl rfl (Nat.le_of_ble_eq_true rfl) (Nat.le_trans (Nat.le_of_ble_eq_true rfl) hd) (jkpB fun z15 p18 r19 => ?_)
  have h := h z15 p18
  obtain ⟨h1, h2⟩ := h
  refine j_if_eq 45 dJ3_append_14 rfl (jR_b r19) (fun q20 => ?_) (fun q20 => ?_)
  · have h := h1 q20
    clear h1 h2
    refine r_aload_n dJ3_append_45 rfl ?_
    obtain ⟨P21, hp22, h⟩ := h
    refine r_invU (ci := 21) (As := []) (rest := []) rfl dJ3_append_46 lkUJ3_83 rfl t12 (vJ3_isLatin1 (d := 2) (Nat.le_of_ble_eq_true rfl) hW8 t12  hp22) rfl rfl (Nat.le_of_ble_eq_true rfl) (Nat.le_trans (Nat.le_of_ble_eq_true rfl) hd) (jkpB fun z23 p26 r27 => ?_)
    have h := h z23 p26
    obtain ⟨h1, h2⟩ := h
    refine j_if_eq 56 dJ3_append_49 rfl (jR_b r27) (fun q28 => ?_) (fun q28 => ?_)
    · have h := h1 q28
      clear h1 h2
      refine r_aload_n dJ3_append_56 rfl ?_
      refine r_gR dJ3_append_57 flJ3_15_21 rfl t12 rfl ?_
      refine r_aload_n dJ3_append_60 rfl ?_
      refine j_dup dJ3_append_61 (vR_cat _) ?_
      refine r_gI dJ3_append_62 flJ3_79_21 rfl t12 rfl ?_
      refine j_dup_x1 dJ3_append_65 rfl (vR_cat _) ?_
      refine j_iconst dJ3_append_66 ?_
      refine j_iadd dJ3_append_67 ?_
      obtain ⟨w29, h⟩ := h
      obtain ⟨r30, h⟩ := h
      refine c_pI hW8 dJ3_append_68 flJ3_79_21 rfl t12 w29 rfl r30 fun F32 eF32 hW31 => ?_
      have h := h F32 eF32
      refine j_iload_n dJ3_append_71 rfl ?_
      obtain ⟨P33, hp34, h⟩ := h
      refine r_invS (As := [vR (F5 7202 o), vI (F5 7209 o), vI a1]) (rest := []) dJ3_append_72 lkJ3_197 (vJ6_putCharSB (d := 5) (Nat.le_of_ble_eq_true rfl) hW31 (hW8.fi rfl) ra1 hp34) rfl rfl (Nat.le_of_ble_eq_true rfl) (Nat.le_trans (Nat.le_of_ble_eq_true rfl) hd) (ckmV fun F36 A37 hW38 p40 => ?_)
      have h := h F36 A37 p40
      refine r_aload_n dJ3_append_75 rfl ?_
      exact r_aret dJ3_append_76 rfl (Or.inl ⟨_, rfl⟩) ⟨_, rfl, hW38, hT9, h, trivial⟩
    · have h := h2 q28
      clear h1 h2
      exact h.elim
  · have h := h2 q20
    clear h1 h2
    refine j_iload_n dJ3_append_17 rfl ?_
    obtain ⟨P42, hp43, h⟩ := h
    refine r_invS (As := [vI a1]) (rest := []) dJ3_append_18 lkJ3_191 (vJ10_canEncode (d := 2) (Nat.le_of_ble_eq_true rfl) hW8 ra1 hp43) rfl rfl (Nat.le_of_ble_eq_true rfl) (Nat.le_trans (Nat.le_of_ble_eq_true rfl) hd) (jkpB fun z44 p47 r48 => ?_)
    have h := h z44 p47
    obtain ⟨h1, h2⟩ := h
    refine j_if_eq 45 dJ3_append_21 rfl (jR_b r48) (fun q49 => ?_) (fun q49 => ?_)
    · have h := h1 q49
      clear h1 h2
      refine r_aload_n dJ3_append_45 rfl ?_
      obtain ⟨P50, hp51, h⟩ := h
      refine r_invU (ci := 21) (As := []) (rest := []) rfl dJ3_append_46 lkUJ3_83 rfl t12 (vJ3_isLatin1 (d := 2) (Nat.le_of_ble_eq_true rfl) hW8 t12  hp51) rfl rfl (Nat.le_of_ble_eq_true rfl) (Nat.le_trans (Nat.le_of_ble_eq_true rfl) hd) (jkpB fun z52 p55 r56 => ?_)
      have h := h z52 p55
      obtain ⟨h1, h2⟩ := h
      refine j_if_eq 56 dJ3_append_49 rfl (jR_b r56) (fun q57 => ?_) (fun q57 => ?_)
      · have h := h1 q57
        clear h1 h2
        refine r_aload_n dJ3_append_56 rfl ?_
        refine r_gR dJ3_append_57 flJ3_15_21 rfl t12 rfl ?_
        refine r_aload_n dJ3_append_60 rfl ?_
        refine j_dup dJ3_append_61 (vR_cat _) ?_
        refine r_gI dJ3_append_62 flJ3_79_21 rfl t12 rfl ?_
        refine j_dup_x1 dJ3_append_65 rfl (vR_cat _) ?_
        refine j_iconst dJ3_append_66 ?_
        refine j_iadd dJ3_append_67 ?_
        obtain ⟨w58, h⟩ := h
        obtain ⟨r59, h⟩ := h
        refine c_pI hW8 dJ3_append_68 flJ3_79_21 rfl t12 w58 rfl r59 fun F61 eF61 hW60 => ?_
        have h := h F61 eF61
        refine j_iload_n dJ3_append_71 rfl ?_
        obtain ⟨P62, hp63, h⟩ := h
        refine r_invS (As := [vR (F5 7202 o), vI (F5 7209 o), vI a1]) (rest := []) dJ3_append_72 lkJ3_197 (vJ6_putCharSB (d := 5) (Nat.le_of_ble_eq_true rfl) hW60 (hW8.fi rfl) ra1 hp63) rfl rfl (Nat.le_of_ble_eq_true rfl) (Nat.le_trans (Nat.le_of_ble_eq_true rfl) hd) (ckmV fun F65 A66 hW67 p69 => ?_)
        have h := h F65 A66 p69
        refine r_aload_n dJ3_append_75 rfl ?_
        exact r_aret dJ3_append_76 rfl (Or.inl ⟨_, rfl⟩) ⟨_, rfl, hW67, hT9, h, trivial⟩
      · have h := h2 q57
        clear h1 h2
        exact h.elim
    · have h := h2 q49
      clear h1 h2
      refine r_aload_n dJ3_append_24 rfl ?_
      refine r_gR dJ3_append_25 flJ3_15_21 rfl t12 rfl ?_
      refine r_aload_n dJ3_append_28 rfl ?_
      refine j_dup dJ3_append_29 (vR_cat _) ?_
      refine r_gI dJ3_append_30 flJ3_79_21 rfl t12 rfl ?_
      refine j_dup_x1 dJ3_append_33 rfl (vR_cat _) ?_
      refine j_iconst dJ3_append_34 ?_
      refine j_iadd dJ3_append_35 ?_
      obtain ⟨w71, h⟩ := h
      obtain ⟨r72, h⟩ := h
      refine c_pI hW8 dJ3_append_36 flJ3_79_21 rfl t12 w71 rfl r72 fun F74 eF74 hW73 => ?_
      have h := h F74 eF74
      refine j_iload_n dJ3_append_39 rfl ?_
      refine r_i2b dJ3_append_40 ra1 ?_
      obtain ⟨b75, hz76, h⟩ := h
      obtain ⟨t77, h⟩ := h
      obtain ⟨w78, h⟩ := h
      obtain ⟨c79, h⟩ := h
      refine c_bast hW73 dJ3_append_41 hz76 t77 w78 c79 (jR_y (jby_R _)) (jby_R _) fun A80 eA80 hW81 => ?_
      have h := h A80 eA80
      refine j_goto 75 dJ3_append_42 rfl ?_
      refine r_aload_n dJ3_append_75 rfl ?_
      exact r_aret dJ3_append_76 rfl (Or.inl ⟨_, rfl⟩) ⟨_, rfl, hW81, hT9, h, trivial⟩
/-- java/lang/AbstractStringBuilder.setLength(I)V -/
def wqJ3_setLength (S : Nat → Nat) (o : Nat) (a1 : Int) (N : jSh) (F : jFl) (A : jAr) (Q : jSh → jFl → jAr → Prop) : Prop :=
  ((0 ≤ a1) →
    ∃ (P2 : jSh → jFl → jAr → Prop), wqJ3_ensureCapacityInternal S o a1 N F A P2 ∧
    ∀ N7 F5 A6, P2 N7 F5 A6 →
    ((a1 ≤ (F5 7209 o)) →
      (((F5 7209 o) ≤ a1) →
        jfn N7 0 o = 1 ∧
        ∀ F17 : jFl, F17 = upF F5 7209 o a1 →
        Q N7 F17 A6) ∧
      ((¬ ((F5 7209 o) ≤ a1)) →
        jfn N7 0 o = 1 ∧
        ∀ F20 : jFl, F20 = upF F5 7206 o 1 →
        ∀ F22 : jFl, F22 = upF F20 7209 o a1 →
        Q N7 F22 A6)) ∧
    ((¬ (a1 ≤ (F5 7209 o))) →
      ∃ (P23 : Int → Prop), wqJ3_isLatin1 S o N7 F5 A6 P23 ∧
      ∀ z25, P23 z25 →
      ((z25 = 0) →
        ∃ (P31 : jFl → jAr → Prop), wqJ6_fillNull (F5 7202 o) (F5 7209 o) a1 N7 F5 A6 P31 ∧
        ∀ F34 A35, P31 F34 A35 →
        jfn N7 0 o = 1 ∧
        ∀ F42 : jFl, F42 = upF F34 7209 o a1 →
        Q N7 F42 A35) ∧
      ((¬ (z25 = 0)) →
        ∃ (P43 : jFl → jAr → Prop), wqJ10_fillNull (F5 7202 o) (F5 7209 o) a1 N7 F5 A6 P43 ∧
        ∀ F46 A47, P43 F46 A47 →
        jfn N7 0 o = 1 ∧
        ∀ F54 : jFl, F54 = upF F46 7209 o a1 →
        Q N7 F54 A47))) ∧
  ((¬ (0 ≤ a1)) →
    False)
theorem vJ3_setLength {G : jG} {l : Launch} {d : Nat} {N : jSh} {F : jFl} {A : jAr} {o : Nat} {a1 : Int} {Q : jSh → jFl → jAr → Prop} (hd : 6 ≤ d) (hW : jWg G N F A) (ht : jtg N o = 21) (ra1 : jR a1) (h : wqJ3_setLength (gS G) o a1 N F A Q) : jCall G l d mJ3_setLength [vR (o : Int), vI a1] N F A (cnV G N Q) := by
  unfold wqJ3_setLength at h
  refine jCall.of (by decide) rfl (ls := [vR (o : Int), vI a1]) (by simp only [jent_R, jent_I, jent_L, jent_nil]; exact Nat.le_of_ble_eq_true rfl) (by simp only [jloc, jent_R, jent_I, jent_L, jent_nil]; rfl) ?_
  refine j_iload_n dJ3_setLength_0 rfl ?_
  obtain ⟨h1, h2⟩ := h
  refine j_if_ge 13 dJ3_setLength_1 rfl ra1 (fun q1 => ?_) (fun q1 => ?_)
  · have h := h1 q1
    clear h1 h2
    refine r_aload_n dJ3_setLength_13 rfl ?_
    refine j_iload_n dJ3_setLength_14 rfl ?_
    obtain ⟨P2, hp3, h⟩ := h
    refine r_invP (ci := 21) (As := [vI a1]) (rest := []) dJ3_setLength_15 lkPJ3_100 rfl ht rfl (vJ3_ensureCapacityInternal (d := 5) (Nat.le_of_ble_eq_true rfl) hW ht ra1 hp3) rfl rfl (Nat.le_of_ble_eq_true rfl) (Nat.le_trans (Nat.le_of_ble_eq_true rfl) hd) (cknV fun N7 F5 A6 hW8 hT9 p10 => ?_)
    have h := h N7 F5 A6 p10
    refine r_aload_n dJ3_setLength_18 rfl ?_
    have t12 : jtg N7 o = 21 := (hT9.tg hW ht)
    refine r_gI dJ3_setLength_19 flJ3_79_21 rfl t12 rfl ?_
    refine j_iload_n dJ3_setLength_22 rfl ?_
    obtain ⟨h1, h2⟩ := h
    refine j_icmp_ge 63 dJ3_setLength_23 rfl (hW8.fi rfl) ra1 (fun q13 => ?_) (fun q13 => ?_)
    · have h := h1 q13
      clear h1 h2
      refine r_aload_n dJ3_setLength_63 rfl ?_
      refine r_gI dJ3_setLength_64 flJ3_79_21 rfl t12 rfl ?_
      refine j_iload_n dJ3_setLength_67 rfl ?_
      obtain ⟨h1, h2⟩ := h
      refine j_icmp_le 76 dJ3_setLength_68 rfl (hW8.fi rfl) ra1 (fun q14 => ?_) (fun q14 => ?_)
      · have h := h1 q14
        clear h1 h2
        refine r_aload_n dJ3_setLength_76 rfl ?_
        refine j_iload_n dJ3_setLength_77 rfl ?_
        obtain ⟨w15, h⟩ := h
        refine c_pI hW8 dJ3_setLength_78 flJ3_79_21 rfl t12 w15 rfl ra1 fun F17 eF17 hW16 => ?_
        have h := h F17 eF17
        exact j_vret dJ3_setLength_81 rfl ⟨rfl, hW16, hT9, h⟩
      · have h := h2 q14
        clear h1 h2
        refine r_aload_n dJ3_setLength_71 rfl ?_
        refine j_iconst dJ3_setLength_72 ?_
        obtain ⟨w18, h⟩ := h
        refine c_pZ hW8 dJ3_setLength_73 flJ3_73_21 rfl t12 w18 rfl (by decide) (by decide) fun F20 eF20 hW19 => ?_
        have h := h F20 eF20
        refine r_aload_n dJ3_setLength_76 rfl ?_
        refine j_iload_n dJ3_setLength_77 rfl ?_
        refine c_pI hW19 dJ3_setLength_78 flJ3_79_21 rfl t12 w18 rfl ra1 fun F22 eF22 hW21 => ?_
        have h := h F22 eF22
        exact j_vret dJ3_setLength_81 rfl ⟨rfl, hW21, hT9, h⟩
    · have h := h2 q13
      clear h1 h2
      refine r_aload_n dJ3_setLength_26 rfl ?_
      obtain ⟨P23, hp24, h⟩ := h
      refine r_invU (ci := 21) (As := []) (rest := []) rfl dJ3_setLength_27 lkUJ3_83 rfl t12 (vJ3_isLatin1 (d := 2) (Nat.le_of_ble_eq_true rfl) hW8 t12  hp24) rfl rfl (Nat.le_of_ble_eq_true rfl) (Nat.le_trans (Nat.le_of_ble_eq_true rfl) hd) (jkpB fun z25 p28 r29 => ?_)
      have h := h z25 p28
      obtain ⟨h1, h2⟩ := h
      refine j_if_eq 48 dJ3_setLength_30 rfl (jR_b r29) (fun q30 => ?_) (fun q30 => ?_)
      · have h := h1 q30
        clear h1 h2
        refine r_aload_n dJ3_setLength_48 rfl ?_
        refine r_gR dJ3_setLength_49 flJ3_15_21 rfl t12 rfl ?_
        refine r_aload_n dJ3_setLength_52 rfl ?_
        refine r_gI dJ3_setLength_53 flJ3_79_21 rfl t12 rfl ?_
        refine j_iload_n dJ3_setLength_56 rfl ?_
        obtain ⟨P31, hp32, h⟩ := h
        refine r_invS (As := [vR (F5 7202 o), vI (F5 7209 o), vI a1]) (rest := []) dJ3_setLength_57 lkJ3_137 (vJ6_fillNull (d := 4) (Nat.le_of_ble_eq_true rfl) hW8 (hW8.fi rfl) ra1 hp32) rfl rfl (Nat.le_of_ble_eq_true rfl) (Nat.le_trans (Nat.le_of_ble_eq_true rfl) hd) (ckmV fun F34 A35 hW36 p38 => ?_)
        have h := h F34 A35 p38
        refine j_goto 76 dJ3_setLength_60 rfl ?_
        refine r_aload_n dJ3_setLength_76 rfl ?_
        refine j_iload_n dJ3_setLength_77 rfl ?_
        obtain ⟨w40, h⟩ := h
        refine c_pI hW36 dJ3_setLength_78 flJ3_79_21 rfl t12 w40 rfl ra1 fun F42 eF42 hW41 => ?_
        have h := h F42 eF42
        exact j_vret dJ3_setLength_81 rfl ⟨rfl, hW41, hT9, h⟩
      · have h := h2 q30
        clear h1 h2
        refine r_aload_n dJ3_setLength_33 rfl ?_
        refine r_gR dJ3_setLength_34 flJ3_15_21 rfl t12 rfl ?_
        refine r_aload_n dJ3_setLength_37 rfl ?_
        refine r_gI dJ3_setLength_38 flJ3_79_21 rfl t12 rfl ?_
        refine j_iload_n dJ3_setLength_41 rfl ?_
        obtain ⟨P43, hp44, h⟩ := h
        refine r_invS (As := [vR (F5 7202 o), vI (F5 7209 o), vI a1]) (rest := []) dJ3_setLength_42 lkJ3_133 (vJ10_fillNull (d := 4) (Nat.le_of_ble_eq_true rfl) hW8 (hW8.fi rfl) ra1 hp44) rfl rfl (Nat.le_of_ble_eq_true rfl) (Nat.le_trans (Nat.le_of_ble_eq_true rfl) hd) (ckmV fun F46 A47 hW48 p50 => ?_)
        have h := h F46 A47 p50
        refine j_goto 76 dJ3_setLength_45 rfl ?_
        refine r_aload_n dJ3_setLength_76 rfl ?_
        refine j_iload_n dJ3_setLength_77 rfl ?_
        obtain ⟨w52, h⟩ := h
        refine c_pI hW48 dJ3_setLength_78 flJ3_79_21 rfl t12 w52 rfl ra1 fun F54 eF54 hW53 => ?_
        have h := h F54 eF54
        exact j_vret dJ3_setLength_81 rfl ⟨rfl, hW53, hT9, h⟩
  · have h := h2 q1
    clear h1 h2
    exact h.elim
/-- java/lang/String.charAt(I)C -/
def wqJ5_charAt (S : Nat → Nat) (o : Nat) (a1 : Int) (N : jSh) (F : jFl) (A : jAr) (Q : Int → Prop) : Prop :=
  ∃ (P1 : Int → Prop), wqJ5_isLatin1 S o N F A P1 ∧
  ∀ z3, P1 z3 →
  ((z3 = 0) →
    ∃ (P9 : Int → Prop), wqJ6_charAt S (jfn N 6602 o) a1 N F A P9 ∧
    ∀ z11, P9 z11 →
    Q z11) ∧
  ((¬ (z3 = 0)) →
    ∃ (P16 : Int → Prop), wqJ10_charAt S (jfn N 6602 o) a1 N F A P16 ∧
    ∀ z18, P16 z18 →
    Q z18)
theorem vJ5_charAt {G : jG} {l : Launch} {d : Nat} {N : jSh} {F : jFl} {A : jAr} {o : Nat} {a1 : Int} {Q : Int → Prop} (hd : 6 ≤ d) (hW : jWg G N F A) (ht : jtg N o = 22) (ra1 : jR a1) (h : wqJ5_charAt (gS G) o a1 N F A Q) : jCall G l d mJ5_charAt [vR (o : Int), vI a1] N F A (jpC N F A Q) := by
  unfold wqJ5_charAt at h
  refine jCall.of (by decide) rfl (ls := [vR (o : Int), vI a1]) (by simp only [jent_R, jent_I, jent_L, jent_nil]; exact Nat.le_of_ble_eq_true rfl) (by simp only [jloc, jent_R, jent_I, jent_L, jent_nil]; rfl) ?_
  refine r_aload_n dJ5_charAt_0 rfl ?_
  obtain ⟨P1, hp2, h⟩ := h
  refine r_invV (ci := 22) (As := []) (rest := []) dJ5_charAt_1 lkJ5_492 rfl ht rfl rfl (vJ5_isLatin1 (d := 2) (Nat.le_of_ble_eq_true rfl) hW ht  hp2) rfl rfl (Nat.le_of_ble_eq_true rfl) (Nat.le_trans (Nat.le_of_ble_eq_true rfl) hd) (jkpB fun z3 p6 r7 => ?_)
  have h := h z3 p6
  obtain ⟨h1, h2⟩ := h
  refine j_if_eq 16 dJ5_charAt_4 rfl (jR_b r7) (fun q8 => ?_) (fun q8 => ?_)
  · have h := h1 q8
    clear h1 h2
    refine r_aload_n dJ5_charAt_16 rfl ?_
    refine r_gRF dJ5_charAt_17 flJ5_9_22 rfl ht rfl ?_
    refine j_iload_n dJ5_charAt_20 rfl ?_
    obtain ⟨P9, hp10, h⟩ := h
    refine r_invS (As := [vR (jfn N 6602 o), vI a1]) (rest := []) dJ5_charAt_21 lkJ5_498 (vJ6_charAt (d := 5) (Nat.le_of_ble_eq_true rfl) hW ra1 hp10) rfl rfl (Nat.le_of_ble_eq_true rfl) (Nat.le_trans (Nat.le_of_ble_eq_true rfl) hd) (jkpC fun z11 p14 r15 => ?_)
    have h := h z11 p14
    exact j_zret dJ5_charAt_24 rfl (nr_char r15) ⟨_, rfl, rfl, rfl, rfl, h, r15⟩
  · have h := h2 q8
    clear h1 h2
    refine r_aload_n dJ5_charAt_7 rfl ?_
    refine r_gRF dJ5_charAt_8 flJ5_9_22 rfl ht rfl ?_
    refine j_iload_n dJ5_charAt_11 rfl ?_
    obtain ⟨P16, hp17, h⟩ := h
    refine r_invS (As := [vR (jfn N 6602 o), vI a1]) (rest := []) dJ5_charAt_12 lkJ5_495 (vJ10_charAt (d := 4) (Nat.le_of_ble_eq_true rfl) hW ra1 hp17) rfl rfl (Nat.le_of_ble_eq_true rfl) (Nat.le_trans (Nat.le_of_ble_eq_true rfl) hd) (jkpC fun z18 p21 r22 => ?_)
    have h := h z18 p21
    exact j_zret dJ5_charAt_15 rfl (nr_char r22) ⟨_, rfl, rfl, rfl, rfl, h, r22⟩
/-- java/lang/StringUTF16.compress([CII)[B -/
def wqJ6_compress (S : Nat → Nat) (a1 : Int) (a2 : Int) (a3 : Int) (N : jSh) (F : jFl) (A : jAr) (Q : Int → jSh → jFl → jAr → Prop) : Prop :=
  ∃ n9 : Nat, a3 = (n9 : Int) ∧ n9 ≤ 1000000 ∧
  ∀ (b1 : Nat) (N2 : jSh) (F3 : jFl) (A4 : jAr), b1 = jnx N → N2 = jnew N 108 n9 n9 1 → F3 = nwF N F → A4 = nwA N 108 A →
  ∃ (P12 : Int → jFl → jAr → Prop), wqJ6_compress_2 a1 a2 (b1 : Int) 0 a3 N2 F3 A4 P12 ∧
  ∀ z14 F15 A16, P12 z14 F15 A16 →
  ((z14 = a3) →
    Q (b1 : Int) N2 F15 A16) ∧
  ((¬ (z14 = a3)) →
    ∃ (P22 : Int → jSh → jFl → jAr → Prop), wqJ6_toBytes S a1 a2 a3 N2 F15 A16 P22 ∧
    ∀ z24 N27 F25 A26, P22 z24 N27 F25 A26 →
    ∃ (P32 : Int → Prop), wqJ6_getChar S z24 z14 N27 F25 A26 P32 ∧
    ∀ z34, P32 z34 →
    ((255 < z34) →
      Q z24 N27 F25 A26) ∧
    ((¬ (255 < z34)) →
      ∃ (P40 : Int → jFl → jAr → Prop), wqJ6_compress_3 S z24 0 (b1 : Int) 0 a3 N27 F25 A26 P40 ∧
      ∀ z42 F43 A44, P40 z42 F43 A44 →
      ((z42 = a3) →
        Q (b1 : Int) N27 F43 A44) ∧
      ((¬ (z42 = a3)) →
        Q z24 N27 F43 A44)))
theorem vJ6_compress {G : jG} {l : Launch} {d : Nat} {N : jSh} {F : jFl} {A : jAr} {a1 a2 a3 : Int} {Q : Int → jSh → jFl → jAr → Prop} (hd : 6 ≤ d) (hW : jWg G N F A) (ra2 : jR a2) (ra3 : jR a3) (h : wqJ6_compress (gS G) a1 a2 a3 N F A Q) : jCall G l d mJ6_compress [vR a1, vI a2, vI a3] N F A (cnR G N Q) := by
  unfold wqJ6_compress at h
  refine jCall.of (by decide) rfl (ls := [vR a1, vI a2, vI a3, jD, jD, jD]) (by simp only [jent_R, jent_I, jent_L, jent_nil]; exact Nat.le_of_ble_eq_true rfl) (by simp only [jloc, jent_R, jent_I, jent_L, jent_nil]; rfl) ?_
  refine j_iload_n dJ6_compress_0 rfl ?_
  obtain ⟨n9, hn10, hl11, h⟩ := h
  refine c_newa (t := 108) (n := n9) hW dJ6_compress_1 rfl rfl rfl (fun _ h => by cases h) q520 (by decide) hn10 hl11 fun b1 N2 F3 A4 eb1 eN2 eF3 eA4 t5 w6 hT7 hW8 => ?_
  have h := h b1 N2 F3 A4 eb1 eN2 eF3 eA4
  refine r_astore_n dJ6_compress_3 rfl ?_
  refine r_aload_n dJ6_compress_4 rfl ?_
  refine j_iload_n dJ6_compress_5 rfl ?_
  refine r_aload_n dJ6_compress_6 rfl ?_
  refine j_iconst dJ6_compress_7 ?_
  refine j_iload_n dJ6_compress_8 rfl ?_
  obtain ⟨P12, hp13, h⟩ := h
  refine r_invS (As := [vR a1, vI a2, vR (b1 : Int), vI 0, vI a3]) (rest := []) dJ6_compress_9 lkJ6_115 (vJ6_compress_2 (d := 2) (Nat.le_of_ble_eq_true rfl) hW8 ra2 (by decide) ra3 hp13) rfl rfl (Nat.le_of_ble_eq_true rfl) (Nat.le_trans (Nat.le_of_ble_eq_true rfl) hd) (ckmI fun z14 F15 A16 hW17 p19 r20 => ?_)
  have h := h z14 F15 A16 p19
  refine j_istore dJ6_compress_12 (jokR rfl (Nat.le_of_ble_eq_true rfl)) ?_
  refine j_iload dJ6_compress_14 rfl ?_
  refine j_iload_n dJ6_compress_16 rfl ?_
  obtain ⟨h1, h2⟩ := h
  refine j_icmp_eq 57 dJ6_compress_17 rfl r20 ra3 (fun q21 => ?_) (fun q21 => ?_)
  · have h := h1 q21
    clear h1 h2
    refine r_aload_n dJ6_compress_57 rfl ?_
    exact r_aret dJ6_compress_58 rfl (Or.inr ⟨_, rfl⟩) ⟨_, rfl, hW17, hT7, h, trivial⟩
  · have h := h2 q21
    clear h1 h2
    refine r_aload_n dJ6_compress_20 rfl ?_
    refine j_iload_n dJ6_compress_21 rfl ?_
    refine j_iload_n dJ6_compress_22 rfl ?_
    obtain ⟨P22, hp23, h⟩ := h
    refine r_invS (As := [vR a1, vI a2, vI a3]) (rest := []) dJ6_compress_23 lkJ6_119 (vJ6_toBytes (d := 4) (Nat.le_of_ble_eq_true rfl) hW17 ra2 ra3 hp23) rfl rfl (Nat.le_of_ble_eq_true rfl) (Nat.le_trans (Nat.le_of_ble_eq_true rfl) hd) (cknR fun z24 N27 F25 A26 hW28 hT29 p30 r31 => ?_)
    have h := h z24 N27 F25 A26 p30
    refine r_astore dJ6_compress_26 rfl ?_
    refine r_aload dJ6_compress_28 rfl ?_
    refine j_iload dJ6_compress_30 rfl ?_
    obtain ⟨P32, hp33, h⟩ := h
    refine r_invS (As := [vR z24, vI z14]) (rest := []) dJ6_compress_32 lkJ6_71 (vJ6_getChar (d := 3) (Nat.le_of_ble_eq_true rfl) hW28 r20 hp33) rfl rfl (Nat.le_of_ble_eq_true rfl) (Nat.le_trans (Nat.le_of_ble_eq_true rfl) hd) (jkpC fun z34 p37 r38 => ?_)
    have h := h z34 p37
    refine j_sipush dJ6_compress_35 ?_
    obtain ⟨h1, h2⟩ := h
    refine j_icmp_gt 54 dJ6_compress_38 rfl (jR_c r38) (by decide) (fun q39 => ?_) (fun q39 => ?_)
    · have h := h1 q39
      clear h1 h2
      refine r_aload dJ6_compress_54 rfl ?_
      exact r_aret dJ6_compress_56 rfl (Or.inr ⟨_, rfl⟩) ⟨_, rfl, hW28, (hT7.trans hT29), h, trivial⟩
    · have h := h2 q39
      clear h1 h2
      refine r_aload dJ6_compress_41 rfl ?_
      refine j_iconst dJ6_compress_43 ?_
      refine r_aload_n dJ6_compress_44 rfl ?_
      refine j_iconst dJ6_compress_45 ?_
      refine j_iload_n dJ6_compress_46 rfl ?_
      obtain ⟨P40, hp41, h⟩ := h
      refine r_invS (As := [vR z24, vI 0, vR (b1 : Int), vI 0, vI a3]) (rest := []) dJ6_compress_47 lkJ6_123 (vJ6_compress_3 (d := 5) (Nat.le_of_ble_eq_true rfl) hW28 (by decide) (by decide) ra3 hp41) rfl rfl (Nat.le_of_ble_eq_true rfl) (Nat.le_trans (Nat.le_of_ble_eq_true rfl) hd) (ckmI fun z42 F43 A44 hW45 p47 r48 => ?_)
      have h := h z42 F43 A44 p47
      refine j_iload_n dJ6_compress_50 rfl ?_
      obtain ⟨h1, h2⟩ := h
      refine j_icmp_eq 57 dJ6_compress_51 rfl r48 ra3 (fun q49 => ?_) (fun q49 => ?_)
      · have h := h1 q49
        clear h1 h2
        refine r_aload_n dJ6_compress_57 rfl ?_
        exact r_aret dJ6_compress_58 rfl (Or.inr ⟨_, rfl⟩) ⟨_, rfl, hW45, (hT7.trans hT29), h, trivial⟩
      · have h := h2 q49
        clear h1 h2
        refine r_aload dJ6_compress_54 rfl ?_
        exact r_aret dJ6_compress_56 rfl (Or.inr ⟨_, rfl⟩) ⟨_, rfl, hW45, (hT7.trans hT29), h, trivial⟩
/-- ChildSays.alike(II)I -/
def wqX0_alike (o : Nat) (a1 : Int) (a2 : Int) (N : jSh) (F : jFl) (A : jAr) (Q : Int → Prop) : Prop :=
  ∃ (P1 : Int → Prop), wqX0_wordOf o a1 N F A P1 ∧
  ∀ z3, P1 z3 →
  ∃ (P8 : Int → Prop), wqX0_wordOf o a2 N F A P8 ∧
  ∀ z10, P8 z10 →
  ((z3 < 0) →
    Q (-1)) ∧
  ((¬ (z3 < 0)) →
    ((¬ z10 < 0) →
      ∃ b17 : Nat, z3 = (b17 : Int) ∧
      jtg N b17 = 14 ∧
      ∃ (P20 : Int → Prop), wqX13_alike b17 z10 N F A P20 ∧
      ∀ z22, P20 z22 →
      Q z22) ∧
    ((z10 < 0) →
      Q (-1)))
theorem vX0_alike {G : jG} {l : Launch} {d : Nat} {N : jSh} {F : jFl} {A : jAr} {o : Nat} {a1 a2 : Int} {Q : Int → Prop} (hd : 6 ≤ d) (hW : jWg G N F A) (ht : jtg N o = 1) (ra1 : jR a1) (ra2 : jR a2) (h : wqX0_alike o a1 a2 N F A Q) : jCall G l d mX0_alike [vR (o : Int), vI a1, vI a2] N F A (jpI N F A Q) := by
  unfold wqX0_alike at h
  refine jCall.of (by decide) rfl (ls := [vR (o : Int), vI a1, vI a2, jD, jD]) (by simp only [jent_R, jent_I, jent_L, jent_nil]; exact Nat.le_of_ble_eq_true rfl) (by simp only [jloc, jent_R, jent_I, jent_L, jent_nil]; rfl) ?_
  refine r_aload_n dX0_alike_0 rfl ?_
  refine j_iload_n dX0_alike_1 rfl ?_
  obtain ⟨P1, hp2, h⟩ := h
  refine r_invV (ci := 1) (As := [vI a1]) (rest := []) dX0_alike_2 lkX0_249 rfl ht rfl rfl (vX0_wordOf (d := 5) (Nat.le_of_ble_eq_true rfl) hW ht ra1 hp2) rfl rfl (Nat.le_of_ble_eq_true rfl) (Nat.le_trans (Nat.le_of_ble_eq_true rfl) hd) (jkpR fun z3 p6 r7 => ?_)
  have h := h z3 p6
  refine r_astore_n dX0_alike_5 rfl ?_
  refine r_aload_n dX0_alike_6 rfl ?_
  refine j_iload_n dX0_alike_7 rfl ?_
  obtain ⟨P8, hp9, h⟩ := h
  refine r_invV (ci := 1) (As := [vI a2]) (rest := []) dX0_alike_8 lkX0_249 rfl ht rfl rfl (vX0_wordOf (d := 5) (Nat.le_of_ble_eq_true rfl) hW ht ra2 hp9) rfl rfl (Nat.le_of_ble_eq_true rfl) (Nat.le_trans (Nat.le_of_ble_eq_true rfl) hd) (jkpR fun z10 p13 r14 => ?_)
  have h := h z10 p13
  refine r_astore dX0_alike_11 (jokR rfl (Nat.le_of_ble_eq_true rfl)) ?_
  refine r_aload_n dX0_alike_13 rfl ?_
  obtain ⟨h1, h2⟩ := h
  refine r_ifnull 22 dX0_alike_14 rfl (fun q15 => ?_) (fun q15 => ?_)
  · have h := h1 q15
    clear h1 h2
    refine j_iconst dX0_alike_22 ?_
    refine j_goto 32 dX0_alike_23 rfl ?_
    exact j_iret dX0_alike_32 rfl ⟨_, rfl, rfl, rfl, rfl, h, (by decide)⟩
  · have h := h2 q15
    clear h1 h2
    refine r_aload dX0_alike_17 rfl ?_
    obtain ⟨h1, h2⟩ := h
    refine r_ifnonnull 26 dX0_alike_19 rfl (fun q16 => ?_) (fun q16 => ?_)
    · have h := h1 q16
      clear h1 h2
      refine r_aload_n dX0_alike_26 rfl ?_
      refine r_aload dX0_alike_27 rfl ?_
      obtain ⟨b17, hz18, h⟩ := h
      obtain ⟨t19, h⟩ := h
      obtain ⟨P20, hp21, h⟩ := h
      refine r_invV (ci := 14) (As := [vR z10]) (rest := []) dX0_alike_29 lkX0_328 hz18 t19 rfl rfl (vX13_alike (d := 2) (Nat.le_of_ble_eq_true rfl) hW t19  hp21) rfl rfl (Nat.le_of_ble_eq_true rfl) (Nat.le_trans (Nat.le_of_ble_eq_true rfl) hd) (jkpI fun z22 p25 r26 => ?_)
      have h := h z22 p25
      exact j_iret dX0_alike_32 rfl ⟨_, rfl, rfl, rfl, rfl, h, r26⟩
    · have h := h2 q16
      clear h1 h2
      refine j_iconst dX0_alike_22 ?_
      refine j_goto 32 dX0_alike_23 rfl ?_
      exact j_iret dX0_alike_32 rfl ⟨_, rfl, rfl, rfl, rfl, h, (by decide)⟩
/-- ChildSays.has(I)I -/
def wqX0_has (o : Nat) (a1 : Int) (N : jSh) (F : jFl) (A : jAr) (Q : Int → Prop) : Prop :=
  (a1 = 0 →
    ∃ b1 : Nat, F 311 o = (b1 : Int) ∧
    jtg N b1 = 2 ∧
    ∃ b4 : Nat, jfn N 617 b1 = (b4 : Int) ∧
    jtg N b4 = 20 ∧
    ∃ (P7 : Int → Prop), wqJ2_size b4 N F A P7 ∧
    ∀ z9, P7 z9 →
    Q z9) ∧
  (a1 = 1 →
    ∃ b14 : Nat, F 311 o = (b14 : Int) ∧
    jtg N b14 = 2 ∧
    ∃ b17 : Nat, jfn N 620 b14 = (b17 : Int) ∧
    jtg N b17 = 20 ∧
    ∃ (P20 : Int → Prop), wqJ2_size b17 N F A P20 ∧
    ∀ z22, P20 z22 →
    Q z22) ∧
  (a1 = 2 →
    ∃ b27 : Nat, F 311 o = (b27 : Int) ∧
    jtg N b27 = 2 ∧
    ∃ b30 : Nat, jfn N 623 b27 = (b30 : Int) ∧
    jtg N b30 = 20 ∧
    ∃ (P33 : Int → Prop), wqJ2_size b30 N F A P33 ∧
    ∀ z35, P33 z35 →
    Q z35) ∧
  (a1 = 3 →
    ∃ b40 : Nat, F 311 o = (b40 : Int) ∧
    jtg N b40 = 2 ∧
    ∃ b43 : Nat, jfn N 626 b40 = (b43 : Int) ∧
    jtg N b43 = 20 ∧
    ∃ (P46 : Int → Prop), wqJ2_size b43 N F A P46 ∧
    ∀ z48, P46 z48 →
    Q z48) ∧
  (a1 = 4 →
    ∃ b53 : Nat, F 311 o = (b53 : Int) ∧
    jtg N b53 = 2 ∧
    ∃ (P56 : Int → Prop), wqX1_standing b53 N F A P56 ∧
    ∀ z58, P56 z58 →
    Q z58) ∧
  (a1 = 5 →
    ∃ b63 : Nat, F 311 o = (b63 : Int) ∧
    jtg N b63 = 2 ∧
    Q (F 603 b63)) ∧
  (a1 = 6 →
    ∃ b66 : Nat, F 311 o = (b66 : Int) ∧
    jtg N b66 = 2 ∧
    Q (F 606 b66)) ∧
  (a1 = 7 →
    ∃ b69 : Nat, F 311 o = (b69 : Int) ∧
    jtg N b69 = 2 ∧
    Q (F 609 b69)) ∧
  (a1 = 8 →
    ∃ b72 : Nat, F 311 o = (b72 : Int) ∧
    jtg N b72 = 2 ∧
    Q (F 612 b72)) ∧
  (a1 = 9 →
    ∃ b75 : Nat, F 311 o = (b75 : Int) ∧
    jtg N b75 = 2 ∧
    ∃ b78 : Nat, jfn N 632 b75 = (b78 : Int) ∧
    jtg N b78 = 20 ∧
    ∃ (P81 : Int → Prop), wqJ2_size b78 N F A P81 ∧
    ∀ z83, P81 z83 →
    Q z83) ∧
  (a1 = 10 →
    ∃ b88 : Nat, jfn N 323 o = (b88 : Int) ∧
    jtg N b88 = 20 ∧
    ∃ (P91 : Int → Prop), wqJ2_size b88 N F A P91 ∧
    ∀ z93, P91 z93 →
    Q z93) ∧
  (a1 = 11 →
    jR (F 319 o) ∧
    Q (F 319 o)) ∧
  (¬ a1 = 0 → ¬ a1 = 1 → ¬ a1 = 2 → ¬ a1 = 3 → ¬ a1 = 4 → ¬ a1 = 5 → ¬ a1 = 6 → ¬ a1 = 7 → ¬ a1 = 8 → ¬ a1 = 9 → ¬ a1 = 10 → ¬ a1 = 11 →
    Q (-1))
theorem vX0_has {G : jG} {l : Launch} {d : Nat} {N : jSh} {F : jFl} {A : jAr} {o : Nat} {a1 : Int} {Q : Int → Prop} (hd : 6 ≤ d) (hW : jWg G N F A) (ht : jtg N o = 1) (ra1 : jR a1) (h : wqX0_has o a1 N F A Q) : jCall G l d mX0_has [vR (o : Int), vI a1] N F A (jpI N F A Q) := by
  unfold wqX0_has at h
  refine jCall.of (by decide) rfl (ls := [vR (o : Int), vI a1]) (by simp only [jent_R, jent_I, jent_L, jent_nil]; exact Nat.le_of_ble_eq_true rfl) (by simp only [jloc, jent_R, jent_I, jent_L, jent_nil]; rfl) ?_
  refine j_iload_n dX0_has_0 rfl ?_
  obtain ⟨h1, h⟩ := h
  by_cases q99 : a1 = 0
  · refine j_tableIn (off := 63) 64 dX0_has_1 ra1 (by rw [q99]; decide) (by rw [q99]; decide) (by rw [q99]; rfl) rfl ?_
    have h := h1 q99
    clear h1
    refine r_aload_n dX0_has_64 rfl ?_
    refine r_gR dX0_has_65 flX0_20_1 rfl ht rfl ?_
    obtain ⟨b1, hz2, h⟩ := h
    obtain ⟨t3, h⟩ := h
    refine r_gRF dX0_has_68 flX0_197_2 hz2 t3 rfl ?_
    obtain ⟨b4, hz5, h⟩ := h
    obtain ⟨t6, h⟩ := h
    obtain ⟨P7, hp8, h⟩ := h
    refine r_invV (ci := 20) (As := []) (rest := []) dX0_has_71 lkX0_128 hz5 t6 rfl rfl (vJ2_size (d := 2) (Nat.le_of_ble_eq_true rfl) hW t6  hp8) rfl rfl (Nat.le_of_ble_eq_true rfl) (Nat.le_trans (Nat.le_of_ble_eq_true rfl) hd) (jkpI fun z9 p12 r13 => ?_)
    have h := h z9 p12
    exact j_iret dX0_has_74 rfl ⟨_, rfl, rfl, rfl, rfl, h, r13⟩
  clear h1
  obtain ⟨h1, h⟩ := h
  by_cases q100 : a1 = 1
  · refine j_tableIn (off := 74) 75 dX0_has_1 ra1 (by rw [q100]; decide) (by rw [q100]; decide) (by rw [q100]; rfl) rfl ?_
    have h := h1 q100
    clear h1
    refine r_aload_n dX0_has_75 rfl ?_
    refine r_gR dX0_has_76 flX0_20_1 rfl ht rfl ?_
    obtain ⟨b14, hz15, h⟩ := h
    obtain ⟨t16, h⟩ := h
    refine r_gRF dX0_has_79 flX0_200_2 hz15 t16 rfl ?_
    obtain ⟨b17, hz18, h⟩ := h
    obtain ⟨t19, h⟩ := h
    obtain ⟨P20, hp21, h⟩ := h
    refine r_invV (ci := 20) (As := []) (rest := []) dX0_has_82 lkX0_128 hz18 t19 rfl rfl (vJ2_size (d := 2) (Nat.le_of_ble_eq_true rfl) hW t19  hp21) rfl rfl (Nat.le_of_ble_eq_true rfl) (Nat.le_trans (Nat.le_of_ble_eq_true rfl) hd) (jkpI fun z22 p25 r26 => ?_)
    have h := h z22 p25
    exact j_iret dX0_has_85 rfl ⟨_, rfl, rfl, rfl, rfl, h, r26⟩
  clear h1
  obtain ⟨h1, h⟩ := h
  by_cases q101 : a1 = 2
  · refine j_tableIn (off := 85) 86 dX0_has_1 ra1 (by rw [q101]; decide) (by rw [q101]; decide) (by rw [q101]; rfl) rfl ?_
    have h := h1 q101
    clear h1
    refine r_aload_n dX0_has_86 rfl ?_
    refine r_gR dX0_has_87 flX0_20_1 rfl ht rfl ?_
    obtain ⟨b27, hz28, h⟩ := h
    obtain ⟨t29, h⟩ := h
    refine r_gRF dX0_has_90 flX0_203_2 hz28 t29 rfl ?_
    obtain ⟨b30, hz31, h⟩ := h
    obtain ⟨t32, h⟩ := h
    obtain ⟨P33, hp34, h⟩ := h
    refine r_invV (ci := 20) (As := []) (rest := []) dX0_has_93 lkX0_128 hz31 t32 rfl rfl (vJ2_size (d := 2) (Nat.le_of_ble_eq_true rfl) hW t32  hp34) rfl rfl (Nat.le_of_ble_eq_true rfl) (Nat.le_trans (Nat.le_of_ble_eq_true rfl) hd) (jkpI fun z35 p38 r39 => ?_)
    have h := h z35 p38
    exact j_iret dX0_has_96 rfl ⟨_, rfl, rfl, rfl, rfl, h, r39⟩
  clear h1
  obtain ⟨h1, h⟩ := h
  by_cases q102 : a1 = 3
  · refine j_tableIn (off := 96) 97 dX0_has_1 ra1 (by rw [q102]; decide) (by rw [q102]; decide) (by rw [q102]; rfl) rfl ?_
    have h := h1 q102
    clear h1
    refine r_aload_n dX0_has_97 rfl ?_
    refine r_gR dX0_has_98 flX0_20_1 rfl ht rfl ?_
    obtain ⟨b40, hz41, h⟩ := h
    obtain ⟨t42, h⟩ := h
    refine r_gRF dX0_has_101 flX0_206_2 hz41 t42 rfl ?_
    obtain ⟨b43, hz44, h⟩ := h
    obtain ⟨t45, h⟩ := h
    obtain ⟨P46, hp47, h⟩ := h
    refine r_invV (ci := 20) (As := []) (rest := []) dX0_has_104 lkX0_128 hz44 t45 rfl rfl (vJ2_size (d := 2) (Nat.le_of_ble_eq_true rfl) hW t45  hp47) rfl rfl (Nat.le_of_ble_eq_true rfl) (Nat.le_trans (Nat.le_of_ble_eq_true rfl) hd) (jkpI fun z48 p51 r52 => ?_)
    have h := h z48 p51
    exact j_iret dX0_has_107 rfl ⟨_, rfl, rfl, rfl, rfl, h, r52⟩
  clear h1
  obtain ⟨h1, h⟩ := h
  by_cases q103 : a1 = 4
  · refine j_tableIn (off := 107) 108 dX0_has_1 ra1 (by rw [q103]; decide) (by rw [q103]; decide) (by rw [q103]; rfl) rfl ?_
    have h := h1 q103
    clear h1
    refine r_aload_n dX0_has_108 rfl ?_
    refine r_gR dX0_has_109 flX0_20_1 rfl ht rfl ?_
    obtain ⟨b53, hz54, h⟩ := h
    obtain ⟨t55, h⟩ := h
    obtain ⟨P56, hp57, h⟩ := h
    refine r_invV (ci := 2) (As := []) (rest := []) dX0_has_112 lkX0_209 hz54 t55 rfl rfl (vX1_standing (d := 5) (Nat.le_of_ble_eq_true rfl) hW t55  hp57) rfl rfl (Nat.le_of_ble_eq_true rfl) (Nat.le_trans (Nat.le_of_ble_eq_true rfl) hd) (jkpI fun z58 p61 r62 => ?_)
    have h := h z58 p61
    exact j_iret dX0_has_115 rfl ⟨_, rfl, rfl, rfl, rfl, h, r62⟩
  clear h1
  obtain ⟨h1, h⟩ := h
  by_cases q104 : a1 = 5
  · refine j_tableIn (off := 115) 116 dX0_has_1 ra1 (by rw [q104]; decide) (by rw [q104]; decide) (by rw [q104]; rfl) rfl ?_
    have h := h1 q104
    clear h1
    refine r_aload_n dX0_has_116 rfl ?_
    refine r_gR dX0_has_117 flX0_20_1 rfl ht rfl ?_
    obtain ⟨b63, hz64, h⟩ := h
    obtain ⟨t65, h⟩ := h
    refine r_gI dX0_has_120 flX0_212_2 hz64 t65 rfl ?_
    exact j_iret dX0_has_123 rfl ⟨_, rfl, rfl, rfl, rfl, h, (hW.fi rfl)⟩
  clear h1
  obtain ⟨h1, h⟩ := h
  by_cases q105 : a1 = 6
  · refine j_tableIn (off := 123) 124 dX0_has_1 ra1 (by rw [q105]; decide) (by rw [q105]; decide) (by rw [q105]; rfl) rfl ?_
    have h := h1 q105
    clear h1
    refine r_aload_n dX0_has_124 rfl ?_
    refine r_gR dX0_has_125 flX0_20_1 rfl ht rfl ?_
    obtain ⟨b66, hz67, h⟩ := h
    obtain ⟨t68, h⟩ := h
    refine r_gI dX0_has_128 flX0_215_2 hz67 t68 rfl ?_
    exact j_iret dX0_has_131 rfl ⟨_, rfl, rfl, rfl, rfl, h, (hW.fi rfl)⟩
  clear h1
  obtain ⟨h1, h⟩ := h
  by_cases q106 : a1 = 7
  · refine j_tableIn (off := 131) 132 dX0_has_1 ra1 (by rw [q106]; decide) (by rw [q106]; decide) (by rw [q106]; rfl) rfl ?_
    have h := h1 q106
    clear h1
    refine r_aload_n dX0_has_132 rfl ?_
    refine r_gR dX0_has_133 flX0_20_1 rfl ht rfl ?_
    obtain ⟨b69, hz70, h⟩ := h
    obtain ⟨t71, h⟩ := h
    refine r_gI dX0_has_136 flX0_218_2 hz70 t71 rfl ?_
    exact j_iret dX0_has_139 rfl ⟨_, rfl, rfl, rfl, rfl, h, (hW.fi rfl)⟩
  clear h1
  obtain ⟨h1, h⟩ := h
  by_cases q107 : a1 = 8
  · refine j_tableIn (off := 139) 140 dX0_has_1 ra1 (by rw [q107]; decide) (by rw [q107]; decide) (by rw [q107]; rfl) rfl ?_
    have h := h1 q107
    clear h1
    refine r_aload_n dX0_has_140 rfl ?_
    refine r_gR dX0_has_141 flX0_20_1 rfl ht rfl ?_
    obtain ⟨b72, hz73, h⟩ := h
    obtain ⟨t74, h⟩ := h
    refine r_gI dX0_has_144 flX0_221_2 hz73 t74 rfl ?_
    exact j_iret dX0_has_147 rfl ⟨_, rfl, rfl, rfl, rfl, h, (hW.fi rfl)⟩
  clear h1
  obtain ⟨h1, h⟩ := h
  by_cases q108 : a1 = 9
  · refine j_tableIn (off := 147) 148 dX0_has_1 ra1 (by rw [q108]; decide) (by rw [q108]; decide) (by rw [q108]; rfl) rfl ?_
    have h := h1 q108
    clear h1
    refine r_aload_n dX0_has_148 rfl ?_
    refine r_gR dX0_has_149 flX0_20_1 rfl ht rfl ?_
    obtain ⟨b75, hz76, h⟩ := h
    obtain ⟨t77, h⟩ := h
    refine r_gRF dX0_has_152 flX0_224_2 hz76 t77 rfl ?_
    obtain ⟨b78, hz79, h⟩ := h
    obtain ⟨t80, h⟩ := h
    obtain ⟨P81, hp82, h⟩ := h
    refine r_invV (ci := 20) (As := []) (rest := []) dX0_has_155 lkX0_128 hz79 t80 rfl rfl (vJ2_size (d := 2) (Nat.le_of_ble_eq_true rfl) hW t80  hp82) rfl rfl (Nat.le_of_ble_eq_true rfl) (Nat.le_trans (Nat.le_of_ble_eq_true rfl) hd) (jkpI fun z83 p86 r87 => ?_)
    have h := h z83 p86
    exact j_iret dX0_has_158 rfl ⟨_, rfl, rfl, rfl, rfl, h, r87⟩
  clear h1
  obtain ⟨h1, h⟩ := h
  by_cases q109 : a1 = 10
  · refine j_tableIn (off := 158) 159 dX0_has_1 ra1 (by rw [q109]; decide) (by rw [q109]; decide) (by rw [q109]; rfl) rfl ?_
    have h := h1 q109
    clear h1
    refine r_aload_n dX0_has_159 rfl ?_
    refine r_gRF dX0_has_160 flX0_35_1 rfl ht rfl ?_
    obtain ⟨b88, hz89, h⟩ := h
    obtain ⟨t90, h⟩ := h
    obtain ⟨P91, hp92, h⟩ := h
    refine r_invV (ci := 20) (As := []) (rest := []) dX0_has_163 lkX0_128 hz89 t90 rfl rfl (vJ2_size (d := 2) (Nat.le_of_ble_eq_true rfl) hW t90  hp92) rfl rfl (Nat.le_of_ble_eq_true rfl) (Nat.le_trans (Nat.le_of_ble_eq_true rfl) hd) (jkpI fun z93 p96 r97 => ?_)
    have h := h z93 p96
    exact j_iret dX0_has_166 rfl ⟨_, rfl, rfl, rfl, rfl, h, r97⟩
  clear h1
  obtain ⟨h1, h⟩ := h
  by_cases q110 : a1 = 11
  · refine j_tableIn (off := 166) 167 dX0_has_1 ra1 (by rw [q110]; decide) (by rw [q110]; decide) (by rw [q110]; rfl) rfl ?_
    have h := h1 q110
    clear h1
    refine r_aload_n dX0_has_167 rfl ?_
    refine r_gL dX0_has_168 flX0_28_1 rfl ht rfl ?_
    refine j_l2i dX0_has_171 ?_
    obtain ⟨r98, h⟩ := h
    exact j_iret dX0_has_172 rfl ⟨_, rfl, rfl, rfl, rfl, h, r98⟩
  clear h1
  have h := h q99 q100 q101 q102 q103 q104 q105 q106 q107 q108 q109 q110
  refine j_tableOut 173 dX0_has_1 ra1 (by omega) rfl ?_
  refine j_iconst dX0_has_173 ?_
  exact j_iret dX0_has_174 rfl ⟨_, rfl, rfl, rfl, rfl, h, (by decide)⟩
/-- ChildSays.hears(IIZ)I -/
def wqX0_hears (o : Nat) (a1 : Int) (a2 : Int) (a3 : Int) (N : jSh) (F : jFl) (A : jAr) (Q : Int → Prop) : Prop :=
  ∃ (P1 : Int → Prop), wqX0_childOf o a1 N F A P1 ∧
  ∀ z3, P1 z3 →
  ∃ (P8 : Int → Prop), wqX0_wordOf o a2 N F A P8 ∧
  ∀ z10, P8 z10 →
  ((z3 < 0) →
    Q (-1)) ∧
  ((¬ (z3 < 0)) →
    ((¬ z10 < 0) →
      ((a3 = 0) →
        ∃ b18 : Nat, z3 = (b18 : Int) ∧
        jtg N b18 = 16 ∧
        ∃ b21 : Nat, jfn N 4802 b18 = (b21 : Int) ∧
        jtg N b21 = 15 ∧
        ∃ (P24 : Int → Prop), wqX14_heard b21 z10 N F A P24 ∧
        ∀ z26, P24 z26 →
        ∃ b31 : Nat, z26 = (b31 : Int) ∧
        jtg N b31 = 14 ∧
        Q (jfn N 3903 b31)) ∧
      ((¬ (a3 = 0)) →
        ∃ b34 : Nat, z3 = (b34 : Int) ∧
        jtg N b34 = 16 ∧
        ∃ b37 : Nat, jfn N 4814 b34 = (b37 : Int) ∧
        jtg N b37 = 107 ∧
        ((0 : Int) ≤ a2 ∧ (a2 : Int) < (jln N b37 : Int)) ∧
        ∃ b41 : Nat, A b37 a2 = (b41 : Int) ∧
        jtg N b41 = 14 ∧
        Q (jfn N 3903 b41))) ∧
    ((z10 < 0) →
      Q (-1)))
theorem vX0_hears {G : jG} {l : Launch} {d : Nat} {N : jSh} {F : jFl} {A : jAr} {o : Nat} {a1 a2 a3 : Int} {Q : Int → Prop} (hd : 6 ≤ d) (hW : jWg G N F A) (ht : jtg N o = 1) (ra1 : jR a1) (ra2 : jR a2) (ba3 : a3 = 0 ∨ a3 = 1) (h : wqX0_hears o a1 a2 a3 N F A Q) : jCall G l d mX0_hears [vR (o : Int), vI a1, vI a2, vI a3] N F A (jpI N F A Q) := by
  unfold wqX0_hears at h
  refine jCall.of (by decide) rfl (ls := [vR (o : Int), vI a1, vI a2, vI a3, jD, jD]) (by simp only [jent_R, jent_I, jent_L, jent_nil]; exact Nat.le_of_ble_eq_true rfl) (by simp only [jloc, jent_R, jent_I, jent_L, jent_nil]; rfl) ?_
  refine r_aload_n dX0_hears_0 rfl ?_
  refine j_iload_n dX0_hears_1 rfl ?_
  obtain ⟨P1, hp2, h⟩ := h
  refine r_invV (ci := 1) (As := [vI a1]) (rest := []) dX0_hears_2 lkX0_273 rfl ht rfl rfl (vX0_childOf (d := 5) (Nat.le_of_ble_eq_true rfl) hW ht ra1 hp2) rfl rfl (Nat.le_of_ble_eq_true rfl) (Nat.le_trans (Nat.le_of_ble_eq_true rfl) hd) (jkpR fun z3 p6 r7 => ?_)
  have h := h z3 p6
  refine r_astore dX0_hears_5 rfl ?_
  refine r_aload_n dX0_hears_7 rfl ?_
  refine j_iload_n dX0_hears_8 rfl ?_
  obtain ⟨P8, hp9, h⟩ := h
  refine r_invV (ci := 1) (As := [vI a2]) (rest := []) dX0_hears_9 lkX0_249 rfl ht rfl rfl (vX0_wordOf (d := 5) (Nat.le_of_ble_eq_true rfl) hW ht ra2 hp9) rfl rfl (Nat.le_of_ble_eq_true rfl) (Nat.le_trans (Nat.le_of_ble_eq_true rfl) hd) (jkpR fun z10 p13 r14 => ?_)
  have h := h z10 p13
  refine r_astore dX0_hears_12 (jokR rfl (Nat.le_of_ble_eq_true rfl)) ?_
  refine r_aload dX0_hears_14 rfl ?_
  obtain ⟨h1, h2⟩ := h
  refine r_ifnull 24 dX0_hears_16 rfl (fun q15 => ?_) (fun q15 => ?_)
  · have h := h1 q15
    clear h1 h2
    refine j_iconst dX0_hears_24 ?_
    exact j_iret dX0_hears_25 rfl ⟨_, rfl, rfl, rfl, rfl, h, (by decide)⟩
  · have h := h2 q15
    clear h1 h2
    refine r_aload dX0_hears_19 rfl ?_
    obtain ⟨h1, h2⟩ := h
    refine r_ifnonnull 26 dX0_hears_21 rfl (fun q16 => ?_) (fun q16 => ?_)
    · have h := h1 q16
      clear h1 h2
      refine j_iload_n dX0_hears_26 rfl ?_
      obtain ⟨h1, h2⟩ := h
      refine j_if_eq 40 dX0_hears_27 rfl (jR_b ba3) (fun q17 => ?_) (fun q17 => ?_)
      · have h := h1 q17
        clear h1 h2
        refine r_aload dX0_hears_40 rfl ?_
        obtain ⟨b18, hz19, h⟩ := h
        obtain ⟨t20, h⟩ := h
        refine r_gRF dX0_hears_42 flX0_281_16 hz19 t20 rfl ?_
        refine r_aload dX0_hears_45 rfl ?_
        obtain ⟨b21, hz22, h⟩ := h
        obtain ⟨t23, h⟩ := h
        obtain ⟨P24, hp25, h⟩ := h
        refine r_invV (ci := 15) (As := [vR z10]) (rest := []) dX0_hears_47 lkX0_335 hz22 t23 rfl rfl (vX14_heard (d := 2) (Nat.le_of_ble_eq_true rfl) hW t23  hp25) rfl rfl (Nat.le_of_ble_eq_true rfl) (Nat.le_trans (Nat.le_of_ble_eq_true rfl) hd) (jkpR fun z26 p29 r30 => ?_)
        have h := h z26 p29
        obtain ⟨b31, hz32, h⟩ := h
        obtain ⟨t33, h⟩ := h
        refine r_gIF dX0_hears_50 flX0_323_14 hz32 t33 rfl ?_
        exact j_iret dX0_hears_53 rfl ⟨_, rfl, rfl, rfl, rfl, h, (hW.ni rfl (by decide))⟩
      · have h := h2 q17
        clear h1 h2
        refine r_aload dX0_hears_30 rfl ?_
        obtain ⟨b34, hz35, h⟩ := h
        obtain ⟨t36, h⟩ := h
        refine r_gRF dX0_hears_32 flX0_332_16 hz35 t36 rfl ?_
        refine j_iload_n dX0_hears_35 rfl ?_
        obtain ⟨b37, hz38, h⟩ := h
        obtain ⟨t39, h⟩ := h
        obtain ⟨c40, h⟩ := h
        refine r_aald dX0_hears_36 hz38 t39 rfl rfl c40 ?_
        refine j_goto 50 dX0_hears_37 rfl ?_
        obtain ⟨b41, hz42, h⟩ := h
        obtain ⟨t43, h⟩ := h
        refine r_gIF dX0_hears_50 flX0_323_14 hz42 t43 rfl ?_
        exact j_iret dX0_hears_53 rfl ⟨_, rfl, rfl, rfl, rfl, h, (hW.ni rfl (by decide))⟩
    · have h := h2 q16
      clear h1 h2
      refine j_iconst dX0_hears_24 ?_
      exact j_iret dX0_hears_25 rfl ⟨_, rfl, rfl, rfl, rfl, h, (by decide)⟩
/-- ChildSays.<init>()V -/
def wqX0_init (S : Nat → Nat) (o : Nat) (N : jSh) (F : jFl) (A : jAr) (Q : jSh → jFl → jAr → Prop) : Prop :=
  ∀ (b1 : Nat) (N2 : jSh) (F3 : jFl) (A4 : jAr), b1 = jnx N → N2 = jnew N 111 1600 1600 1 → F3 = nwF N F → A4 = nwA N 111 A →
  jfn N2 0 o = 1 ∧
  ∀ N12 : jSh, N12 = jpF N2 302 o (b1 : Int) →
  ∀ (b14 : Nat) (N15 : jSh) (F16 : jFl) (A17 : jAr), b14 = jnx N12 → N15 = jnew N12 102 6 6 1 → F16 = nwF N12 F3 → A17 = nwA N12 102 A4 →
  ∀ N25 : jSh, N25 = jpF N15 308 o (b14 : Int) →
  ∀ (b27 : Nat) (N28 : jSh) (F29 : jFl), b27 = jnx N25 → N28 = jnew N25 2 0 11 1 → F29 = nwF N25 F16 →
  ∃ (P34 : jSh → jFl → jAr → Prop), wqX1_init S b27 N28 F29 A17 P34 ∧
  ∀ N39 F37 A38, P34 N39 F37 A38 →
  ∀ F47 : jFl, F47 = upF F37 311 o (b27 : Int) →
  ∀ F49 : jFl, F49 = upF F47 315 o (-1) →
  ∀ F51 : jFl, F51 = upF F49 319 o 1 →
  ∀ (b52 : Nat) (N53 : jSh) (F54 : jFl), b52 = jnx N39 → N53 = jnew N39 20 0 3 1 → F54 = nwF N39 F51 →
  ∃ (P59 : jFl → jAr → Prop), wqJ2_init S b52 N53 F54 A38 P59 ∧
  ∀ F62 A63, P59 F62 A63 →
  ∀ N71 : jSh, N71 = jpF N53 323 o (b52 : Int) →
  ∀ (b73 : Nat) (N74 : jSh) (F75 : jFl), b73 = jnx N71 → N74 = jnew N71 3 0 5 1 → F75 = nwF N71 F62 →
  ∃ (P80 : jSh → jFl → jAr → Prop), wqX2_init b73 (o : Int) N74 F75 A63 P80 ∧
  ∀ N85 F83 A84, P80 N85 F83 A84 →
  ∀ N93 : jSh, N93 = jpF N85 326 o (b73 : Int) →
  ∀ (b95 : Nat) (N96 : jSh) (F97 : jFl), b95 = jnx N93 → N96 = jnew N93 5 0 4 1 → F97 = nwF N93 F83 →
  ∃ (P102 : jSh → jFl → jAr → Prop), wqX4_init b95 (o : Int) N96 F97 A84 P102 ∧
  ∀ N107 F105 A106, P102 N107 F105 A106 →
  ∀ N115 : jSh, N115 = jpF N107 329 o (b95 : Int) →
  ∀ (b117 : Nat) (N118 : jSh) (F119 : jFl), b117 = jnx N115 → N118 = jnew N115 6 0 5 1 → F119 = nwF N115 F105 →
  ∃ (P124 : jSh → jFl → jAr → Prop), wqX5_init b117 (o : Int) N118 F119 A106 P124 ∧
  ∀ N129 F127 A128, P124 N129 F127 A128 →
  ∀ N137 : jSh, N137 = jpF N129 335 o (b117 : Int) →
  ∀ (b139 : Nat) (N140 : jSh) (F141 : jFl), b139 = jnx N137 → N140 = jnew N137 7 0 6 1 → F141 = nwF N137 F127 →
  ∃ (P146 : jSh → jFl → jAr → Prop), wqX6_init b139 (o : Int) N140 F141 A128 P146 ∧
  ∀ N151 F149 A150, P146 N151 F149 A150 →
  ∀ N159 : jSh, N159 = jpF N151 338 o (b139 : Int) →
  ∀ (b161 : Nat) (N162 : jSh) (F163 : jFl), b161 = jnx N159 → N162 = jnew N159 8 0 7 1 → F163 = nwF N159 F149 →
  ∃ (P168 : jSh → jFl → jAr → Prop), wqX7_init b161 (o : Int) N162 F163 A150 P168 ∧
  ∀ N173 F171 A172, P168 N173 F171 A172 →
  ∀ N181 : jSh, N181 = jpF N173 341 o (b161 : Int) →
  ∀ (b183 : Nat) (N184 : jSh) (F185 : jFl), b183 = jnx N181 → N184 = jnew N181 9 0 5 1 → F185 = nwF N181 F171 →
  ∃ (P190 : jSh → jFl → jAr → Prop), wqX8_init b183 (o : Int) N184 F185 A172 P190 ∧
  ∀ N195 F193 A194, P190 N195 F193 A194 →
  ∀ N203 : jSh, N203 = jpF N195 344 o (b183 : Int) →
  ∀ (b205 : Nat) (N206 : jSh) (F207 : jFl), b205 = jnx N203 → N206 = jnew N203 4 0 3 1 → F207 = nwF N203 F193 →
  ∃ (P212 : jSh → jFl → jAr → Prop), wqX3_init b205 N206 F207 A194 P212 ∧
  ∀ N217 F215 A216, P212 N217 F215 A216 →
  ∀ N225 : jSh, N225 = jpF N217 347 o (b205 : Int) →
  ∀ (b227 : Nat) (N228 : jSh) (F229 : jFl), b227 = jnx N225 → N228 = jnew N225 21 0 4 1 → F229 = nwF N225 F215 →
  ∃ (P234 : jSh → jFl → jAr → Prop), wqJ4_init S b227 N228 F229 A216 P234 ∧
  ∀ N239 F237 A238, P234 N239 F237 A238 →
  ∀ N247 : jSh, N247 = jpF N239 350 o (b227 : Int) →
  Q N247 F237 A238
theorem vX0_init {G : jG} {l : Launch} {d : Nat} {N : jSh} {F : jFl} {A : jAr} {o : Nat} {Q : jSh → jFl → jAr → Prop} (hd : 6 ≤ d) (hW : jWg G N F A) (ht : jtg N o = 1) (h : wqX0_init (gS G) o N F A Q) : jCall G l d mX0_init [vR (o : Int)] N F A (cnV G N Q) := by
  unfold wqX0_init at h
  refine jCall.of (by decide) rfl (ls := [vR (o : Int)]) (by simp only [jent_R, jent_I, jent_L, jent_nil]; exact Nat.le_of_ble_eq_true rfl) (by simp only [jloc, jent_R, jent_I, jent_L, jent_nil]; rfl) ?_
  refine r_aload_n dX0_init_0 rfl ?_
  refine r_objInit dX0_init_1 q187 rfl (Nat.le_trans (Nat.le_of_ble_eq_true rfl) hd) (Nat.le_of_ble_eq_true rfl) ?_
  refine r_aload_n dX0_init_4 rfl ?_
  refine j_sipush dX0_init_5 ?_
  refine c_newa (t := 111) (n := 1600) hW dX0_init_8 rfl rfl rfl (fun _ h => by cases h) q222 (by decide) rfl (Nat.le_of_ble_eq_true rfl) fun b1 N2 F3 A4 eb1 eN2 eF3 eA4 t5 w6 hT7 hW8 => ?_
  have h := h b1 N2 F3 A4 eb1 eN2 eF3 eA4
  have t9 : jtg N2 o = 1 := (hT7.tg hW ht)
  obtain ⟨w10, h⟩ := h
  refine c_pRF hW8 dX0_init_10 flX0_9_1 rfl t9 w10 rfl (ty := (.array .char)) rfl (by intro c hc; cases hc; rfl) (by decide) (by decide +kernel) (Or.inr ⟨_, rfl⟩) fun N12 eN12 hT13 hW11 => ?_
  have h := h N12 eN12
  refine r_aload_n dX0_init_13 rfl ?_
  refine j_bipush dX0_init_14 ?_
  refine c_newa (t := 102) (n := 6) hW11 dX0_init_16 rfl rfl rfl (fun _ h => by cases h) q223 (by decide) rfl (Nat.le_of_ble_eq_true rfl) fun b14 N15 F16 A17 eb14 eN15 eF16 eA17 t18 w19 hT20 hW21 => ?_
  have h := h b14 N15 F16 A17 eb14 eN15 eF16 eA17
  have t22 : jtg N15 o = 1 := (hT20.tg hW11 (hT13.tg hW8 t9))
  have w23 : jfn N15 0 o = 1 := (hT20.ow hW11 (hT13.tg hW8 t9) (hT13.ow hW8 t9 w10))
  refine c_pRF hW21 dX0_init_18 flX0_13_1 rfl t22 w23 rfl (ty := (.array .int)) rfl (by intro c hc; cases hc; rfl) (by decide) (by decide +kernel) (Or.inr ⟨_, rfl⟩) fun N25 eN25 hT26 hW24 => ?_
  have h := h N25 eN25
  refine r_aload_n dX0_init_21 rfl ?_
  refine c_new (ci := 2) hW24 dX0_init_22 rfl q190 rfl rfl fun b27 N28 F29 eb27 eN28 eF29 t30 w31 hT32 hW33 => ?_
  have h := h b27 N28 F29 eb27 eN28 eF29
  refine j_dup dX0_init_25 (vR_cat _) ?_
  obtain ⟨P34, hp35, h⟩ := h
  refine r_invIN (As := []) (rest := [vR (b27 : Int), vR (o : Int)]) dX0_init_26 lkX0_19 rfl (vX1_init (d := 5) (Nat.le_of_ble_eq_true rfl) hW33 t30  hp35) rfl rfl (Nat.le_of_ble_eq_true rfl) (Nat.le_trans (Nat.le_of_ble_eq_true rfl) hd) (cknV fun N39 F37 A38 hW40 hT41 p42 => ?_)
  have h := h N39 F37 A38 p42
  have t44 : jtg N39 o = 1 := (hT41.tg hW33 (hT32.tg hW24 (hT26.tg hW21 t22)))
  have w45 : jfn N39 0 o = 1 := (hT41.ow hW33 (hT32.tg hW24 (hT26.tg hW21 (hT20.tg hW11 (hT13.tg hW8 t9)))) (hT32.ow hW24 (hT26.tg hW21 (hT20.tg hW11 (hT13.tg hW8 t9))) (hT26.ow hW21 (hT20.tg hW11 (hT13.tg hW8 t9)) w23)))
  refine c_pR hW40 dX0_init_29 flX0_20_1 rfl t44 w45 rfl (ty := .object "ChildSays$Town") (by decide +kernel) (Or.inl ⟨_, rfl⟩) fun F47 eF47 hW46 => ?_
  have h := h F47 eF47
  refine r_aload_n dX0_init_32 rfl ?_
  refine j_iconst dX0_init_33 ?_
  refine c_pI hW46 dX0_init_34 flX0_24_1 rfl t44 w45 rfl (by decide) fun F49 eF49 hW48 => ?_
  have h := h F49 eF49
  refine r_aload_n dX0_init_37 rfl ?_
  refine j_lconst 1 rfl dX0_init_38 ?_
  refine c_pJ hW48 dX0_init_39 flX0_28_1 rfl t44 w45 rfl (by decide) fun F51 eF51 hW50 => ?_
  have h := h F51 eF51
  refine r_aload_n dX0_init_42 rfl ?_
  refine c_new (ci := 20) hW50 dX0_init_43 rfl q286 rfl rfl fun b52 N53 F54 eb52 eN53 eF54 t55 w56 hT57 hW58 => ?_
  have h := h b52 N53 F54 eb52 eN53 eF54
  refine j_dup dX0_init_46 (vR_cat _) ?_
  obtain ⟨P59, hp60, h⟩ := h
  refine r_invI (As := []) (rest := [vR (b52 : Int), vR (o : Int)]) dX0_init_47 lkX0_34 rfl (vJ2_init (d := 4) (Nat.le_of_ble_eq_true rfl) hW58 t55  hp60) rfl rfl (Nat.le_of_ble_eq_true rfl) (Nat.le_trans (Nat.le_of_ble_eq_true rfl) hd) (ckmV fun F62 A63 hW64 p66 => ?_)
  have h := h F62 A63 p66
  have t68 : jtg N53 o = 1 := (hT57.tg hW50 t44)
  have w69 : jfn N53 0 o = 1 := (hT57.ow hW50 (hT41.tg hW33 (hT32.tg hW24 (hT26.tg hW21 (hT20.tg hW11 (hT13.tg hW8 t9))))) w45)
  refine c_pRF hW64 dX0_init_50 flX0_35_1 rfl t68 w69 rfl (ty := .object "java/util/ArrayList") rfl (by intro c hc; cases hc; rfl) (by decide) (by decide +kernel) (Or.inl ⟨_, rfl⟩) fun N71 eN71 hT72 hW70 => ?_
  have h := h N71 eN71
  refine r_aload_n dX0_init_53 rfl ?_
  refine c_new (ci := 3) hW70 dX0_init_54 rfl q288 rfl rfl fun b73 N74 F75 eb73 eN74 eF75 t76 w77 hT78 hW79 => ?_
  have h := h b73 N74 F75 eb73 eN74 eF75
  refine j_dup dX0_init_57 (vR_cat _) ?_
  refine r_aload_n dX0_init_58 rfl ?_
  obtain ⟨P80, hp81, h⟩ := h
  refine r_invIN (As := [vR (o : Int)]) (rest := [vR (b73 : Int), vR (o : Int)]) dX0_init_59 lkX0_41 rfl (vX2_init (d := 3) (Nat.le_of_ble_eq_true rfl) hW79 t76  hp81) rfl rfl (Nat.le_of_ble_eq_true rfl) (Nat.le_trans (Nat.le_of_ble_eq_true rfl) hd) (cknV fun N85 F83 A84 hW86 hT87 p88 => ?_)
  have h := h N85 F83 A84 p88
  have t90 : jtg N85 o = 1 := (hT87.tg hW79 (hT78.tg hW70 (hT72.tg hW64 t68)))
  have w91 : jfn N85 0 o = 1 := (hT87.ow hW79 (hT78.tg hW70 (hT72.tg hW64 (hT57.tg hW50 (hT41.tg hW33 (hT32.tg hW24 (hT26.tg hW21 (hT20.tg hW11 (hT13.tg hW8 t9)))))))) (hT78.ow hW70 (hT72.tg hW64 (hT57.tg hW50 (hT41.tg hW33 (hT32.tg hW24 (hT26.tg hW21 (hT20.tg hW11 (hT13.tg hW8 t9))))))) (hT72.ow hW64 (hT57.tg hW50 (hT41.tg hW33 (hT32.tg hW24 (hT26.tg hW21 (hT20.tg hW11 (hT13.tg hW8 t9)))))) w69)))
  refine c_pRF hW86 dX0_init_62 flX0_44_1 rfl t90 w91 rfl (ty := .object "ChildSays$Saying") rfl (by intro c hc; cases hc; rfl) (by decide) (by decide +kernel) (Or.inl ⟨_, rfl⟩) fun N93 eN93 hT94 hW92 => ?_
  have h := h N93 eN93
  refine r_aload_n dX0_init_65 rfl ?_
  refine c_new (ci := 5) hW92 dX0_init_66 rfl q345 rfl rfl fun b95 N96 F97 eb95 eN96 eF97 t98 w99 hT100 hW101 => ?_
  have h := h b95 N96 F97 eb95 eN96 eF97
  refine j_dup dX0_init_69 (vR_cat _) ?_
  refine r_aload_n dX0_init_70 rfl ?_
  obtain ⟨P102, hp103, h⟩ := h
  refine r_invI (As := [vR (o : Int)]) (rest := [vR (b95 : Int), vR (o : Int)]) dX0_init_71 lkX0_50 rfl (vX4_init (d := 4) (Nat.le_of_ble_eq_true rfl) hW101 t98  hp103) rfl rfl (Nat.le_of_ble_eq_true rfl) (Nat.le_trans (Nat.le_of_ble_eq_true rfl) hd) (cknV fun N107 F105 A106 hW108 hT109 p110 => ?_)
  have h := h N107 F105 A106 p110
  have t112 : jtg N107 o = 1 := (hT109.tg hW101 (hT100.tg hW92 (hT94.tg hW86 t90)))
  have w113 : jfn N107 0 o = 1 := (hT109.ow hW101 (hT100.tg hW92 (hT94.tg hW86 (hT87.tg hW79 (hT78.tg hW70 (hT72.tg hW64 (hT57.tg hW50 (hT41.tg hW33 (hT32.tg hW24 (hT26.tg hW21 (hT20.tg hW11 (hT13.tg hW8 t9))))))))))) (hT100.ow hW92 (hT94.tg hW86 (hT87.tg hW79 (hT78.tg hW70 (hT72.tg hW64 (hT57.tg hW50 (hT41.tg hW33 (hT32.tg hW24 (hT26.tg hW21 (hT20.tg hW11 (hT13.tg hW8 t9)))))))))) (hT94.ow hW86 (hT87.tg hW79 (hT78.tg hW70 (hT72.tg hW64 (hT57.tg hW50 (hT41.tg hW33 (hT32.tg hW24 (hT26.tg hW21 (hT20.tg hW11 (hT13.tg hW8 t9))))))))) w91)))
  refine c_pRF hW108 dX0_init_74 flX0_51_1 rfl t112 w113 rfl (ty := .object "ChildSays$Sitting") rfl (by intro c hc; cases hc; rfl) (by decide) (by decide +kernel) (Or.inl ⟨_, rfl⟩) fun N115 eN115 hT116 hW114 => ?_
  have h := h N115 eN115
  refine r_aload_n dX0_init_77 rfl ?_
  refine c_new (ci := 6) hW114 dX0_init_78 rfl q373 rfl rfl fun b117 N118 F119 eb117 eN118 eF119 t120 w121 hT122 hW123 => ?_
  have h := h b117 N118 F119 eb117 eN118 eF119
  refine j_dup dX0_init_81 (vR_cat _) ?_
  refine r_aload_n dX0_init_82 rfl ?_
  obtain ⟨P124, hp125, h⟩ := h
  refine r_invI (As := [vR (o : Int)]) (rest := [vR (b117 : Int), vR (o : Int)]) dX0_init_83 lkX0_57 rfl (vX5_init (d := 4) (Nat.le_of_ble_eq_true rfl) hW123 t120  hp125) rfl rfl (Nat.le_of_ble_eq_true rfl) (Nat.le_trans (Nat.le_of_ble_eq_true rfl) hd) (cknV fun N129 F127 A128 hW130 hT131 p132 => ?_)
  have h := h N129 F127 A128 p132
  have t134 : jtg N129 o = 1 := (hT131.tg hW123 (hT122.tg hW114 (hT116.tg hW108 t112)))
  have w135 : jfn N129 0 o = 1 := (hT131.ow hW123 (hT122.tg hW114 (hT116.tg hW108 (hT109.tg hW101 (hT100.tg hW92 (hT94.tg hW86 (hT87.tg hW79 (hT78.tg hW70 (hT72.tg hW64 (hT57.tg hW50 (hT41.tg hW33 (hT32.tg hW24 (hT26.tg hW21 (hT20.tg hW11 (hT13.tg hW8 t9)))))))))))))) (hT122.ow hW114 (hT116.tg hW108 (hT109.tg hW101 (hT100.tg hW92 (hT94.tg hW86 (hT87.tg hW79 (hT78.tg hW70 (hT72.tg hW64 (hT57.tg hW50 (hT41.tg hW33 (hT32.tg hW24 (hT26.tg hW21 (hT20.tg hW11 (hT13.tg hW8 t9))))))))))))) (hT116.ow hW108 (hT109.tg hW101 (hT100.tg hW92 (hT94.tg hW86 (hT87.tg hW79 (hT78.tg hW70 (hT72.tg hW64 (hT57.tg hW50 (hT41.tg hW33 (hT32.tg hW24 (hT26.tg hW21 (hT20.tg hW11 (hT13.tg hW8 t9)))))))))))) w113)))
  refine c_pRF hW130 dX0_init_86 flX0_58_1 rfl t134 w135 rfl (ty := .object "ChildSays$Unlike") rfl (by intro c hc; cases hc; rfl) (by decide) (by decide +kernel) (Or.inl ⟨_, rfl⟩) fun N137 eN137 hT138 hW136 => ?_
  have h := h N137 eN137
  refine r_aload_n dX0_init_89 rfl ?_
  refine c_new (ci := 7) hW136 dX0_init_90 rfl q400 rfl rfl fun b139 N140 F141 eb139 eN140 eF141 t142 w143 hT144 hW145 => ?_
  have h := h b139 N140 F141 eb139 eN140 eF141
  refine j_dup dX0_init_93 (vR_cat _) ?_
  refine r_aload_n dX0_init_94 rfl ?_
  obtain ⟨P146, hp147, h⟩ := h
  refine r_invIN (As := [vR (o : Int)]) (rest := [vR (b139 : Int), vR (o : Int)]) dX0_init_95 lkX0_64 rfl (vX6_init (d := 3) (Nat.le_of_ble_eq_true rfl) hW145 t142  hp147) rfl rfl (Nat.le_of_ble_eq_true rfl) (Nat.le_trans (Nat.le_of_ble_eq_true rfl) hd) (cknV fun N151 F149 A150 hW152 hT153 p154 => ?_)
  have h := h N151 F149 A150 p154
  have t156 : jtg N151 o = 1 := (hT153.tg hW145 (hT144.tg hW136 (hT138.tg hW130 t134)))
  have w157 : jfn N151 0 o = 1 := (hT153.ow hW145 (hT144.tg hW136 (hT138.tg hW130 (hT131.tg hW123 (hT122.tg hW114 (hT116.tg hW108 (hT109.tg hW101 (hT100.tg hW92 (hT94.tg hW86 (hT87.tg hW79 (hT78.tg hW70 (hT72.tg hW64 (hT57.tg hW50 (hT41.tg hW33 (hT32.tg hW24 (hT26.tg hW21 (hT20.tg hW11 (hT13.tg hW8 t9))))))))))))))))) (hT144.ow hW136 (hT138.tg hW130 (hT131.tg hW123 (hT122.tg hW114 (hT116.tg hW108 (hT109.tg hW101 (hT100.tg hW92 (hT94.tg hW86 (hT87.tg hW79 (hT78.tg hW70 (hT72.tg hW64 (hT57.tg hW50 (hT41.tg hW33 (hT32.tg hW24 (hT26.tg hW21 (hT20.tg hW11 (hT13.tg hW8 t9)))))))))))))))) (hT138.ow hW130 (hT131.tg hW123 (hT122.tg hW114 (hT116.tg hW108 (hT109.tg hW101 (hT100.tg hW92 (hT94.tg hW86 (hT87.tg hW79 (hT78.tg hW70 (hT72.tg hW64 (hT57.tg hW50 (hT41.tg hW33 (hT32.tg hW24 (hT26.tg hW21 (hT20.tg hW11 (hT13.tg hW8 t9))))))))))))))) w135)))
  refine c_pRF hW152 dX0_init_98 flX0_65_1 rfl t156 w157 rfl (ty := .object "ChildSays$Round") rfl (by intro c hc; cases hc; rfl) (by decide) (by decide +kernel) (Or.inl ⟨_, rfl⟩) fun N159 eN159 hT160 hW158 => ?_
  have h := h N159 eN159
  refine r_aload_n dX0_init_101 rfl ?_
  refine c_new (ci := 8) hW158 dX0_init_102 rfl q430 rfl rfl fun b161 N162 F163 eb161 eN162 eF163 t164 w165 hT166 hW167 => ?_
  have h := h b161 N162 F163 eb161 eN162 eF163
  refine j_dup dX0_init_105 (vR_cat _) ?_
  refine r_aload_n dX0_init_106 rfl ?_
  obtain ⟨P168, hp169, h⟩ := h
  refine r_invIN (As := [vR (o : Int)]) (rest := [vR (b161 : Int), vR (o : Int)]) dX0_init_107 lkX0_71 rfl (vX7_init (d := 3) (Nat.le_of_ble_eq_true rfl) hW167 t164  hp169) rfl rfl (Nat.le_of_ble_eq_true rfl) (Nat.le_trans (Nat.le_of_ble_eq_true rfl) hd) (cknV fun N173 F171 A172 hW174 hT175 p176 => ?_)
  have h := h N173 F171 A172 p176
  have t178 : jtg N173 o = 1 := (hT175.tg hW167 (hT166.tg hW158 (hT160.tg hW152 t156)))
  have w179 : jfn N173 0 o = 1 := (hT175.ow hW167 (hT166.tg hW158 (hT160.tg hW152 (hT153.tg hW145 (hT144.tg hW136 (hT138.tg hW130 (hT131.tg hW123 (hT122.tg hW114 (hT116.tg hW108 (hT109.tg hW101 (hT100.tg hW92 (hT94.tg hW86 (hT87.tg hW79 (hT78.tg hW70 (hT72.tg hW64 (hT57.tg hW50 (hT41.tg hW33 (hT32.tg hW24 (hT26.tg hW21 (hT20.tg hW11 (hT13.tg hW8 t9)))))))))))))))))))) (hT166.ow hW158 (hT160.tg hW152 (hT153.tg hW145 (hT144.tg hW136 (hT138.tg hW130 (hT131.tg hW123 (hT122.tg hW114 (hT116.tg hW108 (hT109.tg hW101 (hT100.tg hW92 (hT94.tg hW86 (hT87.tg hW79 (hT78.tg hW70 (hT72.tg hW64 (hT57.tg hW50 (hT41.tg hW33 (hT32.tg hW24 (hT26.tg hW21 (hT20.tg hW11 (hT13.tg hW8 t9))))))))))))))))))) (hT160.ow hW152 (hT153.tg hW145 (hT144.tg hW136 (hT138.tg hW130 (hT131.tg hW123 (hT122.tg hW114 (hT116.tg hW108 (hT109.tg hW101 (hT100.tg hW92 (hT94.tg hW86 (hT87.tg hW79 (hT78.tg hW70 (hT72.tg hW64 (hT57.tg hW50 (hT41.tg hW33 (hT32.tg hW24 (hT26.tg hW21 (hT20.tg hW11 (hT13.tg hW8 t9)))))))))))))))))) w157)))
  refine c_pRF hW174 dX0_init_110 flX0_72_1 rfl t178 w179 rfl (ty := .object "ChildSays$Put") rfl (by intro c hc; cases hc; rfl) (by decide) (by decide +kernel) (Or.inl ⟨_, rfl⟩) fun N181 eN181 hT182 hW180 => ?_
  have h := h N181 eN181
  refine r_aload_n dX0_init_113 rfl ?_
  refine c_new (ci := 9) hW180 dX0_init_114 rfl q461 rfl rfl fun b183 N184 F185 eb183 eN184 eF185 t186 w187 hT188 hW189 => ?_
  have h := h b183 N184 F185 eb183 eN184 eF185
  refine j_dup dX0_init_117 (vR_cat _) ?_
  refine r_aload_n dX0_init_118 rfl ?_
  obtain ⟨P190, hp191, h⟩ := h
  refine r_invIN (As := [vR (o : Int)]) (rest := [vR (b183 : Int), vR (o : Int)]) dX0_init_119 lkX0_78 rfl (vX8_init (d := 5) (Nat.le_of_ble_eq_true rfl) hW189 t186  hp191) rfl rfl (Nat.le_of_ble_eq_true rfl) (Nat.le_trans (Nat.le_of_ble_eq_true rfl) hd) (cknV fun N195 F193 A194 hW196 hT197 p198 => ?_)
  have h := h N195 F193 A194 p198
  have t200 : jtg N195 o = 1 := (hT197.tg hW189 (hT188.tg hW180 (hT182.tg hW174 t178)))
  have w201 : jfn N195 0 o = 1 := (hT197.ow hW189 (hT188.tg hW180 (hT182.tg hW174 (hT175.tg hW167 (hT166.tg hW158 (hT160.tg hW152 (hT153.tg hW145 (hT144.tg hW136 (hT138.tg hW130 (hT131.tg hW123 (hT122.tg hW114 (hT116.tg hW108 (hT109.tg hW101 (hT100.tg hW92 (hT94.tg hW86 (hT87.tg hW79 (hT78.tg hW70 (hT72.tg hW64 (hT57.tg hW50 (hT41.tg hW33 (hT32.tg hW24 (hT26.tg hW21 (hT20.tg hW11 (hT13.tg hW8 t9))))))))))))))))))))))) (hT188.ow hW180 (hT182.tg hW174 (hT175.tg hW167 (hT166.tg hW158 (hT160.tg hW152 (hT153.tg hW145 (hT144.tg hW136 (hT138.tg hW130 (hT131.tg hW123 (hT122.tg hW114 (hT116.tg hW108 (hT109.tg hW101 (hT100.tg hW92 (hT94.tg hW86 (hT87.tg hW79 (hT78.tg hW70 (hT72.tg hW64 (hT57.tg hW50 (hT41.tg hW33 (hT32.tg hW24 (hT26.tg hW21 (hT20.tg hW11 (hT13.tg hW8 t9)))))))))))))))))))))) (hT182.ow hW174 (hT175.tg hW167 (hT166.tg hW158 (hT160.tg hW152 (hT153.tg hW145 (hT144.tg hW136 (hT138.tg hW130 (hT131.tg hW123 (hT122.tg hW114 (hT116.tg hW108 (hT109.tg hW101 (hT100.tg hW92 (hT94.tg hW86 (hT87.tg hW79 (hT78.tg hW70 (hT72.tg hW64 (hT57.tg hW50 (hT41.tg hW33 (hT32.tg hW24 (hT26.tg hW21 (hT20.tg hW11 (hT13.tg hW8 t9))))))))))))))))))))) w179)))
  refine c_pRF hW196 dX0_init_122 flX0_79_1 rfl t200 w201 rfl (ty := .object "ChildSays$Order") rfl (by intro c hc; cases hc; rfl) (by decide) (by decide +kernel) (Or.inl ⟨_, rfl⟩) fun N203 eN203 hT204 hW202 => ?_
  have h := h N203 eN203
  refine r_aload_n dX0_init_125 rfl ?_
  refine c_new (ci := 4) hW202 dX0_init_126 rfl q487 rfl rfl fun b205 N206 F207 eb205 eN206 eF207 t208 w209 hT210 hW211 => ?_
  have h := h b205 N206 F207 eb205 eN206 eF207
  refine j_dup dX0_init_129 (vR_cat _) ?_
  obtain ⟨P212, hp213, h⟩ := h
  refine r_invIN (As := []) (rest := [vR (b205 : Int), vR (o : Int)]) dX0_init_130 lkX0_85 rfl (vX3_init (d := 2) (Nat.le_of_ble_eq_true rfl) hW211 t208  hp213) rfl rfl (Nat.le_of_ble_eq_true rfl) (Nat.le_trans (Nat.le_of_ble_eq_true rfl) hd) (cknV fun N217 F215 A216 hW218 hT219 p220 => ?_)
  have h := h N217 F215 A216 p220
  have t222 : jtg N217 o = 1 := (hT219.tg hW211 (hT210.tg hW202 (hT204.tg hW196 t200)))
  have w223 : jfn N217 0 o = 1 := (hT219.ow hW211 (hT210.tg hW202 (hT204.tg hW196 (hT197.tg hW189 (hT188.tg hW180 (hT182.tg hW174 (hT175.tg hW167 (hT166.tg hW158 (hT160.tg hW152 (hT153.tg hW145 (hT144.tg hW136 (hT138.tg hW130 (hT131.tg hW123 (hT122.tg hW114 (hT116.tg hW108 (hT109.tg hW101 (hT100.tg hW92 (hT94.tg hW86 (hT87.tg hW79 (hT78.tg hW70 (hT72.tg hW64 (hT57.tg hW50 (hT41.tg hW33 (hT32.tg hW24 (hT26.tg hW21 (hT20.tg hW11 (hT13.tg hW8 t9)))))))))))))))))))))))))) (hT210.ow hW202 (hT204.tg hW196 (hT197.tg hW189 (hT188.tg hW180 (hT182.tg hW174 (hT175.tg hW167 (hT166.tg hW158 (hT160.tg hW152 (hT153.tg hW145 (hT144.tg hW136 (hT138.tg hW130 (hT131.tg hW123 (hT122.tg hW114 (hT116.tg hW108 (hT109.tg hW101 (hT100.tg hW92 (hT94.tg hW86 (hT87.tg hW79 (hT78.tg hW70 (hT72.tg hW64 (hT57.tg hW50 (hT41.tg hW33 (hT32.tg hW24 (hT26.tg hW21 (hT20.tg hW11 (hT13.tg hW8 t9))))))))))))))))))))))))) (hT204.ow hW196 (hT197.tg hW189 (hT188.tg hW180 (hT182.tg hW174 (hT175.tg hW167 (hT166.tg hW158 (hT160.tg hW152 (hT153.tg hW145 (hT144.tg hW136 (hT138.tg hW130 (hT131.tg hW123 (hT122.tg hW114 (hT116.tg hW108 (hT109.tg hW101 (hT100.tg hW92 (hT94.tg hW86 (hT87.tg hW79 (hT78.tg hW70 (hT72.tg hW64 (hT57.tg hW50 (hT41.tg hW33 (hT32.tg hW24 (hT26.tg hW21 (hT20.tg hW11 (hT13.tg hW8 t9)))))))))))))))))))))))) w201)))
  refine c_pRF hW218 dX0_init_133 flX0_86_1 rfl t222 w223 rfl (ty := .object "ChildSays$Row") rfl (by intro c hc; cases hc; rfl) (by decide) (by decide +kernel) (Or.inl ⟨_, rfl⟩) fun N225 eN225 hT226 hW224 => ?_
  have h := h N225 eN225
  refine r_aload_n dX0_init_136 rfl ?_
  refine c_new (ci := 21) hW224 dX0_init_137 rfl q489 rfl rfl fun b227 N228 F229 eb227 eN228 eF229 t230 w231 hT232 hW233 => ?_
  have h := h b227 N228 F229 eb227 eN228 eF229
  refine j_dup dX0_init_140 (vR_cat _) ?_
  obtain ⟨P234, hp235, h⟩ := h
  refine r_invI (As := []) (rest := [vR (b227 : Int), vR (o : Int)]) dX0_init_141 lkX0_92 rfl (vJ4_init (d := 5) (Nat.le_of_ble_eq_true rfl) hW233 t230  hp235) rfl rfl (Nat.le_of_ble_eq_true rfl) (Nat.le_trans (Nat.le_of_ble_eq_true rfl) hd) (cknV fun N239 F237 A238 hW240 hT241 p242 => ?_)
  have h := h N239 F237 A238 p242
  have t244 : jtg N239 o = 1 := (hT241.tg hW233 (hT232.tg hW224 (hT226.tg hW218 t222)))
  have w245 : jfn N239 0 o = 1 := (hT241.ow hW233 (hT232.tg hW224 (hT226.tg hW218 (hT219.tg hW211 (hT210.tg hW202 (hT204.tg hW196 (hT197.tg hW189 (hT188.tg hW180 (hT182.tg hW174 (hT175.tg hW167 (hT166.tg hW158 (hT160.tg hW152 (hT153.tg hW145 (hT144.tg hW136 (hT138.tg hW130 (hT131.tg hW123 (hT122.tg hW114 (hT116.tg hW108 (hT109.tg hW101 (hT100.tg hW92 (hT94.tg hW86 (hT87.tg hW79 (hT78.tg hW70 (hT72.tg hW64 (hT57.tg hW50 (hT41.tg hW33 (hT32.tg hW24 (hT26.tg hW21 (hT20.tg hW11 (hT13.tg hW8 t9))))))))))))))))))))))))))))) (hT232.ow hW224 (hT226.tg hW218 (hT219.tg hW211 (hT210.tg hW202 (hT204.tg hW196 (hT197.tg hW189 (hT188.tg hW180 (hT182.tg hW174 (hT175.tg hW167 (hT166.tg hW158 (hT160.tg hW152 (hT153.tg hW145 (hT144.tg hW136 (hT138.tg hW130 (hT131.tg hW123 (hT122.tg hW114 (hT116.tg hW108 (hT109.tg hW101 (hT100.tg hW92 (hT94.tg hW86 (hT87.tg hW79 (hT78.tg hW70 (hT72.tg hW64 (hT57.tg hW50 (hT41.tg hW33 (hT32.tg hW24 (hT26.tg hW21 (hT20.tg hW11 (hT13.tg hW8 t9)))))))))))))))))))))))))))) (hT226.ow hW218 (hT219.tg hW211 (hT210.tg hW202 (hT204.tg hW196 (hT197.tg hW189 (hT188.tg hW180 (hT182.tg hW174 (hT175.tg hW167 (hT166.tg hW158 (hT160.tg hW152 (hT153.tg hW145 (hT144.tg hW136 (hT138.tg hW130 (hT131.tg hW123 (hT122.tg hW114 (hT116.tg hW108 (hT109.tg hW101 (hT100.tg hW92 (hT94.tg hW86 (hT87.tg hW79 (hT78.tg hW70 (hT72.tg hW64 (hT57.tg hW50 (hT41.tg hW33 (hT32.tg hW24 (hT26.tg hW21 (hT20.tg hW11 (hT13.tg hW8 t9))))))))))))))))))))))))))) w223)))
  refine c_pRF hW240 dX0_init_144 flX0_93_1 rfl t244 w245 rfl (ty := .object "java/lang/StringBuilder") rfl (by intro c hc; cases hc; rfl) (by decide) (by decide +kernel) (Or.inl ⟨_, rfl⟩) fun N247 eN247 hT248 hW246 => ?_
  have h := h N247 eN247
  exact j_vret dX0_init_147 rfl ⟨rfl, hW246, (((((((((((((((((((((((((((((((hT7.trans hT13).trans hT20).trans hT26).trans hT32).trans hT41).trans hT57).trans hT72).trans hT78).trans hT87).trans hT94).trans hT100).trans hT109).trans hT116).trans hT122).trans hT131).trans hT138).trans hT144).trans hT153).trans hT160).trans hT166).trans hT175).trans hT182).trans hT188).trans hT197).trans hT204).trans hT210).trans hT219).trans hT226).trans hT232).trans hT241).trans hT248), h⟩
