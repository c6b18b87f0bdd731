set_option maxRecDepth 100000
set_option linter.unusedVariables false
/-! walks of the component and of JDK methods: printed by gen/walkc.py -/
/-- java/util/AbstractCollection.<init>()V -/
def wqJ0_init (o : Nat) (N : jSh) (F : jFl) (A : jAr) (Q : Prop) : Prop :=
  Q
theorem vJ0_init {G : jG} {l : Launch} {d : Nat} {N : jSh} {F : jFl} {A : jAr} {o : Nat} {Q : Prop} (hd : 2 ≤ d) (hW : jWg G N F A) (ht : jtg N o = 20) (h : wqJ0_init o N F A Q) : jCall G l d mJ0_init [vR (o : Int)] N F A (jpV N F A Q) := by
  unfold wqJ0_init at h
  refine jCall.of (by decide) rfl (ls := [vR (o : Int)]) (by simp only [jent_R, jent_I, jent_L, jent_nil]; exact Nat.le_of_ble_eq_true rfl) (by simp only [jloc, jent_R, jent_I, jent_L, jent_nil]; rfl) ?_
  refine r_aload_n dJ0_init_0 rfl ?_
  refine r_objInit dJ0_init_1 q207 rfl (Nat.le_trans (Nat.le_of_ble_eq_true rfl) hd) (Nat.le_of_ble_eq_true rfl) ?_
  exact j_vret dJ0_init_4 rfl ⟨rfl, rfl, rfl, rfl, h⟩
/-- java/lang/StringLatin1.canEncode(C)Z -/
def wqJ10_canEncode (a1 : Int) (N : jSh) (F : jFl) (A : jAr) (Q : Int → Prop) : Prop :=
  ∀ z2 : Int, z2 = (if 255 < a1 then (0 : Int) else 1) →
  Q z2
theorem vJ10_canEncode {G : jG} {l : Launch} {d : Nat} {N : jSh} {F : jFl} {A : jAr} {a1 : Int} {Q : Int → Prop} (hd : 2 ≤ d) (hW : jWg G N F A) (ra1 : jR a1) (h : wqJ10_canEncode a1 N F A Q) : jCall G l d mJ10_canEncode [vI a1] N F A (jpB N F A Q) := by
  unfold wqJ10_canEncode at h
  refine jCall.of (by decide) rfl (ls := [vI a1]) (by simp only [jent_R, jent_I, jent_L, jent_nil]; exact Nat.le_of_ble_eq_true rfl) (by simp only [jloc, jent_R, jent_I, jent_L, jent_nil]; rfl) ?_
  refine j_iload_n dJ10_canEncode_0 rfl ?_
  refine j_sipush dJ10_canEncode_1 ?_
  have jn3 : ∀ z2 : Int, z2 = (if 255 < a1 then (0 : Int) else 1) → J G l d mJ10_canEncode 12 [vI a1] [vI z2] N F A (jpB N F A Q) := by
    intro z2 ez2
    have h := h z2 ez2
    exact j_zret dJ10_canEncode_12 rfl (nr_bool (ez2 ▸ jB_ite (by decide) (by decide))) ⟨_, rfl, rfl, rfl, rfl, h, (ez2 ▸ jB_ite (by decide) (by decide))⟩
  clear h
  refine j_icmp_gt 11 dJ10_canEncode_4 rfl ra1 (by decide) (fun q1 => ?_) (fun q1 => ?_)
  · refine j_iconst dJ10_canEncode_11 ?_
    exact jn3 _ (if_pos q1).symm
  · refine j_iconst dJ10_canEncode_7 ?_
    refine j_goto 12 dJ10_canEncode_8 rfl ?_
    exact jn3 _ (if_neg q1).symm
/-- java/lang/StringLatin1.equals([B[B)Z -/
def wqJ10_equals (a1 : Int) (a2 : Int) (N : jSh) (F : jFl) (A : jAr) (Q : Int → Prop) : Prop :=
  ∃ b1 : Nat, a1 = (b1 : Int) ∧
  jtg N b1 = 108 ∧
  ∃ b4 : Nat, a2 = (b4 : Int) ∧
  jtg N b4 = 108 ∧
  jR (jln N b4 : Int) ∧
  jR (jln N b1 : Int) ∧
  ((¬ (jln N b1 : Int) = (jln N b4 : Int)) →
    Q 0) ∧
  (((jln N b1 : Int) = (jln N b4 : Int)) →
    ∃ (I12 : Int → Prop) (m13 : Int → Nat), I12 0 ∧ ∀ (v10 : Int), I12 v10 →
      jR (jln N b1 : Int) ∧
      (((jln N b1 : Int) ≤ v10) →
        Q 1) ∧
      ((¬ ((jln N b1 : Int) ≤ v10)) →
        ((0 : Int) ≤ v10 ∧ (v10 : Int) < (jln N b1 : Int)) ∧
        ((0 : Int) ≤ v10 ∧ (v10 : Int) < (jln N b4 : Int)) ∧
        (((A b1 v10) = (A b4 v10)) →
          jR (v10 + 1) ∧
          I12 (v10 + 1) ∧ m13 (v10 + 1) < m13 v10) ∧
        ((¬ ((A b1 v10) = (A b4 v10))) →
          Q 0)))
theorem vJ10_equals {G : jG} {l : Launch} {d : Nat} {N : jSh} {F : jFl} {A : jAr} {a1 a2 : Int} {Q : Int → Prop} (hd : 2 ≤ d) (hW : jWg G N F A) (h : wqJ10_equals a1 a2 N F A Q) : jCall G l d mJ10_equals [vR a1, vR a2] N F A (jpB N F A Q) := by
  unfold wqJ10_equals at h
  refine jCall.of (by decide) rfl (ls := [vR a1, vR a2, jD]) (by simp only [jent_R, jent_I, jent_L, jent_nil]; exact Nat.le_of_ble_eq_true rfl) (by simp only [jloc, jent_R, jent_I, jent_L, jent_nil]; rfl) ?_
  refine r_aload_n dJ10_equals_0 rfl ?_
  obtain ⟨b1, hz2, h⟩ := h
  obtain ⟨t3, h⟩ := h
  refine r_alen dJ10_equals_1 hz2 t3 rfl ?_
  refine r_aload_n dJ10_equals_2 rfl ?_
  obtain ⟨b4, hz5, h⟩ := h
  obtain ⟨t6, h⟩ := h
  refine r_alen dJ10_equals_3 hz5 t6 rfl ?_
  obtain ⟨r7, h⟩ := h
  obtain ⟨r8, h⟩ := h
  obtain ⟨h1, h2⟩ := h
  refine j_icmp_ne 34 dJ10_equals_4 rfl r8 r7 (fun q9 => ?_) (fun q9 => ?_)
  · have h := h1 q9
    clear h1 h2
    refine j_iconst dJ10_equals_34 ?_
    exact j_zret dJ10_equals_35 rfl (nr_bool (by decide)) ⟨_, rfl, rfl, rfl, rfl, h, (by decide)⟩
  · have h := h2 (Classical.not_not.mp q9)
    clear h1 h2
    refine j_iconst dJ10_equals_7 ?_
    refine j_istore_n dJ10_equals_8 (jokR rfl (Nat.le_of_ble_eq_true rfl)) ?_
    obtain ⟨I12, m13, h0, hs⟩ := h
    have lp : ∀ (n : Nat) (v10 : Int), m13 v10 < n → jR v10 → I12 v10 → J G l d mJ10_equals 9 [vR a1, vR a2, vI v10] [] N F A (jpB N F A Q) := by
      intro nI12
      induction nI12 with
      | zero =>
        intro v10 hmu
        exact absurd hmu (Nat.not_lt_zero _)
      | succ nI12 ihI12 =>
        intro v10 hmuI12 rv10 hI
        have h := hs v10 hI
        refine j_iload_n dJ10_equals_9 rfl ?_
        refine r_aload_n dJ10_equals_10 rfl ?_
        refine r_alen dJ10_equals_11 hz2 t3 rfl ?_
        obtain ⟨r14, h⟩ := h
        obtain ⟨h1, h2⟩ := h
        refine j_icmp_ge 32 dJ10_equals_12 rfl rv10 r14 (fun q15 => ?_) (fun q15 => ?_)
        · have h := h1 q15
          clear h1 h2
          refine j_iconst dJ10_equals_32 ?_
          exact j_zret dJ10_equals_33 rfl (nr_bool (by decide)) ⟨_, rfl, rfl, rfl, rfl, h, (by decide)⟩
        · have h := h2 q15
          clear h1 h2
          refine r_aload_n dJ10_equals_15 rfl ?_
          refine j_iload_n dJ10_equals_16 rfl ?_
          obtain ⟨c16, h⟩ := h
          refine r_bald dJ10_equals_17 hz2 t3 c16 ?_
          refine r_aload_n dJ10_equals_18 rfl ?_
          refine j_iload_n dJ10_equals_19 rfl ?_
          obtain ⟨c17, h⟩ := h
          refine r_bald dJ10_equals_20 hz5 t6 c17 ?_
          obtain ⟨h1, h2⟩ := h
          refine j_icmp_eq 26 dJ10_equals_21 rfl (hW.ai t3 rfl) (hW.ai t6 rfl) (fun q18 => ?_) (fun q18 => ?_)
          · have h := h1 q18
            clear h1 h2
            obtain ⟨r19, h⟩ := h
            refine j_iinc dJ10_equals_26 rfl (jokR rfl (Nat.le_of_ble_eq_true rfl)) ?_
            refine j_goto 9 dJ10_equals_29 rfl ?_
            exact J.wk ((((jWk.nil).eq).eq).eq) (ihI12 _ (Nat.lt_of_lt_of_le h.2 (Nat.le_of_lt_succ hmuI12)) r19 h.1)
          · have h := h2 q18
            clear h1 h2
            refine j_iconst dJ10_equals_24 ?_
            exact j_zret dJ10_equals_25 rfl (nr_bool (by decide)) ⟨_, rfl, rfl, rfl, rfl, h, (by decide)⟩
    exact J.wk ((((jWk.nil).eq).eq).eq) (lp _ _ (Nat.lt_succ_self _) (by decide) h0)
/-- jdk/internal/util/ArraysSupport.hugeLength(II)I -/
def wqJ12_hugeLength (S : Nat → Nat) (a1 : Int) (a2 : Int) (N : jSh) (F : jFl) (A : jAr) (Q : Int → Prop) : Prop :=
  jR (a1 + a2) ∧
  ∀ v2 : Int, v2 = a1 + a2 →
  ((0 ≤ v2) →
    ((2147483639 < v2) →
      Q v2) ∧
    ((¬ (2147483639 < v2)) →
      Q 2147483639)) ∧
  ((¬ (0 ≤ v2)) →
    False)
theorem vJ12_hugeLength {G : jG} {l : Launch} {d : Nat} {N : jSh} {F : jFl} {A : jAr} {a1 a2 : Int} {Q : Int → Prop} (hd : 2 ≤ d) (hW : jWg G N F A) (ra1 : jR a1) (ra2 : jR a2) (h : wqJ12_hugeLength (gS G) a1 a2 N F A Q) : jCall G l d mJ12_hugeLength [vI a1, vI a2] N F A (jpI N F A Q) := by
  unfold wqJ12_hugeLength at h
  refine jCall.of (by decide) rfl (ls := [vI a1, vI a2, jD]) (by simp only [jent_R, jent_I, jent_L, jent_nil]; exact Nat.le_of_ble_eq_true rfl) (by simp only [jloc, jent_R, jent_I, jent_L, jent_nil]; rfl) ?_
  refine j_iload_n dJ12_hugeLength_0 rfl ?_
  refine j_iload_n dJ12_hugeLength_1 rfl ?_
  refine j_iadd dJ12_hugeLength_2 ?_
  obtain ⟨r1, h⟩ := h
  obtain ⟨v2, ev2⟩ : ∃ x : Int, x = a1 + a2 := ⟨_, rfl⟩
  have h := h v2 ev2
  refine jnmI (e := ev2) ?_
  refine j_istore_n dJ12_hugeLength_3 rfl ?_
  refine j_iload_n dJ12_hugeLength_4 rfl ?_
  obtain ⟨h1, h2⟩ := h
  refine j_if_ge 49 dJ12_hugeLength_5 rfl (ev2 ▸ r1) (fun q3 => ?_) (fun q3 => ?_)
  · have h := h1 q3
    clear h1 h2
    refine j_iload_n dJ12_hugeLength_49 rfl ?_
    refine j_ldc (n := 2147483639) dJ12_hugeLength_50 q1005 ?_
    obtain ⟨h1, h2⟩ := h
    refine j_icmp_gt 58 dJ12_hugeLength_52 rfl (ev2 ▸ r1) (by decide) (fun q4 => ?_) (fun q4 => ?_)
    · have h := h1 q4
      clear h1 h2
      refine j_iload_n dJ12_hugeLength_58 rfl ?_
      exact j_iret dJ12_hugeLength_59 rfl ⟨_, rfl, rfl, rfl, rfl, h, (ev2 ▸ r1)⟩
    · have h := h2 q4
      clear h1 h2
      refine j_ldc (n := 2147483639) dJ12_hugeLength_55 q1005 ?_
      exact j_iret dJ12_hugeLength_57 rfl ⟨_, rfl, rfl, rfl, rfl, h, (by decide)⟩
  · have h := h2 q3
    clear h1 h2
    exact h.elim
/-- java/util/Arrays.rangeCheck(III)V -/
def wqJ14_rangeCheck (a1 : Int) (a2 : Int) (a3 : Int) (N : jSh) (F : jFl) (A : jAr) (Q : Prop) : Prop :=
  ((a2 ≤ a3) →
    ((0 ≤ a2) →
      ((a3 ≤ a1) →
        Q) ∧
      ((¬ (a3 ≤ a1)) →
        False)) ∧
    ((¬ (0 ≤ a2)) →
      False)) ∧
  ((¬ (a2 ≤ a3)) →
    False)
theorem vJ14_rangeCheck {G : jG} {l : Launch} {d : Nat} {N : jSh} {F : jFl} {A : jAr} {a1 a2 a3 : Int} {Q : Prop} (hd : 2 ≤ d) (hW : jWg G N F A) (ra1 : jR a1) (ra2 : jR a2) (ra3 : jR a3) (h : wqJ14_rangeCheck a1 a2 a3 N F A Q) : jCall G l d mJ14_rangeCheck [vI a1, vI a2, vI a3] N F A (jpV N F A Q) := by
  unfold wqJ14_rangeCheck at h
  refine jCall.of (by decide) rfl (ls := [vI a1, vI a2, vI a3]) (by simp only [jent_R, jent_I, jent_L, jent_nil]; exact Nat.le_of_ble_eq_true rfl) (by simp only [jloc, jent_R, jent_I, jent_L, jent_nil]; rfl) ?_
  refine j_iload_n dJ14_rangeCheck_0 rfl ?_
  refine j_iload_n dJ14_rangeCheck_1 rfl ?_
  obtain ⟨h1, h2⟩ := h
  refine j_icmp_le 46 dJ14_rangeCheck_2 rfl ra2 ra3 (fun q1 => ?_) (fun q1 => ?_)
  · have h := h1 q1
    clear h1 h2
    refine j_iload_n dJ14_rangeCheck_46 rfl ?_
    obtain ⟨h1, h2⟩ := h
    refine j_if_ge 59 dJ14_rangeCheck_47 rfl ra2 (fun q2 => ?_) (fun q2 => ?_)
    · have h := h1 q2
      clear h1 h2
      refine j_iload_n dJ14_rangeCheck_59 rfl ?_
      refine j_iload_n dJ14_rangeCheck_60 rfl ?_
      obtain ⟨h1, h2⟩ := h
      refine j_icmp_le 73 dJ14_rangeCheck_61 rfl ra3 ra1 (fun q3 => ?_) (fun q3 => ?_)
      · have h := h1 q3
        clear h1 h2
        exact j_vret dJ14_rangeCheck_73 rfl ⟨rfl, rfl, rfl, rfl, h⟩
      · have h := h2 q3
        clear h1 h2
        exact h.elim
    · have h := h2 q2
      clear h1 h2
      exact h.elim
  · have h := h2 q1
    clear h1 h2
    exact h.elim
/-- java/util/ArrayList.clear()V -/
def wqJ2_clear (o : Nat) (N : jSh) (F : jFl) (A : jAr) (Q : jFl → jAr → Prop) : Prop :=
  jfn N 0 o = 1 ∧
  jR ((F 6900 o) + 1) ∧
  ∀ F4 : jFl, F4 = upF F 6900 o ((F 6900 o) + 1) →
  ∀ v5 : Int, v5 = F4 6002 o →
  ∀ v6 : Int, v6 = F4 6003 o →
  ∀ F8 : jFl, F8 = upF F4 6003 o 0 →
  ∃ (I13 : Int → jAr → Prop) (m14 : Int → jAr → Nat), I13 0 A ∧ ∀ (v9 : Int) (A10 : jAr), I13 v9 A10 →
    ((v6 ≤ v9) →
      Q F8 A10) ∧
    ((¬ (v6 ≤ v9)) →
      ∃ b16 : Nat, v5 = (b16 : Int) ∧
      jtg N b16 = 104 ∧
      jfn N 0 b16 = 1 ∧
      ((0 : Int) ≤ v9 ∧ (v9 : Int) < (jln N b16 : Int)) ∧
      jast N "java/lang/Object" (-1) ∧
      ∀ A21 : jAr, A21 = upA A10 b16 v9 (-1) →
      jR (v9 + 1) ∧
      I13 (v9 + 1) A21 ∧ m14 (v9 + 1) A21 < m14 v9 A10)
theorem vJ2_clear {G : jG} {l : Launch} {d : Nat} {N : jSh} {F : jFl} {A : jAr} {o : Nat} {Q : jFl → jAr → Prop} (hd : 2 ≤ d) (hW : jWg G N F A) (ht : jtg N o = 20) (h : wqJ2_clear o N F A Q) : jCall G l d mJ2_clear [vR (o : Int)] N F A (cmV G N Q) := by
  unfold wqJ2_clear at h
  refine jCall.of (by decide) rfl (ls := [vR (o : Int), jD, jD, jD]) (by simp only [jent_R, jent_I, jent_L, jent_nil]; exact Nat.le_of_ble_eq_true rfl) (by simp only [jloc, jent_R, jent_I, jent_L, jent_nil]; rfl) ?_
  refine r_aload_n dJ2_clear_0 rfl ?_
  refine j_dup dJ2_clear_1 (vR_cat _) ?_
  refine r_gI dJ2_clear_2 flJ2_63_20 rfl ht rfl ?_
  refine j_iconst dJ2_clear_5 ?_
  refine j_iadd dJ2_clear_6 ?_
  obtain ⟨w1, h⟩ := h
  obtain ⟨r2, h⟩ := h
  refine c_pI hW dJ2_clear_7 flJ2_63_20 rfl ht w1 rfl r2 fun F4 eF4 hW3 => ?_
  have h := h F4 eF4
  refine r_aload_n dJ2_clear_10 rfl ?_
  refine r_gR dJ2_clear_11 flJ2_9_20 rfl ht rfl ?_
  obtain ⟨v5, ev5⟩ : ∃ x : Int, x = F4 6002 o := ⟨_, rfl⟩
  have h := h v5 ev5
  refine jnmR (e := ev5) ?_
  refine r_astore_n dJ2_clear_14 (jokR rfl (Nat.le_of_ble_eq_true rfl)) ?_
  refine r_aload_n dJ2_clear_15 rfl ?_
  refine r_gI dJ2_clear_16 flJ2_48_20 rfl ht rfl ?_
  obtain ⟨v6, ev6⟩ : ∃ x : Int, x = F4 6003 o := ⟨_, rfl⟩
  have h := h v6 ev6
  refine jnmI (e := ev6) ?_
  refine j_istore_n dJ2_clear_19 (jokR rfl (Nat.le_of_ble_eq_true rfl)) ?_
  refine r_aload_n dJ2_clear_20 rfl ?_
  refine j_iconst dJ2_clear_21 ?_
  refine j_dup_x1 dJ2_clear_22 rfl (vR_cat _) ?_
  refine c_pI hW3 dJ2_clear_23 flJ2_48_20 rfl ht w1 rfl (by decide) fun F8 eF8 hW7 => ?_
  have h := h F8 eF8
  refine j_istore_n dJ2_clear_26 rfl ?_
  obtain ⟨I13, m14, h0, hs⟩ := h
  have lp : ∀ (n : Nat) (v9 : Int) (A10 : jAr), m14 v9 A10 < n → jWg G N F8 A10 → jR v9 → I13 v9 A10 → J G l d mJ2_clear 27 [vR (o : Int), vR v5, vI v6, vI v9] [] N F8 A10 (cmV G N Q) := by
    intro nI13
    induction nI13 with
    | zero =>
      intro v9 A10 hmu
      exact absurd hmu (Nat.not_lt_zero _)
    | succ nI13 ihI13 =>
      intro v9 A10 hmuI13 hW11 rv9 hI
      have h := hs v9 A10 hI
      refine j_iload_n dJ2_clear_27 rfl ?_
      refine j_iload_n dJ2_clear_28 rfl ?_
      obtain ⟨h1, h2⟩ := h
      refine j_icmp_ge 42 dJ2_clear_29 rfl rv9 (ev6 ▸ (hW3.fi rfl)) (fun q15 => ?_) (fun q15 => ?_)
      · have h := h1 q15
        clear h1 h2
        exact j_vret dJ2_clear_42 rfl ⟨rfl, rfl, hW11, h⟩
      · have h := h2 q15
        clear h1 h2
        refine r_aload_n dJ2_clear_32 rfl ?_
        refine j_iload_n dJ2_clear_33 rfl ?_
        refine r_null dJ2_clear_34 ?_
        obtain ⟨b16, hz17, h⟩ := h
        obtain ⟨t18, h⟩ := h
        obtain ⟨w19, h⟩ := h
        obtain ⟨c20, h⟩ := h
        obtain ⟨j23, h⟩ := h
        refine c_aast hW11 dJ2_clear_35 hz17 t18 rfl w19 c20 j23 rfl fun A21 eA21 hW22 => ?_
        have h := h A21 eA21
        obtain ⟨r24, h⟩ := h
        refine j_iinc dJ2_clear_36 rfl rfl ?_
        refine j_goto 27 dJ2_clear_39 rfl ?_
        exact J.wk (((((jWk.nil).eq).eq).eq).eq) (ihI13 _ _ (Nat.lt_of_lt_of_le h.2 (Nat.le_of_lt_succ hmuI13)) hW22 r24 h.1)
  exact J.wk (((((jWk.nil).eq).eq).eq).eq) (lp _ _ _ (Nat.lt_succ_self _) hW7 (by decide) h0)
/-- java/util/ArrayList.elementData(I)Ljava/lang/Object; -/
def wqJ2_elementData (o : Nat) (a1 : Int) (N : jSh) (F : jFl) (A : jAr) (Q : Int → Prop) : Prop :=
  ∃ b1 : Nat, F 6002 o = (b1 : Int) ∧
  jtg N b1 = 104 ∧
  ((0 : Int) ≤ a1 ∧ (a1 : Int) < (jln N b1 : Int)) ∧
  Q (A b1 a1)
theorem vJ2_elementData {G : jG} {l : Launch} {d : Nat} {N : jSh} {F : jFl} {A : jAr} {o : Nat} {a1 : Int} {Q : Int → Prop} (hd : 2 ≤ d) (hW : jWg G N F A) (ht : jtg N o = 20) (ra1 : jR a1) (h : wqJ2_elementData o a1 N F A Q) : jCall G l d mJ2_elementData [vR (o : Int), vI a1] N F A (jpR N F A Q) := by
  unfold wqJ2_elementData at h
  refine jCall.of (by decide) rfl (ls := [vR (o : Int), vI a1]) (by simp only [jent_R, jent_I, jent_L, jent_nil]; exact Nat.le_of_ble_eq_true rfl) (by simp only [jloc, jent_R, jent_I, jent_L, jent_nil]; rfl) ?_
  refine r_aload_n dJ2_elementData_0 rfl ?_
  refine r_gR dJ2_elementData_1 flJ2_9_20 rfl ht rfl ?_
  refine j_iload_n dJ2_elementData_4 rfl ?_
  obtain ⟨b1, hz2, h⟩ := h
  obtain ⟨t3, h⟩ := h
  obtain ⟨c4, h⟩ := h
  refine r_aald dJ2_elementData_5 hz2 t3 rfl rfl c4 ?_
  exact r_aret dJ2_elementData_6 rfl (Or.inl ⟨_, rfl⟩) ⟨_, rfl, rfl, rfl, rfl, h, trivial⟩
/-- java/util/ArrayList.fastRemove([Ljava/lang/Object;I)V -/
def wqJ2_fastRemove (o : Nat) (a1 : Int) (a2 : Int) (N : jSh) (F : jFl) (A : jAr) (Q : jFl → jAr → Prop) : Prop :=
  jfn N 0 o = 1 ∧
  jR ((F 6900 o) + 1) ∧
  ∀ F4 : jFl, F4 = upF F 6900 o ((F 6900 o) + 1) →
  jR ((F4 6003 o) - 1) ∧
  ∀ v6 : Int, v6 = (F4 6003 o) - 1 →
  jR ((F4 6003 o) - 1) ∧
  ∃ K12 : jAr → Prop, (
    ∀ (A9 : jAr), K12 A9 →
    ∀ F16 : jFl, F16 = upF F4 6003 o v6 →
    ∃ b17 : Nat, a1 = (b17 : Int) ∧
    jtg N b17 = 104 ∧
    jfn N 0 b17 = 1 ∧
    ((0 : Int) ≤ v6 ∧ (v6 : Int) < (jln N b17 : Int)) ∧
    jast N "java/lang/Object" (-1) ∧
    ∀ A22 : jAr, A22 = upA A9 b17 v6 (-1) →
    Q F16 A22) ∧
  ((((F4 6003 o) - 1) ≤ a2) →
    K12 A) ∧
  ((¬ (((F4 6003 o) - 1) ≤ a2)) →
    ∃ b25 : Nat, a1 = (b25 : Int) ∧
    jtg N b25 = 104 ∧
    jfn N 0 b25 = 1 ∧
    ((0 : Int) ≤ a2 + 1 ∧ (0 : Int) ≤ a2 ∧ (0 : Int) ≤ v6 - a2 ∧ a2 + 1 + (v6 - a2) ≤ (jln N b25 : Int) ∧ a2 + (v6 - a2) ≤ (jln N b25 : Int)) ∧
    (∀ j : Int, a2 + 1 ≤ j → j < a2 + 1 + (v6 - a2) → jast N "java/lang/Object" (A b25 j)) ∧
    ∀ A31 : jAr, A31 = cpA A b25 b25 (a2 + 1) a2 (v6 - a2) →
    K12 A31)
theorem vJ2_fastRemove {G : jG} {l : Launch} {d : Nat} {N : jSh} {F : jFl} {A : jAr} {o : Nat} {a1 a2 : Int} {Q : jFl → jAr → Prop} (hd : 2 ≤ d) (hW : jWg G N F A) (ht : jtg N o = 20) (ra2 : jR a2) (h : wqJ2_fastRemove o a1 a2 N F A Q) : jCall G l d mJ2_fastRemove [vR (o : Int), vR a1, vI a2] N F A (cmV G N Q) := by
  unfold wqJ2_fastRemove at h
  refine jCall.of (by decide) rfl (ls := [vR (o : Int), vR a1, vI a2, jD]) (by simp only [jent_R, jent_I, jent_L, jent_nil]; exact Nat.le_of_ble_eq_true rfl) (by simp only [jloc, jent_R, jent_I, jent_L, jent_nil]; rfl) ?_
  refine r_aload_n dJ2_fastRemove_0 rfl ?_
  refine j_dup dJ2_fastRemove_1 (vR_cat _) ?_
  refine r_gI dJ2_fastRemove_2 flJ2_63_20 rfl ht rfl ?_
  refine j_iconst dJ2_fastRemove_5 ?_
  refine j_iadd dJ2_fastRemove_6 ?_
  obtain ⟨w1, h⟩ := h
  obtain ⟨r2, h⟩ := h
  refine c_pI hW dJ2_fastRemove_7 flJ2_63_20 rfl ht w1 rfl r2 fun F4 eF4 hW3 => ?_
  have h := h F4 eF4
  refine r_aload_n dJ2_fastRemove_10 rfl ?_
  refine r_gI dJ2_fastRemove_11 flJ2_48_20 rfl ht rfl ?_
  refine j_iconst dJ2_fastRemove_14 ?_
  refine j_isub dJ2_fastRemove_15 ?_
  refine j_dup dJ2_fastRemove_16 rfl ?_
  obtain ⟨r5, h⟩ := h
  obtain ⟨v6, ev6⟩ : ∃ x : Int, x = (F4 6003 o) - 1 := ⟨_, rfl⟩
  have h := h v6 ev6
  refine jnmI (e := ev6) ?_
  refine j_istore_n dJ2_fastRemove_17 rfl ?_
  refine j_iload_n dJ2_fastRemove_18 rfl ?_
  obtain ⟨r7, h⟩ := h
  obtain ⟨K12, hK14, h⟩ := h
  have jn13 : ∀ (A9 : jAr), jWg G N F4 A9 → K12 A9 → J G l d mJ2_fastRemove 34 [vR (o : Int), vR a1, jD, vI v6] [] N F4 A9 (cmV G N Q) := by
    intro A9 hW10  h
    have h := hK14 A9 h
    refine r_aload_n dJ2_fastRemove_34 rfl ?_
    refine r_aload_n dJ2_fastRemove_35 rfl ?_
    refine j_iload_n dJ2_fastRemove_36 rfl ?_
    refine j_dup_x1 dJ2_fastRemove_37 rfl (vR_cat _) ?_
    refine c_pI hW10 dJ2_fastRemove_38 flJ2_48_20 rfl ht w1 rfl (ev6 ▸ r5) fun F16 eF16 hW15 => ?_
    have h := h F16 eF16
    refine r_null dJ2_fastRemove_41 ?_
    obtain ⟨b17, hz18, h⟩ := h
    obtain ⟨t19, h⟩ := h
    obtain ⟨w20, h⟩ := h
    obtain ⟨c21, h⟩ := h
    obtain ⟨j24, h⟩ := h
    refine c_aast hW15 dJ2_fastRemove_42 hz18 t19 rfl w20 c21 j24 rfl fun A22 eA22 hW23 => ?_
    have h := h A22 eA22
    exact j_vret dJ2_fastRemove_43 rfl ⟨rfl, rfl, hW23, h⟩
  obtain ⟨h1, h2⟩ := h
  refine j_icmp_le 34 dJ2_fastRemove_19 rfl r7 ra2 (fun q8 => ?_) (fun q8 => ?_)
  · have h := h1 q8
    clear h1 h2
    exact J.wk (((((jWk.nil).eq).no).eq).eq) (jn13 _ hW3 h)
  · have h := h2 q8
    clear h1 h2
    refine r_aload_n dJ2_fastRemove_22 rfl ?_
    refine j_iload_n dJ2_fastRemove_23 rfl ?_
    refine j_iconst dJ2_fastRemove_24 ?_
    refine j_iadd dJ2_fastRemove_25 ?_
    refine r_aload_n dJ2_fastRemove_26 rfl ?_
    refine j_iload_n dJ2_fastRemove_27 rfl ?_
    refine j_iload_n dJ2_fastRemove_28 rfl ?_
    refine j_iload_n dJ2_fastRemove_29 rfl ?_
    refine j_isub dJ2_fastRemove_30 ?_
    obtain ⟨b25, hz26, h⟩ := h
    obtain ⟨t27, h⟩ := h
    obtain ⟨w28, h⟩ := h
    obtain ⟨c29, h⟩ := h
    obtain ⟨el30, h⟩ := h
    refine c_copy (ty := .object "java/lang/Object") hW3 dJ2_fastRemove_31 q1238 hz26 hz26 t27 t27 rfl rfl w28 c29 el30 (fun _ _ => rfl) (fun h => by cases h) (Nat.le_of_ble_eq_true rfl) (Nat.le_trans (Nat.le_of_ble_eq_true rfl) hd) fun A31 eA31 hW32 => ?_
    have h := h A31 eA31
    exact J.wk (((((jWk.nil).eq).no).eq).eq) (jn13 _ hW32 h)
/-- java/util/ArrayList.isEmpty()Z -/
def wqJ2_isEmpty (o : Nat) (N : jSh) (F : jFl) (A : jAr) (Q : Int → Prop) : Prop :=
  ∀ z2 : Int, z2 = (if ¬ (F 6003 o) = 0 then (0 : Int) else 1) →
  Q z2
theorem vJ2_isEmpty {G : jG} {l : Launch} {d : Nat} {N : jSh} {F : jFl} {A : jAr} {o : Nat} {Q : Int → Prop} (hd : 2 ≤ d) (hW : jWg G N F A) (ht : jtg N o = 20) (h : wqJ2_isEmpty o N F A Q) : jCall G l d mJ2_isEmpty [vR (o : Int)] N F A (jpB N F A Q) := by
  unfold wqJ2_isEmpty at h
  refine jCall.of (by decide) rfl (ls := [vR (o : Int)]) (by simp only [jent_R, jent_I, jent_L, jent_nil]; exact Nat.le_of_ble_eq_true rfl) (by simp only [jloc, jent_R, jent_I, jent_L, jent_nil]; rfl) ?_
  refine r_aload_n dJ2_isEmpty_0 rfl ?_
  refine r_gI dJ2_isEmpty_1 flJ2_48_20 rfl ht rfl ?_
  have jn3 : ∀ z2 : Int, z2 = (if ¬ (F 6003 o) = 0 then (0 : Int) else 1) → J G l d mJ2_isEmpty 12 [vR (o : Int)] [vI z2] N F A (jpB N F A Q) := by
    intro z2 ez2
    have h := h z2 ez2
    exact j_zret dJ2_isEmpty_12 rfl (nr_bool (ez2 ▸ jB_ite (by decide) (by decide))) ⟨_, rfl, rfl, rfl, rfl, h, (ez2 ▸ jB_ite (by decide) (by decide))⟩
  clear h
  refine j_if_ne 11 dJ2_isEmpty_4 rfl (hW.fi rfl) (fun q1 => ?_) (fun q1 => ?_)
  · refine j_iconst dJ2_isEmpty_11 ?_
    exact jn3 _ (if_pos q1).symm
  · refine j_iconst dJ2_isEmpty_7 ?_
    refine j_goto 12 dJ2_isEmpty_8 rfl ?_
    exact jn3 _ (if_neg q1).symm
/-- java/util/ArrayList.size()I -/
def wqJ2_size (o : Nat) (N : jSh) (F : jFl) (A : jAr) (Q : Int → Prop) : Prop :=
  Q (F 6003 o)
theorem vJ2_size {G : jG} {l : Launch} {d : Nat} {N : jSh} {F : jFl} {A : jAr} {o : Nat} {Q : Int → Prop} (hd : 2 ≤ d) (hW : jWg G N F A) (ht : jtg N o = 20) (h : wqJ2_size o N F A Q) : jCall G l d mJ2_size [vR (o : Int)] N F A (jpI N F A Q) := by
  unfold wqJ2_size at h
  refine jCall.of (by decide) rfl (ls := [vR (o : Int)]) (by simp only [jent_R, jent_I, jent_L, jent_nil]; exact Nat.le_of_ble_eq_true rfl) (by simp only [jloc, jent_R, jent_I, jent_L, jent_nil]; rfl) ?_
  refine r_aload_n dJ2_size_0 rfl ?_
  refine r_gI dJ2_size_1 flJ2_48_20 rfl ht rfl ?_
  exact j_iret dJ2_size_4 rfl ⟨_, rfl, rfl, rfl, rfl, h, (hW.fi rfl)⟩
/-- java/lang/AbstractStringBuilder.isLatin1()Z -/
def wqJ3_isLatin1 (S : Nat → Nat) (o : Nat) (N : jSh) (F : jFl) (A : jAr) (Q : Int → Prop) : Prop :=
  (((1 : Int) = 0) →
    Q 0) ∧
  ((¬ ((1 : Int) = 0)) →
    ∀ z3 : Int, z3 = (if ¬ (F 7203 o) = 0 then (0 : Int) else 1) →
    Q z3)
theorem vJ3_isLatin1 {G : jG} {l : Launch} {d : Nat} {N : jSh} {F : jFl} {A : jAr} {o : Nat} {Q : Int → Prop} (hd : 2 ≤ d) (hW : jWg G N F A) (ht : jtg N o = 21) (h : wqJ3_isLatin1 (gS G) o N F A Q) : jCall G l d mJ3_isLatin1 [vR (o : Int)] N F A (jpB N F A Q) := by
  unfold wqJ3_isLatin1 at h
  refine jCall.of (by decide) rfl (ls := [vR (o : Int)]) (by simp only [jent_R, jent_I, jent_L, jent_nil]; exact Nat.le_of_ble_eq_true rfl) (by simp only [jloc, jent_R, jent_I, jent_L, jent_nil]; rfl) ?_
  refine r_gets (q := ("java/lang/String", "COMPACT_STRINGS", "Z", 1001)) (v := vI 1) dJ3_isLatin1_0 (List.mem_of_elem_eq_true (by decide +kernel)) q498 rfl ?_
  obtain ⟨h1, h2⟩ := h
  refine j_if_eq 17 dJ3_isLatin1_3 rfl (by decide) (fun q1 => ?_) (fun q1 => ?_)
  · have h := h1 q1
    clear h1 h2
    refine j_iconst dJ3_isLatin1_17 ?_
    exact j_zret dJ3_isLatin1_18 rfl (nr_bool (by decide)) ⟨_, rfl, rfl, rfl, rfl, h, (by decide)⟩
  · have h := h2 q1
    clear h1 h2
    refine r_aload_n dJ3_isLatin1_6 rfl ?_
    refine r_gI dJ3_isLatin1_7 flJ3_22_21 rfl ht rfl ?_
    have jn4 : ∀ z3 : Int, z3 = (if ¬ (F 7203 o) = 0 then (0 : Int) else 1) → J G l d mJ3_isLatin1 18 [vR (o : Int)] [vI z3] N F A (jpB N F A Q) := by
      intro z3 ez3
      have h := h z3 ez3
      exact j_zret dJ3_isLatin1_18 rfl (nr_bool (ez3 ▸ jB_ite (by decide) (by decide))) ⟨_, rfl, rfl, rfl, rfl, h, (ez3 ▸ jB_ite (by decide) (by decide))⟩
    clear h
    refine j_if_ne 17 dJ3_isLatin1_10 rfl (hW.fi rfl) (fun q2 => ?_) (fun q2 => ?_)
    · refine j_iconst dJ3_isLatin1_17 ?_
      exact jn4 _ (if_pos q2).symm
    · refine j_iconst dJ3_isLatin1_13 ?_
      refine j_goto 18 dJ3_isLatin1_14 rfl ?_
      exact jn4 _ (if_neg q2).symm
/-- java/lang/AbstractStringBuilder.length()I -/
def wqJ3_length (o : Nat) (N : jSh) (F : jFl) (A : jAr) (Q : Int → Prop) : Prop :=
  Q (F 7209 o)
theorem vJ3_length {G : jG} {l : Launch} {d : Nat} {N : jSh} {F : jFl} {A : jAr} {o : Nat} {Q : Int → Prop} (hd : 2 ≤ d) (hW : jWg G N F A) (ht : jtg N o = 21) (h : wqJ3_length o N F A Q) : jCall G l d mJ3_length [vR (o : Int)] N F A (jpI N F A Q) := by
  unfold wqJ3_length at h
  refine jCall.of (by decide) rfl (ls := [vR (o : Int)]) (by simp only [jent_R, jent_I, jent_L, jent_nil]; exact Nat.le_of_ble_eq_true rfl) (by simp only [jloc, jent_R, jent_I, jent_L, jent_nil]; rfl) ?_
  refine r_aload_n dJ3_length_0 rfl ?_
  refine r_gI dJ3_length_1 flJ3_79_21 rfl ht rfl ?_
  exact j_iret dJ3_length_4 rfl ⟨_, rfl, rfl, rfl, rfl, h, (hW.fi rfl)⟩
/-- java/lang/String.coder()B -/
def wqJ5_coder (S : Nat → Nat) (o : Nat) (N : jSh) (F : jFl) (A : jAr) (Q : Int → Prop) : Prop :=
  (((1 : Int) = 0) →
    Q 1) ∧
  ((¬ ((1 : Int) = 0)) →
    (-128 ≤ jfn N 6603 o ∧ jfn N 6603 o ≤ 127) ∧
    Q (jfn N 6603 o))
theorem vJ5_coder {G : jG} {l : Launch} {d : Nat} {N : jSh} {F : jFl} {A : jAr} {o : Nat} {Q : Int → Prop} (hd : 2 ≤ d) (hW : jWg G N F A) (ht : jtg N o = 22) (h : wqJ5_coder (gS G) o N F A Q) : jCall G l d mJ5_coder [vR (o : Int)] N F A (jpY N F A Q) := by
  unfold wqJ5_coder at h
  refine jCall.of (by decide) rfl (ls := [vR (o : Int)]) (by simp only [jent_R, jent_I, jent_L, jent_nil]; exact Nat.le_of_ble_eq_true rfl) (by simp only [jloc, jent_R, jent_I, jent_L, jent_nil]; rfl) ?_
  refine r_gets (q := ("java/lang/String", "COMPACT_STRINGS", "Z", 1001)) (v := vI 1) dJ5_coder_0 (List.mem_of_elem_eq_true (by decide +kernel)) q771 rfl ?_
  obtain ⟨h1, h2⟩ := h
  refine j_if_eq 13 dJ5_coder_3 rfl (by decide) (fun q1 => ?_) (fun q1 => ?_)
  · have h := h1 q1
    clear h1 h2
    refine j_iconst dJ5_coder_13 ?_
    exact j_zret dJ5_coder_14 rfl (nr_byte (by decide)) ⟨_, rfl, rfl, rfl, rfl, h, (by decide)⟩
  · have h := h2 q1
    clear h1 h2
    refine r_aload_n dJ5_coder_6 rfl ?_
    refine r_gIF dJ5_coder_7 flJ5_15_22 rfl ht rfl ?_
    refine j_goto 14 dJ5_coder_10 rfl ?_
    obtain ⟨y2, h⟩ := h
    exact j_zret dJ5_coder_14 rfl (nr_byte y2) ⟨_, rfl, rfl, rfl, rfl, h, y2⟩
/-- java/lang/String.isEmpty()Z -/
def wqJ5_isEmpty (o : Nat) (N : jSh) (F : jFl) (A : jAr) (Q : Int → Prop) : Prop :=
  ∃ b1 : Nat, jfn N 6602 o = (b1 : Int) ∧
  jtg N b1 = 108 ∧
  jR (jln N b1 : Int) ∧
  ∀ z6 : Int, z6 = (if ¬ (jln N b1 : Int) = 0 then (0 : Int) else 1) →
  Q z6
theorem vJ5_isEmpty {G : jG} {l : Launch} {d : Nat} {N : jSh} {F : jFl} {A : jAr} {o : Nat} {Q : Int → Prop} (hd : 2 ≤ d) (hW : jWg G N F A) (ht : jtg N o = 22) (h : wqJ5_isEmpty o N F A Q) : jCall G l d mJ5_isEmpty [vR (o : Int)] N F A (jpB N F A Q) := by
  unfold wqJ5_isEmpty at h
  refine jCall.of (by decide) rfl (ls := [vR (o : Int)]) (by simp only [jent_R, jent_I, jent_L, jent_nil]; exact Nat.le_of_ble_eq_true rfl) (by simp only [jloc, jent_R, jent_I, jent_L, jent_nil]; rfl) ?_
  refine r_aload_n dJ5_isEmpty_0 rfl ?_
  refine r_gRF dJ5_isEmpty_1 flJ5_9_22 rfl ht rfl ?_
  obtain ⟨b1, hz2, h⟩ := h
  obtain ⟨t3, h⟩ := h
  refine r_alen dJ5_isEmpty_4 hz2 t3 rfl ?_
  obtain ⟨r4, h⟩ := h
  have jn7 : ∀ z6 : Int, z6 = (if ¬ (jln N b1 : Int) = 0 then (0 : Int) else 1) → J G l d mJ5_isEmpty 13 [vR (o : Int)] [vI z6] N F A (jpB N F A Q) := by
    intro z6 ez6
    have h := h z6 ez6
    exact j_zret dJ5_isEmpty_13 rfl (nr_bool (ez6 ▸ jB_ite (by decide) (by decide))) ⟨_, rfl, rfl, rfl, rfl, h, (ez6 ▸ jB_ite (by decide) (by decide))⟩
  clear h
  refine j_if_ne 12 dJ5_isEmpty_5 rfl r4 (fun q5 => ?_) (fun q5 => ?_)
  · refine j_iconst dJ5_isEmpty_12 ?_
    exact jn7 _ (if_pos q5).symm
  · refine j_iconst dJ5_isEmpty_8 ?_
    refine j_goto 13 dJ5_isEmpty_9 rfl ?_
    exact jn7 _ (if_neg q5).symm
/-- java/lang/String.isLatin1()Z -/
def wqJ5_isLatin1 (S : Nat → Nat) (o : Nat) (N : jSh) (F : jFl) (A : jAr) (Q : Int → Prop) : Prop :=
  (((1 : Int) = 0) →
    Q 0) ∧
  ((¬ ((1 : Int) = 0)) →
    ∀ z3 : Int, z3 = (if ¬ (jfn N 6603 o) = 0 then (0 : Int) else 1) →
    Q z3)
theorem vJ5_isLatin1 {G : jG} {l : Launch} {d : Nat} {N : jSh} {F : jFl} {A : jAr} {o : Nat} {Q : Int → Prop} (hd : 2 ≤ d) (hW : jWg G N F A) (ht : jtg N o = 22) (h : wqJ5_isLatin1 (gS G) o N F A Q) : jCall G l d mJ5_isLatin1 [vR (o : Int)] N F A (jpB N F A Q) := by
  unfold wqJ5_isLatin1 at h
  refine jCall.of (by decide) rfl (ls := [vR (o : Int)]) (by simp only [jent_R, jent_I, jent_L, jent_nil]; exact Nat.le_of_ble_eq_true rfl) (by simp only [jloc, jent_R, jent_I, jent_L, jent_nil]; rfl) ?_
  refine r_gets (q := ("java/lang/String", "COMPACT_STRINGS", "Z", 1001)) (v := vI 1) dJ5_isLatin1_0 (List.mem_of_elem_eq_true (by decide +kernel)) q771 rfl ?_
  obtain ⟨h1, h2⟩ := h
  refine j_if_eq 17 dJ5_isLatin1_3 rfl (by decide) (fun q1 => ?_) (fun q1 => ?_)
  · have h := h1 q1
    clear h1 h2
    refine j_iconst dJ5_isLatin1_17 ?_
    exact j_zret dJ5_isLatin1_18 rfl (nr_bool (by decide)) ⟨_, rfl, rfl, rfl, rfl, h, (by decide)⟩
  · have h := h2 q1
    clear h1 h2
    refine r_aload_n dJ5_isLatin1_6 rfl ?_
    refine r_gIF dJ5_isLatin1_7 flJ5_15_22 rfl ht rfl ?_
    have jn4 : ∀ z3 : Int, z3 = (if ¬ (jfn N 6603 o) = 0 then (0 : Int) else 1) → J G l d mJ5_isLatin1 18 [vR (o : Int)] [vI z3] N F A (jpB N F A Q) := by
      intro z3 ez3
      have h := h z3 ez3
      exact j_zret dJ5_isLatin1_18 rfl (nr_bool (ez3 ▸ jB_ite (by decide) (by decide))) ⟨_, rfl, rfl, rfl, rfl, h, (ez3 ▸ jB_ite (by decide) (by decide))⟩
    clear h
    refine j_if_ne 17 dJ5_isLatin1_10 rfl (hW.ni rfl (by decide)) (fun q2 => ?_) (fun q2 => ?_)
    · refine j_iconst dJ5_isLatin1_17 ?_
      exact jn4 _ (if_pos q2).symm
    · refine j_iconst dJ5_isLatin1_13 ?_
      refine j_goto 18 dJ5_isLatin1_14 rfl ?_
      exact jn4 _ (if_neg q2).symm
/-- java/lang/StringUTF16.coderFromArrayLen([BI)B -/
def wqJ6_coderFromArrayLen (a1 : Int) (a2 : Int) (N : jSh) (F : jFl) (A : jAr) (Q : Int → Prop) : Prop :=
  ∃ b1 : Nat, a1 = (b1 : Int) ∧
  jtg N b1 = 108 ∧
  jR (a2 - (jln N b1 : Int)) ∧
  Q (jby (if a2 - (jln N b1 : Int) < 0 then (1 : Int) else 0))
theorem vJ6_coderFromArrayLen {G : jG} {l : Launch} {d : Nat} {N : jSh} {F : jFl} {A : jAr} {a1 a2 : Int} {Q : Int → Prop} (hd : 2 ≤ d) (hW : jWg G N F A) (ra2 : jR a2) (h : wqJ6_coderFromArrayLen a1 a2 N F A Q) : jCall G l d mJ6_coderFromArrayLen [vR a1, vI a2] N F A (jpY N F A Q) := by
  unfold wqJ6_coderFromArrayLen at h
  refine jCall.of (by decide) rfl (ls := [vR a1, vI a2]) (by simp only [jent_R, jent_I, jent_L, jent_nil]; exact Nat.le_of_ble_eq_true rfl) (by simp only [jloc, jent_R, jent_I, jent_L, jent_nil]; rfl) ?_
  refine j_iload_n dJ6_coderFromArrayLen_0 rfl ?_
  refine r_aload_n dJ6_coderFromArrayLen_1 rfl ?_
  obtain ⟨b1, hz2, h⟩ := h
  obtain ⟨t3, h⟩ := h
  refine r_alen dJ6_coderFromArrayLen_2 hz2 t3 rfl ?_
  refine j_isub dJ6_coderFromArrayLen_3 ?_
  refine j_bipush dJ6_coderFromArrayLen_4 ?_
  obtain ⟨r4, h⟩ := h
  refine j_iushr31 dJ6_coderFromArrayLen_6 r4 ?_
  refine r_i2b dJ6_coderFromArrayLen_7 (jR_ite (by decide) (by decide)) ?_
  exact j_zret dJ6_coderFromArrayLen_8 rfl (nr_byte (jby_R _)) ⟨_, rfl, rfl, rfl, rfl, h, (jby_R _)⟩
/-- java/lang/StringUTF16.compress([CI[BII)I -/
def wqJ6_compress_2 (a1 : Int) (a2 : Int) (a3 : Int) (a4 : Int) (a5 : Int) (N : jSh) (F : jFl) (A : jAr) (Q : Int → jFl → jAr → Prop) : Prop :=
  ∃ (I7 : Int → Int → Int → jAr → Prop) (m8 : Int → Int → Int → jAr → Nat), I7 a2 a4 0 A ∧ ∀ (v1 : Int) (v2 : Int) (v3 : Int) (A4 : jAr), I7 v1 v2 v3 A4 →
    ((a5 ≤ v3) →
      Q a5 F A4) ∧
    ((¬ (a5 ≤ v3)) →
      ∃ b10 : Nat, a1 = (b10 : Int) ∧
      jtg N b10 = 111 ∧
      ((0 : Int) ≤ v1 ∧ (v1 : Int) < (jln N b10 : Int)) ∧
      ∀ v14 : Int, v14 = A4 b10 v1 →
      ((v14 ≤ 255) →
        ∃ b16 : Nat, a3 = (b16 : Int) ∧
        jtg N b16 = 108 ∧
        jfn N 0 b16 = 1 ∧
        ((0 : Int) ≤ v2 ∧ (v2 : Int) < (jln N b16 : Int)) ∧
        ∀ A21 : jAr, A21 = upA A4 b16 v2 (jby v14) →
        jR (v1 + 1) ∧
        jR (v2 + 1) ∧
        jR (v3 + 1) ∧
        I7 (v1 + 1) (v2 + 1) (v3 + 1) A21 ∧ m8 (v1 + 1) (v2 + 1) (v3 + 1) A21 < m8 v1 v2 v3 A4) ∧
      ((¬ (v14 ≤ 255)) →
        Q v3 F A4))
theorem vJ6_compress_2 {G : jG} {l : Launch} {d : Nat} {N : jSh} {F : jFl} {A : jAr} {a1 a2 a3 a4 a5 : Int} {Q : Int → jFl → jAr → Prop} (hd : 2 ≤ d) (hW : jWg G N F A) (ra2 : jR a2) (ra4 : jR a4) (ra5 : jR a5) (h : wqJ6_compress_2 a1 a2 a3 a4 a5 N F A Q) : jCall G l d mJ6_compress_2 [vR a1, vI a2, vR a3, vI a4, vI a5] N F A (cmI G N Q) := by
  unfold wqJ6_compress_2 at h
  refine jCall.of (by decide) rfl (ls := [vR a1, vI a2, vR a3, vI a4, vI a5, jD, jD]) (by simp only [jent_R, jent_I, jent_L, jent_nil]; exact Nat.le_of_ble_eq_true rfl) (by simp only [jloc, jent_R, jent_I, jent_L, jent_nil]; rfl) ?_
  refine j_iconst dJ6_compress_2_0 ?_
  refine j_istore dJ6_compress_2_1 rfl ?_
  obtain ⟨I7, m8, h0, hs⟩ := h
  have lp : ∀ (n : Nat) (v1 : Int) (v2 : Int) (v3 : Int) (A4 : jAr), m8 v1 v2 v3 A4 < n → jWg G N F A4 → jR v1 → jR v2 → jR v3 → I7 v1 v2 v3 A4 → J G l d mJ6_compress_2 3 [vR a1, vI v1, vR a3, vI v2, vI a5, vI v3, jD] [] N F A4 (cmI G N Q) := by
    intro nI7
    induction nI7 with
    | zero =>
      intro v1 v2 v3 A4 hmu
      exact absurd hmu (Nat.not_lt_zero _)
    | succ nI7 ihI7 =>
      intro v1 v2 v3 A4 hmuI7 hW5 rv1 rv2 rv3 hI
      have h := hs v1 v2 v3 A4 hI
      refine j_iload dJ6_compress_2_3 rfl ?_
      refine j_iload dJ6_compress_2_5 rfl ?_
      obtain ⟨h1, h2⟩ := h
      refine j_icmp_ge 44 dJ6_compress_2_7 rfl rv3 ra5 (fun q9 => ?_) (fun q9 => ?_)
      · have h := h1 q9
        clear h1 h2
        refine j_iload dJ6_compress_2_44 rfl ?_
        exact j_iret dJ6_compress_2_46 rfl ⟨_, rfl, rfl, hW5, h, ra5⟩
      · have h := h2 q9
        clear h1 h2
        refine r_aload_n dJ6_compress_2_10 rfl ?_
        refine j_iload_n dJ6_compress_2_11 rfl ?_
        obtain ⟨b10, hz11, h⟩ := h
        obtain ⟨t12, h⟩ := h
        obtain ⟨c13, h⟩ := h
        refine r_cald dJ6_compress_2_12 hz11 t12 c13 ?_
        obtain ⟨v14, ev14⟩ : ∃ x : Int, x = A4 b10 v1 := ⟨_, rfl⟩
        have h := h v14 ev14
        refine jnmI (e := ev14) ?_
        refine j_istore dJ6_compress_2_13 rfl ?_
        refine j_iload dJ6_compress_2_15 rfl ?_
        refine j_sipush dJ6_compress_2_17 ?_
        obtain ⟨h1, h2⟩ := h
        refine j_icmp_le 26 dJ6_compress_2_20 rfl (ev14 ▸ (hW5.ai t12 rfl)) (by decide) (fun q15 => ?_) (fun q15 => ?_)
        · have h := h1 q15
          clear h1 h2
          refine r_aload_n dJ6_compress_2_26 rfl ?_
          refine j_iload_n dJ6_compress_2_27 rfl ?_
          refine j_iload dJ6_compress_2_28 rfl ?_
          refine r_i2b dJ6_compress_2_30 (ev14 ▸ (hW5.ai t12 rfl)) ?_
          obtain ⟨b16, hz17, h⟩ := h
          obtain ⟨t18, h⟩ := h
          obtain ⟨w19, h⟩ := h
          obtain ⟨c20, h⟩ := h
          refine c_bast hW5 dJ6_compress_2_31 hz17 t18 w19 c20 (jR_y (jby_R _)) (jby_R _) fun A21 eA21 hW22 => ?_
          have h := h A21 eA21
          obtain ⟨r23, h⟩ := h
          refine j_iinc dJ6_compress_2_32 rfl (jokR rfl (Nat.le_of_ble_eq_true rfl)) ?_
          obtain ⟨r24, h⟩ := h
          refine j_iinc dJ6_compress_2_35 rfl (jokR rfl (Nat.le_of_ble_eq_true rfl)) ?_
          obtain ⟨r25, h⟩ := h
          refine j_iinc dJ6_compress_2_38 rfl rfl ?_
          refine j_goto 3 dJ6_compress_2_41 rfl ?_
          exact J.wk ((((((((jWk.nil).no).eq).eq).eq).eq).eq).eq) (ihI7 _ _ _ _ (Nat.lt_of_lt_of_le h.2 (Nat.le_of_lt_succ hmuI7)) hW22 r23 r24 r25 h.1)
        · have h := h2 q15
          clear h1 h2
          refine j_iload dJ6_compress_2_23 rfl ?_
          exact j_iret dJ6_compress_2_25 rfl ⟨_, rfl, rfl, hW5, h, rv3⟩
  exact J.wk ((((((((jWk.nil).no).eq).eq).eq).eq).eq).eq) (lp _ _ _ _ _ (Nat.lt_succ_self _) hW ra2 ra4 (by decide) h0)
/-- java/lang/StringUTF16.length([B)I -/
def wqJ6_length (a1 : Int) (N : jSh) (F : jFl) (A : jAr) (Q : Int → Prop) : Prop :=
  ∃ b1 : Nat, a1 = (b1 : Int) ∧
  jtg N b1 = 108 ∧
  jR (jln N b1 : Int) ∧
  Q ((jln N b1 : Int) / 2 ^ 1)
theorem vJ6_length {G : jG} {l : Launch} {d : Nat} {N : jSh} {F : jFl} {A : jAr} {a1 : Int} {Q : Int → Prop} (hd : 2 ≤ d) (hW : jWg G N F A) (h : wqJ6_length a1 N F A Q) : jCall G l d mJ6_length [vR a1] N F A (jpI N F A Q) := by
  unfold wqJ6_length at h
  refine jCall.of (by decide) rfl (ls := [vR a1]) (by simp only [jent_R, jent_I, jent_L, jent_nil]; exact Nat.le_of_ble_eq_true rfl) (by simp only [jloc, jent_R, jent_I, jent_L, jent_nil]; rfl) ?_
  refine r_aload_n dJ6_length_0 rfl ?_
  obtain ⟨b1, hz2, h⟩ := h
  obtain ⟨t3, h⟩ := h
  refine r_alen dJ6_length_1 hz2 t3 rfl ?_
  refine j_iconst dJ6_length_2 ?_
  obtain ⟨r4, h⟩ := h
  refine j_ishr dJ6_length_3 r4 (by decide) ?_
  exact j_iret dJ6_length_4 rfl ⟨_, rfl, rfl, rfl, rfl, h, (jR_shr r4)⟩
/-- java/lang/StringUTF16.newBytesLength(I)I -/
def wqJ6_newBytesLength (S : Nat → Nat) (a1 : Int) (N : jSh) (F : jFl) (A : jAr) (Q : Int → Prop) : Prop :=
  ((0 ≤ a1) →
    ((a1 < 1073741823) →
      jR (a1 * 2 ^ 1) ∧
      Q (a1 * 2 ^ 1)) ∧
    ((¬ (a1 < 1073741823)) →
      False)) ∧
  ((¬ (0 ≤ a1)) →
    False)
theorem vJ6_newBytesLength {G : jG} {l : Launch} {d : Nat} {N : jSh} {F : jFl} {A : jAr} {a1 : Int} {Q : Int → Prop} (hd : 2 ≤ d) (hW : jWg G N F A) (ra1 : jR a1) (h : wqJ6_newBytesLength (gS G) a1 N F A Q) : jCall G l d mJ6_newBytesLength [vI a1] N F A (jpI N F A Q) := by
  unfold wqJ6_newBytesLength at h
  refine jCall.of (by decide) rfl (ls := [vI a1]) (by simp only [jent_R, jent_I, jent_L, jent_nil]; exact Nat.le_of_ble_eq_true rfl) (by simp only [jloc, jent_R, jent_I, jent_L, jent_nil]; rfl) ?_
  refine j_iload_n dJ6_newBytesLength_0 rfl ?_
  obtain ⟨h1, h2⟩ := h
  refine j_if_ge 12 dJ6_newBytesLength_1 rfl ra1 (fun q1 => ?_) (fun q1 => ?_)
  · have h := h1 q1
    clear h1 h2
    refine j_iload_n dJ6_newBytesLength_12 rfl ?_
    refine j_ldc (n := 1073741823) dJ6_newBytesLength_13 q506 ?_
    obtain ⟨h1, h2⟩ := h
    refine j_icmp_lt 55 dJ6_newBytesLength_15 rfl ra1 (by decide) (fun q2 => ?_) (fun q2 => ?_)
    · have h := h1 q2
      clear h1 h2
      refine j_iload_n dJ6_newBytesLength_55 rfl ?_
      refine j_iconst dJ6_newBytesLength_56 ?_
      refine j_ishl dJ6_newBytesLength_57 (by decide) ?_
      obtain ⟨r3, h⟩ := h
      exact j_iret dJ6_newBytesLength_58 rfl ⟨_, rfl, rfl, rfl, rfl, h, r3⟩
    · have h := h2 q2
      clear h1 h2
      exact h.elim
  · have h := h2 q1
    clear h1 h2
    exact h.elim
/-- jdk/internal/util/Preconditions.checkFromIndexSize(IIILjava/util/function/BiFunction;)I -/
def wqJ9_checkFromIndexSize (a1 : Int) (a2 : Int) (a3 : Int) (a4 : Int) (N : jSh) (F : jFl) (A : jAr) (Q : Int → Prop) : Prop :=
  (((0 : Int) ≤ a3 ∧ (a3 : Int) ≤ 2147483647) ∧ ((0 : Int) ≤ a1 ∧ (a1 : Int) ≤ 2147483647)) ∧
  (((0 : Int) ≤ jor a3 a1 ∧ (jor a3 a1 : Int) ≤ 2147483647) ∧ ((0 : Int) ≤ a2 ∧ (a2 : Int) ≤ 2147483647)) ∧
  jR (jor (jor a3 a1) a2) ∧
  (((jor (jor a3 a1) a2) < 0) →
    False) ∧
  ((¬ ((jor (jor a3 a1) a2) < 0)) →
    jR (a3 - a1) ∧
    ((a2 ≤ (a3 - a1)) →
      Q a1) ∧
    ((¬ (a2 ≤ (a3 - a1))) →
      False))
theorem vJ9_checkFromIndexSize {G : jG} {l : Launch} {d : Nat} {N : jSh} {F : jFl} {A : jAr} {a1 a2 a3 a4 : Int} {Q : Int → Prop} (hd : 2 ≤ d) (hW : jWg G N F A) (ra1 : jR a1) (ra2 : jR a2) (ra3 : jR a3) (h : wqJ9_checkFromIndexSize a1 a2 a3 a4 N F A Q) : jCall G l d mJ9_checkFromIndexSize [vI a1, vI a2, vI a3, vR a4] N F A (jpI N F A Q) := by
  unfold wqJ9_checkFromIndexSize at h
  refine jCall.of (by decide) rfl (ls := [vI a1, vI a2, vI a3, vR a4]) (by simp only [jent_R, jent_I, jent_L, jent_nil]; exact Nat.le_of_ble_eq_true rfl) (by simp only [jloc, jent_R, jent_I, jent_L, jent_nil]; rfl) ?_
  refine j_iload_n dJ9_checkFromIndexSize_0 rfl ?_
  refine j_iload_n dJ9_checkFromIndexSize_1 rfl ?_
  obtain ⟨c1, h⟩ := h
  refine j_ior dJ9_checkFromIndexSize_2 c1.1 c1.2 ?_
  refine j_iload_n dJ9_checkFromIndexSize_3 rfl ?_
  obtain ⟨c2, h⟩ := h
  refine j_ior dJ9_checkFromIndexSize_4 c2.1 c2.2 ?_
  obtain ⟨r3, h⟩ := h
  obtain ⟨h1, h2⟩ := h
  refine j_if_lt 15 dJ9_checkFromIndexSize_5 rfl r3 (fun q4 => ?_) (fun q4 => ?_)
  · have h := h1 q4
    clear h1 h2
    exact h.elim
  · have h := h2 q4
    clear h1 h2
    refine j_iload_n dJ9_checkFromIndexSize_8 rfl ?_
    refine j_iload_n dJ9_checkFromIndexSize_9 rfl ?_
    refine j_iload_n dJ9_checkFromIndexSize_10 rfl ?_
    refine j_isub dJ9_checkFromIndexSize_11 ?_
    obtain ⟨r5, h⟩ := h
    obtain ⟨h1, h2⟩ := h
    refine j_icmp_le 23 dJ9_checkFromIndexSize_12 rfl ra2 r5 (fun q6 => ?_) (fun q6 => ?_)
    · have h := h1 q6
      clear h1 h2
      refine j_iload_n dJ9_checkFromIndexSize_23 rfl ?_
      exact j_iret dJ9_checkFromIndexSize_24 rfl ⟨_, rfl, rfl, rfl, rfl, h, ra1⟩
    · have h := h2 q6
      clear h1 h2
      exact h.elim
/-- jdk/internal/util/Preconditions.checkIndex(IILjava/util/function/BiFunction;)I -/
def wqJ9_checkIndex (a1 : Int) (a2 : Int) (a3 : Int) (N : jSh) (F : jFl) (A : jAr) (Q : Int → Prop) : Prop :=
  ((a1 < 0) →
    False) ∧
  ((¬ (a1 < 0)) →
    ((a1 < a2) →
      Q a1) ∧
    ((¬ (a1 < a2)) →
      False))
theorem vJ9_checkIndex {G : jG} {l : Launch} {d : Nat} {N : jSh} {F : jFl} {A : jAr} {a1 a2 a3 : Int} {Q : Int → Prop} (hd : 2 ≤ d) (hW : jWg G N F A) (ra1 : jR a1) (ra2 : jR a2) (h : wqJ9_checkIndex a1 a2 a3 N F A Q) : jCall G l d mJ9_checkIndex [vI a1, vI a2, vR a3] N F A (jpI N F A Q) := by
  unfold wqJ9_checkIndex at h
  refine jCall.of (by decide) rfl (ls := [vI a1, vI a2, vR a3]) (by simp only [jent_R, jent_I, jent_L, jent_nil]; exact Nat.le_of_ble_eq_true rfl) (by simp only [jloc, jent_R, jent_I, jent_L, jent_nil]; rfl) ?_
  refine j_iload_n dJ9_checkIndex_0 rfl ?_
  obtain ⟨h1, h2⟩ := h
  refine j_if_lt 9 dJ9_checkIndex_1 rfl ra1 (fun q1 => ?_) (fun q1 => ?_)
  · have h := h1 q1
    clear h1 h2
    exact h.elim
  · have h := h2 q1
    clear h1 h2
    refine j_iload_n dJ9_checkIndex_4 rfl ?_
    refine j_iload_n dJ9_checkIndex_5 rfl ?_
    obtain ⟨h1, h2⟩ := h
    refine j_icmp_lt 16 dJ9_checkIndex_6 rfl ra1 ra2 (fun q2 => ?_) (fun q2 => ?_)
    · have h := h1 q2
      clear h1 h2
      refine j_iload_n dJ9_checkIndex_16 rfl ?_
      exact j_iret dJ9_checkIndex_17 rfl ⟨_, rfl, rfl, rfl, rfl, h, ra1⟩
    · have h := h2 q2
      clear h1 h2
      exact h.elim
/-- ChildSays.drawn(I)I -/
def wqX0_drawn (S : Nat → Nat) (o : Nat) (a1 : Int) (N : jSh) (F : jFl) (A : jAr) (Q : Int → jFl → jAr → Prop) : Prop :=
  (((0 : Int) ≤ (1103515245 * (F 319 o)) + 12345 ∧ ((1103515245 * (F 319 o)) + 12345 : Int) ≤ 9223372036854775807) ∧ ((0 : Int) ≤ 2147483647 ∧ (2147483647 : Int) ≤ 9223372036854775807)) ∧
  jfn N 0 o = 1 ∧
  jRL (jand ((1103515245 * (F 319 o)) + 12345) 2147483647) ∧
  ∀ F5 : jFl, F5 = upF F 319 o (jand ((1103515245 * (F 319 o)) + 12345) 2147483647) →
  (((0 : Int) ≤ F5 319 o ∧ (F5 319 o : Int) ≤ 9223372036854775807) ∧ ((0 : Int) < 64 ∧ (64 : Int) ≤ 9223372036854775807)) ∧
  (((0 : Int) ≤ (F5 319 o) / 64 ∧ ((F5 319 o) / 64 : Int) ≤ 9223372036854775807) ∧ ((0 : Int) < a1 ∧ (a1 : Int) ≤ 9223372036854775807)) ∧
  jR (((F5 319 o) / 64) % a1) ∧
  Q (((F5 319 o) / 64) % a1) F5 A
theorem vX0_drawn {G : jG} {l : Launch} {d : Nat} {N : jSh} {F : jFl} {A : jAr} {o : Nat} {a1 : Int} {Q : Int → jFl → jAr → Prop} (hd : 2 ≤ d) (hW : jWg G N F A) (ht : jtg N o = 1) (ra1 : jR a1) (h : wqX0_drawn (gS G) o a1 N F A Q) : jCall G l d mX0_drawn [vR (o : Int), vI a1] N F A (cmI G N Q) := by
  unfold wqX0_drawn at h
  refine jCall.of (by decide) rfl (ls := [vR (o : Int), vI a1]) (by simp only [jent_R, jent_I, jent_L, jent_nil]; exact Nat.le_of_ble_eq_true rfl) (by simp only [jloc, jent_R, jent_I, jent_L, jent_nil]; rfl) ?_
  refine r_aload_n dX0_drawn_0 rfl ?_
  refine j_ldc2 (n := 1103515245) dX0_drawn_1 q1580 ?_
  refine r_aload_n dX0_drawn_4 rfl ?_
  refine r_gL dX0_drawn_5 flX0_28_1 rfl ht rfl ?_
  refine j_lmul dX0_drawn_8 ?_
  refine j_ldc2 (n := 12345) dX0_drawn_9 q1581 ?_
  refine j_ladd dX0_drawn_12 ?_
  refine j_ldc2 (n := 2147483647) dX0_drawn_13 q1582 ?_
  obtain ⟨c1, h⟩ := h
  refine j_land dX0_drawn_16 c1.1 c1.2 ?_
  obtain ⟨w2, h⟩ := h
  obtain ⟨r3, h⟩ := h
  refine c_pJ hW dX0_drawn_17 flX0_28_1 rfl ht w2 rfl r3 fun F5 eF5 hW4 => ?_
  have h := h F5 eF5
  refine r_aload_n dX0_drawn_20 rfl ?_
  refine r_gL dX0_drawn_21 flX0_28_1 rfl ht rfl ?_
  refine j_ldc2 (n := 64) dX0_drawn_24 q1583 ?_
  obtain ⟨c6, h⟩ := h
  refine j_ldiv dX0_drawn_27 c6.1 c6.2 ?_
  refine j_iload_n dX0_drawn_28 rfl ?_
  refine j_i2l dX0_drawn_29 ra1 ?_
  obtain ⟨c7, h⟩ := h
  refine j_lrem dX0_drawn_30 c7.1 c7.2 ?_
  refine j_l2i dX0_drawn_31 ?_
  obtain ⟨r8, h⟩ := h
  exact j_iret dX0_drawn_32 rfl ⟨_, rfl, rfl, hW4, h, r8⟩
/-- ChildSays.fault(I)I -/
def wqX0_fault (o : Nat) (a1 : Int) (N : jSh) (F : jFl) (A : jAr) (Q : Int → Prop) : Prop :=
  ((¬ a1 = 0) →
    ((¬ a1 = 1) →
      Q (-1)) ∧
    ((a1 = 1) →
      Q (F 315 o))) ∧
  ((a1 = 0) →
    Q (F 312 o))
theorem vX0_fault {G : jG} {l : Launch} {d : Nat} {N : jSh} {F : jFl} {A : jAr} {o : Nat} {a1 : Int} {Q : Int → Prop} (hd : 2 ≤ d) (hW : jWg G N F A) (ht : jtg N o = 1) (ra1 : jR a1) (h : wqX0_fault o a1 N F A Q) : jCall G l d mX0_fault [vR (o : Int), vI a1] N F A (jpI N F A Q) := by
  unfold wqX0_fault at h
  refine jCall.of (by decide) rfl (ls := [vR (o : Int), vI a1]) (by simp only [jent_R, jent_I, jent_L, jent_nil]; exact Nat.le_of_ble_eq_true rfl) (by simp only [jloc, jent_R, jent_I, jent_L, jent_nil]; rfl) ?_
  refine j_iload_n dX0_fault_0 rfl ?_
  obtain ⟨h1, h2⟩ := h
  refine j_if_ne 11 dX0_fault_1 rfl ra1 (fun q1 => ?_) (fun q1 => ?_)
  · have h := h1 q1
    clear h1 h2
    refine j_iload_n dX0_fault_11 rfl ?_
    refine j_iconst dX0_fault_12 ?_
    obtain ⟨h1, h2⟩ := h
    refine j_icmp_ne 23 dX0_fault_13 rfl ra1 (by decide) (fun q2 => ?_) (fun q2 => ?_)
    · have h := h1 q2
      clear h1 h2
      refine j_iconst dX0_fault_23 ?_
      exact j_iret dX0_fault_24 rfl ⟨_, rfl, rfl, rfl, rfl, h, (by decide)⟩
    · have h := h2 (Classical.not_not.mp q2)
      clear h1 h2
      refine r_aload_n dX0_fault_16 rfl ?_
      refine r_gI dX0_fault_17 flX0_24_1 rfl ht rfl ?_
      refine j_goto 24 dX0_fault_20 rfl ?_
      exact j_iret dX0_fault_24 rfl ⟨_, rfl, rfl, rfl, rfl, h, (hW.fi rfl)⟩
  · have h := h2 (Classical.not_not.mp q1)
    clear h1 h2
    refine r_aload_n dX0_fault_4 rfl ?_
    refine r_gI dX0_fault_5 flX0_154_1 rfl ht rfl ?_
    refine j_goto 24 dX0_fault_8 rfl ?_
    exact j_iret dX0_fault_24 rfl ⟨_, rfl, rfl, rfl, rfl, h, (hW.fi rfl)⟩
/-- ChildSays.isIn(JJJ)Z -/
def wqX0_isIn (a1 : Int) (a2 : Int) (a3 : Int) (N : jSh) (F : jFl) (A : jAr) (Q : Int → Prop) : Prop :=
  (((jcmp a1 a2) < 0) →
    Q 0) ∧
  ((¬ ((jcmp a1 a2) < 0)) →
    ∀ z3 : Int, z3 = (if 0 < (jcmp a1 a3) then (0 : Int) else 1) →
    Q z3)
theorem vX0_isIn {G : jG} {l : Launch} {d : Nat} {N : jSh} {F : jFl} {A : jAr} {a1 a2 a3 : Int} {Q : Int → Prop} (hd : 2 ≤ d) (hW : jWg G N F A) (ra1 : jRL a1) (ra2 : jRL a2) (ra3 : jRL a3) (h : wqX0_isIn a1 a2 a3 N F A Q) : jCall G l d mX0_isIn [vL a1, vL a2, vL a3] N F A (jpB N F A Q) := by
  unfold wqX0_isIn at h
  refine jCall.of (by decide) rfl (ls := [vL a1, jD, vL a2, jD, vL a3, jD]) (by simp only [jent_R, jent_I, jent_L, jent_nil]; exact Nat.le_of_ble_eq_true rfl) (by simp only [jloc, jent_R, jent_I, jent_L, jent_nil]; rfl) ?_
  refine j_lload_n dX0_isIn_0 rfl ?_
  refine j_lload_n dX0_isIn_1 rfl ?_
  refine j_lcmp dX0_isIn_2 ra1 ra2 ?_
  obtain ⟨h1, h2⟩ := h
  refine j_if_lt 17 dX0_isIn_3 rfl jcmp_R (fun q1 => ?_) (fun q1 => ?_)
  · have h := h1 q1
    clear h1 h2
    refine j_iconst dX0_isIn_17 ?_
    exact j_zret dX0_isIn_18 rfl (nr_bool (by decide)) ⟨_, rfl, rfl, rfl, rfl, h, (by decide)⟩
  · have h := h2 q1
    clear h1 h2
    refine j_lload_n dX0_isIn_6 rfl ?_
    refine j_lload dX0_isIn_7 rfl ?_
    refine j_lcmp dX0_isIn_9 ra1 ra3 ?_
    have jn4 : ∀ z3 : Int, z3 = (if 0 < (jcmp a1 a3) then (0 : Int) else 1) → J G l d mX0_isIn 18 [vL a1, jD, vL a2, jD, vL a3, jD] [vI z3] N F A (jpB N F A Q) := by
      intro z3 ez3
      have h := h z3 ez3
      exact j_zret dX0_isIn_18 rfl (nr_bool (ez3 ▸ jB_ite (by decide) (by decide))) ⟨_, rfl, rfl, rfl, rfl, h, (ez3 ▸ jB_ite (by decide) (by decide))⟩
    clear h
    refine j_if_gt 17 dX0_isIn_10 rfl jcmp_R (fun q2 => ?_) (fun q2 => ?_)
    · refine j_iconst dX0_isIn_17 ?_
      exact jn4 _ (if_pos q2).symm
    · refine j_iconst dX0_isIn_13 ?_
      refine j_goto 18 dX0_isIn_14 rfl ?_
      exact jn4 _ (if_neg q2).symm
/-- ChildSays.isRight()V -/
def wqX0_isRight (o : Nat) (N : jSh) (F : jFl) (A : jAr) (Q : jFl → jAr → Prop) : Prop :=
  jfn N 0 o = 1 ∧
  ∀ F3 : jFl, F3 = upF F 312 o 0 →
  ∀ F5 : jFl, F5 = upF F3 315 o (-1) →
  Q F5 A
theorem vX0_isRight {G : jG} {l : Launch} {d : Nat} {N : jSh} {F : jFl} {A : jAr} {o : Nat} {Q : jFl → jAr → Prop} (hd : 2 ≤ d) (hW : jWg G N F A) (ht : jtg N o = 1) (h : wqX0_isRight o N F A Q) : jCall G l d mX0_isRight [vR (o : Int)] N F A (cmV G N Q) := by
  unfold wqX0_isRight at h
  refine jCall.of (by decide) rfl (ls := [vR (o : Int)]) (by simp only [jent_R, jent_I, jent_L, jent_nil]; exact Nat.le_of_ble_eq_true rfl) (by simp only [jloc, jent_R, jent_I, jent_L, jent_nil]; rfl) ?_
  refine r_aload_n dX0_isRight_0 rfl ?_
  refine j_iconst dX0_isRight_1 ?_
  obtain ⟨w1, h⟩ := h
  refine c_pI hW dX0_isRight_2 flX0_154_1 rfl ht w1 rfl (by decide) fun F3 eF3 hW2 => ?_
  have h := h F3 eF3
  refine r_aload_n dX0_isRight_5 rfl ?_
  refine j_iconst dX0_isRight_6 ?_
  refine c_pI hW2 dX0_isRight_7 flX0_24_1 rfl ht w1 rfl (by decide) fun F5 eF5 hW4 => ?_
  have h := h F5 eF5
  exact j_vret dX0_isRight_10 rfl ⟨rfl, rfl, hW4, h⟩
/-- ChildSays.lays(I)V -/
def wqX0_lays (o : Nat) (a1 : Int) (N : jSh) (F : jFl) (A : jAr) (Q : jFl → jAr → Prop) : Prop :=
  ∃ (I6 : Int → jFl → jAr → Prop) (m7 : Int → jFl → jAr → Nat), I6 24 F A ∧ ∀ (v1 : Int) (F2 : jFl) (A3 : jAr), I6 v1 F2 A3 →
    ((v1 < 0) →
      Q F2 A3) ∧
    ((¬ (v1 < 0)) →
      ((0 : Int) ≤ v1 ∧ (v1 : Int) < 32) ∧
      (0 ≤ (a1 / 2 ^ v1.toNat) % 256 ∧ (a1 / 2 ^ v1.toNat) % 256 ≤ 65535) ∧
      ∃ b11 : Nat, jfn N 302 o = (b11 : Int) ∧
      jtg N b11 = 111 ∧
      jfn N 0 b11 = 1 ∧
      ((0 : Int) ≤ F2 303 o ∧ (F2 303 o : Int) < (jln N b11 : Int)) ∧
      ∀ A16 : jAr, A16 = upA A3 b11 (F2 303 o) ((a1 / 2 ^ v1.toNat) % 256) →
      jfn N 0 o = 1 ∧
      jR ((F2 303 o) + 1) ∧
      ∀ F21 : jFl, F21 = upF F2 303 o ((F2 303 o) + 1) →
      jR (v1 + (-8)) ∧
      I6 (v1 + (-8)) F21 A16 ∧ m7 (v1 + (-8)) F21 A16 < m7 v1 F2 A3)
theorem vX0_lays {G : jG} {l : Launch} {d : Nat} {N : jSh} {F : jFl} {A : jAr} {o : Nat} {a1 : Int} {Q : jFl → jAr → Prop} (hd : 2 ≤ d) (hW : jWg G N F A) (ht : jtg N o = 1) (ra1 : jR a1) (h : wqX0_lays o a1 N F A Q) : jCall G l d mX0_lays [vR (o : Int), vI a1] N F A (cmV G N Q) := by
  unfold wqX0_lays at h
  refine jCall.of (by decide) rfl (ls := [vR (o : Int), vI a1, jD]) (by simp only [jent_R, jent_I, jent_L, jent_nil]; exact Nat.le_of_ble_eq_true rfl) (by simp only [jloc, jent_R, jent_I, jent_L, jent_nil]; rfl) ?_
  refine j_bipush dX0_lays_0 ?_
  refine j_istore_n dX0_lays_2 rfl ?_
  obtain ⟨I6, m7, h0, hs⟩ := h
  have lp : ∀ (n : Nat) (v1 : Int) (F2 : jFl) (A3 : jAr), m7 v1 F2 A3 < n → jWg G N F2 A3 → jR v1 → I6 v1 F2 A3 → J G l d mX0_lays 3 [vR (o : Int), vI a1, vI v1] [] N F2 A3 (cmV G N Q) := by
    intro nI6
    induction nI6 with
    | zero =>
      intro v1 F2 A3 hmu
      exact absurd hmu (Nat.not_lt_zero _)
    | succ nI6 ihI6 =>
      intro v1 F2 A3 hmuI6 hW4 rv1 hI
      have h := hs v1 F2 A3 hI
      refine j_iload_n dX0_lays_3 rfl ?_
      obtain ⟨h1, h2⟩ := h
      refine j_if_lt 40 dX0_lays_4 rfl rv1 (fun q8 => ?_) (fun q8 => ?_)
      · have h := h1 q8
        clear h1 h2
        exact j_vret dX0_lays_40 rfl ⟨rfl, rfl, hW4, h⟩
      · have h := h2 q8
        clear h1 h2
        refine r_aload_n dX0_lays_7 rfl ?_
        refine r_gRF dX0_lays_8 flX0_9_1 rfl ht rfl ?_
        refine r_aload_n dX0_lays_11 rfl ?_
        refine r_gI dX0_lays_12 flX0_111_1 rfl ht rfl ?_
        refine j_iload_n dX0_lays_15 rfl ?_
        refine j_iload_n dX0_lays_16 rfl ?_
        obtain ⟨c9, h⟩ := h
        refine j_ishr dX0_lays_17 ra1 c9 ?_
        refine j_sipush dX0_lays_18 ?_
        refine j_iand 8 (by decide) (by decide +kernel) dX0_lays_21 ?_
        rw [show ((2 ^ 8 : Nat) : Int) = 256 from rfl]
        obtain ⟨c10, h⟩ := h
        refine r_i2c dX0_lays_22 c10 ?_
        obtain ⟨b11, hz12, h⟩ := h
        obtain ⟨t13, h⟩ := h
        obtain ⟨w14, h⟩ := h
        obtain ⟨c15, h⟩ := h
        refine c_cast hW4 dX0_lays_23 hz12 t13 w14 c15 (jR_c c10) c10 fun A16 eA16 hW17 => ?_
        have h := h A16 eA16
        refine r_aload_n dX0_lays_24 rfl ?_
        refine j_dup dX0_lays_25 (vR_cat _) ?_
        refine r_gI dX0_lays_26 flX0_111_1 rfl ht rfl ?_
        refine j_iconst dX0_lays_29 ?_
        refine j_iadd dX0_lays_30 ?_
        obtain ⟨w18, h⟩ := h
        obtain ⟨r19, h⟩ := h
        refine c_pI hW17 dX0_lays_31 flX0_111_1 rfl ht w18 rfl r19 fun F21 eF21 hW20 => ?_
        have h := h F21 eF21
        obtain ⟨r22, h⟩ := h
        refine j_iinc dX0_lays_34 rfl rfl ?_
        refine j_goto 3 dX0_lays_37 rfl ?_
        exact J.wk ((((jWk.nil).eq).eq).eq) (ihI6 _ _ _ (Nat.lt_of_lt_of_le h.2 (Nat.le_of_lt_succ hmuI6)) hW20 r22 h.1)
  exact J.wk ((((jWk.nil).eq).eq).eq) (lp _ _ _ _ (Nat.lt_succ_self _) hW (by decide) h0)
/-- ChildSays.names(I)Ljava/util/ArrayList; -/
def wqX0_names (o : Nat) (a1 : Int) (N : jSh) (F : jFl) (A : jAr) (Q : Int → Prop) : Prop :=
  ((¬ a1 = 0) →
    ((¬ a1 = 1) →
      ((¬ a1 = 2) →
        ∃ b4 : Nat, F 311 o = (b4 : Int) ∧
        jtg N b4 = 2 ∧
        Q (jfn N 626 b4)) ∧
      ((a1 = 2) →
        ∃ b7 : Nat, F 311 o = (b7 : Int) ∧
        jtg N b7 = 2 ∧
        Q (jfn N 623 b7))) ∧
    ((a1 = 1) →
      ∃ b10 : Nat, F 311 o = (b10 : Int) ∧
      jtg N b10 = 2 ∧
      Q (jfn N 620 b10))) ∧
  ((a1 = 0) →
    ∃ b13 : Nat, F 311 o = (b13 : Int) ∧
    jtg N b13 = 2 ∧
    Q (jfn N 617 b13))
theorem vX0_names {G : jG} {l : Launch} {d : Nat} {N : jSh} {F : jFl} {A : jAr} {o : Nat} {a1 : Int} {Q : Int → Prop} (hd : 2 ≤ d) (hW : jWg G N F A) (ht : jtg N o = 1) (ra1 : jR a1) (h : wqX0_names o a1 N F A Q) : jCall G l d mX0_names [vR (o : Int), vI a1] N F A (jpR N F A Q) := by
  unfold wqX0_names at h
  refine jCall.of (by decide) rfl (ls := [vR (o : Int), vI a1]) (by simp only [jent_R, jent_I, jent_L, jent_nil]; exact Nat.le_of_ble_eq_true rfl) (by simp only [jloc, jent_R, jent_I, jent_L, jent_nil]; rfl) ?_
  refine j_iload_n dX0_names_0 rfl ?_
  obtain ⟨h1, h2⟩ := h
  refine j_if_ne 14 dX0_names_1 rfl ra1 (fun q1 => ?_) (fun q1 => ?_)
  · have h := h1 q1
    clear h1 h2
    refine j_iload_n dX0_names_14 rfl ?_
    refine j_iconst dX0_names_15 ?_
    obtain ⟨h1, h2⟩ := h
    refine j_icmp_ne 29 dX0_names_16 rfl ra1 (by decide) (fun q2 => ?_) (fun q2 => ?_)
    · have h := h1 q2
      clear h1 h2
      refine j_iload_n dX0_names_29 rfl ?_
      refine j_iconst dX0_names_30 ?_
      obtain ⟨h1, h2⟩ := h
      refine j_icmp_ne 44 dX0_names_31 rfl ra1 (by decide) (fun q3 => ?_) (fun q3 => ?_)
      · have h := h1 q3
        clear h1 h2
        refine r_aload_n dX0_names_44 rfl ?_
        refine r_gR dX0_names_45 flX0_20_1 rfl ht rfl ?_
        obtain ⟨b4, hz5, h⟩ := h
        obtain ⟨t6, h⟩ := h
        refine r_gRF dX0_names_48 flX0_206_2 hz5 t6 rfl ?_
        exact r_aret dX0_names_51 rfl (Or.inl ⟨_, rfl⟩) ⟨_, rfl, rfl, rfl, rfl, h, trivial⟩
      · have h := h2 (Classical.not_not.mp q3)
        clear h1 h2
        refine r_aload_n dX0_names_34 rfl ?_
        refine r_gR dX0_names_35 flX0_20_1 rfl ht rfl ?_
        obtain ⟨b7, hz8, h⟩ := h
        obtain ⟨t9, h⟩ := h
        refine r_gRF dX0_names_38 flX0_203_2 hz8 t9 rfl ?_
        refine j_goto 51 dX0_names_41 rfl ?_
        exact r_aret dX0_names_51 rfl (Or.inl ⟨_, rfl⟩) ⟨_, rfl, rfl, rfl, rfl, h, trivial⟩
    · have h := h2 (Classical.not_not.mp q2)
      clear h1 h2
      refine r_aload_n dX0_names_19 rfl ?_
      refine r_gR dX0_names_20 flX0_20_1 rfl ht rfl ?_
      obtain ⟨b10, hz11, h⟩ := h
      obtain ⟨t12, h⟩ := h
      refine r_gRF dX0_names_23 flX0_200_2 hz11 t12 rfl ?_
      refine j_goto 51 dX0_names_26 rfl ?_
      exact r_aret dX0_names_51 rfl (Or.inl ⟨_, rfl⟩) ⟨_, rfl, rfl, rfl, rfl, h, trivial⟩
  · have h := h2 (Classical.not_not.mp q1)
    clear h1 h2
    refine r_aload_n dX0_names_4 rfl ?_
    refine r_gR dX0_names_5 flX0_20_1 rfl ht rfl ?_
    obtain ⟨b13, hz14, h⟩ := h
    obtain ⟨t15, h⟩ := h
    refine r_gRF dX0_names_8 flX0_197_2 hz14 t15 rfl ?_
    refine j_goto 51 dX0_names_11 rfl ?_
    exact r_aret dX0_names_51 rfl (Or.inl ⟨_, rfl⟩) ⟨_, rfl, rfl, rfl, rfl, h, trivial⟩
/-- ChildSays.refused(I)I -/
def wqX0_refused (o : Nat) (a1 : Int) (N : jSh) (F : jFl) (A : jAr) (Q : Int → jFl → jAr → Prop) : Prop :=
  ∃ b1 : Nat, jfn N 308 o = (b1 : Int) ∧
  jtg N b1 = 102 ∧
  ((0 : Int) ≤ a1 ∧ (a1 : Int) < (jln N b1 : Int)) ∧
  jfn N 0 b1 = 1 ∧
  ((0 : Int) ≤ a1 ∧ (a1 : Int) < (jln N b1 : Int)) ∧
  jR ((A b1 a1) + 1) ∧
  ∀ A7 : jAr, A7 = upA A b1 a1 ((A b1 a1) + 1) →
  Q (-1) F A7
theorem vX0_refused {G : jG} {l : Launch} {d : Nat} {N : jSh} {F : jFl} {A : jAr} {o : Nat} {a1 : Int} {Q : Int → jFl → jAr → Prop} (hd : 2 ≤ d) (hW : jWg G N F A) (ht : jtg N o = 1) (ra1 : jR a1) (h : wqX0_refused o a1 N F A Q) : jCall G l d mX0_refused [vR (o : Int), vI a1] N F A (cmI G N Q) := by
  unfold wqX0_refused at h
  refine jCall.of (by decide) rfl (ls := [vR (o : Int), vI a1]) (by simp only [jent_R, jent_I, jent_L, jent_nil]; exact Nat.le_of_ble_eq_true rfl) (by simp only [jloc, jent_R, jent_I, jent_L, jent_nil]; rfl) ?_
  refine r_aload_n dX0_refused_0 rfl ?_
  refine r_gRF dX0_refused_1 flX0_13_1 rfl ht rfl ?_
  refine j_iload_n dX0_refused_4 rfl ?_
  refine j_dup2 dX0_refused_5 rfl (vR_cat _) ?_
  obtain ⟨b1, hz2, h⟩ := h
  obtain ⟨t3, h⟩ := h
  obtain ⟨c4, h⟩ := h
  refine r_iald dX0_refused_6 hz2 t3 c4 ?_
  refine j_iconst dX0_refused_7 ?_
  refine j_iadd dX0_refused_8 ?_
  obtain ⟨w5, h⟩ := h
  obtain ⟨c6, h⟩ := h
  obtain ⟨r9, h⟩ := h
  refine c_iast hW dX0_refused_9 hz2 t3 w5 c6 r9 fun A7 eA7 hW8 => ?_
  have h := h A7 eA7
  refine j_iconst dX0_refused_10 ?_
  exact j_iret dX0_refused_11 rfl ⟨_, rfl, rfl, hW8, h, (by decide)⟩
/-- ChildSays$Reader.<init>(LChildSays;ILChildSays$Town;)V -/
def wqX10_init (o : Nat) (a1 : Int) (a2 : Int) (a3 : Int) (N : jSh) (F : jFl) (A : jAr) (Q : jSh → jFl → jAr → Prop) : Prop :=
  jfn N 0 o = 1 ∧
  ∀ N3 : jSh, N3 = jpF N 3332 o a1 →
  ∀ F8 : jFl, F8 = upF F 3309 o (-1) →
  ∀ N10 : jSh, N10 = jpF N3 3300 o a2 →
  ∀ N15 : jSh, N15 = jpF N10 3305 o a3 →
  Q N15 F8 A
theorem vX10_init {G : jG} {l : Launch} {d : Nat} {N : jSh} {F : jFl} {A : jAr} {o : Nat} {a1 a2 a3 : Int} {Q : jSh → jFl → jAr → Prop} (hd : 2 ≤ d) (hW : jWg G N F A) (ht : jtg N o = 11) (ra2 : jR a2) (h : wqX10_init o a1 a2 a3 N F A Q) : jCall G l d mX10_init [vR (o : Int), vR a1, vI a2, vR a3] N F A (cnV G N Q) := by
  unfold wqX10_init at h
  refine jCall.of (by decide) rfl (ls := [vR (o : Int), vR a1, vI a2, vR a3]) (by simp only [jent_R, jent_I, jent_L, jent_nil]; exact Nat.le_of_ble_eq_true rfl) (by simp only [jloc, jent_R, jent_I, jent_L, jent_nil]; rfl) ?_
  refine r_aload_n dX10_init_0 rfl ?_
  refine r_aload_n dX10_init_1 rfl ?_
  obtain ⟨w1, h⟩ := h
  refine c_pRF hW dX10_init_2 flX10_3_11 rfl ht w1 rfl (ty := .object "ChildSays") rfl (by intro c hc; cases hc; rfl) (by decide) (by decide +kernel) (Or.inl ⟨_, rfl⟩) fun N3 eN3 hT4 hW2 => ?_
  have h := h N3 eN3
  refine r_aload_n dX10_init_5 rfl ?_
  refine r_objInit dX10_init_6 q618 rfl (Nat.le_trans (Nat.le_of_ble_eq_true rfl) hd) (Nat.le_of_ble_eq_true rfl) ?_
  refine r_aload_n dX10_init_9 rfl ?_
  refine j_iconst dX10_init_10 ?_
  have t5 : jtg N3 o = 11 := (hT4.tg hW ht)
  have w6 : jfn N3 0 o = 1 := (hT4.ow hW ht w1)
  refine c_pI hW2 dX10_init_11 flX10_15_11 rfl t5 w6 rfl (by decide) fun F8 eF8 hW7 => ?_
  have h := h F8 eF8
  refine r_aload_n dX10_init_14 rfl ?_
  refine j_iload_n dX10_init_15 rfl ?_
  refine c_pIF hW7 dX10_init_16 flX10_19_11 rfl t5 w6 rfl ra2 rfl (by intro c hc; cases hc; rfl) (by decide) fun N10 eN10 hT11 hW9 => ?_
  have h := h N10 eN10
  refine r_aload_n dX10_init_19 rfl ?_
  refine r_aload_n dX10_init_20 rfl ?_
  have t12 : jtg N10 o = 11 := (hT11.tg hW7 t5)
  have w13 : jfn N10 0 o = 1 := (hT11.ow hW7 (hT4.tg hW ht) w6)
  refine c_pRF hW9 dX10_init_21 flX10_22_11 rfl t12 w13 rfl (ty := .object "ChildSays$Town") rfl (by intro c hc; cases hc; rfl) (by decide) (by decide +kernel) (Or.inl ⟨_, rfl⟩) fun N15 eN15 hT16 hW14 => ?_
  have h := h N15 eN15
  exact j_vret dX10_init_24 rfl ⟨rfl, hW14, ((hT4.trans hT11).trans hT16), h⟩
/-- ChildSays$Reader.isDigit(C)Z -/
def wqX10_isDigit (o : Nat) (a1 : Int) (N : jSh) (F : jFl) (A : jAr) (Q : Int → Prop) : Prop :=
  ((a1 < 48) →
    Q 0) ∧
  ((¬ (a1 < 48)) →
    ∀ z3 : Int, z3 = (if 57 < a1 then (0 : Int) else 1) →
    Q z3)
theorem vX10_isDigit {G : jG} {l : Launch} {d : Nat} {N : jSh} {F : jFl} {A : jAr} {o : Nat} {a1 : Int} {Q : Int → Prop} (hd : 2 ≤ d) (hW : jWg G N F A) (ht : jtg N o = 11) (ra1 : jR a1) (h : wqX10_isDigit o a1 N F A Q) : jCall G l d mX10_isDigit [vR (o : Int), vI a1] N F A (jpB N F A Q) := by
  unfold wqX10_isDigit at h
  refine jCall.of (by decide) rfl (ls := [vR (o : Int), vI a1]) (by simp only [jent_R, jent_I, jent_L, jent_nil]; exact Nat.le_of_ble_eq_true rfl) (by simp only [jloc, jent_R, jent_I, jent_L, jent_nil]; rfl) ?_
  refine j_iload_n dX10_isDigit_0 rfl ?_
  refine j_bipush dX10_isDigit_1 ?_
  obtain ⟨h1, h2⟩ := h
  refine j_icmp_lt 16 dX10_isDigit_3 rfl ra1 (by decide) (fun q1 => ?_) (fun q1 => ?_)
  · have h := h1 q1
    clear h1 h2
    refine j_iconst dX10_isDigit_16 ?_
    exact j_zret dX10_isDigit_17 rfl (nr_bool (by decide)) ⟨_, rfl, rfl, rfl, rfl, h, (by decide)⟩
  · have h := h2 q1
    clear h1 h2
    refine j_iload_n dX10_isDigit_6 rfl ?_
    refine j_bipush dX10_isDigit_7 ?_
    have jn4 : ∀ z3 : Int, z3 = (if 57 < a1 then (0 : Int) else 1) → J G l d mX10_isDigit 17 [vR (o : Int), vI a1] [vI z3] N F A (jpB N F A Q) := by
      intro z3 ez3
      have h := h z3 ez3
      exact j_zret dX10_isDigit_17 rfl (nr_bool (ez3 ▸ jB_ite (by decide) (by decide))) ⟨_, rfl, rfl, rfl, rfl, h, (ez3 ▸ jB_ite (by decide) (by decide))⟩
    clear h
    refine j_icmp_gt 16 dX10_isDigit_9 rfl ra1 (by decide) (fun q2 => ?_) (fun q2 => ?_)
    · refine j_iconst dX10_isDigit_16 ?_
      exact jn4 _ (if_pos q2).symm
    · refine j_iconst dX10_isDigit_12 ?_
      refine j_goto 17 dX10_isDigit_13 rfl ?_
      exact jn4 _ (if_neg q2).symm
/-- ChildSays$Reader.isLetter(C)Z -/
def wqX10_isLetter (o : Nat) (a1 : Int) (N : jSh) (F : jFl) (A : jAr) (Q : Int → Prop) : Prop :=
  ((a1 < 97) →
    Q 0) ∧
  ((¬ (a1 < 97)) →
    ∀ z3 : Int, z3 = (if 122 < a1 then (0 : Int) else 1) →
    Q z3)
theorem vX10_isLetter {G : jG} {l : Launch} {d : Nat} {N : jSh} {F : jFl} {A : jAr} {o : Nat} {a1 : Int} {Q : Int → Prop} (hd : 2 ≤ d) (hW : jWg G N F A) (ht : jtg N o = 11) (ra1 : jR a1) (h : wqX10_isLetter o a1 N F A Q) : jCall G l d mX10_isLetter [vR (o : Int), vI a1] N F A (jpB N F A Q) := by
  unfold wqX10_isLetter at h
  refine jCall.of (by decide) rfl (ls := [vR (o : Int), vI a1]) (by simp only [jent_R, jent_I, jent_L, jent_nil]; exact Nat.le_of_ble_eq_true rfl) (by simp only [jloc, jent_R, jent_I, jent_L, jent_nil]; rfl) ?_
  refine j_iload_n dX10_isLetter_0 rfl ?_
  refine j_bipush dX10_isLetter_1 ?_
  obtain ⟨h1, h2⟩ := h
  refine j_icmp_lt 16 dX10_isLetter_3 rfl ra1 (by decide) (fun q1 => ?_) (fun q1 => ?_)
  · have h := h1 q1
    clear h1 h2
    refine j_iconst dX10_isLetter_16 ?_
    exact j_zret dX10_isLetter_17 rfl (nr_bool (by decide)) ⟨_, rfl, rfl, rfl, rfl, h, (by decide)⟩
  · have h := h2 q1
    clear h1 h2
    refine j_iload_n dX10_isLetter_6 rfl ?_
    refine j_bipush dX10_isLetter_7 ?_
    have jn4 : ∀ z3 : Int, z3 = (if 122 < a1 then (0 : Int) else 1) → J G l d mX10_isLetter 17 [vR (o : Int), vI a1] [vI z3] N F A (jpB N F A Q) := by
      intro z3 ez3
      have h := h z3 ez3
      exact j_zret dX10_isLetter_17 rfl (nr_bool (ez3 ▸ jB_ite (by decide) (by decide))) ⟨_, rfl, rfl, rfl, rfl, h, (ez3 ▸ jB_ite (by decide) (by decide))⟩
    clear h
    refine j_icmp_gt 16 dX10_isLetter_9 rfl ra1 (by decide) (fun q2 => ?_) (fun q2 => ?_)
    · refine j_iconst dX10_isLetter_16 ?_
      exact jn4 _ (if_pos q2).symm
    · refine j_iconst dX10_isLetter_12 ?_
      refine j_goto 17 dX10_isLetter_13 rfl ?_
      exact jn4 _ (if_neg q2).symm
/-- ChildSays$Reader.isMore()Z -/
def wqX10_isMore (o : Nat) (N : jSh) (F : jFl) (A : jAr) (Q : Int → jFl → jAr → Prop) : Prop :=
  ∃ (I4 : jFl → Prop) (m5 : jFl → Nat), I4 F ∧ ∀ (F1 : jFl), I4 F1 →
    ∃ K8 : Prop, (
      K8  →
      ∀ z12 : Int, z12 = (if (jfn N 3300 o) ≤ (F1 3306 o) then (0 : Int) else 1) →
      Q z12 F1 A) ∧
    (((jfn N 3300 o) ≤ (F1 3306 o)) →
      K8 ) ∧
    ((¬ ((jfn N 3300 o) ≤ (F1 3306 o))) →
      ∃ b14 : Nat, jfn N 3332 o = (b14 : Int) ∧
      jtg N b14 = 1 ∧
      ∃ b17 : Nat, jfn N 302 b14 = (b17 : Int) ∧
      jtg N b17 = 111 ∧
      ((0 : Int) ≤ F1 3306 o ∧ (F1 3306 o : Int) < (jln N b17 : Int)) ∧
      (((A b17 (F1 3306 o)) = 32) →
        jfn N 0 o = 1 ∧
        jR ((F1 3306 o) + 1) ∧
        ∀ F25 : jFl, F25 = upF F1 3306 o ((F1 3306 o) + 1) →
        I4 F25 ∧ m5 F25 < m5 F1) ∧
      ((¬ ((A b17 (F1 3306 o)) = 32)) →
        ((0 : Int) ≤ F1 3306 o ∧ (F1 3306 o : Int) < (jln N b17 : Int)) ∧
        ((¬ (A b17 (F1 3306 o)) = 10) →
          K8 ) ∧
        (((A b17 (F1 3306 o)) = 10) →
          jfn N 0 o = 1 ∧
          jR ((F1 3306 o) + 1) ∧
          ∀ F31 : jFl, F31 = upF F1 3306 o ((F1 3306 o) + 1) →
          I4 F31 ∧ m5 F31 < m5 F1)))
theorem vX10_isMore {G : jG} {l : Launch} {d : Nat} {N : jSh} {F : jFl} {A : jAr} {o : Nat} {Q : Int → jFl → jAr → Prop} (hd : 2 ≤ d) (hW : jWg G N F A) (ht : jtg N o = 11) (h : wqX10_isMore o N F A Q) : jCall G l d mX10_isMore [vR (o : Int)] N F A (cmB G N Q) := by
  unfold wqX10_isMore at h
  refine jCall.of (by decide) rfl (ls := [vR (o : Int)]) (by simp only [jent_R, jent_I, jent_L, jent_nil]; exact Nat.le_of_ble_eq_true rfl) (by simp only [jloc, jent_R, jent_I, jent_L, jent_nil]; rfl) ?_
  obtain ⟨I4, m5, h0, hs⟩ := h
  have lp : ∀ (n : Nat) (F1 : jFl), m5 F1 < n → jWg G N F1 A → I4 F1 → J G l d mX10_isMore 0 [vR (o : Int)] [] N F1 A (cmB G N Q) := by
    intro nI4
    induction nI4 with
    | zero =>
      intro F1 hmu
      exact absurd hmu (Nat.not_lt_zero _)
    | succ nI4 ihI4 =>
      intro F1 hmuI4 hW2  hI
      have h := hs F1 hI
      refine r_aload_n dX10_isMore_0 rfl ?_
      refine r_gI dX10_isMore_1 flX10_33_11 rfl ht rfl ?_
      refine r_aload_n dX10_isMore_4 rfl ?_
      refine r_gIF dX10_isMore_5 flX10_19_11 rfl ht rfl ?_
      obtain ⟨K8, hK10, h⟩ := h
      have jn9 : K8  → J G l d mX10_isMore 58 [vR (o : Int)] [] N F1 A (cmB G N Q) := by
        intro   h
        have h := hK10  h
        refine r_aload_n dX10_isMore_58 rfl ?_
        refine r_gI dX10_isMore_59 flX10_33_11 rfl ht rfl ?_
        refine r_aload_n dX10_isMore_62 rfl ?_
        refine r_gIF dX10_isMore_63 flX10_19_11 rfl ht rfl ?_
        have jn13 : ∀ z12 : Int, z12 = (if (jfn N 3300 o) ≤ (F1 3306 o) then (0 : Int) else 1) → J G l d mX10_isMore 74 [vR (o : Int)] [vI z12] N F1 A (cmB G N Q) := by
          intro z12 ez12
          have h := h z12 ez12
          exact j_zret dX10_isMore_74 rfl (nr_bool (ez12 ▸ jB_ite (by decide) (by decide))) ⟨_, rfl, rfl, hW2, h, (ez12 ▸ jB_ite (by decide) (by decide))⟩
        clear h
        refine j_icmp_ge 73 dX10_isMore_66 rfl (hW2.fi rfl) (hW2.ni rfl (by decide)) (fun q11 => ?_) (fun q11 => ?_)
        · refine j_iconst dX10_isMore_73 ?_
          exact jn13 _ (if_pos q11).symm
        · refine j_iconst dX10_isMore_69 ?_
          refine j_goto 74 dX10_isMore_70 rfl ?_
          exact jn13 _ (if_neg q11).symm
      obtain ⟨h1, h2⟩ := h
      refine j_icmp_ge 58 dX10_isMore_8 rfl (hW2.fi rfl) (hW2.ni rfl (by decide)) (fun q6 => ?_) (fun q6 => ?_)
      · have h := h1 q6
        clear h1 h2
        exact J.wk ((jWk.nil).eq) (jn9   h)
      · have h := h2 q6
        clear h1 h2
        refine r_aload_n dX10_isMore_11 rfl ?_
        refine r_gRF dX10_isMore_12 flX10_3_11 rfl ht rfl ?_
        obtain ⟨b14, hz15, h⟩ := h
        obtain ⟨t16, h⟩ := h
        refine r_gRFN dX10_isMore_15 flX10_36_1 hz15 t16 rfl ?_
        refine r_aload_n dX10_isMore_18 rfl ?_
        refine r_gI dX10_isMore_19 flX10_33_11 rfl ht rfl ?_
        obtain ⟨b17, hz18, h⟩ := h
        obtain ⟨t19, h⟩ := h
        obtain ⟨c20, h⟩ := h
        refine r_cald dX10_isMore_22 hz18 t19 c20 ?_
        refine j_bipush dX10_isMore_23 ?_
        obtain ⟨h1, h2⟩ := h
        refine j_icmp_eq 45 dX10_isMore_25 rfl (hW2.ai t19 rfl) (by decide) (fun q21 => ?_) (fun q21 => ?_)
        · have h := h1 q21
          clear h1 h2
          refine r_aload_n dX10_isMore_45 rfl ?_
          refine j_dup dX10_isMore_46 (vR_cat _) ?_
          refine r_gI dX10_isMore_47 flX10_33_11 rfl ht rfl ?_
          refine j_iconst dX10_isMore_50 ?_
          refine j_iadd dX10_isMore_51 ?_
          obtain ⟨w22, h⟩ := h
          obtain ⟨r23, h⟩ := h
          refine c_pI hW2 dX10_isMore_52 flX10_33_11 rfl ht w22 rfl r23 fun F25 eF25 hW24 => ?_
          have h := h F25 eF25
          refine j_goto 0 dX10_isMore_55 rfl ?_
          exact J.wk ((jWk.nil).eq) (ihI4 _ (Nat.lt_of_lt_of_le h.2 (Nat.le_of_lt_succ hmuI4)) hW24 h.1)
        · have h := h2 q21
          clear h1 h2
          refine r_aload_n dX10_isMore_28 rfl ?_
          refine r_gRF dX10_isMore_29 flX10_3_11 rfl ht rfl ?_
          refine r_gRFN dX10_isMore_32 flX10_36_1 hz15 t16 rfl ?_
          refine r_aload_n dX10_isMore_35 rfl ?_
          refine r_gI dX10_isMore_36 flX10_33_11 rfl ht rfl ?_
          obtain ⟨c26, h⟩ := h
          refine r_cald dX10_isMore_39 hz18 t19 c26 ?_
          refine j_bipush dX10_isMore_40 ?_
          obtain ⟨h1, h2⟩ := h
          refine j_icmp_ne 58 dX10_isMore_42 rfl (hW2.ai t19 rfl) (by decide) (fun q27 => ?_) (fun q27 => ?_)
          · have h := h1 q27
            clear h1 h2
            exact J.wk ((jWk.nil).eq) (jn9   h)
          · have h := h2 (Classical.not_not.mp q27)
            clear h1 h2
            refine r_aload_n dX10_isMore_45 rfl ?_
            refine j_dup dX10_isMore_46 (vR_cat _) ?_
            refine r_gI dX10_isMore_47 flX10_33_11 rfl ht rfl ?_
            refine j_iconst dX10_isMore_50 ?_
            refine j_iadd dX10_isMore_51 ?_
            obtain ⟨w28, h⟩ := h
            obtain ⟨r29, h⟩ := h
            refine c_pI hW2 dX10_isMore_52 flX10_33_11 rfl ht w28 rfl r29 fun F31 eF31 hW30 => ?_
            have h := h F31 eF31
            refine j_goto 0 dX10_isMore_55 rfl ?_
            exact J.wk ((jWk.nil).eq) (ihI4 _ (Nat.lt_of_lt_of_le h.2 (Nat.le_of_lt_succ hmuI4)) hW30 h.1)
  exact J.wk ((jWk.nil).eq) (lp _ _ (Nat.lt_succ_self _) hW h0)
/-- ChildSays$Named.<init>(Ljava/lang/String;I)V -/
def wqX12_init_14 (o : Nat) (a1 : Int) (a2 : Int) (N : jSh) (F : jFl) (A : jAr) (Q : jSh → jFl → jAr → Prop) : Prop :=
  jfn N 0 o = 1 ∧
  ∀ N3 : jSh, N3 = jpF N 3902 o a1 →
  ∀ N8 : jSh, N8 = jpF N3 3903 o a2 →
  Q N8 F A
theorem vX12_init_14 {G : jG} {l : Launch} {d : Nat} {N : jSh} {F : jFl} {A : jAr} {o : Nat} {a1 a2 : Int} {Q : jSh → jFl → jAr → Prop} (hd : 2 ≤ d) (hW : jWg G N F A) (ht : jtg N o = 14) (ra2 : jR a2) (h : wqX12_init_14 o a1 a2 N F A Q) : jCall G l d mX12_init [vR (o : Int), vR a1, vI a2] N F A (cnV G N Q) := by
  unfold wqX12_init_14 at h
  refine jCall.of (by decide) rfl (ls := [vR (o : Int), vR a1, vI a2]) (by simp only [jent_R, jent_I, jent_L, jent_nil]; exact Nat.le_of_ble_eq_true rfl) (by simp only [jloc, jent_R, jent_I, jent_L, jent_nil]; rfl) ?_
  refine r_aload_n dX12_init_0 rfl ?_
  refine r_objInit dX12_init_1 q921 rfl (Nat.le_trans (Nat.le_of_ble_eq_true rfl) hd) (Nat.le_of_ble_eq_true rfl) ?_
  refine r_aload_n dX12_init_4 rfl ?_
  refine r_aload_n dX12_init_5 rfl ?_
  obtain ⟨w1, h⟩ := h
  refine c_pRF hW dX12_init_6 flX12_7_14 rfl ht w1 rfl (ty := .object "java/lang/String") rfl (by intro c hc; cases hc; rfl) (by decide) (by decide +kernel) (Or.inl ⟨_, rfl⟩) fun N3 eN3 hT4 hW2 => ?_
  have h := h N3 eN3
  refine r_aload_n dX12_init_9 rfl ?_
  refine j_iload_n dX12_init_10 rfl ?_
  have t5 : jtg N3 o = 14 := (hT4.tg hW ht)
  have w6 : jfn N3 0 o = 1 := (hT4.ow hW ht w1)
  refine c_pIF hW2 dX12_init_11 flX12_13_14 rfl t5 w6 rfl ra2 rfl (by intro c hc; cases hc; rfl) (by decide) fun N8 eN8 hT9 hW7 => ?_
  have h := h N8 eN8
  exact j_vret dX12_init_14 rfl ⟨rfl, hW7, (hT4.trans hT9), h⟩
/-- ChildSays$Named.<init>(Ljava/lang/String;I)V -/
def wqX12_init_15 (o : Nat) (a1 : Int) (a2 : Int) (N : jSh) (F : jFl) (A : jAr) (Q : jSh → jFl → jAr → Prop) : Prop :=
  jfn N 0 o = 1 ∧
  ∀ N3 : jSh, N3 = jpF N 3902 o a1 →
  ∀ N8 : jSh, N8 = jpF N3 3903 o a2 →
  Q N8 F A
theorem vX12_init_15 {G : jG} {l : Launch} {d : Nat} {N : jSh} {F : jFl} {A : jAr} {o : Nat} {a1 a2 : Int} {Q : jSh → jFl → jAr → Prop} (hd : 2 ≤ d) (hW : jWg G N F A) (ht : jtg N o = 15) (ra2 : jR a2) (h : wqX12_init_15 o a1 a2 N F A Q) : jCall G l d mX12_init [vR (o : Int), vR a1, vI a2] N F A (cnV G N Q) := by
  unfold wqX12_init_15 at h
  refine jCall.of (by decide) rfl (ls := [vR (o : Int), vR a1, vI a2]) (by simp only [jent_R, jent_I, jent_L, jent_nil]; exact Nat.le_of_ble_eq_true rfl) (by simp only [jloc, jent_R, jent_I, jent_L, jent_nil]; rfl) ?_
  refine r_aload_n dX12_init_0 rfl ?_
  refine r_objInit dX12_init_1 q921 rfl (Nat.le_trans (Nat.le_of_ble_eq_true rfl) hd) (Nat.le_of_ble_eq_true rfl) ?_
  refine r_aload_n dX12_init_4 rfl ?_
  refine r_aload_n dX12_init_5 rfl ?_
  obtain ⟨w1, h⟩ := h
  refine c_pRF hW dX12_init_6 flX12_7_15 rfl ht w1 rfl (ty := .object "java/lang/String") rfl (by intro c hc; cases hc; rfl) (by decide) (by decide +kernel) (Or.inl ⟨_, rfl⟩) fun N3 eN3 hT4 hW2 => ?_
  have h := h N3 eN3
  refine r_aload_n dX12_init_9 rfl ?_
  refine j_iload_n dX12_init_10 rfl ?_
  have t5 : jtg N3 o = 15 := (hT4.tg hW ht)
  have w6 : jfn N3 0 o = 1 := (hT4.ow hW ht w1)
  refine c_pIF hW2 dX12_init_11 flX12_13_15 rfl t5 w6 rfl ra2 rfl (by intro c hc; cases hc; rfl) (by decide) fun N8 eN8 hT9 hW7 => ?_
  have h := h N8 eN8
  exact j_vret dX12_init_14 rfl ⟨rfl, hW7, (hT4.trans hT9), h⟩
/-- ChildSays$Named.<init>(Ljava/lang/String;I)V -/
def wqX12_init_16 (o : Nat) (a1 : Int) (a2 : Int) (N : jSh) (F : jFl) (A : jAr) (Q : jSh → jFl → jAr → Prop) : Prop :=
  jfn N 0 o = 1 ∧
  ∀ N3 : jSh, N3 = jpF N 3902 o a1 →
  ∀ N8 : jSh, N8 = jpF N3 3903 o a2 →
  Q N8 F A
theorem vX12_init_16 {G : jG} {l : Launch} {d : Nat} {N : jSh} {F : jFl} {A : jAr} {o : Nat} {a1 a2 : Int} {Q : jSh → jFl → jAr → Prop} (hd : 2 ≤ d) (hW : jWg G N F A) (ht : jtg N o = 16) (ra2 : jR a2) (h : wqX12_init_16 o a1 a2 N F A Q) : jCall G l d mX12_init [vR (o : Int), vR a1, vI a2] N F A (cnV G N Q) := by
  unfold wqX12_init_16 at h
  refine jCall.of (by decide) rfl (ls := [vR (o : Int), vR a1, vI a2]) (by simp only [jent_R, jent_I, jent_L, jent_nil]; exact Nat.le_of_ble_eq_true rfl) (by simp only [jloc, jent_R, jent_I, jent_L, jent_nil]; rfl) ?_
  refine r_aload_n dX12_init_0 rfl ?_
  refine r_objInit dX12_init_1 q921 rfl (Nat.le_trans (Nat.le_of_ble_eq_true rfl) hd) (Nat.le_of_ble_eq_true rfl) ?_
  refine r_aload_n dX12_init_4 rfl ?_
  refine r_aload_n dX12_init_5 rfl ?_
  obtain ⟨w1, h⟩ := h
  refine c_pRF hW dX12_init_6 flX12_7_16 rfl ht w1 rfl (ty := .object "java/lang/String") rfl (by intro c hc; cases hc; rfl) (by decide) (by decide +kernel) (Or.inl ⟨_, rfl⟩) fun N3 eN3 hT4 hW2 => ?_
  have h := h N3 eN3
  refine r_aload_n dX12_init_9 rfl ?_
  refine j_iload_n dX12_init_10 rfl ?_
  have t5 : jtg N3 o = 16 := (hT4.tg hW ht)
  have w6 : jfn N3 0 o = 1 := (hT4.ow hW ht w1)
  refine c_pIF hW2 dX12_init_11 flX12_13_16 rfl t5 w6 rfl ra2 rfl (by intro c hc; cases hc; rfl) (by decide) fun N8 eN8 hT9 hW7 => ?_
  have h := h N8 eN8
  exact j_vret dX12_init_14 rfl ⟨rfl, hW7, (hT4.trans hT9), h⟩
/-- ChildSays$Named.<init>(Ljava/lang/String;I)V -/
def wqX12_init_17 (o : Nat) (a1 : Int) (a2 : Int) (N : jSh) (F : jFl) (A : jAr) (Q : jSh → jFl → jAr → Prop) : Prop :=
  jfn N 0 o = 1 ∧
  ∀ N3 : jSh, N3 = jpF N 3902 o a1 →
  ∀ N8 : jSh, N8 = jpF N3 3903 o a2 →
  Q N8 F A
theorem vX12_init_17 {G : jG} {l : Launch} {d : Nat} {N : jSh} {F : jFl} {A : jAr} {o : Nat} {a1 a2 : Int} {Q : jSh → jFl → jAr → Prop} (hd : 2 ≤ d) (hW : jWg G N F A) (ht : jtg N o = 17) (ra2 : jR a2) (h : wqX12_init_17 o a1 a2 N F A Q) : jCall G l d mX12_init [vR (o : Int), vR a1, vI a2] N F A (cnV G N Q) := by
  unfold wqX12_init_17 at h
  refine jCall.of (by decide) rfl (ls := [vR (o : Int), vR a1, vI a2]) (by simp only [jent_R, jent_I, jent_L, jent_nil]; exact Nat.le_of_ble_eq_true rfl) (by simp only [jloc, jent_R, jent_I, jent_L, jent_nil]; rfl) ?_
  refine r_aload_n dX12_init_0 rfl ?_
  refine r_objInit dX12_init_1 q921 rfl (Nat.le_trans (Nat.le_of_ble_eq_true rfl) hd) (Nat.le_of_ble_eq_true rfl) ?_
  refine r_aload_n dX12_init_4 rfl ?_
  refine r_aload_n dX12_init_5 rfl ?_
  obtain ⟨w1, h⟩ := h
  refine c_pRF hW dX12_init_6 flX12_7_17 rfl ht w1 rfl (ty := .object "java/lang/String") rfl (by intro c hc; cases hc; rfl) (by decide) (by decide +kernel) (Or.inl ⟨_, rfl⟩) fun N3 eN3 hT4 hW2 => ?_
  have h := h N3 eN3
  refine r_aload_n dX12_init_9 rfl ?_
  refine j_iload_n dX12_init_10 rfl ?_
  have t5 : jtg N3 o = 17 := (hT4.tg hW ht)
  have w6 : jfn N3 0 o = 1 := (hT4.ow hW ht w1)
  refine c_pIF hW2 dX12_init_11 flX12_13_17 rfl t5 w6 rfl ra2 rfl (by intro c hc; cases hc; rfl) (by decide) fun N8 eN8 hT9 hW7 => ?_
  have h := h N8 eN8
  exact j_vret dX12_init_14 rfl ⟨rfl, hW7, (hT4.trans hT9), h⟩
/-- ChildSays$Word.alike(LChildSays$Word;)I -/
def wqX13_alike (o : Nat) (a1 : Int) (N : jSh) (F : jFl) (A : jAr) (Q : Int → Prop) : Prop :=
  ∃ b1 : Nat, a1 = (b1 : Int) ∧
  jtg N b1 = 14 ∧
  ∀ z5 : Int, z5 = (if ¬ (F 4206 o) = (F 4206 b1) then (0 : Int) else 2) →
  ∀ z8 : Int, z8 = (if ¬ (F 4203 o) = (F 4203 b1) then (0 : Int) else 1) →
  ∀ z11 : Int, z11 = (if ¬ (F 4200 o) = (F 4200 b1) then (0 : Int) else 1) →
  jR ((z5 + z8) + z11) ∧
  Q ((z5 + z8) + z11)
theorem vX13_alike {G : jG} {l : Launch} {d : Nat} {N : jSh} {F : jFl} {A : jAr} {o : Nat} {a1 : Int} {Q : Int → Prop} (hd : 2 ≤ d) (hW : jWg G N F A) (ht : jtg N o = 14) (h : wqX13_alike o a1 N F A Q) : jCall G l d mX13_alike [vR (o : Int), vR a1] N F A (jpI N F A Q) := by
  unfold wqX13_alike at h
  refine jCall.of (by decide) rfl (ls := [vR (o : Int), vR a1]) (by simp only [jent_R, jent_I, jent_L, jent_nil]; exact Nat.le_of_ble_eq_true rfl) (by simp only [jloc, jent_R, jent_I, jent_L, jent_nil]; rfl) ?_
  refine r_aload_n dX13_alike_0 rfl ?_
  refine r_gI dX13_alike_1 flX13_7_14 rfl ht rfl ?_
  refine r_aload_n dX13_alike_4 rfl ?_
  obtain ⟨b1, hz2, h⟩ := h
  obtain ⟨t3, h⟩ := h
  refine r_gI dX13_alike_5 flX13_7_14 hz2 t3 rfl ?_
  have jn6 : ∀ z5 : Int, z5 = (if ¬ (F 4206 o) = (F 4206 b1) then (0 : Int) else 2) → J G l d mX13_alike 16 [vR (o : Int), vR a1] [vI z5] N F A (jpI N F A Q) := by
    intro z5 ez5
    have h := h z5 ez5
    refine r_aload_n dX13_alike_16 rfl ?_
    refine r_gI dX13_alike_17 flX13_13_14 rfl ht rfl ?_
    refine r_aload_n dX13_alike_20 rfl ?_
    refine r_gI dX13_alike_21 flX13_13_14 hz2 t3 rfl ?_
    have jn9 : ∀ z8 : Int, z8 = (if ¬ (F 4203 o) = (F 4203 b1) then (0 : Int) else 1) → J G l d mX13_alike 32 [vR (o : Int), vR a1] [vI z8, vI z5] N F A (jpI N F A Q) := by
      intro z8 ez8
      have h := h z8 ez8
      refine j_iadd dX13_alike_32 ?_
      refine r_aload_n dX13_alike_33 rfl ?_
      refine r_gI dX13_alike_34 flX13_16_14 rfl ht rfl ?_
      refine r_aload_n dX13_alike_37 rfl ?_
      refine r_gI dX13_alike_38 flX13_16_14 hz2 t3 rfl ?_
      have jn12 : ∀ z11 : Int, z11 = (if ¬ (F 4200 o) = (F 4200 b1) then (0 : Int) else 1) → J G l d mX13_alike 49 [vR (o : Int), vR a1] [vI z11, vI (z5 + z8)] N F A (jpI N F A Q) := by
        intro z11 ez11
        have h := h z11 ez11
        refine j_iadd dX13_alike_49 ?_
        obtain ⟨r13, h⟩ := h
        exact j_iret dX13_alike_50 rfl ⟨_, rfl, rfl, rfl, rfl, h, r13⟩
      clear h
      refine j_icmp_ne 48 dX13_alike_41 rfl (hW.fi rfl) (hW.fi rfl) (fun q10 => ?_) (fun q10 => ?_)
      · refine j_iconst dX13_alike_48 ?_
        exact jn12 _ (if_pos q10).symm
      · refine j_iconst dX13_alike_44 ?_
        refine j_goto 49 dX13_alike_45 rfl ?_
        exact jn12 _ (if_neg q10).symm
    clear h
    refine j_icmp_ne 31 dX13_alike_24 rfl (hW.fi rfl) (hW.fi rfl) (fun q7 => ?_) (fun q7 => ?_)
    · refine j_iconst dX13_alike_31 ?_
      exact jn9 _ (if_pos q7).symm
    · refine j_iconst dX13_alike_27 ?_
      refine j_goto 32 dX13_alike_28 rfl ?_
      exact jn9 _ (if_neg q7).symm
  clear h
  refine j_icmp_ne 15 dX13_alike_8 rfl (hW.fi rfl) (hW.fi rfl) (fun q4 => ?_) (fun q4 => ?_)
  · refine j_iconst dX13_alike_15 ?_
    exact jn6 _ (if_pos q4).symm
  · refine j_iconst dX13_alike_11 ?_
    refine j_goto 16 dX13_alike_12 rfl ?_
    exact jn6 _ (if_neg q4).symm
