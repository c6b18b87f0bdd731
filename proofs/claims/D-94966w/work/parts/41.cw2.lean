set_option maxRecDepth 100000
set_option linter.unusedVariables false
/-! walks of the component and of JDK methods: printed by gen/walkc.py -/
/-- ChildSays$Word.takes(LChildSays$Word;)I -/
def wqX13_takes (o : Nat) (a1 : Int) (N : jSh) (F : jFl) (A : jAr) (Q : Int → Prop) : Prop :=
  ((a1 < 0) →
    Q (F 4200 o)) ∧
  ((¬ (a1 < 0)) →
    ∃ b2 : Nat, a1 = (b2 : Int) ∧
    jtg N b2 = 14 ∧
    ((¬ (F 4206 b2) = (F 4206 o)) →
      Q (F 4200 o)) ∧
    (((F 4206 b2) = (F 4206 o)) →
      jR ((F 4200 o) - 1) ∧
      Q ((F 4200 o) - 1)))
theorem vX13_takes {G : jG} {l : Launch} {d : Nat} {N : jSh} {F : jFl} {A : jAr} {o : Nat} {a1 : Int} {Q : Int → Prop} (hd : 2 ≤ d) (hW : jWg G N F A) (ht : jtg N o = 14) (h : wqX13_takes o a1 N F A Q) : jCall G l d mX13_takes [vR (o : Int), vR a1] N F A (jpI N F A Q) := by
  unfold wqX13_takes at h
  refine jCall.of (by decide) rfl (ls := [vR (o : Int), vR a1]) (by simp only [jent_R, jent_I, jent_L, jent_nil]; exact Nat.le_of_ble_eq_true rfl) (by simp only [jloc, jent_R, jent_I, jent_L, jent_nil]; rfl) ?_
  refine r_aload_n dX13_takes_0 rfl ?_
  obtain ⟨h1, h2⟩ := h
  refine r_ifnull 24 dX13_takes_1 rfl (fun q1 => ?_) (fun q1 => ?_)
  · have h := h1 q1
    clear h1 h2
    refine r_aload_n dX13_takes_24 rfl ?_
    refine r_gI dX13_takes_25 flX13_16_14 rfl ht rfl ?_
    exact j_iret dX13_takes_28 rfl ⟨_, rfl, rfl, rfl, rfl, h, (hW.fi rfl)⟩
  · have h := h2 q1
    clear h1 h2
    refine r_aload_n dX13_takes_4 rfl ?_
    obtain ⟨b2, hz3, h⟩ := h
    obtain ⟨t4, h⟩ := h
    refine r_gI dX13_takes_5 flX13_7_14 hz3 t4 rfl ?_
    refine r_aload_n dX13_takes_8 rfl ?_
    refine r_gI dX13_takes_9 flX13_7_14 rfl ht rfl ?_
    obtain ⟨h1, h2⟩ := h
    refine j_icmp_ne 24 dX13_takes_12 rfl (hW.fi rfl) (hW.fi rfl) (fun q5 => ?_) (fun q5 => ?_)
    · have h := h1 q5
      clear h1 h2
      refine r_aload_n dX13_takes_24 rfl ?_
      refine r_gI dX13_takes_25 flX13_16_14 rfl ht rfl ?_
      exact j_iret dX13_takes_28 rfl ⟨_, rfl, rfl, rfl, rfl, h, (hW.fi rfl)⟩
    · have h := h2 (Classical.not_not.mp q5)
      clear h1 h2
      refine r_aload_n dX13_takes_15 rfl ?_
      refine r_gI dX13_takes_16 flX13_16_14 rfl ht rfl ?_
      refine j_iconst dX13_takes_19 ?_
      refine j_isub dX13_takes_20 ?_
      refine j_goto 28 dX13_takes_21 rfl ?_
      obtain ⟨r6, h⟩ := h
      exact j_iret dX13_takes_28 rfl ⟨_, rfl, rfl, rfl, rfl, h, r6⟩
/-- ChildSays$Street.heard(LChildSays$Word;)LChildSays$Word; -/
def wqX14_heard (o : Nat) (a1 : Int) (N : jSh) (F : jFl) (A : jAr) (Q : Int → Prop) : Prop :=
  ∃ b1 : Nat, a1 = (b1 : Int) ∧
  jtg N b1 = 14 ∧
  ∃ b4 : Nat, jfn N 4502 o = (b4 : Int) ∧
  jtg N b4 = 107 ∧
  ((0 : Int) ≤ jfn N 3903 b1 ∧ (jfn N 3903 b1 : Int) < (jln N b4 : Int)) ∧
  ((¬ (A b4 (jfn N 3903 b1)) < 0) →
    ((0 : Int) ≤ jfn N 3903 b1 ∧ (jfn N 3903 b1 : Int) < (jln N b4 : Int)) ∧
    Q (A b4 (jfn N 3903 b1))) ∧
  (((A b4 (jfn N 3903 b1)) < 0) →
    Q a1)
theorem vX14_heard {G : jG} {l : Launch} {d : Nat} {N : jSh} {F : jFl} {A : jAr} {o : Nat} {a1 : Int} {Q : Int → Prop} (hd : 2 ≤ d) (hW : jWg G N F A) (ht : jtg N o = 15) (h : wqX14_heard o a1 N F A Q) : jCall G l d mX14_heard [vR (o : Int), vR a1] N F A (jpR N F A Q) := by
  unfold wqX14_heard at h
  refine jCall.of (by decide) rfl (ls := [vR (o : Int), vR a1]) (by simp only [jent_R, jent_I, jent_L, jent_nil]; exact Nat.le_of_ble_eq_true rfl) (by simp only [jloc, jent_R, jent_I, jent_L, jent_nil]; rfl) ?_
  refine r_aload_n dX14_heard_0 rfl ?_
  refine r_gRF dX14_heard_1 flX14_11_15 rfl ht rfl ?_
  refine r_aload_n dX14_heard_4 rfl ?_
  obtain ⟨b1, hz2, h⟩ := h
  obtain ⟨t3, h⟩ := h
  refine r_gIF dX14_heard_5 flX14_17_14 hz2 t3 rfl ?_
  obtain ⟨b4, hz5, h⟩ := h
  obtain ⟨t6, h⟩ := h
  obtain ⟨c7, h⟩ := h
  refine r_aald dX14_heard_8 hz5 t6 rfl rfl c7 ?_
  obtain ⟨h1, h2⟩ := h
  refine r_ifnonnull 16 dX14_heard_9 rfl (fun q8 => ?_) (fun q8 => ?_)
  · have h := h1 q8
    clear h1 h2
    refine r_aload_n dX14_heard_16 rfl ?_
    refine r_gRF dX14_heard_17 flX14_11_15 rfl ht rfl ?_
    refine r_aload_n dX14_heard_20 rfl ?_
    refine r_gIF dX14_heard_21 flX14_17_14 hz2 t3 rfl ?_
    obtain ⟨c9, h⟩ := h
    refine r_aald dX14_heard_24 hz5 t6 rfl rfl c9 ?_
    exact r_aret dX14_heard_25 rfl (Or.inl ⟨_, rfl⟩) ⟨_, rfl, rfl, rfl, rfl, h, trivial⟩
  · have h := h2 q8
    clear h1 h2
    refine r_aload_n dX14_heard_12 rfl ?_
    refine j_goto 25 dX14_heard_13 rfl ?_
    exact r_aret dX14_heard_25 rfl (Or.inl ⟨_, rfl⟩) ⟨_, rfl, rfl, rfl, rfl, h, trivial⟩
/-- ChildSays$Line.<init>(IIII)V -/
def wqX18_init (o : Nat) (a1 : Int) (a2 : Int) (a3 : Int) (a4 : Int) (N : jSh) (F : jFl) (A : jAr) (Q : jSh → jFl → jAr → Prop) : Prop :=
  jfn N 0 o = 1 ∧
  ∀ N3 : jSh, N3 = jpF N 5700 o a1 →
  ∀ N8 : jSh, N8 = jpF N3 5703 o a2 →
  ∀ N13 : jSh, N13 = jpF N8 5706 o a3 →
  ∀ N18 : jSh, N18 = jpF N13 5709 o a4 →
  Q N18 F A
theorem vX18_init {G : jG} {l : Launch} {d : Nat} {N : jSh} {F : jFl} {A : jAr} {o : Nat} {a1 a2 a3 a4 : Int} {Q : jSh → jFl → jAr → Prop} (hd : 2 ≤ d) (hW : jWg G N F A) (ht : jtg N o = 19) (ra1 : jR a1) (ra2 : jR a2) (ra3 : jR a3) (ra4 : jR a4) (h : wqX18_init o a1 a2 a3 a4 N F A Q) : jCall G l d mX18_init [vR (o : Int), vI a1, vI a2, vI a3, vI a4] N F A (cnV G N Q) := by
  unfold wqX18_init at h
  refine jCall.of (by decide) rfl (ls := [vR (o : Int), vI a1, vI a2, vI a3, vI a4]) (by simp only [jent_R, jent_I, jent_L, jent_nil]; exact Nat.le_of_ble_eq_true rfl) (by simp only [jloc, jent_R, jent_I, jent_L, jent_nil]; rfl) ?_
  refine r_aload_n dX18_init_0 rfl ?_
  refine r_objInit dX18_init_1 q1524 rfl (Nat.le_trans (Nat.le_of_ble_eq_true rfl) hd) (Nat.le_of_ble_eq_true rfl) ?_
  refine r_aload_n dX18_init_4 rfl ?_
  refine j_iload_n dX18_init_5 rfl ?_
  obtain ⟨w1, h⟩ := h
  refine c_pIF hW dX18_init_6 flX18_7_19 rfl ht w1 rfl ra1 rfl (by intro c hc; cases hc; rfl) (by decide) fun N3 eN3 hT4 hW2 => ?_
  have h := h N3 eN3
  refine r_aload_n dX18_init_9 rfl ?_
  refine j_iload_n dX18_init_10 rfl ?_
  have t5 : jtg N3 o = 19 := (hT4.tg hW ht)
  have w6 : jfn N3 0 o = 1 := (hT4.ow hW ht w1)
  refine c_pIF hW2 dX18_init_11 flX18_13_19 rfl t5 w6 rfl ra2 rfl (by intro c hc; cases hc; rfl) (by decide) fun N8 eN8 hT9 hW7 => ?_
  have h := h N8 eN8
  refine r_aload_n dX18_init_14 rfl ?_
  refine j_iload_n dX18_init_15 rfl ?_
  have t10 : jtg N8 o = 19 := (hT9.tg hW2 t5)
  have w11 : jfn N8 0 o = 1 := (hT9.ow hW2 (hT4.tg hW ht) w6)
  refine c_pIF hW7 dX18_init_16 flX18_16_19 rfl t10 w11 rfl ra3 rfl (by intro c hc; cases hc; rfl) (by decide) fun N13 eN13 hT14 hW12 => ?_
  have h := h N13 eN13
  refine r_aload_n dX18_init_19 rfl ?_
  refine j_iload dX18_init_20 rfl ?_
  have t15 : jtg N13 o = 19 := (hT14.tg hW7 t10)
  have w16 : jfn N13 0 o = 1 := (hT14.ow hW7 (hT9.tg hW2 (hT4.tg hW ht)) w11)
  refine c_pIF hW12 dX18_init_22 flX18_19_19 rfl t15 w16 rfl ra4 rfl (by intro c hc; cases hc; rfl) (by decide) fun N18 eN18 hT19 hW17 => ?_
  have h := h N18 eN18
  exact j_vret dX18_init_25 rfl ⟨rfl, hW17, (((hT4.trans hT9).trans hT14).trans hT19), h⟩
/-- ChildSays$Saying.is(I)LChildSays$Saying; -/
def wqX2_is (o : Nat) (a1 : Int) (N : jSh) (F : jFl) (A : jAr) (Q : Int → jFl → jAr → Prop) : Prop :=
  jfn N 0 o = 1 ∧
  ∀ F3 : jFl, F3 = upF F 903 o a1 →
  Q (o : Int) F3 A
theorem vX2_is {G : jG} {l : Launch} {d : Nat} {N : jSh} {F : jFl} {A : jAr} {o : Nat} {a1 : Int} {Q : Int → jFl → jAr → Prop} (hd : 2 ≤ d) (hW : jWg G N F A) (ht : jtg N o = 3) (ra1 : jR a1) (h : wqX2_is o a1 N F A Q) : jCall G l d mX2_is [vR (o : Int), vI a1] N F A (cmR G N Q) := by
  unfold wqX2_is at h
  refine jCall.of (by decide) rfl (ls := [vR (o : Int), vI a1]) (by simp only [jent_R, jent_I, jent_L, jent_nil]; exact Nat.le_of_ble_eq_true rfl) (by simp only [jloc, jent_R, jent_I, jent_L, jent_nil]; rfl) ?_
  refine r_aload_n dX2_is_0 rfl ?_
  refine j_iload_n dX2_is_1 rfl ?_
  obtain ⟨w1, h⟩ := h
  refine c_pI hW dX2_is_2 flX2_96_3 rfl ht w1 rfl ra1 fun F3 eF3 hW2 => ?_
  have h := h F3 eF3
  refine r_aload_n dX2_is_5 rfl ?_
  exact r_aret dX2_is_6 rfl (Or.inl ⟨_, rfl⟩) ⟨_, rfl, rfl, hW2, h, trivial⟩
/-- ChildSays$Row.beginsLike(LChildSays$Row;)Z -/
def wqX3_beginsLike (o : Nat) (a1 : Int) (N : jSh) (F : jFl) (A : jAr) (Q : Int → Prop) : Prop :=
  (((F 1203 o) ≤ 1) →
    Q 0) ∧
  ((¬ ((F 1203 o) ≤ 1)) →
    ∃ b2 : Nat, a1 = (b2 : Int) ∧
    jtg N b2 = 4 ∧
    (((F 1203 b2) ≤ 1) →
      Q 0) ∧
    ((¬ ((F 1203 b2) ≤ 1)) →
      ∃ b6 : Nat, jfn N 1202 o = (b6 : Int) ∧
      jtg N b6 = 107 ∧
      ((0 : Int) ≤ 0 ∧ (0 : Int) < (jln N b6 : Int)) ∧
      ∃ b10 : Nat, jfn N 1202 b2 = (b10 : Int) ∧
      jtg N b10 = 107 ∧
      ((0 : Int) ≤ 0 ∧ (0 : Int) < (jln N b10 : Int)) ∧
      ((¬ (A b6 0 = A b10 0 ∨ (A b6 0 < 0 ∧ A b10 0 < 0))) →
        Q 0) ∧
      (((A b6 0 = A b10 0 ∨ (A b6 0 < 0 ∧ A b10 0 < 0))) →
        ((0 : Int) ≤ 1 ∧ (1 : Int) < (jln N b6 : Int)) ∧
        ((0 : Int) ≤ 1 ∧ (1 : Int) < (jln N b10 : Int)) ∧
        ∀ z18 : Int, z18 = (if ¬ (A b6 1 = A b10 1 ∨ (A b6 1 < 0 ∧ A b10 1 < 0)) then (0 : Int) else 1) →
        Q z18)))
theorem vX3_beginsLike {G : jG} {l : Launch} {d : Nat} {N : jSh} {F : jFl} {A : jAr} {o : Nat} {a1 : Int} {Q : Int → Prop} (hd : 2 ≤ d) (hW : jWg G N F A) (ht : jtg N o = 4) (h : wqX3_beginsLike o a1 N F A Q) : jCall G l d mX3_beginsLike [vR (o : Int), vR a1] N F A (jpB N F A Q) := by
  unfold wqX3_beginsLike at h
  refine jCall.of (by decide) rfl (ls := [vR (o : Int), vR a1]) (by simp only [jent_R, jent_I, jent_L, jent_nil]; exact Nat.le_of_ble_eq_true rfl) (by simp only [jloc, jent_R, jent_I, jent_L, jent_nil]; rfl) ?_
  refine r_aload_n dX3_beginsLike_0 rfl ?_
  refine r_gI dX3_beginsLike_1 flX3_17_4 rfl ht rfl ?_
  refine j_iconst dX3_beginsLike_4 ?_
  obtain ⟨h1, h2⟩ := h
  refine j_icmp_le 50 dX3_beginsLike_5 rfl (hW.fi rfl) (by decide) (fun q1 => ?_) (fun q1 => ?_)
  · have h := h1 q1
    clear h1 h2
    refine j_iconst dX3_beginsLike_50 ?_
    exact j_zret dX3_beginsLike_51 rfl (nr_bool (by decide)) ⟨_, rfl, rfl, rfl, rfl, h, (by decide)⟩
  · have h := h2 q1
    clear h1 h2
    refine r_aload_n dX3_beginsLike_8 rfl ?_
    obtain ⟨b2, hz3, h⟩ := h
    obtain ⟨t4, h⟩ := h
    refine r_gI dX3_beginsLike_9 flX3_17_4 hz3 t4 rfl ?_
    refine j_iconst dX3_beginsLike_12 ?_
    obtain ⟨h1, h2⟩ := h
    refine j_icmp_le 50 dX3_beginsLike_13 rfl (hW.fi rfl) (by decide) (fun q5 => ?_) (fun q5 => ?_)
    · have h := h1 q5
      clear h1 h2
      refine j_iconst dX3_beginsLike_50 ?_
      exact j_zret dX3_beginsLike_51 rfl (nr_bool (by decide)) ⟨_, rfl, rfl, rfl, rfl, h, (by decide)⟩
    · have h := h2 q5
      clear h1 h2
      refine r_aload_n dX3_beginsLike_16 rfl ?_
      refine r_gRF dX3_beginsLike_17 flX3_11_4 rfl ht rfl ?_
      refine j_iconst dX3_beginsLike_20 ?_
      obtain ⟨b6, hz7, h⟩ := h
      obtain ⟨t8, h⟩ := h
      obtain ⟨c9, h⟩ := h
      refine r_aald dX3_beginsLike_21 hz7 t8 rfl rfl c9 ?_
      refine r_aload_n dX3_beginsLike_22 rfl ?_
      refine r_gRF dX3_beginsLike_23 flX3_11_4 hz3 t4 rfl ?_
      refine j_iconst dX3_beginsLike_26 ?_
      obtain ⟨b10, hz11, h⟩ := h
      obtain ⟨t12, h⟩ := h
      obtain ⟨c13, h⟩ := h
      refine r_aald dX3_beginsLike_27 hz11 t12 rfl rfl c13 ?_
      obtain ⟨h1, h2⟩ := h
      refine r_acmp_ne 50 dX3_beginsLike_28 rfl (fun q14 => ?_) (fun q14 => ?_)
      · have h := h1 q14
        clear h1 h2
        refine j_iconst dX3_beginsLike_50 ?_
        exact j_zret dX3_beginsLike_51 rfl (nr_bool (by decide)) ⟨_, rfl, rfl, rfl, rfl, h, (by decide)⟩
      · have h := h2 q14
        clear h1 h2
        refine r_aload_n dX3_beginsLike_31 rfl ?_
        refine r_gRF dX3_beginsLike_32 flX3_11_4 rfl ht rfl ?_
        refine j_iconst dX3_beginsLike_35 ?_
        obtain ⟨c15, h⟩ := h
        refine r_aald dX3_beginsLike_36 hz7 t8 rfl rfl c15 ?_
        refine r_aload_n dX3_beginsLike_37 rfl ?_
        refine r_gRF dX3_beginsLike_38 flX3_11_4 hz3 t4 rfl ?_
        refine j_iconst dX3_beginsLike_41 ?_
        obtain ⟨c16, h⟩ := h
        refine r_aald dX3_beginsLike_42 hz11 t12 rfl rfl c16 ?_
        have jn19 : ∀ z18 : Int, z18 = (if ¬ (A b6 1 = A b10 1 ∨ (A b6 1 < 0 ∧ A b10 1 < 0)) then (0 : Int) else 1) → J G l d mX3_beginsLike 51 [vR (o : Int), vR a1] [vI z18] N F A (jpB N F A Q) := by
          intro z18 ez18
          have h := h z18 ez18
          exact j_zret dX3_beginsLike_51 rfl (nr_bool (ez18 ▸ jB_ite (by decide) (by decide))) ⟨_, rfl, rfl, rfl, rfl, h, (ez18 ▸ jB_ite (by decide) (by decide))⟩
        clear h
        refine r_acmp_ne 50 dX3_beginsLike_43 rfl (fun q17 => ?_) (fun q17 => ?_)
        · refine j_iconst dX3_beginsLike_50 ?_
          exact jn19 _ (if_pos q17).symm
        · refine j_iconst dX3_beginsLike_46 ?_
          refine j_goto 51 dX3_beginsLike_47 rfl ?_
          exact jn19 _ (if_neg (fun w => w q17)).symm
/-- ChildSays$Row.empty()LChildSays$Row; -/
def wqX3_empty (o : Nat) (N : jSh) (F : jFl) (A : jAr) (Q : Int → jFl → jAr → Prop) : Prop :=
  jfn N 0 o = 1 ∧
  ∀ F3 : jFl, F3 = upF F 1203 o 0 →
  ∀ F5 : jFl, F5 = upF F3 1206 o 0 →
  Q (o : Int) F5 A
theorem vX3_empty {G : jG} {l : Launch} {d : Nat} {N : jSh} {F : jFl} {A : jAr} {o : Nat} {Q : Int → jFl → jAr → Prop} (hd : 2 ≤ d) (hW : jWg G N F A) (ht : jtg N o = 4) (h : wqX3_empty o N F A Q) : jCall G l d mX3_empty [vR (o : Int)] N F A (cmR G N Q) := by
  unfold wqX3_empty at h
  refine jCall.of (by decide) rfl (ls := [vR (o : Int)]) (by simp only [jent_R, jent_I, jent_L, jent_nil]; exact Nat.le_of_ble_eq_true rfl) (by simp only [jloc, jent_R, jent_I, jent_L, jent_nil]; rfl) ?_
  refine r_aload_n dX3_empty_0 rfl ?_
  refine j_iconst dX3_empty_1 ?_
  obtain ⟨w1, h⟩ := h
  refine c_pI hW dX3_empty_2 flX3_17_4 rfl ht w1 rfl (by decide) fun F3 eF3 hW2 => ?_
  have h := h F3 eF3
  refine r_aload_n dX3_empty_5 rfl ?_
  refine j_iconst dX3_empty_6 ?_
  refine c_pI hW2 dX3_empty_7 flX3_21_4 rfl ht w1 rfl (by decide) fun F5 eF5 hW4 => ?_
  have h := h F5 eF5
  refine r_aload_n dX3_empty_10 rfl ?_
  exact r_aret dX3_empty_11 rfl (Or.inl ⟨_, rfl⟩) ⟨_, rfl, rfl, hW4, h, trivial⟩
/-- ChildSays$Row.<init>()V -/
def wqX3_init (o : Nat) (N : jSh) (F : jFl) (A : jAr) (Q : jSh → jFl → jAr → Prop) : Prop :=
  ∀ (b1 : Nat) (N2 : jSh) (F3 : jFl) (A4 : jAr), b1 = jnx N → N2 = jnew N 107 12 12 1 → F3 = nwF N F → A4 = nwA N 107 A →
  jfn N2 0 o = 1 ∧
  ∀ N12 : jSh, N12 = jpF N2 1202 o (b1 : Int) →
  Q N12 F3 A4
theorem vX3_init {G : jG} {l : Launch} {d : Nat} {N : jSh} {F : jFl} {A : jAr} {o : Nat} {Q : jSh → jFl → jAr → Prop} (hd : 2 ≤ d) (hW : jWg G N F A) (ht : jtg N o = 4) (h : wqX3_init o N F A Q) : jCall G l d mX3_init [vR (o : Int)] N F A (cnV G N Q) := by
  unfold wqX3_init at h
  refine jCall.of (by decide) rfl (ls := [vR (o : Int)]) (by simp only [jent_R, jent_I, jent_L, jent_nil]; exact Nat.le_of_ble_eq_true rfl) (by simp only [jloc, jent_R, jent_I, jent_L, jent_nil]; rfl) ?_
  refine r_aload_n dX3_init_0 rfl ?_
  refine r_objInit dX3_init_1 q299 rfl (Nat.le_trans (Nat.le_of_ble_eq_true rfl) hd) (Nat.le_of_ble_eq_true rfl) ?_
  refine r_aload_n dX3_init_4 rfl ?_
  refine j_bipush dX3_init_5 ?_
  refine c_anew (t := 107) (n := 12) hW dX3_init_7 rfl rfl q300 (List.mem_of_elem_eq_true (by decide +kernel)) rfl (Nat.le_of_ble_eq_true rfl) fun b1 N2 F3 A4 eb1 eN2 eF3 eA4 t5 w6 hT7 hW8 => ?_
  have h := h b1 N2 F3 A4 eb1 eN2 eF3 eA4
  have t9 : jtg N2 o = 4 := (hT7.tg hW ht)
  obtain ⟨w10, h⟩ := h
  refine c_pRF hW8 dX3_init_10 flX3_11_4 rfl t9 w10 rfl (ty := (.array (.object "ChildSays$Word"))) rfl (by intro c hc; cases hc; rfl) (by decide) (by decide +kernel) (Or.inr ⟨_, rfl⟩) fun N12 eN12 hT13 hW11 => ?_
  have h := h N12 eN12
  exact j_vret dX3_init_13 rfl ⟨rfl, hW11, (hT7.trans hT13), h⟩
/-- ChildSays$Row.isOne()Z -/
def wqX3_isOne (o : Nat) (N : jSh) (F : jFl) (A : jAr) (Q : Int → Prop) : Prop :=
  ∀ z2 : Int, z2 = (if (F 1203 o) ≤ 0 then (0 : Int) else 1) →
  Q z2
theorem vX3_isOne {G : jG} {l : Launch} {d : Nat} {N : jSh} {F : jFl} {A : jAr} {o : Nat} {Q : Int → Prop} (hd : 2 ≤ d) (hW : jWg G N F A) (ht : jtg N o = 4) (h : wqX3_isOne o N F A Q) : jCall G l d mX3_isOne [vR (o : Int)] N F A (jpB N F A Q) := by
  unfold wqX3_isOne at h
  refine jCall.of (by decide) rfl (ls := [vR (o : Int)]) (by simp only [jent_R, jent_I, jent_L, jent_nil]; exact Nat.le_of_ble_eq_true rfl) (by simp only [jloc, jent_R, jent_I, jent_L, jent_nil]; rfl) ?_
  refine r_aload_n dX3_isOne_0 rfl ?_
  refine r_gI dX3_isOne_1 flX3_17_4 rfl ht rfl ?_
  have jn3 : ∀ z2 : Int, z2 = (if (F 1203 o) ≤ 0 then (0 : Int) else 1) → J G l d mX3_isOne 12 [vR (o : Int)] [vI z2] N F A (jpB N F A Q) := by
    intro z2 ez2
    have h := h z2 ez2
    exact j_zret dX3_isOne_12 rfl (nr_bool (ez2 ▸ jB_ite (by decide) (by decide))) ⟨_, rfl, rfl, rfl, rfl, h, (ez2 ▸ jB_ite (by decide) (by decide))⟩
  clear h
  refine j_if_le 11 dX3_isOne_4 rfl (hW.fi rfl) (fun q1 => ?_) (fun q1 => ?_)
  · refine j_iconst dX3_isOne_11 ?_
    exact jn3 _ (if_pos q1).symm
  · refine j_iconst dX3_isOne_7 ?_
    refine j_goto 12 dX3_isOne_8 rfl ?_
    exact jn3 _ (if_neg q1).symm
/-- ChildSays$Row.nevers()I -/
def wqX3_nevers (o : Nat) (N : jSh) (F : jFl) (A : jAr) (Q : Int → Prop) : Prop :=
  ∃ (I4 : Int → Int → Prop) (m5 : Int → Int → Nat), I4 0 0 ∧ ∀ (v1 : Int) (v2 : Int), I4 v1 v2 →
    (((F 1203 o) ≤ v2) →
      Q v1) ∧
    ((¬ ((F 1203 o) ≤ v2)) →
      ∃ b7 : Nat, jfn N 1202 o = (b7 : Int) ∧
      jtg N b7 = 107 ∧
      ((0 : Int) ≤ v2 ∧ (v2 : Int) < (jln N b7 : Int)) ∧
      ∃ b11 : Nat, A b7 v2 = (b11 : Int) ∧
      jtg N b11 = 14 ∧
      (((F 4212 b11) = 0) →
        jR (v2 + 1) ∧
        I4 v1 (v2 + 1) ∧ m5 v1 (v2 + 1) < m5 v1 v2) ∧
      ((¬ ((F 4212 b11) = 0)) →
        jR (v1 + 1) ∧
        jR (v2 + 1) ∧
        I4 (v1 + 1) (v2 + 1) ∧ m5 (v1 + 1) (v2 + 1) < m5 v1 v2))
theorem vX3_nevers {G : jG} {l : Launch} {d : Nat} {N : jSh} {F : jFl} {A : jAr} {o : Nat} {Q : Int → Prop} (hd : 2 ≤ d) (hW : jWg G N F A) (ht : jtg N o = 4) (h : wqX3_nevers o N F A Q) : jCall G l d mX3_nevers [vR (o : Int)] N F A (jpI N F A Q) := by
  unfold wqX3_nevers at h
  refine jCall.of (by decide) rfl (ls := [vR (o : Int), jD, jD]) (by simp only [jent_R, jent_I, jent_L, jent_nil]; exact Nat.le_of_ble_eq_true rfl) (by simp only [jloc, jent_R, jent_I, jent_L, jent_nil]; rfl) ?_
  refine j_iconst dX3_nevers_0 ?_
  refine j_istore_n dX3_nevers_1 (jokR rfl (Nat.le_of_ble_eq_true rfl)) ?_
  refine j_iconst dX3_nevers_2 ?_
  refine j_istore_n dX3_nevers_3 rfl ?_
  obtain ⟨I4, m5, h0, hs⟩ := h
  have lp : ∀ (n : Nat) (v1 : Int) (v2 : Int), m5 v1 v2 < n → jR v1 → jR v2 → I4 v1 v2 → J G l d mX3_nevers 4 [vR (o : Int), vI v1, vI v2] [] N F A (jpI N F A Q) := by
    intro nI4
    induction nI4 with
    | zero =>
      intro v1 v2 hmu
      exact absurd hmu (Nat.not_lt_zero _)
    | succ nI4 ihI4 =>
      intro v1 v2 hmuI4 rv1 rv2 hI
      have h := hs v1 v2 hI
      refine j_iload_n dX3_nevers_4 rfl ?_
      refine r_aload_n dX3_nevers_5 rfl ?_
      refine r_gI dX3_nevers_6 flX3_17_4 rfl ht rfl ?_
      obtain ⟨h1, h2⟩ := h
      refine j_icmp_ge 33 dX3_nevers_9 rfl rv2 (hW.fi rfl) (fun q6 => ?_) (fun q6 => ?_)
      · have h := h1 q6
        clear h1 h2
        refine j_iload_n dX3_nevers_33 rfl ?_
        exact j_iret dX3_nevers_34 rfl ⟨_, rfl, rfl, rfl, rfl, h, rv1⟩
      · have h := h2 q6
        clear h1 h2
        refine r_aload_n dX3_nevers_12 rfl ?_
        refine r_gRF dX3_nevers_13 flX3_11_4 rfl ht rfl ?_
        refine j_iload_n dX3_nevers_16 rfl ?_
        obtain ⟨b7, hz8, h⟩ := h
        obtain ⟨t9, h⟩ := h
        obtain ⟨c10, h⟩ := h
        refine r_aald dX3_nevers_17 hz8 t9 rfl rfl c10 ?_
        obtain ⟨b11, hz12, h⟩ := h
        obtain ⟨t13, h⟩ := h
        refine r_gI dX3_nevers_18 flX3_31_14 hz12 t13 rfl ?_
        obtain ⟨h1, h2⟩ := h
        refine j_if_eq 27 dX3_nevers_21 rfl (hW.fi rfl) (fun q14 => ?_) (fun q14 => ?_)
        · have h := h1 q14
          clear h1 h2
          obtain ⟨r15, h⟩ := h
          refine j_iinc dX3_nevers_27 rfl rfl ?_
          refine j_goto 4 dX3_nevers_30 rfl ?_
          exact J.wk ((((jWk.nil).eq).eq).eq) (ihI4 _ _ (Nat.lt_of_lt_of_le h.2 (Nat.le_of_lt_succ hmuI4)) rv1 r15 h.1)
        · have h := h2 q14
          clear h1 h2
          obtain ⟨r16, h⟩ := h
          refine j_iinc dX3_nevers_24 rfl (jokR rfl (Nat.le_of_ble_eq_true rfl)) ?_
          obtain ⟨r17, h⟩ := h
          refine j_iinc dX3_nevers_27 rfl rfl ?_
          refine j_goto 4 dX3_nevers_30 rfl ?_
          exact J.wk ((((jWk.nil).eq).eq).eq) (ihI4 _ _ (Nat.lt_of_lt_of_le h.2 (Nat.le_of_lt_succ hmuI4)) r16 r17 h.1)
  exact J.wk ((((jWk.nil).eq).eq).eq) (lp _ _ _ (Nat.lt_succ_self _) (by decide) (by decide) h0)
/-- ChildSays$Row.plain(I)I -/
def wqX3_plain (o : Nat) (a1 : Int) (N : jSh) (F : jFl) (A : jAr) (Q : Int → Prop) : Prop :=
  ∃ (I3 : Int → Prop) (m4 : Int → Nat), I3 a1 ∧ ∀ (v1 : Int), I3 v1 →
    (((F 1203 o) ≤ v1) →
      Q v1) ∧
    ((¬ ((F 1203 o) ≤ v1)) →
      ∃ b6 : Nat, jfn N 1202 o = (b6 : Int) ∧
      jtg N b6 = 107 ∧
      ((0 : Int) ≤ v1 ∧ (v1 : Int) < (jln N b6 : Int)) ∧
      ∃ b10 : Nat, A b6 v1 = (b10 : Int) ∧
      jtg N b10 = 14 ∧
      (((F 4212 b10) = 0) →
        Q v1) ∧
      ((¬ ((F 4212 b10) = 0)) →
        jR (v1 + 1) ∧
        I3 (v1 + 1) ∧ m4 (v1 + 1) < m4 v1))
theorem vX3_plain {G : jG} {l : Launch} {d : Nat} {N : jSh} {F : jFl} {A : jAr} {o : Nat} {a1 : Int} {Q : Int → Prop} (hd : 2 ≤ d) (hW : jWg G N F A) (ht : jtg N o = 4) (ra1 : jR a1) (h : wqX3_plain o a1 N F A Q) : jCall G l d mX3_plain [vR (o : Int), vI a1] N F A (jpI N F A Q) := by
  unfold wqX3_plain at h
  refine jCall.of (by decide) rfl (ls := [vR (o : Int), vI a1, jD]) (by simp only [jent_R, jent_I, jent_L, jent_nil]; exact Nat.le_of_ble_eq_true rfl) (by simp only [jloc, jent_R, jent_I, jent_L, jent_nil]; rfl) ?_
  refine j_iload_n dX3_plain_0 rfl ?_
  refine j_istore_n dX3_plain_1 rfl ?_
  obtain ⟨I3, m4, h0, hs⟩ := h
  have lp : ∀ (n : Nat) (v1 : Int), m4 v1 < n → jR v1 → I3 v1 → J G l d mX3_plain 2 [vR (o : Int), jD, vI v1] [] N F A (jpI N F A Q) := by
    intro nI3
    induction nI3 with
    | zero =>
      intro v1 hmu
      exact absurd hmu (Nat.not_lt_zero _)
    | succ nI3 ihI3 =>
      intro v1 hmuI3 rv1 hI
      have h := hs v1 hI
      refine j_iload_n dX3_plain_2 rfl ?_
      refine r_aload_n dX3_plain_3 rfl ?_
      refine r_gI dX3_plain_4 flX3_17_4 rfl ht rfl ?_
      obtain ⟨h1, h2⟩ := h
      refine j_icmp_ge 28 dX3_plain_7 rfl rv1 (hW.fi rfl) (fun q5 => ?_) (fun q5 => ?_)
      · have h := h1 q5
        clear h1 h2
        refine j_iload_n dX3_plain_28 rfl ?_
        exact j_iret dX3_plain_29 rfl ⟨_, rfl, rfl, rfl, rfl, h, rv1⟩
      · have h := h2 q5
        clear h1 h2
        refine r_aload_n dX3_plain_10 rfl ?_
        refine r_gRF dX3_plain_11 flX3_11_4 rfl ht rfl ?_
        refine j_iload_n dX3_plain_14 rfl ?_
        obtain ⟨b6, hz7, h⟩ := h
        obtain ⟨t8, h⟩ := h
        obtain ⟨c9, h⟩ := h
        refine r_aald dX3_plain_15 hz7 t8 rfl rfl c9 ?_
        obtain ⟨b10, hz11, h⟩ := h
        obtain ⟨t12, h⟩ := h
        refine r_gI dX3_plain_16 flX3_31_14 hz11 t12 rfl ?_
        obtain ⟨h1, h2⟩ := h
        refine j_if_eq 28 dX3_plain_19 rfl (hW.fi rfl) (fun q13 => ?_) (fun q13 => ?_)
        · have h := h1 q13
          clear h1 h2
          refine j_iload_n dX3_plain_28 rfl ?_
          exact j_iret dX3_plain_29 rfl ⟨_, rfl, rfl, rfl, rfl, h, rv1⟩
        · have h := h2 q13
          clear h1 h2
          obtain ⟨r14, h⟩ := h
          refine j_iinc dX3_plain_22 rfl rfl ?_
          refine j_goto 2 dX3_plain_25 rfl ?_
          exact J.wk ((((jWk.nil).eq).no).eq) (ihI3 _ (Nat.lt_of_lt_of_le h.2 (Nat.le_of_lt_succ hmuI3)) r14 h.1)
  exact J.wk ((((jWk.nil).eq).no).eq) (lp _ _ (Nat.lt_succ_self _) ra1 h0)
/-- ChildSays$Row.size()I -/
def wqX3_size (o : Nat) (N : jSh) (F : jFl) (A : jAr) (Q : Int → Prop) : Prop :=
  jR ((F 1203 o) + (F 1206 o)) ∧
  Q ((F 1203 o) + (F 1206 o))
theorem vX3_size {G : jG} {l : Launch} {d : Nat} {N : jSh} {F : jFl} {A : jAr} {o : Nat} {Q : Int → Prop} (hd : 2 ≤ d) (hW : jWg G N F A) (ht : jtg N o = 4) (h : wqX3_size o N F A Q) : jCall G l d mX3_size [vR (o : Int)] N F A (jpI N F A Q) := by
  unfold wqX3_size at h
  refine jCall.of (by decide) rfl (ls := [vR (o : Int)]) (by simp only [jent_R, jent_I, jent_L, jent_nil]; exact Nat.le_of_ble_eq_true rfl) (by simp only [jloc, jent_R, jent_I, jent_L, jent_nil]; rfl) ?_
  refine r_aload_n dX3_size_0 rfl ?_
  refine r_gI dX3_size_1 flX3_17_4 rfl ht rfl ?_
  refine r_aload_n dX3_size_4 rfl ?_
  refine r_gI dX3_size_5 flX3_21_4 rfl ht rfl ?_
  refine j_iadd dX3_size_8 ?_
  obtain ⟨r1, h⟩ := h
  exact j_iret dX3_size_9 rfl ⟨_, rfl, rfl, rfl, rfl, h, r1⟩
/-- ChildSays$Sitting.comes(LChildSays$Law;)V -/
def wqX4_comes (o : Nat) (a1 : Int) (N : jSh) (F : jFl) (A : jAr) (Q : jFl → jAr → Prop) : Prop :=
  ∃ b1 : Nat, jfn N 1505 o = (b1 : Int) ∧
  jtg N b1 = 113 ∧
  jfn N 0 b1 = 1 ∧
  ((0 : Int) ≤ F 1506 o ∧ (F 1506 o : Int) < (jln N b1 : Int)) ∧
  jast N "ChildSays$Law" a1 ∧
  ∀ A6 : jAr, A6 = upA A b1 (F 1506 o) a1 →
  jfn N 0 o = 1 ∧
  jR ((F 1506 o) + 1) ∧
  ∀ F12 : jFl, F12 = upF F 1506 o ((F 1506 o) + 1) →
  Q F12 A6
theorem vX4_comes {G : jG} {l : Launch} {d : Nat} {N : jSh} {F : jFl} {A : jAr} {o : Nat} {a1 : Int} {Q : jFl → jAr → Prop} (hd : 2 ≤ d) (hW : jWg G N F A) (ht : jtg N o = 5) (h : wqX4_comes o a1 N F A Q) : jCall G l d mX4_comes [vR (o : Int), vR a1] N F A (cmV G N Q) := by
  unfold wqX4_comes at h
  refine jCall.of (by decide) rfl (ls := [vR (o : Int), vR a1]) (by simp only [jent_R, jent_I, jent_L, jent_nil]; exact Nat.le_of_ble_eq_true rfl) (by simp only [jloc, jent_R, jent_I, jent_L, jent_nil]; rfl) ?_
  refine r_aload_n dX4_comes_0 rfl ?_
  refine r_gRF dX4_comes_1 flX4_23_5 rfl ht rfl ?_
  refine r_aload_n dX4_comes_4 rfl ?_
  refine r_gI dX4_comes_5 flX4_34_5 rfl ht rfl ?_
  refine r_aload_n dX4_comes_8 rfl ?_
  obtain ⟨b1, hz2, h⟩ := h
  obtain ⟨t3, h⟩ := h
  obtain ⟨w4, h⟩ := h
  obtain ⟨c5, h⟩ := h
  obtain ⟨j8, h⟩ := h
  refine c_aast hW dX4_comes_9 hz2 t3 rfl w4 c5 j8 rfl fun A6 eA6 hW7 => ?_
  have h := h A6 eA6
  refine r_aload_n dX4_comes_10 rfl ?_
  refine j_dup dX4_comes_11 (vR_cat _) ?_
  refine r_gI dX4_comes_12 flX4_34_5 rfl ht rfl ?_
  refine j_iconst dX4_comes_15 ?_
  refine j_iadd dX4_comes_16 ?_
  obtain ⟨w9, h⟩ := h
  obtain ⟨r10, h⟩ := h
  refine c_pI hW7 dX4_comes_17 flX4_34_5 rfl ht w9 rfl r10 fun F12 eF12 hW11 => ?_
  have h := h F12 eF12
  exact j_vret dX4_comes_20 rfl ⟨rfl, rfl, hW11, h⟩
/-- ChildSays$Sitting.of(LChildSays$Law;)LChildSays$Saying; -/
def wqX4_of (o : Nat) (a1 : Int) (N : jSh) (F : jFl) (A : jAr) (Q : Int → Prop) : Prop :=
  ∃ b1 : Nat, a1 = (b1 : Int) ∧
  jtg N b1 = 17 ∧
  ∃ b4 : Nat, jfn N 1502 o = (b4 : Int) ∧
  jtg N b4 = 110 ∧
  ((0 : Int) ≤ jfn N 3903 b1 ∧ (jfn N 3903 b1 : Int) < (jln N b4 : Int)) ∧
  Q (A b4 (jfn N 3903 b1))
theorem vX4_of {G : jG} {l : Launch} {d : Nat} {N : jSh} {F : jFl} {A : jAr} {o : Nat} {a1 : Int} {Q : Int → Prop} (hd : 2 ≤ d) (hW : jWg G N F A) (ht : jtg N o = 5) (h : wqX4_of o a1 N F A Q) : jCall G l d mX4_of [vR (o : Int), vR a1] N F A (jpR N F A Q) := by
  unfold wqX4_of at h
  refine jCall.of (by decide) rfl (ls := [vR (o : Int), vR a1]) (by simp only [jent_R, jent_I, jent_L, jent_nil]; exact Nat.le_of_ble_eq_true rfl) (by simp only [jloc, jent_R, jent_I, jent_L, jent_nil]; rfl) ?_
  refine r_aload_n dX4_of_0 rfl ?_
  refine r_gRF dX4_of_1 flX4_17_5 rfl ht rfl ?_
  refine r_aload_n dX4_of_4 rfl ?_
  obtain ⟨b1, hz2, h⟩ := h
  obtain ⟨t3, h⟩ := h
  refine r_gIF dX4_of_5 flX4_30_17 hz2 t3 rfl ?_
  obtain ⟨b4, hz5, h⟩ := h
  obtain ⟨t6, h⟩ := h
  obtain ⟨c7, h⟩ := h
  refine r_aald dX4_of_8 hz5 t6 rfl rfl c7 ?_
  exact r_aret dX4_of_9 rfl (Or.inl ⟨_, rfl⟩) ⟨_, rfl, rfl, rfl, rfl, h, trivial⟩
/-- ChildSays$Sitting.swaps(II)V -/
def wqX4_swaps (o : Nat) (a1 : Int) (a2 : Int) (N : jSh) (F : jFl) (A : jAr) (Q : jFl → jAr → Prop) : Prop :=
  ∃ b1 : Nat, jfn N 1505 o = (b1 : Int) ∧
  jtg N b1 = 113 ∧
  ((0 : Int) ≤ a1 ∧ (a1 : Int) < (jln N b1 : Int)) ∧
  ∀ v5 : Int, v5 = A b1 a1 →
  ((0 : Int) ≤ a2 ∧ (a2 : Int) < (jln N b1 : Int)) ∧
  jfn N 0 b1 = 1 ∧
  ((0 : Int) ≤ a1 ∧ (a1 : Int) < (jln N b1 : Int)) ∧
  jast N "ChildSays$Law" (A b1 a2) ∧
  ∀ A9 : jAr, A9 = upA A b1 a1 (A b1 a2) →
  ((0 : Int) ≤ a2 ∧ (a2 : Int) < (jln N b1 : Int)) ∧
  jast N "ChildSays$Law" v5 ∧
  ∀ A13 : jAr, A13 = upA A9 b1 a2 v5 →
  Q F A13
theorem vX4_swaps {G : jG} {l : Launch} {d : Nat} {N : jSh} {F : jFl} {A : jAr} {o : Nat} {a1 a2 : Int} {Q : jFl → jAr → Prop} (hd : 2 ≤ d) (hW : jWg G N F A) (ht : jtg N o = 5) (ra1 : jR a1) (ra2 : jR a2) (h : wqX4_swaps o a1 a2 N F A Q) : jCall G l d mX4_swaps [vR (o : Int), vI a1, vI a2] N F A (cmV G N Q) := by
  unfold wqX4_swaps at h
  refine jCall.of (by decide) rfl (ls := [vR (o : Int), vI a1, vI a2, jD]) (by simp only [jent_R, jent_I, jent_L, jent_nil]; exact Nat.le_of_ble_eq_true rfl) (by simp only [jloc, jent_R, jent_I, jent_L, jent_nil]; rfl) ?_
  refine r_aload_n dX4_swaps_0 rfl ?_
  refine r_gRF dX4_swaps_1 flX4_23_5 rfl ht rfl ?_
  refine j_iload_n dX4_swaps_4 rfl ?_
  obtain ⟨b1, hz2, h⟩ := h
  obtain ⟨t3, h⟩ := h
  obtain ⟨c4, h⟩ := h
  refine r_aald dX4_swaps_5 hz2 t3 rfl rfl c4 ?_
  obtain ⟨v5, ev5⟩ : ∃ x : Int, x = A b1 a1 := ⟨_, rfl⟩
  have h := h v5 ev5
  refine jnmR (e := ev5) ?_
  refine r_astore_n dX4_swaps_6 rfl ?_
  refine r_aload_n dX4_swaps_7 rfl ?_
  refine r_gRF dX4_swaps_8 flX4_23_5 rfl ht rfl ?_
  refine j_iload_n dX4_swaps_11 rfl ?_
  refine r_aload_n dX4_swaps_12 rfl ?_
  refine r_gRF dX4_swaps_13 flX4_23_5 rfl ht rfl ?_
  refine j_iload_n dX4_swaps_16 rfl ?_
  obtain ⟨c6, h⟩ := h
  refine r_aald dX4_swaps_17 hz2 t3 rfl rfl c6 ?_
  obtain ⟨w7, h⟩ := h
  obtain ⟨c8, h⟩ := h
  obtain ⟨j11, h⟩ := h
  refine c_aast hW dX4_swaps_18 hz2 t3 rfl w7 c8 j11 rfl fun A9 eA9 hW10 => ?_
  have h := h A9 eA9
  refine r_aload_n dX4_swaps_19 rfl ?_
  refine r_gRF dX4_swaps_20 flX4_23_5 rfl ht rfl ?_
  refine j_iload_n dX4_swaps_23 rfl ?_
  refine r_aload_n dX4_swaps_24 rfl ?_
  obtain ⟨c12, h⟩ := h
  obtain ⟨j15, h⟩ := h
  refine c_aast hW10 dX4_swaps_25 hz2 t3 rfl w7 c12 j15 rfl fun A13 eA13 hW14 => ?_
  have h := h A13 eA13
  exact j_vret dX4_swaps_26 rfl ⟨rfl, rfl, hW14, h⟩
/-- ChildSays$Round.lost()LChildSays$Round; -/
def wqX6_lost (o : Nat) (N : jSh) (F : jFl) (A : jAr) (Q : Int → jFl → jAr → Prop) : Prop :=
  jfn N 0 o = 1 ∧
  ∀ F3 : jFl, F3 = upF F 2109 o (-1) →
  ∀ F5 : jFl, F5 = upF F3 2112 o 0 →
  Q (o : Int) F5 A
theorem vX6_lost {G : jG} {l : Launch} {d : Nat} {N : jSh} {F : jFl} {A : jAr} {o : Nat} {Q : Int → jFl → jAr → Prop} (hd : 2 ≤ d) (hW : jWg G N F A) (ht : jtg N o = 7) (h : wqX6_lost o N F A Q) : jCall G l d mX6_lost [vR (o : Int)] N F A (cmR G N Q) := by
  unfold wqX6_lost at h
  refine jCall.of (by decide) rfl (ls := [vR (o : Int)]) (by simp only [jent_R, jent_I, jent_L, jent_nil]; exact Nat.le_of_ble_eq_true rfl) (by simp only [jloc, jent_R, jent_I, jent_L, jent_nil]; rfl) ?_
  refine r_aload_n dX6_lost_0 rfl ?_
  refine j_iconst dX6_lost_1 ?_
  obtain ⟨w1, h⟩ := h
  refine c_pI hW dX6_lost_2 flX6_81_7 rfl ht w1 rfl (by decide) fun F3 eF3 hW2 => ?_
  have h := h F3 eF3
  refine r_aload_n dX6_lost_5 rfl ?_
  refine j_iconst dX6_lost_6 ?_
  refine c_pI hW2 dX6_lost_7 flX6_62_7 rfl ht w1 rfl (by decide) fun F5 eF5 hW4 => ?_
  have h := h F5 eF5
  refine r_aload_n dX6_lost_10 rfl ?_
  exact r_aret dX6_lost_11 rfl (Or.inl ⟨_, rfl⟩) ⟨_, rfl, rfl, hW4, h, trivial⟩
/-- ChildSays$Put.puts(II)V -/
def wqX7_puts (o : Nat) (a1 : Int) (a2 : Int) (N : jSh) (F : jFl) (A : jAr) (Q : jFl → jAr → Prop) : Prop :=
  ∃ b1 : Nat, jfn N 2405 o = (b1 : Int) ∧
  jtg N b1 = 102 ∧
  jfn N 0 b1 = 1 ∧
  ((0 : Int) ≤ a1 ∧ (a1 : Int) < (jln N b1 : Int)) ∧
  ∀ A6 : jAr, A6 = upA A b1 a1 a2 →
  ∃ b8 : Nat, jfn N 2402 o = (b8 : Int) ∧
  jtg N b8 = 4 ∧
  ∃ b11 : Nat, F 2411 o = (b11 : Int) ∧
  jtg N b11 = 17 ∧
  ∃ b14 : Nat, jfn N 5102 b11 = (b14 : Int) ∧
  jtg N b14 = 4 ∧
  ∃ b17 : Nat, jfn N 1202 b14 = (b17 : Int) ∧
  jtg N b17 = 107 ∧
  ((0 : Int) ≤ a2 ∧ (a2 : Int) < (jln N b17 : Int)) ∧
  ∃ b21 : Nat, jfn N 1202 b8 = (b21 : Int) ∧
  jtg N b21 = 107 ∧
  jfn N 0 b21 = 1 ∧
  ((0 : Int) ≤ a1 ∧ (a1 : Int) < (jln N b21 : Int)) ∧
  jast N "ChildSays$Word" (A6 b17 a2) ∧
  ∀ A26 : jAr, A26 = upA A6 b21 a1 (A6 b17 a2) →
  Q F A26
theorem vX7_puts {G : jG} {l : Launch} {d : Nat} {N : jSh} {F : jFl} {A : jAr} {o : Nat} {a1 a2 : Int} {Q : jFl → jAr → Prop} (hd : 2 ≤ d) (hW : jWg G N F A) (ht : jtg N o = 8) (ra1 : jR a1) (ra2 : jR a2) (h : wqX7_puts o a1 a2 N F A Q) : jCall G l d mX7_puts [vR (o : Int), vI a1, vI a2] N F A (cmV G N Q) := by
  unfold wqX7_puts at h
  refine jCall.of (by decide) rfl (ls := [vR (o : Int), vI a1, vI a2]) (by simp only [jent_R, jent_I, jent_L, jent_nil]; exact Nat.le_of_ble_eq_true rfl) (by simp only [jloc, jent_R, jent_I, jent_L, jent_nil]; rfl) ?_
  refine r_aload_n dX7_puts_0 rfl ?_
  refine r_gRF dX7_puts_1 flX7_22_8 rfl ht rfl ?_
  refine j_iload_n dX7_puts_4 rfl ?_
  refine j_iload_n dX7_puts_5 rfl ?_
  obtain ⟨b1, hz2, h⟩ := h
  obtain ⟨t3, h⟩ := h
  obtain ⟨w4, h⟩ := h
  obtain ⟨c5, h⟩ := h
  refine c_iast hW dX7_puts_6 hz2 t3 w4 c5 ra2 fun A6 eA6 hW7 => ?_
  have h := h A6 eA6
  refine r_aload_n dX7_puts_7 rfl ?_
  refine r_gRF dX7_puts_8 flX7_18_8 rfl ht rfl ?_
  obtain ⟨b8, hz9, h⟩ := h
  obtain ⟨t10, h⟩ := h
  refine r_gRF dX7_puts_11 flX7_58_4 hz9 t10 rfl ?_
  refine j_iload_n dX7_puts_14 rfl ?_
  refine r_aload_n dX7_puts_15 rfl ?_
  refine r_gR dX7_puts_16 flX7_29_8 rfl ht rfl ?_
  obtain ⟨b11, hz12, h⟩ := h
  obtain ⟨t13, h⟩ := h
  refine r_gRF dX7_puts_19 flX7_40_17 hz12 t13 rfl ?_
  obtain ⟨b14, hz15, h⟩ := h
  obtain ⟨t16, h⟩ := h
  refine r_gRF dX7_puts_22 flX7_58_4 hz15 t16 rfl ?_
  refine j_iload_n dX7_puts_25 rfl ?_
  obtain ⟨b17, hz18, h⟩ := h
  obtain ⟨t19, h⟩ := h
  obtain ⟨c20, h⟩ := h
  refine r_aald dX7_puts_26 hz18 t19 rfl rfl c20 ?_
  obtain ⟨b21, hz22, h⟩ := h
  obtain ⟨t23, h⟩ := h
  obtain ⟨w24, h⟩ := h
  obtain ⟨c25, h⟩ := h
  obtain ⟨j28, h⟩ := h
  refine c_aast hW7 dX7_puts_27 hz22 t23 rfl w24 c25 j28 rfl fun A26 eA26 hW27 => ?_
  have h := h A26 eA26
  exact j_vret dX7_puts_28 rfl ⟨rfl, rfl, hW27, h⟩
/-- ChildSays$Order.isFirst()V -/
def wqX8_isFirst (o : Nat) (N : jSh) (F : jFl) (A : jAr) (Q : jFl → jAr → Prop) : Prop :=
  ∃ (I5 : Int → jAr → Prop) (m6 : Int → jAr → Nat), I5 0 A ∧ ∀ (v1 : Int) (A2 : jAr), I5 v1 A2 →
    ∃ b7 : Nat, jfn N 2702 o = (b7 : Int) ∧
    jtg N b7 = 5 ∧
    (((F 1506 b7) ≤ v1) →
      Q F A2) ∧
    ((¬ ((F 1506 b7) ≤ v1)) →
      ∃ b11 : Nat, jfn N 1505 b7 = (b11 : Int) ∧
      jtg N b11 = 113 ∧
      ((0 : Int) ≤ v1 ∧ (v1 : Int) < (jln N b11 : Int)) ∧
      ∃ b15 : Nat, jfn N 2705 o = (b15 : Int) ∧
      jtg N b15 = 113 ∧
      jfn N 0 b15 = 1 ∧
      ((0 : Int) ≤ v1 ∧ (v1 : Int) < (jln N b15 : Int)) ∧
      jast N "ChildSays$Law" (A2 b11 v1) ∧
      ∀ A20 : jAr, A20 = upA A2 b15 v1 (A2 b11 v1) →
      jR (v1 + 1) ∧
      I5 (v1 + 1) A20 ∧ m6 (v1 + 1) A20 < m6 v1 A2)
theorem vX8_isFirst {G : jG} {l : Launch} {d : Nat} {N : jSh} {F : jFl} {A : jAr} {o : Nat} {Q : jFl → jAr → Prop} (hd : 2 ≤ d) (hW : jWg G N F A) (ht : jtg N o = 9) (h : wqX8_isFirst o N F A Q) : jCall G l d mX8_isFirst [vR (o : Int)] N F A (cmV G N Q) := by
  unfold wqX8_isFirst at h
  refine jCall.of (by decide) rfl (ls := [vR (o : Int), jD]) (by simp only [jent_R, jent_I, jent_L, jent_nil]; exact Nat.le_of_ble_eq_true rfl) (by simp only [jloc, jent_R, jent_I, jent_L, jent_nil]; rfl) ?_
  refine j_iconst dX8_isFirst_0 ?_
  refine j_istore_n dX8_isFirst_1 (jokR rfl (Nat.le_of_ble_eq_true rfl)) ?_
  obtain ⟨I5, m6, h0, hs⟩ := h
  have lp : ∀ (n : Nat) (v1 : Int) (A2 : jAr), m6 v1 A2 < n → jWg G N F A2 → jR v1 → I5 v1 A2 → J G l d mX8_isFirst 2 [vR (o : Int), vI v1] [] N F A2 (cmV G N Q) := by
    intro nI5
    induction nI5 with
    | zero =>
      intro v1 A2 hmu
      exact absurd hmu (Nat.not_lt_zero _)
    | succ nI5 ihI5 =>
      intro v1 A2 hmuI5 hW3 rv1 hI
      have h := hs v1 A2 hI
      refine j_iload_n dX8_isFirst_2 rfl ?_
      refine r_aload_n dX8_isFirst_3 rfl ?_
      refine r_gRF dX8_isFirst_4 flX8_20_9 rfl ht rfl ?_
      obtain ⟨b7, hz8, h⟩ := h
      obtain ⟨t9, h⟩ := h
      refine r_gIN dX8_isFirst_7 flX8_38_5 hz8 t9 rfl ?_
      obtain ⟨h1, h2⟩ := h
      refine j_icmp_ge 34 dX8_isFirst_10 rfl rv1 (hW3.fi rfl) (fun q10 => ?_) (fun q10 => ?_)
      · have h := h1 q10
        clear h1 h2
        exact j_vret dX8_isFirst_34 rfl ⟨rfl, rfl, hW3, h⟩
      · have h := h2 q10
        clear h1 h2
        refine r_aload_n dX8_isFirst_13 rfl ?_
        refine r_gRF dX8_isFirst_14 flX8_26_9 rfl ht rfl ?_
        refine j_iload_n dX8_isFirst_17 rfl ?_
        refine r_aload_n dX8_isFirst_18 rfl ?_
        refine r_gRF dX8_isFirst_19 flX8_20_9 rfl ht rfl ?_
        refine r_gRFN dX8_isFirst_22 flX8_42_5 hz8 t9 rfl ?_
        refine j_iload_n dX8_isFirst_25 rfl ?_
        obtain ⟨b11, hz12, h⟩ := h
        obtain ⟨t13, h⟩ := h
        obtain ⟨c14, h⟩ := h
        refine r_aald dX8_isFirst_26 hz12 t13 rfl rfl c14 ?_
        obtain ⟨b15, hz16, h⟩ := h
        obtain ⟨t17, h⟩ := h
        obtain ⟨w18, h⟩ := h
        obtain ⟨c19, h⟩ := h
        obtain ⟨j22, h⟩ := h
        refine c_aast hW3 dX8_isFirst_27 hz16 t17 rfl w18 c19 j22 rfl fun A20 eA20 hW21 => ?_
        have h := h A20 eA20
        obtain ⟨r23, h⟩ := h
        refine j_iinc dX8_isFirst_28 rfl (jokR rfl (Nat.le_of_ble_eq_true rfl)) ?_
        refine j_goto 2 dX8_isFirst_31 rfl ?_
        exact J.wk (((jWk.nil).eq).eq) (ihI5 _ _ (Nat.lt_of_lt_of_le h.2 (Nat.le_of_lt_succ hmuI5)) hW21 r23 h.1)
  exact J.wk (((jWk.nil).eq).eq) (lp _ _ _ (Nat.lt_succ_self _) hW (by decide) h0)
/-- java/util/Objects.checkIndex(II)I -/
def wqJ11_checkIndex (a1 : Int) (a2 : Int) (N : jSh) (F : jFl) (A : jAr) (Q : Int → Prop) : Prop :=
  ∃ (P1 : Int → Prop), wqJ9_checkIndex a1 a2 (-1) N F A P1 ∧
  ∀ z3, P1 z3 →
  Q z3
theorem vJ11_checkIndex {G : jG} {l : Launch} {d : Nat} {N : jSh} {F : jFl} {A : jAr} {a1 a2 : Int} {Q : Int → Prop} (hd : 3 ≤ d) (hW : jWg G N F A) (ra1 : jR a1) (ra2 : jR a2) (h : wqJ11_checkIndex a1 a2 N F A Q) : jCall G l d mJ11_checkIndex [vI a1, vI a2] N F A (jpI N F A Q) := by
  unfold wqJ11_checkIndex at h
  refine jCall.of (by decide) rfl (ls := [vI a1, vI a2]) (by simp only [jent_R, jent_I, jent_L, jent_nil]; exact Nat.le_of_ble_eq_true rfl) (by simp only [jloc, jent_R, jent_I, jent_L, jent_nil]; rfl) ?_
  refine j_iload_n dJ11_checkIndex_0 rfl ?_
  refine j_iload_n dJ11_checkIndex_1 rfl ?_
  refine r_null dJ11_checkIndex_2 ?_
  obtain ⟨P1, hp2, h⟩ := h
  refine r_invS (As := [vI a1, vI a2, vR (-1)]) (rest := []) dJ11_checkIndex_3 lkJ11_105 (vJ9_checkIndex (d := 2) (Nat.le_of_ble_eq_true rfl) hW ra1 ra2 hp2) rfl rfl (Nat.le_of_ble_eq_true rfl) (Nat.le_trans (Nat.le_of_ble_eq_true rfl) hd) (jkpI fun z3 p6 r7 => ?_)
  have h := h z3 p6
  exact j_iret dJ11_checkIndex_6 rfl ⟨_, rfl, rfl, rfl, rfl, h, r7⟩
/-- jdk/internal/util/ArraysSupport.newLength(III)I -/
def wqJ12_newLength (S : Nat → Nat) (a1 : Int) (a2 : Int) (a3 : Int) (N : jSh) (F : jFl) (A : jAr) (Q : Int → Prop) : Prop :=
  jR (a1 + (if a2 ≤ a3 then a3 else a2)) ∧
  ∀ v2 : Int, v2 = a1 + (if a2 ≤ a3 then a3 else a2) →
  ((v2 ≤ (0 : Int)) →
    ∃ (P4 : Int → Prop), wqJ12_hugeLength S a1 a2 N F A P4 ∧
    ∀ z6, P4 z6 →
    Q z6) ∧
  ((¬ (v2 ≤ (0 : Int))) →
    ((2147483639 < v2) →
      ∃ (P12 : Int → Prop), wqJ12_hugeLength S a1 a2 N F A P12 ∧
      ∀ z14, P12 z14 →
      Q z14) ∧
    ((¬ (2147483639 < v2)) →
      Q v2))
theorem vJ12_newLength {G : jG} {l : Launch} {d : Nat} {N : jSh} {F : jFl} {A : jAr} {a1 a2 a3 : Int} {Q : Int → Prop} (hd : 3 ≤ d) (hW : jWg G N F A) (ra1 : jR a1) (ra2 : jR a2) (ra3 : jR a3) (h : wqJ12_newLength (gS G) a1 a2 a3 N F A Q) : jCall G l d mJ12_newLength [vI a1, vI a2, vI a3] N F A (jpI N F A Q) := by
  unfold wqJ12_newLength at h
  refine jCall.of (by decide) rfl (ls := [vI a1, vI a2, vI a3, jD]) (by simp only [jent_R, jent_I, jent_L, jent_nil]; exact Nat.le_of_ble_eq_true rfl) (by simp only [jloc, jent_R, jent_I, jent_L, jent_nil]; rfl) ?_
  refine j_iload_n dJ12_newLength_0 rfl ?_
  refine j_iload_n dJ12_newLength_1 rfl ?_
  refine j_iload_n dJ12_newLength_2 rfl ?_
  refine r_mmax dJ12_newLength_3 lkJ12_194 ra2 ra3 (Nat.le_of_ble_eq_true rfl) (Nat.le_trans (Nat.le_of_ble_eq_true rfl) hd) ?_
  refine j_iadd dJ12_newLength_6 ?_
  obtain ⟨r1, h⟩ := h
  obtain ⟨v2, ev2⟩ : ∃ x : Int, x = a1 + (if a2 ≤ a3 then a3 else a2) := ⟨_, rfl⟩
  have h := h v2 ev2
  refine jnmI (e := ev2) ?_
  refine j_istore_n dJ12_newLength_7 rfl ?_
  refine j_iconst dJ12_newLength_8 ?_
  refine j_iload_n dJ12_newLength_9 rfl ?_
  obtain ⟨h1, h2⟩ := h
  refine j_icmp_ge 21 dJ12_newLength_10 rfl (by decide) (ev2 ▸ r1) (fun q3 => ?_) (fun q3 => ?_)
  · have h := h1 q3
    clear h1 h2
    refine j_iload_n dJ12_newLength_21 rfl ?_
    refine j_iload_n dJ12_newLength_22 rfl ?_
    obtain ⟨P4, hp5, h⟩ := h
    refine r_invS (As := [vI a1, vI a2]) (rest := []) dJ12_newLength_23 lkJ12_201 (vJ12_hugeLength (d := 2) (Nat.le_of_ble_eq_true rfl) hW ra1 ra2 hp5) rfl rfl (Nat.le_of_ble_eq_true rfl) (Nat.le_trans (Nat.le_of_ble_eq_true rfl) hd) (jkpI fun z6 p9 r10 => ?_)
    have h := h z6 p9
    exact j_iret dJ12_newLength_26 rfl ⟨_, rfl, rfl, rfl, rfl, h, r10⟩
  · have h := h2 q3
    clear h1 h2
    refine j_iload_n dJ12_newLength_13 rfl ?_
    refine j_ldc (n := 2147483639) dJ12_newLength_14 q1005 ?_
    obtain ⟨h1, h2⟩ := h
    refine j_icmp_gt 21 dJ12_newLength_16 rfl (ev2 ▸ r1) (by decide) (fun q11 => ?_) (fun q11 => ?_)
    · have h := h1 q11
      clear h1 h2
      refine j_iload_n dJ12_newLength_21 rfl ?_
      refine j_iload_n dJ12_newLength_22 rfl ?_
      obtain ⟨P12, hp13, h⟩ := h
      refine r_invS (As := [vI a1, vI a2]) (rest := []) dJ12_newLength_23 lkJ12_201 (vJ12_hugeLength (d := 2) (Nat.le_of_ble_eq_true rfl) hW ra1 ra2 hp13) rfl rfl (Nat.le_of_ble_eq_true rfl) (Nat.le_trans (Nat.le_of_ble_eq_true rfl) hd) (jkpI fun z14 p17 r18 => ?_)
      have h := h z14 p17
      exact j_iret dJ12_newLength_26 rfl ⟨_, rfl, rfl, rfl, rfl, h, r18⟩
    · have h := h2 q11
      clear h1 h2
      refine j_iload_n dJ12_newLength_19 rfl ?_
      exact j_iret dJ12_newLength_20 rfl ⟨_, rfl, rfl, rfl, rfl, h, (ev2 ▸ r1)⟩
/-- java/util/Arrays.copyOf([Ljava/lang/Object;ILjava/lang/Class;)[Ljava/lang/Object; -/
def wqJ14_copyOf_2 (S : Nat → Nat) (a1 : Int) (a2 : Int) (a3 : Int) (N : jSh) (F : jFl) (A : jAr) (Q : Int → jSh → jFl → jAr → Prop) : Prop :=
  ((¬ (a3 = (S 20 : Int) ∨ (a3 < 0 ∧ (S 20 : Int) < 0))) →
    False) ∧
  (((a3 = (S 20 : Int) ∨ (a3 < 0 ∧ (S 20 : Int) < 0))) →
    ∃ n10 : Nat, a2 = (n10 : Int) ∧ n10 ≤ 1000000 ∧
    ∀ (b2 : Nat) (N3 : jSh) (F4 : jFl) (A5 : jAr), b2 = jnx N → N3 = jnew N 104 n10 n10 1 → F4 = nwF N F → A5 = nwA N 104 A →
    ∃ b13 : Nat, a1 = (b13 : Int) ∧
    jtg N3 b13 = 104 ∧
    jR (jln N3 b13 : Int) ∧
    ((0 : Int) ≤ 0 ∧ (0 : Int) ≤ 0 ∧ (0 : Int) ≤ (if (jln N3 b13 : Int) ≤ a2 then (jln N3 b13 : Int) else a2) ∧ 0 + (if (jln N3 b13 : Int) ≤ a2 then (jln N3 b13 : Int) else a2) ≤ (jln N3 b13 : Int) ∧ 0 + (if (jln N3 b13 : Int) ≤ a2 then (jln N3 b13 : Int) else a2) ≤ (jln N3 b2 : Int)) ∧
    (∀ j : Int, 0 ≤ j → j < 0 + (if (jln N3 b13 : Int) ≤ a2 then (jln N3 b13 : Int) else a2) → jast N3 "java/lang/Object" (A5 b13 j)) ∧
    ∀ A19 : jAr, A19 = cpA A5 b13 b2 0 0 (if (jln N3 b13 : Int) ≤ a2 then (jln N3 b13 : Int) else a2) →
    Q (b2 : Int) N3 F4 A19)
theorem vJ14_copyOf_2 {G : jG} {l : Launch} {d : Nat} {N : jSh} {F : jFl} {A : jAr} {a1 a2 a3 : Int} {Q : Int → jSh → jFl → jAr → Prop} (hd : 3 ≤ d) (hW : jWg G N F A) (ra2 : jR a2) (h : wqJ14_copyOf_2 (gS G) a1 a2 a3 N F A Q) : jCall G l d mJ14_copyOf_2 [vR a1, vI a2, vR a3] N F A (cnR G N Q) := by
  unfold wqJ14_copyOf_2 at h
  refine jCall.of (by decide) rfl (ls := [vR a1, vI a2, vR a3, jD]) (by simp only [jent_R, jent_I, jent_L, jent_nil]; exact Nat.le_of_ble_eq_true rfl) (by simp only [jloc, jent_R, jent_I, jent_L, jent_nil]; rfl) ?_
  refine r_aload_n dJ14_copyOf_2_0 rfl ?_
  refine r_ldcM dJ14_copyOf_2_1 q1040 ?_
  obtain ⟨h1, h2⟩ := h
  refine r_acmp_ne 13 dJ14_copyOf_2_3 rfl (fun q1 => ?_) (fun q1 => ?_)
  · have h := h1 q1
    clear h1 h2
    exact h.elim
  · have h := h2 q1
    clear h1 h2
    refine j_iload_n dJ14_copyOf_2_6 rfl ?_
    obtain ⟨n10, hn11, hl12, h⟩ := h
    refine c_anew (t := 104) (n := n10) hW dJ14_copyOf_2_7 rfl rfl q1042 (List.mem_of_elem_eq_true (by decide +kernel)) hn11 hl12 fun b2 N3 F4 A5 eb2 eN3 eF4 eA5 t6 w7 hT8 hW9 => ?_
    have h := h b2 N3 F4 A5 eb2 eN3 eF4 eA5
    refine j_goto 24 dJ14_copyOf_2_10 rfl ?_
    refine r_astore_n dJ14_copyOf_2_24 (jokR rfl (Nat.le_of_ble_eq_true rfl)) ?_
    refine r_aload_n dJ14_copyOf_2_25 rfl ?_
    refine j_iconst dJ14_copyOf_2_26 ?_
    refine r_aload_n dJ14_copyOf_2_27 rfl ?_
    refine j_iconst dJ14_copyOf_2_28 ?_
    refine r_aload_n dJ14_copyOf_2_29 rfl ?_
    obtain ⟨b13, hz14, h⟩ := h
    obtain ⟨t15, h⟩ := h
    refine r_alen dJ14_copyOf_2_30 hz14 t15 rfl ?_
    refine j_iload_n dJ14_copyOf_2_31 rfl ?_
    obtain ⟨r16, h⟩ := h
    refine r_mmin dJ14_copyOf_2_32 lkJ14_304 r16 ra2 (Nat.le_of_ble_eq_true rfl) (Nat.le_trans (Nat.le_of_ble_eq_true rfl) hd) ?_
    obtain ⟨c17, h⟩ := h
    obtain ⟨el18, h⟩ := h
    refine c_copy (ty := .object "java/lang/Object") hW9 dJ14_copyOf_2_35 q1046 hz14 rfl t15 t6 rfl rfl w7 c17 el18 (fun _ _ => rfl) (fun h => by cases h) (Nat.le_of_ble_eq_true rfl) (Nat.le_trans (Nat.le_of_ble_eq_true rfl) hd) fun A19 eA19 hW20 => ?_
    have h := h A19 eA19
    refine r_aload_n dJ14_copyOf_2_38 rfl ?_
    exact r_aret dJ14_copyOf_2_39 rfl (Or.inr ⟨_, rfl⟩) ⟨_, rfl, hW20, hT8, h, trivial⟩
/-- java/util/Arrays.copyOf([BI)[B -/
def wqJ14_copyOf_3 (a1 : Int) (a2 : Int) (N : jSh) (F : jFl) (A : jAr) (Q : Int → jSh → jFl → jAr → Prop) : Prop :=
  ∃ b1 : Nat, a1 = (b1 : Int) ∧
  jtg N b1 = 108 ∧
  jR (jln N b1 : Int) ∧
  ((¬ a2 = (jln N b1 : Int)) →
    ∃ n14 : Nat, a2 = (n14 : Int) ∧ n14 ≤ 1000000 ∧
    ∀ (b6 : Nat) (N7 : jSh) (F8 : jFl) (A9 : jAr), b6 = jnx N → N7 = jnew N 108 n14 n14 1 → F8 = nwF N F → A9 = nwA N 108 A →
    jR (jln N7 b1 : Int) ∧
    ((0 : Int) ≤ 0 ∧ (0 : Int) ≤ 0 ∧ (0 : Int) ≤ (if (jln N7 b1 : Int) ≤ a2 then (jln N7 b1 : Int) else a2) ∧ 0 + (if (jln N7 b1 : Int) ≤ a2 then (jln N7 b1 : Int) else a2) ≤ (jln N7 b1 : Int) ∧ 0 + (if (jln N7 b1 : Int) ≤ a2 then (jln N7 b1 : Int) else a2) ≤ (jln N7 b6 : Int)) ∧
    (∀ j : Int, 0 ≤ j → j < 0 + (if (jln N7 b1 : Int) ≤ a2 then (jln N7 b1 : Int) else a2) → (-128 ≤ A9 b1 j ∧ A9 b1 j ≤ 127)) ∧
    ∀ A21 : jAr, A21 = cpA A9 b1 b6 0 0 (if (jln N7 b1 : Int) ≤ a2 then (jln N7 b1 : Int) else a2) →
    Q (b6 : Int) N7 F8 A21) ∧
  ((a2 = (jln N b1 : Int)) →
    False)
theorem vJ14_copyOf_3 {G : jG} {l : Launch} {d : Nat} {N : jSh} {F : jFl} {A : jAr} {a1 a2 : Int} {Q : Int → jSh → jFl → jAr → Prop} (hd : 3 ≤ d) (hW : jWg G N F A) (ra2 : jR a2) (h : wqJ14_copyOf_3 a1 a2 N F A Q) : jCall G l d mJ14_copyOf_3 [vR a1, vI a2] N F A (cnR G N Q) := by
  unfold wqJ14_copyOf_3 at h
  refine jCall.of (by decide) rfl (ls := [vR a1, vI a2, jD]) (by simp only [jent_R, jent_I, jent_L, jent_nil]; exact Nat.le_of_ble_eq_true rfl) (by simp only [jloc, jent_R, jent_I, jent_L, jent_nil]; rfl) ?_
  refine j_iload_n dJ14_copyOf_3_0 rfl ?_
  refine r_aload_n dJ14_copyOf_3_1 rfl ?_
  obtain ⟨b1, hz2, h⟩ := h
  obtain ⟨t3, h⟩ := h
  refine r_alen dJ14_copyOf_3_2 hz2 t3 rfl ?_
  obtain ⟨r4, h⟩ := h
  obtain ⟨h1, h2⟩ := h
  refine j_icmp_ne 14 dJ14_copyOf_3_3 rfl ra2 r4 (fun q5 => ?_) (fun q5 => ?_)
  · have h := h1 q5
    clear h1 h2
    refine j_iload_n dJ14_copyOf_3_14 rfl ?_
    obtain ⟨n14, hn15, hl16, h⟩ := h
    refine c_newa (t := 108) (n := n14) hW dJ14_copyOf_3_15 rfl rfl rfl (fun _ h => by cases h) q520 (by decide) hn15 hl16 fun b6 N7 F8 A9 eb6 eN7 eF8 eA9 t10 w11 hT12 hW13 => ?_
    have h := h b6 N7 F8 A9 eb6 eN7 eF8 eA9
    refine r_astore_n dJ14_copyOf_3_17 rfl ?_
    refine r_aload_n dJ14_copyOf_3_18 rfl ?_
    refine j_iconst dJ14_copyOf_3_19 ?_
    refine r_aload_n dJ14_copyOf_3_20 rfl ?_
    refine j_iconst dJ14_copyOf_3_21 ?_
    refine r_aload_n dJ14_copyOf_3_22 rfl ?_
    have t17 : jtg N7 b1 = 108 := (hT12.tg hW t3)
    refine r_alen dJ14_copyOf_3_23 hz2 t17 rfl ?_
    refine j_iload_n dJ14_copyOf_3_24 rfl ?_
    obtain ⟨r18, h⟩ := h
    refine r_mmin dJ14_copyOf_3_25 lkJ14_304 r18 ra2 (Nat.le_of_ble_eq_true rfl) (Nat.le_trans (Nat.le_of_ble_eq_true rfl) hd) ?_
    obtain ⟨c19, h⟩ := h
    obtain ⟨el20, h⟩ := h
    refine c_copy (ty := .byte) hW13 dJ14_copyOf_3_28 q1046 hz2 rfl t17 t10 rfl rfl w11 c19 el20 (fun _ h => by cases h) (fun _ => rfl) (Nat.le_of_ble_eq_true rfl) (Nat.le_trans (Nat.le_of_ble_eq_true rfl) hd) fun A21 eA21 hW22 => ?_
    have h := h A21 eA21
    refine r_aload_n dJ14_copyOf_3_31 rfl ?_
    exact r_aret dJ14_copyOf_3_32 rfl (Or.inr ⟨_, rfl⟩) ⟨_, rfl, hW22, hT12, h, trivial⟩
  · have h := h2 (Classical.not_not.mp q5)
    clear h1 h2
    exact h.elim
/-- java/util/Arrays.fill([BIIB)V -/
def wqJ14_fill (a1 : Int) (a2 : Int) (a3 : Int) (a4 : Int) (N : jSh) (F : jFl) (A : jAr) (Q : jFl → jAr → Prop) : Prop :=
  ∃ b1 : Nat, a1 = (b1 : Int) ∧
  jtg N b1 = 108 ∧
  jR (jln N b1 : Int) ∧
  ∃ (P5 : Prop), wqJ14_rangeCheck (jln N b1 : Int) a2 a3 N F A P5 ∧
  (P5 →
  ∃ (I16 : Int → jAr → Prop) (m17 : Int → jAr → Nat), I16 a2 A ∧ ∀ (v12 : Int) (A13 : jAr), I16 v12 A13 →
    ((a3 ≤ v12) →
      Q F A13) ∧
    ((¬ (a3 ≤ v12)) →
      jfn N 0 b1 = 1 ∧
      ((0 : Int) ≤ v12 ∧ (v12 : Int) < (jln N b1 : Int)) ∧
      (-128 ≤ a4 ∧ a4 ≤ 127) ∧
      ∀ A21 : jAr, A21 = upA A13 b1 v12 a4 →
      jR (v12 + 1) ∧
      I16 (v12 + 1) A21 ∧ m17 (v12 + 1) A21 < m17 v12 A13))
theorem vJ14_fill {G : jG} {l : Launch} {d : Nat} {N : jSh} {F : jFl} {A : jAr} {a1 a2 a3 a4 : Int} {Q : jFl → jAr → Prop} (hd : 3 ≤ d) (hW : jWg G N F A) (ra2 : jR a2) (ra3 : jR a3) (ra4 : jR a4) (h : wqJ14_fill a1 a2 a3 a4 N F A Q) : jCall G l d mJ14_fill [vR a1, vI a2, vI a3, vI a4] N F A (cmV G N Q) := by
  unfold wqJ14_fill at h
  refine jCall.of (by decide) rfl (ls := [vR a1, vI a2, vI a3, vI a4, jD]) (by simp only [jent_R, jent_I, jent_L, jent_nil]; exact Nat.le_of_ble_eq_true rfl) (by simp only [jloc, jent_R, jent_I, jent_L, jent_nil]; rfl) ?_
  refine r_aload_n dJ14_fill_0 rfl ?_
  obtain ⟨b1, hz2, h⟩ := h
  obtain ⟨t3, h⟩ := h
  refine r_alen dJ14_fill_1 hz2 t3 rfl ?_
  refine j_iload_n dJ14_fill_2 rfl ?_
  refine j_iload_n dJ14_fill_3 rfl ?_
  obtain ⟨r4, h⟩ := h
  obtain ⟨P5, hp6, h⟩ := h
  refine r_invS (As := [vI (jln N b1 : Int), vI a2, vI a3]) (rest := []) dJ14_fill_4 lkJ14_13 (vJ14_rangeCheck (d := 2) (Nat.le_of_ble_eq_true rfl) hW r4 ra2 ra3 hp6) rfl rfl (Nat.le_of_ble_eq_true rfl) (Nat.le_trans (Nat.le_of_ble_eq_true rfl) hd) (jkpV fun p10 => ?_)
  have h := h p10
  refine j_iload_n dJ14_fill_7 rfl ?_
  refine j_istore dJ14_fill_8 rfl ?_
  obtain ⟨I16, m17, h0, hs⟩ := h
  have lp : ∀ (n : Nat) (v12 : Int) (A13 : jAr), m17 v12 A13 < n → jWg G N F A13 → jR v12 → I16 v12 A13 → J G l d mJ14_fill 10 [vR a1, jD, vI a3, vI a4, vI v12] [] N F A13 (cmV G N Q) := by
    intro nI16
    induction nI16 with
    | zero =>
      intro v12 A13 hmu
      exact absurd hmu (Nat.not_lt_zero _)
    | succ nI16 ihI16 =>
      intro v12 A13 hmuI16 hW14 rv12 hI
      have h := hs v12 A13 hI
      refine j_iload dJ14_fill_10 rfl ?_
      refine j_iload_n dJ14_fill_12 rfl ?_
      obtain ⟨h1, h2⟩ := h
      refine j_icmp_ge 27 dJ14_fill_13 rfl rv12 ra3 (fun q18 => ?_) (fun q18 => ?_)
      · have h := h1 q18
        clear h1 h2
        exact j_vret dJ14_fill_27 rfl ⟨rfl, rfl, hW14, h⟩
      · have h := h2 q18
        clear h1 h2
        refine r_aload_n dJ14_fill_16 rfl ?_
        refine j_iload dJ14_fill_17 rfl ?_
        refine j_iload_n dJ14_fill_19 rfl ?_
        obtain ⟨w19, h⟩ := h
        obtain ⟨c20, h⟩ := h
        obtain ⟨y23, h⟩ := h
        refine c_bast hW14 dJ14_fill_20 hz2 t3 w19 c20 ra4 y23 fun A21 eA21 hW22 => ?_
        have h := h A21 eA21
        obtain ⟨r24, h⟩ := h
        refine j_iinc dJ14_fill_21 rfl rfl ?_
        refine j_goto 10 dJ14_fill_24 rfl ?_
        exact J.wk ((((((jWk.nil).eq).eq).eq).no).eq) (ihI16 _ _ (Nat.lt_of_lt_of_le h.2 (Nat.le_of_lt_succ hmuI16)) hW22 r24 h.1)
  exact J.wk ((((((jWk.nil).eq).eq).eq).no).eq) (lp _ _ _ (Nat.lt_succ_self _) hW ra2 h0)
/-- java/util/AbstractList.<init>()V -/
def wqJ1_init (o : Nat) (N : jSh) (F : jFl) (A : jAr) (Q : jFl → jAr → Prop) : Prop :=
  ∃ (P1 : Prop), wqJ0_init o N F A P1 ∧
  (P1 →
  jfn N 0 o = 1 ∧
  ∀ F10 : jFl, F10 = upF F 6900 o 0 →
  Q F10 A)
theorem vJ1_init {G : jG} {l : Launch} {d : Nat} {N : jSh} {F : jFl} {A : jAr} {o : Nat} {Q : jFl → jAr → Prop} (hd : 3 ≤ d) (hW : jWg G N F A) (ht : jtg N o = 20) (h : wqJ1_init o N F A Q) : jCall G l d mJ1_init [vR (o : Int)] N F A (cmV G N Q) := by
  unfold wqJ1_init at h
  refine jCall.of (by decide) rfl (ls := [vR (o : Int)]) (by simp only [jent_R, jent_I, jent_L, jent_nil]; exact Nat.le_of_ble_eq_true rfl) (by simp only [jloc, jent_R, jent_I, jent_L, jent_nil]; rfl) ?_
  refine r_aload_n dJ1_init_0 rfl ?_
  obtain ⟨P1, hp2, h⟩ := h
  refine r_invI (As := []) (rest := []) dJ1_init_1 lkJ1_1 rfl (vJ0_init (d := 2) (Nat.le_of_ble_eq_true rfl) hW ht  hp2) rfl rfl (Nat.le_of_ble_eq_true rfl) (Nat.le_trans (Nat.le_of_ble_eq_true rfl) hd) (jkpV fun p6 => ?_)
  have h := h p6
  refine r_aload_n dJ1_init_4 rfl ?_
  refine j_iconst dJ1_init_5 ?_
  obtain ⟨w8, h⟩ := h
  refine c_pI hW dJ1_init_6 flJ1_7_20 rfl ht w8 rfl (by decide) fun F10 eF10 hW9 => ?_
  have h := h F10 eF10
  exact j_vret dJ1_init_9 rfl ⟨rfl, rfl, hW9, h⟩
/-- java/util/ArrayList.indexOfRange(Ljava/lang/Object;II)I -/
def wqJ2_indexOfRange (o : Nat) (a1 : Int) (a2 : Int) (a3 : Int) (N : jSh) (F : jFl) (A : jAr) (Q : Int → Prop) : Prop :=
  ∀ v1 : Int, v1 = F 6002 o →
  ((¬ a1 < 0) →
    ∃ (I5 : Int → Prop) (m6 : Int → Nat), I5 a2 ∧ ∀ (v3 : Int), I5 v3 →
      ((a3 ≤ v3) →
        Q (-1)) ∧
      ((¬ (a3 ≤ v3)) →
        ∃ b8 : Nat, v1 = (b8 : Int) ∧
        jtg N b8 = 104 ∧
        ((0 : Int) ≤ v3 ∧ (v3 : Int) < (jln N b8 : Int)) ∧
        ∃ b12 : Nat, a1 = (b12 : Int) ∧
        jtg N b12 = 17 ∧
        (((if a1 = A b8 v3 then (1 : Int) else 0) = 0) →
          jR (v3 + 1) ∧
          I5 (v3 + 1) ∧ m6 (v3 + 1) < m6 v3) ∧
        ((¬ ((if a1 = A b8 v3 then (1 : Int) else 0) = 0)) →
          Q v3))) ∧
  ((a1 < 0) →
    ∃ (I19 : Int → Prop) (m20 : Int → Nat), I19 a2 ∧ ∀ (v17 : Int), I19 v17 →
      ((a3 ≤ v17) →
        Q (-1)) ∧
      ((¬ (a3 ≤ v17)) →
        ∃ b22 : Nat, v1 = (b22 : Int) ∧
        jtg N b22 = 104 ∧
        ((0 : Int) ≤ v17 ∧ (v17 : Int) < (jln N b22 : Int)) ∧
        ((¬ (A b22 v17) < 0) →
          jR (v17 + 1) ∧
          I19 (v17 + 1) ∧ m20 (v17 + 1) < m20 v17) ∧
        (((A b22 v17) < 0) →
          Q v17)))
theorem vJ2_indexOfRange {G : jG} {l : Launch} {d : Nat} {N : jSh} {F : jFl} {A : jAr} {o : Nat} {a1 a2 a3 : Int} {Q : Int → Prop} (hd : 3 ≤ d) (hW : jWg G N F A) (ht : jtg N o = 20) (ra2 : jR a2) (ra3 : jR a3) (h : wqJ2_indexOfRange o a1 a2 a3 N F A Q) : jCall G l d mJ2_indexOfRange [vR (o : Int), vR a1, vI a2, vI a3] N F A (jpI N F A Q) := by
  unfold wqJ2_indexOfRange at h
  refine jCall.of (by decide) rfl (ls := [vR (o : Int), vR a1, vI a2, vI a3, jD, jD]) (by simp only [jent_R, jent_I, jent_L, jent_nil]; exact Nat.le_of_ble_eq_true rfl) (by simp only [jloc, jent_R, jent_I, jent_L, jent_nil]; rfl) ?_
  refine r_aload_n dJ2_indexOfRange_0 rfl ?_
  refine r_gR dJ2_indexOfRange_1 flJ2_9_20 rfl ht rfl ?_
  obtain ⟨v1, ev1⟩ : ∃ x : Int, x = F 6002 o := ⟨_, rfl⟩
  have h := h v1 ev1
  refine jnmR (e := ev1) ?_
  refine r_astore dJ2_indexOfRange_4 rfl ?_
  refine r_aload_n dJ2_indexOfRange_6 rfl ?_
  obtain ⟨h1, h2⟩ := h
  refine r_ifnonnull 39 dJ2_indexOfRange_7 rfl (fun q2 => ?_) (fun q2 => ?_)
  · have h := h1 q2
    clear h1 h2
    refine j_iload_n dJ2_indexOfRange_39 rfl ?_
    refine j_istore dJ2_indexOfRange_40 (jokR rfl (Nat.le_of_ble_eq_true rfl)) ?_
    obtain ⟨I5, m6, h0, hs⟩ := h
    have lp : ∀ (n : Nat) (v3 : Int), m6 v3 < n → jR v3 → I5 v3 → J G l d mJ2_indexOfRange 42 [vR (o : Int), vR a1, jD, vI a3, vR v1, vI v3] [] N F A (jpI N F A Q) := by
      intro nI5
      induction nI5 with
      | zero =>
        intro v3 hmu
        exact absurd hmu (Nat.not_lt_zero _)
      | succ nI5 ihI5 =>
        intro v3 hmuI5 rv3 hI
        have h := hs v3 hI
        refine j_iload dJ2_indexOfRange_42 rfl ?_
        refine j_iload_n dJ2_indexOfRange_44 rfl ?_
        obtain ⟨h1, h2⟩ := h
        refine j_icmp_ge 69 dJ2_indexOfRange_45 rfl rv3 ra3 (fun q7 => ?_) (fun q7 => ?_)
        · have h := h1 q7
          clear h1 h2
          refine j_iconst dJ2_indexOfRange_69 ?_
          exact j_iret dJ2_indexOfRange_70 rfl ⟨_, rfl, rfl, rfl, rfl, h, (by decide)⟩
        · have h := h2 q7
          clear h1 h2
          refine r_aload_n dJ2_indexOfRange_48 rfl ?_
          refine r_aload dJ2_indexOfRange_49 rfl ?_
          refine j_iload dJ2_indexOfRange_51 rfl ?_
          obtain ⟨b8, hz9, h⟩ := h
          obtain ⟨t10, h⟩ := h
          obtain ⟨c11, h⟩ := h
          refine r_aald dJ2_indexOfRange_53 hz9 t10 rfl rfl c11 ?_
          obtain ⟨b12, hz13, h⟩ := h
          obtain ⟨t14, h⟩ := h
          refine r_objEq dJ2_indexOfRange_54 lkUJ2_93 hz13 t14 (Nat.le_of_ble_eq_true rfl) (Nat.le_trans (Nat.le_of_ble_eq_true rfl) hd) ?_
          obtain ⟨h1, h2⟩ := h
          refine j_if_eq 63 dJ2_indexOfRange_57 rfl (jR_ite (by decide) (by decide)) (fun q15 => ?_) (fun q15 => ?_)
          · have h := h1 q15
            clear h1 h2
            obtain ⟨r16, h⟩ := h
            refine j_iinc dJ2_indexOfRange_63 rfl (jokR rfl (Nat.le_of_ble_eq_true rfl)) ?_
            refine j_goto 42 dJ2_indexOfRange_66 rfl ?_
            exact J.wk (((((((jWk.nil).eq).eq).eq).no).eq).eq) (ihI5 _ (Nat.lt_of_lt_of_le h.2 (Nat.le_of_lt_succ hmuI5)) r16 h.1)
          · have h := h2 q15
            clear h1 h2
            refine j_iload dJ2_indexOfRange_60 rfl ?_
            exact j_iret dJ2_indexOfRange_62 rfl ⟨_, rfl, rfl, rfl, rfl, h, rv3⟩
    exact J.wk (((((((jWk.nil).eq).eq).eq).no).eq).eq) (lp _ _ (Nat.lt_succ_self _) ra2 h0)
  · have h := h2 q2
    clear h1 h2
    refine j_iload_n dJ2_indexOfRange_10 rfl ?_
    refine j_istore dJ2_indexOfRange_11 (jokR rfl (Nat.le_of_ble_eq_true rfl)) ?_
    obtain ⟨I19, m20, h0, hs⟩ := h
    have lp : ∀ (n : Nat) (v17 : Int), m20 v17 < n → jR v17 → I19 v17 → J G l d mJ2_indexOfRange 13 [vR (o : Int), jD, jD, vI a3, vR v1, vI v17] [] N F A (jpI N F A Q) := by
      intro nI19
      induction nI19 with
      | zero =>
        intro v17 hmu
        exact absurd hmu (Nat.not_lt_zero _)
      | succ nI19 ihI19 =>
        intro v17 hmuI19 rv17 hI
        have h := hs v17 hI
        refine j_iload dJ2_indexOfRange_13 rfl ?_
        refine j_iload_n dJ2_indexOfRange_15 rfl ?_
        obtain ⟨h1, h2⟩ := h
        refine j_icmp_ge 36 dJ2_indexOfRange_16 rfl rv17 ra3 (fun q21 => ?_) (fun q21 => ?_)
        · have h := h1 q21
          clear h1 h2
          refine j_goto 69 dJ2_indexOfRange_36 rfl ?_
          refine j_iconst dJ2_indexOfRange_69 ?_
          exact j_iret dJ2_indexOfRange_70 rfl ⟨_, rfl, rfl, rfl, rfl, h, (by decide)⟩
        · have h := h2 q21
          clear h1 h2
          refine r_aload dJ2_indexOfRange_19 rfl ?_
          refine j_iload dJ2_indexOfRange_21 rfl ?_
          obtain ⟨b22, hz23, h⟩ := h
          obtain ⟨t24, h⟩ := h
          obtain ⟨c25, h⟩ := h
          refine r_aald dJ2_indexOfRange_23 hz23 t24 rfl rfl c25 ?_
          obtain ⟨h1, h2⟩ := h
          refine r_ifnonnull 30 dJ2_indexOfRange_24 rfl (fun q26 => ?_) (fun q26 => ?_)
          · have h := h1 q26
            clear h1 h2
            obtain ⟨r27, h⟩ := h
            refine j_iinc dJ2_indexOfRange_30 rfl (jokR rfl (Nat.le_of_ble_eq_true rfl)) ?_
            refine j_goto 13 dJ2_indexOfRange_33 rfl ?_
            exact J.wk (((((((jWk.nil).eq).eq).eq).no).no).eq) (ihI19 _ (Nat.lt_of_lt_of_le h.2 (Nat.le_of_lt_succ hmuI19)) r27 h.1)
          · have h := h2 q26
            clear h1 h2
            refine j_iload dJ2_indexOfRange_27 rfl ?_
            exact j_iret dJ2_indexOfRange_29 rfl ⟨_, rfl, rfl, rfl, rfl, h, rv17⟩
    exact J.wk (((((((jWk.nil).eq).eq).eq).no).no).eq) (lp _ _ (Nat.lt_succ_self _) ra2 h0)
/-- java/lang/StringBuilder.length()I -/
def wqJ4_length (o : Nat) (N : jSh) (F : jFl) (A : jAr) (Q : Int → Prop) : Prop :=
  ∃ (P1 : Int → Prop), wqJ3_length o N F A P1 ∧
  ∀ z3, P1 z3 →
  Q z3
theorem vJ4_length {G : jG} {l : Launch} {d : Nat} {N : jSh} {F : jFl} {A : jAr} {o : Nat} {Q : Int → Prop} (hd : 3 ≤ d) (hW : jWg G N F A) (ht : jtg N o = 21) (h : wqJ4_length o N F A Q) : jCall G l d mJ4_length [vR (o : Int)] N F A (jpI N F A Q) := by
  unfold wqJ4_length at h
  refine jCall.of (by decide) rfl (ls := [vR (o : Int)]) (by simp only [jent_R, jent_I, jent_L, jent_nil]; exact Nat.le_of_ble_eq_true rfl) (by simp only [jloc, jent_R, jent_I, jent_L, jent_nil]; rfl) ?_
  refine r_aload_n dJ4_length_0 rfl ?_
  obtain ⟨P1, hp2, h⟩ := h
  refine r_invSU (ci := 21) (As := []) (rest := []) dJ4_length_1 lkSUJ4_343 rfl ht rfl (vJ3_length (d := 2) (Nat.le_of_ble_eq_true rfl) hW ht  hp2) rfl rfl (Nat.le_of_ble_eq_true rfl) (Nat.le_trans (Nat.le_of_ble_eq_true rfl) hd) (jkpI fun z3 p6 r7 => ?_)
  have h := h z3 p6
  exact j_iret dJ4_length_4 rfl ⟨_, rfl, rfl, rfl, rfl, h, r7⟩
/-- java/lang/String.checkBoundsOffCount(III)I -/
def wqJ5_checkBoundsOffCount (S : Nat → Nat) (a1 : Int) (a2 : Int) (a3 : Int) (N : jSh) (F : jFl) (A : jAr) (Q : Int → Prop) : Prop :=
  ∃ (P1 : Int → Prop), wqJ9_checkFromIndexSize a1 a2 a3 ((S 21 : Int) - 1) N F A P1 ∧
  ∀ z3, P1 z3 →
  Q z3
theorem vJ5_checkBoundsOffCount {G : jG} {l : Launch} {d : Nat} {N : jSh} {F : jFl} {A : jAr} {a1 a2 a3 : Int} {Q : Int → Prop} (hd : 3 ≤ d) (hW : jWg G N F A) (ra1 : jR a1) (ra2 : jR a2) (ra3 : jR a3) (h : wqJ5_checkBoundsOffCount (gS G) a1 a2 a3 N F A Q) : jCall G l d mJ5_checkBoundsOffCount [vI a1, vI a2, vI a3] N F A (jpI N F A Q) := by
  unfold wqJ5_checkBoundsOffCount at h
  refine jCall.of (by decide) rfl (ls := [vI a1, vI a2, vI a3]) (by simp only [jent_R, jent_I, jent_L, jent_nil]; exact Nat.le_of_ble_eq_true rfl) (by simp only [jloc, jent_R, jent_I, jent_L, jent_nil]; rfl) ?_
  refine j_iload_n dJ5_checkBoundsOffCount_0 rfl ?_
  refine j_iload_n dJ5_checkBoundsOffCount_1 rfl ?_
  refine j_iload_n dJ5_checkBoundsOffCount_2 rfl ?_
  refine r_gets (q := ("jdk/internal/util/Preconditions", "SIOOBE_FORMATTER", "Ljava/util/function/BiFunction;", 5021)) (v := vR ((gS G 21 : Int) - 1)) dJ5_checkBoundsOffCount_3 (List.mem_of_elem_eq_true (by decide +kernel)) q761 rfl ?_
  obtain ⟨P1, hp2, h⟩ := h
  refine r_invS (As := [vI a1, vI a2, vI a3, vR ((gS G 21 : Int) - 1)]) (rest := []) dJ5_checkBoundsOffCount_6 lkJ5_1065 (vJ9_checkFromIndexSize (d := 2) (Nat.le_of_ble_eq_true rfl) hW ra1 ra2 ra3 hp2) rfl rfl (Nat.le_of_ble_eq_true rfl) (Nat.le_trans (Nat.le_of_ble_eq_true rfl) hd) (jkpI fun z3 p6 r7 => ?_)
  have h := h z3 p6
  exact j_iret dJ5_checkBoundsOffCount_9 rfl ⟨_, rfl, rfl, rfl, rfl, h, r7⟩
/-- java/lang/String.checkIndex(II)V -/
def wqJ5_checkIndex (S : Nat → Nat) (a1 : Int) (a2 : Int) (N : jSh) (F : jFl) (A : jAr) (Q : Prop) : Prop :=
  ∃ (P1 : Int → Prop), wqJ9_checkIndex a1 a2 ((S 21 : Int) - 1) N F A P1 ∧
  ∀ z3, P1 z3 →
  Q
theorem vJ5_checkIndex {G : jG} {l : Launch} {d : Nat} {N : jSh} {F : jFl} {A : jAr} {a1 a2 : Int} {Q : Prop} (hd : 3 ≤ d) (hW : jWg G N F A) (ra1 : jR a1) (ra2 : jR a2) (h : wqJ5_checkIndex (gS G) a1 a2 N F A Q) : jCall G l d mJ5_checkIndex [vI a1, vI a2] N F A (jpV N F A Q) := by
  unfold wqJ5_checkIndex at h
  refine jCall.of (by decide) rfl (ls := [vI a1, vI a2]) (by simp only [jent_R, jent_I, jent_L, jent_nil]; exact Nat.le_of_ble_eq_true rfl) (by simp only [jloc, jent_R, jent_I, jent_L, jent_nil]; rfl) ?_
  refine j_iload_n dJ5_checkIndex_0 rfl ?_
  refine j_iload_n dJ5_checkIndex_1 rfl ?_
  refine r_gets (q := ("jdk/internal/util/Preconditions", "SIOOBE_FORMATTER", "Ljava/util/function/BiFunction;", 5021)) (v := vR ((gS G 21 : Int) - 1)) dJ5_checkIndex_2 (List.mem_of_elem_eq_true (by decide +kernel)) q761 rfl ?_
  obtain ⟨P1, hp2, h⟩ := h
  refine r_invS (As := [vI a1, vI a2, vR ((gS G 21 : Int) - 1)]) (rest := []) dJ5_checkIndex_5 lkJ5_1059 (vJ9_checkIndex (d := 2) (Nat.le_of_ble_eq_true rfl) hW ra1 ra2 hp2) rfl rfl (Nat.le_of_ble_eq_true rfl) (Nat.le_trans (Nat.le_of_ble_eq_true rfl) hd) (jkpI fun z3 p6 r7 => ?_)
  have h := h z3 p6
  refine j_pop dJ5_checkIndex_8 rfl ?_
  exact j_vret dJ5_checkIndex_9 rfl ⟨rfl, rfl, rfl, rfl, h⟩
/-- java/lang/String.equals(Ljava/lang/Object;)Z -/
def wqJ5_equals (S : Nat → Nat) (o : Nat) (a1 : Int) (N : jSh) (F : jFl) (A : jAr) (Q : Int → Prop) : Prop :=
  ((¬ ((o : Int) = a1 ∨ ((o : Int) < 0 ∧ a1 < 0))) →
    ∃ b2 : Nat, a1 = (b2 : Int) ∧
    jtg N b2 = 22 ∧
    (((1 : Int) = 0) →
      Q 0) ∧
    ((¬ ((1 : Int) = 0)) →
      jcst N "java/lang/String" a1 ∧
      (((1 : Int) = 0) →
        ∃ (P8 : Int → Prop), wqJ10_equals (jfn N 6602 o) (jfn N 6602 b2) N F A P8 ∧
        ∀ z10, P8 z10 →
        ∀ z16 : Int, z16 = (if z10 = 0 then (0 : Int) else 1) →
        Q z16) ∧
      ((¬ ((1 : Int) = 0)) →
        ((¬ (jfn N 6603 o) = (jfn N 6603 b2)) →
          Q 0) ∧
        (((jfn N 6603 o) = (jfn N 6603 b2)) →
          ∃ (P19 : Int → Prop), wqJ10_equals (jfn N 6602 o) (jfn N 6602 b2) N F A P19 ∧
          ∀ z21, P19 z21 →
          ∀ z27 : Int, z27 = (if z21 = 0 then (0 : Int) else 1) →
          Q z27)))) ∧
  ((((o : Int) = a1 ∨ ((o : Int) < 0 ∧ a1 < 0))) →
    Q 1)
theorem vJ5_equals {G : jG} {l : Launch} {d : Nat} {N : jSh} {F : jFl} {A : jAr} {o : Nat} {a1 : Int} {Q : Int → Prop} (hd : 3 ≤ d) (hW : jWg G N F A) (ht : jtg N o = 22) (h : wqJ5_equals (gS G) o a1 N F A Q) : jCall G l d mJ5_equals [vR (o : Int), vR a1] N F A (jpB N F A Q) := by
  unfold wqJ5_equals at h
  refine jCall.of (by decide) rfl (ls := [vR (o : Int), vR a1, jD]) (by simp only [jent_R, jent_I, jent_L, jent_nil]; exact Nat.le_of_ble_eq_true rfl) (by simp only [jloc, jent_R, jent_I, jent_L, jent_nil]; rfl) ?_
  refine r_aload_n dJ5_equals_0 rfl ?_
  refine r_aload_n dJ5_equals_1 rfl ?_
  obtain ⟨h1, h2⟩ := h
  refine r_acmp_ne 7 dJ5_equals_2 rfl (fun q1 => ?_) (fun q1 => ?_)
  · have h := h1 q1
    clear h1 h2
    refine r_aload_n dJ5_equals_7 rfl ?_
    obtain ⟨b2, hz3, h⟩ := h
    obtain ⟨t4, h⟩ := h
    refine r_instY dJ5_equals_8 hz3 t4 rfl q858 ?_
    obtain ⟨h1, h2⟩ := h
    refine j_if_eq 54 dJ5_equals_11 rfl (by decide) (fun q5 => ?_) (fun q5 => ?_)
    · have h := h1 q5
      clear h1 h2
      refine j_iconst dJ5_equals_54 ?_
      exact j_zret dJ5_equals_55 rfl (nr_bool (by decide)) ⟨_, rfl, rfl, rfl, rfl, h, (by decide)⟩
    · have h := h2 q5
      clear h1 h2
      refine r_aload_n dJ5_equals_14 rfl ?_
      obtain ⟨j6, h⟩ := h
      refine r_chk dJ5_equals_15 q858 j6 ?_
      refine r_astore_n dJ5_equals_18 (jokR rfl (Nat.le_of_ble_eq_true rfl)) ?_
      refine r_gets (q := ("java/lang/String", "COMPACT_STRINGS", "Z", 1001)) (v := vI 1) dJ5_equals_19 (List.mem_of_elem_eq_true (by decide +kernel)) q771 rfl ?_
      obtain ⟨h1, h2⟩ := h
      refine j_if_eq 36 dJ5_equals_22 rfl (by decide) (fun q7 => ?_) (fun q7 => ?_)
      · have h := h1 q7
        clear h1 h2
        refine r_aload_n dJ5_equals_36 rfl ?_
        refine r_gRF dJ5_equals_37 flJ5_9_22 rfl ht rfl ?_
        refine r_aload_n dJ5_equals_40 rfl ?_
        refine r_gRF dJ5_equals_41 flJ5_9_22 hz3 t4 rfl ?_
        obtain ⟨P8, hp9, h⟩ := h
        refine r_invS (As := [vR (jfn N 6602 o), vR (jfn N 6602 b2)]) (rest := []) dJ5_equals_44 lkJ5_541 (vJ10_equals (d := 2) (Nat.le_of_ble_eq_true rfl) hW  hp9) rfl rfl (Nat.le_of_ble_eq_true rfl) (Nat.le_trans (Nat.le_of_ble_eq_true rfl) hd) (jkpB fun z10 p13 r14 => ?_)
        have h := h z10 p13
        have jn17 : ∀ z16 : Int, z16 = (if z10 = 0 then (0 : Int) else 1) → J G l d mJ5_equals 55 [vR (o : Int), vR a1, vR a1] [vI z16] N F A (jpB N F A Q) := by
          intro z16 ez16
          have h := h z16 ez16
          exact j_zret dJ5_equals_55 rfl (nr_bool (ez16 ▸ jB_ite (by decide) (by decide))) ⟨_, rfl, rfl, rfl, rfl, h, (ez16 ▸ jB_ite (by decide) (by decide))⟩
        clear h
        refine j_if_eq 54 dJ5_equals_47 rfl (jR_b r14) (fun q15 => ?_) (fun q15 => ?_)
        · refine j_iconst dJ5_equals_54 ?_
          exact jn17 _ (if_pos q15).symm
        · refine j_iconst dJ5_equals_50 ?_
          refine j_goto 55 dJ5_equals_51 rfl ?_
          exact jn17 _ (if_neg q15).symm
      · have h := h2 q7
        clear h1 h2
        refine r_aload_n dJ5_equals_25 rfl ?_
        refine r_gIF dJ5_equals_26 flJ5_15_22 rfl ht rfl ?_
        refine r_aload_n dJ5_equals_29 rfl ?_
        refine r_gIF dJ5_equals_30 flJ5_15_22 hz3 t4 rfl ?_
        obtain ⟨h1, h2⟩ := h
        refine j_icmp_ne 54 dJ5_equals_33 rfl (hW.ni rfl (by decide)) (hW.ni rfl (by decide)) (fun q18 => ?_) (fun q18 => ?_)
        · have h := h1 q18
          clear h1 h2
          refine j_iconst dJ5_equals_54 ?_
          exact j_zret dJ5_equals_55 rfl (nr_bool (by decide)) ⟨_, rfl, rfl, rfl, rfl, h, (by decide)⟩
        · have h := h2 (Classical.not_not.mp q18)
          clear h1 h2
          refine r_aload_n dJ5_equals_36 rfl ?_
          refine r_gRF dJ5_equals_37 flJ5_9_22 rfl ht rfl ?_
          refine r_aload_n dJ5_equals_40 rfl ?_
          refine r_gRF dJ5_equals_41 flJ5_9_22 hz3 t4 rfl ?_
          obtain ⟨P19, hp20, h⟩ := h
          refine r_invS (As := [vR (jfn N 6602 o), vR (jfn N 6602 b2)]) (rest := []) dJ5_equals_44 lkJ5_541 (vJ10_equals (d := 2) (Nat.le_of_ble_eq_true rfl) hW  hp20) rfl rfl (Nat.le_of_ble_eq_true rfl) (Nat.le_trans (Nat.le_of_ble_eq_true rfl) hd) (jkpB fun z21 p24 r25 => ?_)
          have h := h z21 p24
          have jn28 : ∀ z27 : Int, z27 = (if z21 = 0 then (0 : Int) else 1) → J G l d mJ5_equals 55 [vR (o : Int), vR a1, vR a1] [vI z27] N F A (jpB N F A Q) := by
            intro z27 ez27
            have h := h z27 ez27
            exact j_zret dJ5_equals_55 rfl (nr_bool (ez27 ▸ jB_ite (by decide) (by decide))) ⟨_, rfl, rfl, rfl, rfl, h, (ez27 ▸ jB_ite (by decide) (by decide))⟩
          clear h
          refine j_if_eq 54 dJ5_equals_47 rfl (jR_b r25) (fun q26 => ?_) (fun q26 => ?_)
          · refine j_iconst dJ5_equals_54 ?_
            exact jn28 _ (if_pos q26).symm
          · refine j_iconst dJ5_equals_50 ?_
            refine j_goto 55 dJ5_equals_51 rfl ?_
            exact jn28 _ (if_neg q26).symm
  · have h := h2 q1
    clear h1 h2
    refine j_iconst dJ5_equals_5 ?_
    exact j_zret dJ5_equals_6 rfl (nr_bool (by decide)) ⟨_, rfl, rfl, rfl, rfl, h, (by decide)⟩
/-- java/lang/String.length()I -/
def wqJ5_length (S : Nat → Nat) (o : Nat) (N : jSh) (F : jFl) (A : jAr) (Q : Int → Prop) : Prop :=
  ∃ b1 : Nat, jfn N 6602 o = (b1 : Int) ∧
  jtg N b1 = 108 ∧
  ∃ (P4 : Int → Prop), wqJ5_coder S o N F A P4 ∧
  ∀ z6, P4 z6 →
  jR (jln N b1 : Int) ∧
  ((0 : Int) ≤ z6 ∧ (z6 : Int) < 32) ∧
  Q ((jln N b1 : Int) / 2 ^ z6.toNat)
theorem vJ5_length {G : jG} {l : Launch} {d : Nat} {N : jSh} {F : jFl} {A : jAr} {o : Nat} {Q : Int → Prop} (hd : 3 ≤ d) (hW : jWg G N F A) (ht : jtg N o = 22) (h : wqJ5_length (gS G) o N F A Q) : jCall G l d mJ5_length [vR (o : Int)] N F A (jpI N F A Q) := by
  unfold wqJ5_length at h
  refine jCall.of (by decide) rfl (ls := [vR (o : Int)]) (by simp only [jent_R, jent_I, jent_L, jent_nil]; exact Nat.le_of_ble_eq_true rfl) (by simp only [jloc, jent_R, jent_I, jent_L, jent_nil]; rfl) ?_
  refine r_aload_n dJ5_length_0 rfl ?_
  refine r_gRF dJ5_length_1 flJ5_9_22 rfl ht rfl ?_
  obtain ⟨b1, hz2, h⟩ := h
  obtain ⟨t3, h⟩ := h
  refine r_alen dJ5_length_4 hz2 t3 rfl ?_
  refine r_aload_n dJ5_length_5 rfl ?_
  obtain ⟨P4, hp5, h⟩ := h
  refine r_invV (ci := 22) (As := []) (rest := [vI (jln N b1 : Int)]) dJ5_length_6 lkJ5_335 rfl ht rfl rfl (vJ5_coder (d := 2) (Nat.le_of_ble_eq_true rfl) hW ht  hp5) rfl rfl (Nat.le_of_ble_eq_true rfl) (Nat.le_trans (Nat.le_of_ble_eq_true rfl) hd) (jkpY fun z6 p9 r10 => ?_)
  have h := h z6 p9
  obtain ⟨r11, h⟩ := h
  obtain ⟨c12, h⟩ := h
  refine j_ishr dJ5_length_9 r11 c12 ?_
  exact j_iret dJ5_length_10 rfl ⟨_, rfl, rfl, rfl, rfl, h, (jR_shr r11)⟩
/-- java/lang/StringUTF16.getChar([BI)C -/
def wqJ6_getChar (S : Nat → Nat) (a1 : Int) (a2 : Int) (N : jSh) (F : jFl) (A : jAr) (Q : Int → Prop) : Prop :=
  ∃ K3 : Prop, (
    K3  →
    jR (a2 * 2 ^ 1) ∧
    ∀ v7 : Int, v7 = a2 * 2 ^ 1 →
    jR (v7 + 1) ∧
    ∃ b9 : Nat, a1 = (b9 : Int) ∧
    jtg N b9 = 108 ∧
    ((0 : Int) ≤ v7 ∧ (v7 : Int) < (jln N b9 : Int)) ∧
    ((0 : Int) ≤ v7 + 1 ∧ (v7 + 1 : Int) < (jln N b9 : Int)) ∧
    (((0 : Int) ≤ ((A b9 v7) % 256) * 2 ^ 0 ∧ (((A b9 v7) % 256) * 2 ^ 0 : Int) ≤ 2147483647) ∧ ((0 : Int) ≤ ((A b9 (v7 + 1)) % 256) * 2 ^ 8 ∧ (((A b9 (v7 + 1)) % 256) * 2 ^ 8 : Int) ≤ 2147483647)) ∧
    (0 ≤ jor (((A b9 v7) % 256) * 2 ^ 0) (((A b9 (v7 + 1)) % 256) * 2 ^ 8) ∧ jor (((A b9 v7) % 256) * 2 ^ 0) (((A b9 (v7 + 1)) % 256) * 2 ^ 8) ≤ 65535) ∧
    Q (jor (((A b9 v7) % 256) * 2 ^ 0) (((A b9 (v7 + 1)) % 256) * 2 ^ 8))) ∧
  ((¬ (1 : Int) = 0) →
    K3 ) ∧
  (((1 : Int) = 0) →
    ((a2 < 0) →
      False) ∧
    ((¬ (a2 < 0)) →
      ∃ (P17 : Int → Prop), wqJ6_length a1 N F A P17 ∧
      ∀ z19, P17 z19 →
      ((a2 < z19) →
        K3 ) ∧
      ((¬ (a2 < z19)) →
        False)))
theorem vJ6_getChar {G : jG} {l : Launch} {d : Nat} {N : jSh} {F : jFl} {A : jAr} {a1 a2 : Int} {Q : Int → Prop} (hd : 3 ≤ d) (hW : jWg G N F A) (ra2 : jR a2) (h : wqJ6_getChar (gS G) a1 a2 N F A Q) : jCall G l d mJ6_getChar [vR a1, vI a2] N F A (jpC N F A Q) := by
  unfold wqJ6_getChar at h
  refine jCall.of (by decide) rfl (ls := [vR a1, vI a2]) (by simp only [jent_R, jent_I, jent_L, jent_nil]; exact Nat.le_of_ble_eq_true rfl) (by simp only [jloc, jent_R, jent_I, jent_L, jent_nil]; rfl) ?_
  refine r_gets (q := ("java/lang/StringUTF16", "$assertionsDisabled", "Z", 1001)) (v := vI 1) dJ6_getChar_0 (List.mem_of_elem_eq_true (by decide +kernel)) q785 rfl ?_
  obtain ⟨K3, hK5, h⟩ := h
  have jn4 : K3  → J G l d mJ6_getChar 28 [vR a1, vI a2] [] N F A (jpC N F A Q) := by
    intro   h
    have h := hK5  h
    refine j_iload_n dJ6_getChar_28 rfl ?_
    refine j_iconst dJ6_getChar_29 ?_
    refine j_ishl dJ6_getChar_30 (by decide) ?_
    obtain ⟨r6, h⟩ := h
    obtain ⟨v7, ev7⟩ : ∃ x : Int, x = a2 * 2 ^ 1 := ⟨_, rfl⟩
    have h := h v7 ev7
    refine jnmI (e := ev7) ?_
    refine j_istore_n dJ6_getChar_31 (jokR rfl (Nat.le_of_ble_eq_true rfl)) ?_
    refine r_aload_n dJ6_getChar_32 rfl ?_
    refine j_iload_n dJ6_getChar_33 rfl ?_
    obtain ⟨r8, h⟩ := h
    refine j_iinc dJ6_getChar_34 rfl (jokR rfl (Nat.le_of_ble_eq_true rfl)) ?_
    obtain ⟨b9, hz10, h⟩ := h
    obtain ⟨t11, h⟩ := h
    obtain ⟨c12, h⟩ := h
    refine r_bald dJ6_getChar_37 hz10 t11 c12 ?_
    refine j_sipush dJ6_getChar_38 ?_
    refine j_iand 8 (by decide) (by decide +kernel) dJ6_getChar_41 ?_
    rw [show ((2 ^ 8 : Nat) : Int) = 256 from rfl]
    refine r_gets (q := ("java/lang/StringUTF16", "HI_BYTE_SHIFT", "I", 1000)) (v := vI 0) dJ6_getChar_42 (List.mem_of_elem_eq_true (by decide +kernel)) q790 rfl ?_
    refine j_ishl dJ6_getChar_45 (by decide) ?_
    refine r_aload_n dJ6_getChar_46 rfl ?_
    refine j_iload_n dJ6_getChar_47 rfl ?_
    obtain ⟨c13, h⟩ := h
    refine r_bald dJ6_getChar_48 hz10 t11 c13 ?_
    refine j_sipush dJ6_getChar_49 ?_
    refine j_iand 8 (by decide) (by decide +kernel) dJ6_getChar_52 ?_
    rw [show ((2 ^ 8 : Nat) : Int) = 256 from rfl]
    refine r_gets (q := ("java/lang/StringUTF16", "LO_BYTE_SHIFT", "I", 1008)) (v := vI 8) dJ6_getChar_53 (List.mem_of_elem_eq_true (by decide +kernel)) q792 rfl ?_
    refine j_ishl dJ6_getChar_56 (by decide) ?_
    obtain ⟨c14, h⟩ := h
    refine j_ior dJ6_getChar_57 c14.1 c14.2 ?_
    obtain ⟨c15, h⟩ := h
    refine r_i2c dJ6_getChar_58 c15 ?_
    exact j_zret dJ6_getChar_59 rfl (nr_char c15) ⟨_, rfl, rfl, rfl, rfl, h, c15⟩
  obtain ⟨h1, h2⟩ := h
  refine j_if_ne 28 dJ6_getChar_3 rfl (by decide) (fun q1 => ?_) (fun q1 => ?_)
  · have h := h1 q1
    clear h1 h2
    exact J.wk (((jWk.nil).eq).eq) (jn4   h)
  · have h := h2 (Classical.not_not.mp q1)
    clear h1 h2
    refine j_iload_n dJ6_getChar_6 rfl ?_
    obtain ⟨h1, h2⟩ := h
    refine j_if_lt 18 dJ6_getChar_7 rfl ra2 (fun q16 => ?_) (fun q16 => ?_)
    · have h := h1 q16
      clear h1 h2
      exact h.elim
    · have h := h2 q16
      clear h1 h2
      refine j_iload_n dJ6_getChar_10 rfl ?_
      refine r_aload_n dJ6_getChar_11 rfl ?_
      obtain ⟨P17, hp18, h⟩ := h
      refine r_invS (As := [vR a1]) (rest := [vI a2]) dJ6_getChar_12 lkJ6_48 (vJ6_length (d := 2) (Nat.le_of_ble_eq_true rfl) hW  hp18) rfl rfl (Nat.le_of_ble_eq_true rfl) (Nat.le_trans (Nat.le_of_ble_eq_true rfl) hd) (jkpI fun z19 p22 r23 => ?_)
      have h := h z19 p22
      obtain ⟨h1, h2⟩ := h
      refine j_icmp_lt 28 dJ6_getChar_15 rfl ra2 r23 (fun q24 => ?_) (fun q24 => ?_)
      · have h := h1 q24
        clear h1 h2
        exact J.wk (((jWk.nil).eq).eq) (jn4   h)
      · have h := h2 q24
        clear h1 h2
        exact h.elim
/-- java/lang/StringUTF16.newBytesFor(I)[B -/
def wqJ6_newBytesFor (S : Nat → Nat) (a1 : Int) (N : jSh) (F : jFl) (A : jAr) (Q : Int → jSh → jFl → jAr → Prop) : Prop :=
  ∃ (P1 : Int → Prop), wqJ6_newBytesLength S a1 N F A P1 ∧
  ∀ z3, P1 z3 →
  ∃ n16 : Nat, z3 = (n16 : Int) ∧ n16 ≤ 1000000 ∧
  ∀ (b8 : Nat) (N9 : jSh) (F10 : jFl) (A11 : jAr), b8 = jnx N → N9 = jnew N 108 n16 n16 1 → F10 = nwF N F → A11 = nwA N 108 A →
  Q (b8 : Int) N9 F10 A11
theorem vJ6_newBytesFor {G : jG} {l : Launch} {d : Nat} {N : jSh} {F : jFl} {A : jAr} {a1 : Int} {Q : Int → jSh → jFl → jAr → Prop} (hd : 3 ≤ d) (hW : jWg G N F A) (ra1 : jR a1) (h : wqJ6_newBytesFor (gS G) a1 N F A Q) : jCall G l d mJ6_newBytesFor [vI a1] N F A (cnR G N Q) := by
  unfold wqJ6_newBytesFor at h
  refine jCall.of (by decide) rfl (ls := [vI a1]) (by simp only [jent_R, jent_I, jent_L, jent_nil]; exact Nat.le_of_ble_eq_true rfl) (by simp only [jloc, jent_R, jent_I, jent_L, jent_nil]; rfl) ?_
  refine j_iload_n dJ6_newBytesFor_0 rfl ?_
  obtain ⟨P1, hp2, h⟩ := h
  refine r_invS (As := [vI a1]) (rest := []) dJ6_newBytesFor_1 lkJ6_11 (vJ6_newBytesLength (d := 2) (Nat.le_of_ble_eq_true rfl) hW ra1 hp2) rfl rfl (Nat.le_of_ble_eq_true rfl) (Nat.le_trans (Nat.le_of_ble_eq_true rfl) hd) (jkpI fun z3 p6 r7 => ?_)
  have h := h z3 p6
  obtain ⟨n16, hn17, hl18, h⟩ := h
  refine c_newa (t := 108) (n := n16) hW dJ6_newBytesFor_4 rfl rfl rfl (fun _ h => by cases h) q520 (by decide) hn17 hl18 fun b8 N9 F10 A11 eb8 eN9 eF10 eA11 t12 w13 hT14 hW15 => ?_
  have h := h b8 N9 F10 A11 eb8 eN9 eF10 eA11
  exact r_aret dJ6_newBytesFor_6 rfl (Or.inr ⟨_, rfl⟩) ⟨_, rfl, hW15, hT14, h, trivial⟩
/-- java/lang/StringUTF16.putChar([BII)V -/
def wqJ6_putChar (S : Nat → Nat) (a1 : Int) (a2 : Int) (a3 : Int) (N : jSh) (F : jFl) (A : jAr) (Q : jFl → jAr → Prop) : Prop :=
  ∃ K3 : Prop, (
    K3  →
    jR (a2 * 2 ^ 1) ∧
    ∀ v7 : Int, v7 = a2 * 2 ^ 1 →
    jR (v7 + 1) ∧
    ∃ b9 : Nat, a1 = (b9 : Int) ∧
    jtg N b9 = 108 ∧
    jfn N 0 b9 = 1 ∧
    ((0 : Int) ≤ v7 ∧ (v7 : Int) < (jln N b9 : Int)) ∧
    ∀ A14 : jAr, A14 = upA A b9 v7 (jby (a3 / 2 ^ 0)) →
    ((0 : Int) ≤ v7 + 1 ∧ (v7 + 1 : Int) < (jln N b9 : Int)) ∧
    ∀ A17 : jAr, A17 = upA A14 b9 (v7 + 1) (jby (a3 / 2 ^ 8)) →
    Q F A17) ∧
  ((¬ (1 : Int) = 0) →
    K3 ) ∧
  (((1 : Int) = 0) →
    ((a2 < 0) →
      False) ∧
    ((¬ (a2 < 0)) →
      ∃ (P20 : Int → Prop), wqJ6_length a1 N F A P20 ∧
      ∀ z22, P20 z22 →
      ((a2 < z22) →
        K3 ) ∧
      ((¬ (a2 < z22)) →
        False)))
theorem vJ6_putChar {G : jG} {l : Launch} {d : Nat} {N : jSh} {F : jFl} {A : jAr} {a1 a2 a3 : Int} {Q : jFl → jAr → Prop} (hd : 3 ≤ d) (hW : jWg G N F A) (ra2 : jR a2) (ra3 : jR a3) (h : wqJ6_putChar (gS G) a1 a2 a3 N F A Q) : jCall G l d mJ6_putChar [vR a1, vI a2, vI a3] N F A (cmV G N Q) := by
  unfold wqJ6_putChar at h
  refine jCall.of (by decide) rfl (ls := [vR a1, vI a2, vI a3]) (by simp only [jent_R, jent_I, jent_L, jent_nil]; exact Nat.le_of_ble_eq_true rfl) (by simp only [jloc, jent_R, jent_I, jent_L, jent_nil]; rfl) ?_
  refine r_gets (q := ("java/lang/StringUTF16", "$assertionsDisabled", "Z", 1001)) (v := vI 1) dJ6_putChar_0 (List.mem_of_elem_eq_true (by decide +kernel)) q785 rfl ?_
  obtain ⟨K3, hK5, h⟩ := h
  have jn4 : K3  → J G l d mJ6_putChar 28 [vR a1, vI a2, vI a3] [] N F A (cmV G N Q) := by
    intro   h
    have h := hK5  h
    refine j_iload_n dJ6_putChar_28 rfl ?_
    refine j_iconst dJ6_putChar_29 ?_
    refine j_ishl dJ6_putChar_30 (by decide) ?_
    obtain ⟨r6, h⟩ := h
    obtain ⟨v7, ev7⟩ : ∃ x : Int, x = a2 * 2 ^ 1 := ⟨_, rfl⟩
    have h := h v7 ev7
    refine jnmI (e := ev7) ?_
    refine j_istore_n dJ6_putChar_31 (jokR rfl (Nat.le_of_ble_eq_true rfl)) ?_
    refine r_aload_n dJ6_putChar_32 rfl ?_
    refine j_iload_n dJ6_putChar_33 rfl ?_
    obtain ⟨r8, h⟩ := h
    refine j_iinc dJ6_putChar_34 rfl (jokR rfl (Nat.le_of_ble_eq_true rfl)) ?_
    refine j_iload_n dJ6_putChar_37 rfl ?_
    refine r_gets (q := ("java/lang/StringUTF16", "HI_BYTE_SHIFT", "I", 1000)) (v := vI 0) dJ6_putChar_38 (List.mem_of_elem_eq_true (by decide +kernel)) q790 rfl ?_
    refine j_ishr dJ6_putChar_41 ra3 (by decide) ?_
    refine r_i2b dJ6_putChar_42 (jR_shr ra3) ?_
    obtain ⟨b9, hz10, h⟩ := h
    obtain ⟨t11, h⟩ := h
    obtain ⟨w12, h⟩ := h
    obtain ⟨c13, h⟩ := h
    refine c_bast hW dJ6_putChar_43 hz10 t11 w12 c13 (jR_y (jby_R _)) (jby_R _) fun A14 eA14 hW15 => ?_
    have h := h A14 eA14
    refine r_aload_n dJ6_putChar_44 rfl ?_
    refine j_iload_n dJ6_putChar_45 rfl ?_
    refine j_iload_n dJ6_putChar_46 rfl ?_
    refine r_gets (q := ("java/lang/StringUTF16", "LO_BYTE_SHIFT", "I", 1008)) (v := vI 8) dJ6_putChar_47 (List.mem_of_elem_eq_true (by decide +kernel)) q792 rfl ?_
    refine j_ishr dJ6_putChar_50 ra3 (by decide) ?_
    refine r_i2b dJ6_putChar_51 (jR_shr ra3) ?_
    obtain ⟨c16, h⟩ := h
    refine c_bast hW15 dJ6_putChar_52 hz10 t11 w12 c16 (jR_y (jby_R _)) (jby_R _) fun A17 eA17 hW18 => ?_
    have h := h A17 eA17
    exact j_vret dJ6_putChar_53 rfl ⟨rfl, rfl, hW18, h⟩
  obtain ⟨h1, h2⟩ := h
  refine j_if_ne 28 dJ6_putChar_3 rfl (by decide) (fun q1 => ?_) (fun q1 => ?_)
  · have h := h1 q1
    clear h1 h2
    exact J.wk ((((jWk.nil).eq).eq).eq) (jn4   h)
  · have h := h2 (Classical.not_not.mp q1)
    clear h1 h2
    refine j_iload_n dJ6_putChar_6 rfl ?_
    obtain ⟨h1, h2⟩ := h
    refine j_if_lt 18 dJ6_putChar_7 rfl ra2 (fun q19 => ?_) (fun q19 => ?_)
    · have h := h1 q19
      clear h1 h2
      exact h.elim
    · have h := h2 q19
      clear h1 h2
      refine j_iload_n dJ6_putChar_10 rfl ?_
      refine r_aload_n dJ6_putChar_11 rfl ?_
      obtain ⟨P20, hp21, h⟩ := h
      refine r_invS (As := [vR a1]) (rest := [vI a2]) dJ6_putChar_12 lkJ6_48 (vJ6_length (d := 2) (Nat.le_of_ble_eq_true rfl) hW  hp21) rfl rfl (Nat.le_of_ble_eq_true rfl) (Nat.le_trans (Nat.le_of_ble_eq_true rfl) hd) (jkpI fun z22 p25 r26 => ?_)
      have h := h z22 p25
      obtain ⟨h1, h2⟩ := h
      refine j_icmp_lt 28 dJ6_putChar_15 rfl ra2 r26 (fun q27 => ?_) (fun q27 => ?_)
      · have h := h1 q27
        clear h1 h2
        exact J.wk ((((jWk.nil).eq).eq).eq) (jn4   h)
      · have h := h2 q27
        clear h1 h2
        exact h.elim
