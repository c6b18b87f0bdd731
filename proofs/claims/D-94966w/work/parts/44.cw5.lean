set_option maxRecDepth 100000
set_option linter.unusedVariables false
/-! walks of the component and of JDK methods: printed by gen/walkc.py -/
/-- ChildSays$Put.of(LChildSays$Law;)LChildSays$Put; -/
def wqX7_of (o : Nat) (a1 : Int) (N : jSh) (F : jFl) (A : jAr) (Q : Int → jFl → jAr → Prop) : Prop :=
  jfn N 0 o = 1 ∧
  ∀ F3 : jFl, F3 = upF F 2411 o a1 →
  ∀ F5 : jFl, F5 = upF F3 2412 o (-1) →
  ∀ F7 : jFl, F7 = upF F5 2415 o 0 →
  ∃ b8 : Nat, a1 = (b8 : Int) ∧
  jtg N b8 = 17 ∧
  ∃ b11 : Nat, jfn N 2402 o = (b11 : Int) ∧
  jtg N b11 = 4 ∧
  ∃ (P14 : Int → jFl → jAr → Prop), wqX3_like b11 (jfn N 5102 b8) N F7 A P14 ∧
  ∀ z16 F17 A18, P14 z16 F17 A18 →
  ∃ (I27 : Int → jAr → Prop) (m28 : Int → jAr → Nat), I27 0 A18 ∧ ∀ (v23 : Int) (A24 : jAr), I27 v23 A24 →
    ∃ b29 : Nat, jfn N 5102 b8 = (b29 : Int) ∧
    jtg N b29 = 4 ∧
    (((F17 1203 b29) ≤ v23) →
      Q (o : Int) F17 A24) ∧
    ((¬ ((F17 1203 b29) ≤ v23)) →
      ∃ b33 : Nat, jfn N 2405 o = (b33 : Int) ∧
      jtg N b33 = 102 ∧
      jfn N 0 b33 = 1 ∧
      ((0 : Int) ≤ v23 ∧ (v23 : Int) < (jln N b33 : Int)) ∧
      ∀ A38 : jAr, A38 = upA A24 b33 v23 v23 →
      jR (v23 + 1) ∧
      I27 (v23 + 1) A38 ∧ m28 (v23 + 1) A38 < m28 v23 A24)
theorem vX7_of {G : jG} {l : Launch} {d : Nat} {N : jSh} {F : jFl} {A : jAr} {o : Nat} {a1 : Int} {Q : Int → jFl → jAr → Prop} (hd : 4 ≤ d) (hW : jWg G N F A) (ht : jtg N o = 8) (h : wqX7_of o a1 N F A Q) : jCall G l d mX7_of [vR (o : Int), vR a1] N F A (cmR G N Q) := by
  unfold wqX7_of at h
  refine jCall.of (by decide) rfl (ls := [vR (o : Int), vR a1, jD]) (by simp only [jent_R, jent_I, jent_L, jent_nil]; exact Nat.le_of_ble_eq_true rfl) (by simp only [jloc, jent_R, jent_I, jent_L, jent_nil]; rfl) ?_
  refine r_aload_n dX7_of_0 rfl ?_
  refine r_aload_n dX7_of_1 rfl ?_
  obtain ⟨w1, h⟩ := h
  refine c_pR hW dX7_of_2 flX7_29_8 rfl ht w1 rfl (ty := .object "ChildSays$Law") (by decide +kernel) (Or.inl ⟨_, rfl⟩) fun F3 eF3 hW2 => ?_
  have h := h F3 eF3
  refine r_aload_n dX7_of_5 rfl ?_
  refine j_iconst dX7_of_6 ?_
  refine c_pI hW2 dX7_of_7 flX7_33_8 rfl ht w1 rfl (by decide) fun F5 eF5 hW4 => ?_
  have h := h F5 eF5
  refine r_aload_n dX7_of_10 rfl ?_
  refine j_iconst dX7_of_11 ?_
  refine c_pI hW4 dX7_of_12 flX7_37_8 rfl ht w1 rfl (by decide) fun F7 eF7 hW6 => ?_
  have h := h F7 eF7
  refine r_aload_n dX7_of_15 rfl ?_
  refine r_gRF dX7_of_16 flX7_18_8 rfl ht rfl ?_
  refine r_aload_n dX7_of_19 rfl ?_
  obtain ⟨b8, hz9, h⟩ := h
  obtain ⟨t10, h⟩ := h
  refine r_gRF dX7_of_20 flX7_40_17 hz9 t10 rfl ?_
  obtain ⟨b11, hz12, h⟩ := h
  obtain ⟨t13, h⟩ := h
  obtain ⟨P14, hp15, h⟩ := h
  refine r_invV (ci := 4) (As := [vR (jfn N 5102 b8)]) (rest := []) dX7_of_23 lkX7_43 hz12 t13 rfl rfl (vX3_like (d := 3) (Nat.le_of_ble_eq_true rfl) hW6 t13  hp15) rfl rfl (Nat.le_of_ble_eq_true rfl) (Nat.le_trans (Nat.le_of_ble_eq_true rfl) hd) (ckmR fun z16 F17 A18 hW19 p21 r22 => ?_)
  have h := h z16 F17 A18 p21
  refine j_pop dX7_of_26 (vR_cat _) ?_
  refine j_iconst dX7_of_27 ?_
  refine j_istore_n dX7_of_28 (jokR rfl (Nat.le_of_ble_eq_true rfl)) ?_
  obtain ⟨I27, m28, h0, hs⟩ := h
  have lp : ∀ (n : Nat) (v23 : Int) (A24 : jAr), m28 v23 A24 < n → jWg G N F17 A24 → jR v23 → I27 v23 A24 → J G l d mX7_of 29 [vR (o : Int), vR a1, vI v23] [] N F17 A24 (cmR G N Q) := by
    intro nI27
    induction nI27 with
    | zero =>
      intro v23 A24 hmu
      exact absurd hmu (Nat.not_lt_zero _)
    | succ nI27 ihI27 =>
      intro v23 A24 hmuI27 hW25 rv23 hI
      have h := hs v23 A24 hI
      refine j_iload_n dX7_of_29 rfl ?_
      refine r_aload_n dX7_of_30 rfl ?_
      refine r_gRF dX7_of_31 flX7_40_17 hz9 t10 rfl ?_
      obtain ⟨b29, hz30, h⟩ := h
      obtain ⟨t31, h⟩ := h
      refine r_gI dX7_of_34 flX7_47_4 hz30 t31 rfl ?_
      obtain ⟨h1, h2⟩ := h
      refine j_icmp_ge 53 dX7_of_37 rfl rv23 (hW25.fi rfl) (fun q32 => ?_) (fun q32 => ?_)
      · have h := h1 q32
        clear h1 h2
        refine r_aload_n dX7_of_53 rfl ?_
        exact r_aret dX7_of_54 rfl (Or.inl ⟨_, rfl⟩) ⟨_, rfl, rfl, hW25, h, trivial⟩
      · have h := h2 q32
        clear h1 h2
        refine r_aload_n dX7_of_40 rfl ?_
        refine r_gRF dX7_of_41 flX7_22_8 rfl ht rfl ?_
        refine j_iload_n dX7_of_44 rfl ?_
        refine j_iload_n dX7_of_45 rfl ?_
        obtain ⟨b33, hz34, h⟩ := h
        obtain ⟨t35, h⟩ := h
        obtain ⟨w36, h⟩ := h
        obtain ⟨c37, h⟩ := h
        refine c_iast hW25 dX7_of_46 hz34 t35 w36 c37 rv23 fun A38 eA38 hW39 => ?_
        have h := h A38 eA38
        obtain ⟨r40, h⟩ := h
        refine j_iinc dX7_of_47 rfl (jokR rfl (Nat.le_of_ble_eq_true rfl)) ?_
        refine j_goto 29 dX7_of_50 rfl ?_
        exact J.wk ((((jWk.nil).eq).eq).eq) (ihI27 _ _ (Nat.lt_of_lt_of_le h.2 (Nat.le_of_lt_succ hmuI27)) hW39 r40 h.1)
  exact J.wk ((((jWk.nil).eq).eq).eq) (lp _ _ _ (Nat.lt_succ_self _) hW19 (by decide) h0)
/-- java/util/ArrayList.grow(I)[Ljava/lang/Object; -/
def wqJ2_grow_2 (S : Nat → Nat) (o : Nat) (a1 : Int) (N : jSh) (F : jFl) (A : jAr) (Q : Int → jSh → jFl → jAr → Prop) : Prop :=
  ∃ b1 : Nat, F 6002 o = (b1 : Int) ∧
  jtg N b1 = 104 ∧
  jR (jln N b1 : Int) ∧
  ∀ v5 : Int, v5 = (jln N b1 : Int) →
  ((0 < v5) →
    jR (a1 - v5) ∧
    ∃ (P8 : Int → Prop), wqJ12_newLength S v5 (a1 - v5) (v5 / 2 ^ 1) N F A P8 ∧
    ∀ z10, P8 z10 →
    ∃ (P15 : Int → jSh → jFl → jAr → Prop), wqJ14_copyOf S (F 6002 o) z10 N F A P15 ∧
    ∀ z17 N20 F18 A19, P15 z17 N20 F18 A19 →
    jfn N20 0 o = 1 ∧
    ∀ F28 : jFl, F28 = upF F18 6002 o z17 →
    Q z17 N20 F28 A19) ∧
  ((¬ (0 < v5)) →
    (((F 6002 o = (S 19 : Int) ∨ (F 6002 o < 0 ∧ (S 19 : Int) < 0))) →
      ∃ n38 : Nat, (if 10 ≤ a1 then a1 else 10) = (n38 : Int) ∧ n38 ≤ 1000000 ∧
      ∀ (b30 : Nat) (N31 : jSh) (F32 : jFl) (A33 : jAr), b30 = jnx N → N31 = jnew N 104 n38 n38 1 → F32 = nwF N F → A33 = nwA N 104 A →
      jfn N31 0 o = 1 ∧
      ∀ F44 : jFl, F44 = upF F32 6002 o (b30 : Int) →
      Q (b30 : Int) N31 F44 A33) ∧
    ((¬ ((F 6002 o = (S 19 : Int) ∨ (F 6002 o < 0 ∧ (S 19 : Int) < 0)))) →
      jR (a1 - v5) ∧
      ∃ (P46 : Int → Prop), wqJ12_newLength S v5 (a1 - v5) (v5 / 2 ^ 1) N F A P46 ∧
      ∀ z48, P46 z48 →
      ∃ (P53 : Int → jSh → jFl → jAr → Prop), wqJ14_copyOf S (F 6002 o) z48 N F A P53 ∧
      ∀ z55 N58 F56 A57, P53 z55 N58 F56 A57 →
      jfn N58 0 o = 1 ∧
      ∀ F66 : jFl, F66 = upF F56 6002 o z55 →
      Q z55 N58 F66 A57))
theorem vJ2_grow_2 {G : jG} {l : Launch} {d : Nat} {N : jSh} {F : jFl} {A : jAr} {o : Nat} {a1 : Int} {Q : Int → jSh → jFl → jAr → Prop} (hd : 5 ≤ d) (hW : jWg G N F A) (ht : jtg N o = 20) (ra1 : jR a1) (h : wqJ2_grow_2 (gS G) o a1 N F A Q) : jCall G l d mJ2_grow_2 [vR (o : Int), vI a1] N F A (cnR G N Q) := by
  unfold wqJ2_grow_2 at h
  refine jCall.of (by decide) rfl (ls := [vR (o : Int), vI a1, jD, jD]) (by simp only [jent_R, jent_I, jent_L, jent_nil]; exact Nat.le_of_ble_eq_true rfl) (by simp only [jloc, jent_R, jent_I, jent_L, jent_nil]; rfl) ?_
  refine r_aload_n dJ2_grow_2_0 rfl ?_
  refine r_gR dJ2_grow_2_1 flJ2_9_20 rfl ht rfl ?_
  obtain ⟨b1, hz2, h⟩ := h
  obtain ⟨t3, h⟩ := h
  refine r_alen dJ2_grow_2_4 hz2 t3 rfl ?_
  obtain ⟨r4, h⟩ := h
  obtain ⟨v5, ev5⟩ : ∃ x : Int, x = (jln N b1 : Int) := ⟨_, rfl⟩
  have h := h v5 ev5
  refine jnmI (e := ev5) ?_
  refine j_istore_n dJ2_grow_2_5 rfl ?_
  refine j_iload_n dJ2_grow_2_6 rfl ?_
  obtain ⟨h1, h2⟩ := h
  refine j_if_gt 20 dJ2_grow_2_7 rfl (ev5 ▸ r4) (fun q6 => ?_) (fun q6 => ?_)
  · have h := h1 q6
    clear h1 h2
    refine j_iload_n dJ2_grow_2_20 rfl ?_
    refine j_iload_n dJ2_grow_2_21 rfl ?_
    refine j_iload_n dJ2_grow_2_22 rfl ?_
    refine j_isub dJ2_grow_2_23 ?_
    refine j_iload_n dJ2_grow_2_24 rfl ?_
    refine j_iconst dJ2_grow_2_25 ?_
    refine j_ishr dJ2_grow_2_26 (ev5 ▸ r4) (by decide) ?_
    obtain ⟨r7, h⟩ := h
    obtain ⟨P8, hp9, h⟩ := h
    refine r_invS (As := [vI v5, vI (a1 - v5), vI (v5 / 2 ^ 1)]) (rest := []) dJ2_grow_2_27 lkJ2_73 (vJ12_newLength (d := 3) (Nat.le_of_ble_eq_true rfl) hW (ev5 ▸ r4) r7 (jR_shr (ev5 ▸ r4)) hp9) rfl rfl (Nat.le_of_ble_eq_true rfl) (Nat.le_trans (Nat.le_of_ble_eq_true rfl) hd) (jkpI fun z10 p13 r14 => ?_)
    have h := h z10 p13
    refine j_istore_n dJ2_grow_2_30 rfl ?_
    refine r_aload_n dJ2_grow_2_31 rfl ?_
    refine r_aload_n dJ2_grow_2_32 rfl ?_
    refine r_gR dJ2_grow_2_33 flJ2_9_20 rfl ht rfl ?_
    refine j_iload_n dJ2_grow_2_36 rfl ?_
    obtain ⟨P15, hp16, h⟩ := h
    refine r_invS (As := [vR (F 6002 o), vI z10]) (rest := [vR (o : Int)]) dJ2_grow_2_37 lkJ2_66 (vJ14_copyOf (d := 4) (Nat.le_of_ble_eq_true rfl) hW r14 hp16) rfl rfl (Nat.le_of_ble_eq_true rfl) (Nat.le_trans (Nat.le_of_ble_eq_true rfl) hd) (cknR fun z17 N20 F18 A19 hW21 hT22 p23 r24 => ?_)
    have h := h z17 N20 F18 A19 p23
    refine j_dup_x1 dJ2_grow_2_40 (vR_cat _) (vR_cat _) ?_
    have t25 : jtg N20 o = 20 := (hT22.tg hW ht)
    obtain ⟨w26, h⟩ := h
    refine c_pR hW21 dJ2_grow_2_41 flJ2_9_20 rfl t25 w26 rfl (ty := (.array (.object "java/lang/Object"))) (by decide +kernel) (Or.inr ⟨_, rfl⟩) fun F28 eF28 hW27 => ?_
    have h := h F28 eF28
    exact r_aret dJ2_grow_2_44 rfl (Or.inr ⟨_, rfl⟩) ⟨_, rfl, hW27, hT22, h, trivial⟩
  · have h := h2 q6
    clear h1 h2
    refine r_aload_n dJ2_grow_2_10 rfl ?_
    refine r_gR dJ2_grow_2_11 flJ2_9_20 rfl ht rfl ?_
    refine r_gets (q := ("java/util/ArrayList", "DEFAULTCAPACITY_EMPTY_ELEMENTDATA", "[Ljava/lang/Object;", 19)) (v := vR (gS G 19 : Int)) dJ2_grow_2_14 (List.mem_of_elem_eq_true (by decide +kernel)) q208 (vR_nat _).symm ?_
    obtain ⟨h1, h2⟩ := h
    refine r_acmp_eq 45 dJ2_grow_2_17 rfl (fun q29 => ?_) (fun q29 => ?_)
    · have h := h1 q29
      clear h1 h2
      refine r_aload_n dJ2_grow_2_45 rfl ?_
      refine j_bipush dJ2_grow_2_46 ?_
      refine j_iload_n dJ2_grow_2_48 rfl ?_
      refine r_mmax dJ2_grow_2_49 lkJ2_79 (by decide) ra1 (Nat.le_of_ble_eq_true rfl) (Nat.le_trans (Nat.le_of_ble_eq_true rfl) hd) ?_
      obtain ⟨n38, hn39, hl40, h⟩ := h
      refine c_anew (t := 104) (n := n38) hW dJ2_grow_2_52 rfl rfl q1050 (List.mem_of_elem_eq_true (by decide +kernel)) hn39 hl40 fun b30 N31 F32 A33 eb30 eN31 eF32 eA33 t34 w35 hT36 hW37 => ?_
      have h := h b30 N31 F32 A33 eb30 eN31 eF32 eA33
      refine j_dup_x1 dJ2_grow_2_55 (vR_cat _) (vR_cat _) ?_
      have t41 : jtg N31 o = 20 := (hT36.tg hW ht)
      obtain ⟨w42, h⟩ := h
      refine c_pR hW37 dJ2_grow_2_56 flJ2_9_20 rfl t41 w42 rfl (ty := (.array (.object "java/lang/Object"))) (by decide +kernel) (Or.inr ⟨_, rfl⟩) fun F44 eF44 hW43 => ?_
      have h := h F44 eF44
      exact r_aret dJ2_grow_2_59 rfl (Or.inr ⟨_, rfl⟩) ⟨_, rfl, hW43, hT36, h, trivial⟩
    · have h := h2 q29
      clear h1 h2
      refine j_iload_n dJ2_grow_2_20 rfl ?_
      refine j_iload_n dJ2_grow_2_21 rfl ?_
      refine j_iload_n dJ2_grow_2_22 rfl ?_
      refine j_isub dJ2_grow_2_23 ?_
      refine j_iload_n dJ2_grow_2_24 rfl ?_
      refine j_iconst dJ2_grow_2_25 ?_
      refine j_ishr dJ2_grow_2_26 (ev5 ▸ r4) (by decide) ?_
      obtain ⟨r45, h⟩ := h
      obtain ⟨P46, hp47, h⟩ := h
      refine r_invS (As := [vI v5, vI (a1 - v5), vI (v5 / 2 ^ 1)]) (rest := []) dJ2_grow_2_27 lkJ2_73 (vJ12_newLength (d := 3) (Nat.le_of_ble_eq_true rfl) hW (ev5 ▸ r4) r45 (jR_shr (ev5 ▸ r4)) hp47) rfl rfl (Nat.le_of_ble_eq_true rfl) (Nat.le_trans (Nat.le_of_ble_eq_true rfl) hd) (jkpI fun z48 p51 r52 => ?_)
      have h := h z48 p51
      refine j_istore_n dJ2_grow_2_30 rfl ?_
      refine r_aload_n dJ2_grow_2_31 rfl ?_
      refine r_aload_n dJ2_grow_2_32 rfl ?_
      refine r_gR dJ2_grow_2_33 flJ2_9_20 rfl ht rfl ?_
      refine j_iload_n dJ2_grow_2_36 rfl ?_
      obtain ⟨P53, hp54, h⟩ := h
      refine r_invS (As := [vR (F 6002 o), vI z48]) (rest := [vR (o : Int)]) dJ2_grow_2_37 lkJ2_66 (vJ14_copyOf (d := 4) (Nat.le_of_ble_eq_true rfl) hW r52 hp54) rfl rfl (Nat.le_of_ble_eq_true rfl) (Nat.le_trans (Nat.le_of_ble_eq_true rfl) hd) (cknR fun z55 N58 F56 A57 hW59 hT60 p61 r62 => ?_)
      have h := h z55 N58 F56 A57 p61
      refine j_dup_x1 dJ2_grow_2_40 (vR_cat _) (vR_cat _) ?_
      have t63 : jtg N58 o = 20 := (hT60.tg hW ht)
      obtain ⟨w64, h⟩ := h
      refine c_pR hW59 dJ2_grow_2_41 flJ2_9_20 rfl t63 w64 rfl (ty := (.array (.object "java/lang/Object"))) (by decide +kernel) (Or.inr ⟨_, rfl⟩) fun F66 eF66 hW65 => ?_
      have h := h F66 eF66
      exact r_aret dJ2_grow_2_44 rfl (Or.inr ⟨_, rfl⟩) ⟨_, rfl, hW65, hT60, h, trivial⟩
/-- java/lang/AbstractStringBuilder.ensureCapacityInternal(I)V -/
def wqJ3_ensureCapacityInternal (S : Nat → Nat) (o : Nat) (a1 : Int) (N : jSh) (F : jFl) (A : jAr) (Q : jSh → jFl → jAr → Prop) : Prop :=
  ∃ b1 : Nat, F 7202 o = (b1 : Int) ∧
  jtg N b1 = 108 ∧
  jR (jln N b1 : Int) ∧
  ((0 : Int) ≤ F 7203 o ∧ (F 7203 o : Int) < 32) ∧
  ∀ v6 : Int, v6 = (jln N b1 : Int) / 2 ^ (F 7203 o).toNat →
  jR (a1 - v6) ∧
  (((a1 - v6) ≤ 0) →
    Q N F A) ∧
  ((¬ ((a1 - v6) ≤ 0)) →
    ∃ (P9 : Int → Prop), wqJ3_newCapacity S o a1 N F A P9 ∧
    ∀ z11, P9 z11 →
    ((0 : Int) ≤ F 7203 o ∧ (F 7203 o : Int) < 32) ∧
    jR (z11 * 2 ^ (F 7203 o).toNat) ∧
    ∃ (P18 : Int → jSh → jFl → jAr → Prop), wqJ14_copyOf_3 (F 7202 o) (z11 * 2 ^ (F 7203 o).toNat) N F A P18 ∧
    ∀ z20 N23 F21 A22, P18 z20 N23 F21 A22 →
    jfn N23 0 o = 1 ∧
    ∀ F31 : jFl, F31 = upF F21 7202 o z20 →
    Q N23 F31 A22)
theorem vJ3_ensureCapacityInternal {G : jG} {l : Launch} {d : Nat} {N : jSh} {F : jFl} {A : jAr} {o : Nat} {a1 : Int} {Q : jSh → jFl → jAr → Prop} (hd : 5 ≤ d) (hW : jWg G N F A) (ht : jtg N o = 21) (ra1 : jR a1) (h : wqJ3_ensureCapacityInternal (gS G) o a1 N F A Q) : jCall G l d mJ3_ensureCapacityInternal [vR (o : Int), vI a1] N F A (cnV G N Q) := by
  unfold wqJ3_ensureCapacityInternal at h
  refine jCall.of (by decide) rfl (ls := [vR (o : Int), vI a1, jD]) (by simp only [jent_R, jent_I, jent_L, jent_nil]; exact Nat.le_of_ble_eq_true rfl) (by simp only [jloc, jent_R, jent_I, jent_L, jent_nil]; rfl) ?_
  refine r_aload_n dJ3_ensureCapacityInternal_0 rfl ?_
  refine r_gR dJ3_ensureCapacityInternal_1 flJ3_15_21 rfl ht rfl ?_
  obtain ⟨b1, hz2, h⟩ := h
  obtain ⟨t3, h⟩ := h
  refine r_alen dJ3_ensureCapacityInternal_4 hz2 t3 rfl ?_
  refine r_aload_n dJ3_ensureCapacityInternal_5 rfl ?_
  refine r_gI dJ3_ensureCapacityInternal_6 flJ3_22_21 rfl ht rfl ?_
  obtain ⟨r4, h⟩ := h
  obtain ⟨c5, h⟩ := h
  refine j_ishr dJ3_ensureCapacityInternal_9 r4 c5 ?_
  obtain ⟨v6, ev6⟩ : ∃ x : Int, x = (jln N b1 : Int) / 2 ^ (F 7203 o).toNat := ⟨_, rfl⟩
  have h := h v6 ev6
  refine jnmI (e := ev6) ?_
  refine j_istore_n dJ3_ensureCapacityInternal_10 rfl ?_
  refine j_iload_n dJ3_ensureCapacityInternal_11 rfl ?_
  refine j_iload_n dJ3_ensureCapacityInternal_12 rfl ?_
  refine j_isub dJ3_ensureCapacityInternal_13 ?_
  obtain ⟨r7, h⟩ := h
  obtain ⟨h1, h2⟩ := h
  refine j_if_le 38 dJ3_ensureCapacityInternal_14 rfl r7 (fun q8 => ?_) (fun q8 => ?_)
  · have h := h1 q8
    clear h1 h2
    exact j_vret dJ3_ensureCapacityInternal_38 rfl ⟨rfl, hW, (jTx.refl N), h⟩
  · have h := h2 q8
    clear h1 h2
    refine r_aload_n dJ3_ensureCapacityInternal_17 rfl ?_
    refine r_aload_n dJ3_ensureCapacityInternal_18 rfl ?_
    refine r_gR dJ3_ensureCapacityInternal_19 flJ3_15_21 rfl ht rfl ?_
    refine r_aload_n dJ3_ensureCapacityInternal_22 rfl ?_
    refine j_iload_n dJ3_ensureCapacityInternal_23 rfl ?_
    obtain ⟨P9, hp10, h⟩ := h
    refine r_invP (ci := 21) (As := [vI a1]) (rest := [vR (F 7202 o), vR (o : Int)]) dJ3_ensureCapacityInternal_24 lkPJ3_104 rfl ht rfl (vJ3_newCapacity (d := 4) (Nat.le_of_ble_eq_true rfl) hW ht ra1 hp10) rfl rfl (Nat.le_of_ble_eq_true rfl) (Nat.le_trans (Nat.le_of_ble_eq_true rfl) hd) (jkpI fun z11 p14 r15 => ?_)
    have h := h z11 p14
    refine r_aload_n dJ3_ensureCapacityInternal_27 rfl ?_
    refine r_gI dJ3_ensureCapacityInternal_28 flJ3_22_21 rfl ht rfl ?_
    obtain ⟨c16, h⟩ := h
    refine j_ishl dJ3_ensureCapacityInternal_31 c16 ?_
    obtain ⟨r17, h⟩ := h
    obtain ⟨P18, hp19, h⟩ := h
    refine r_invS (As := [vR (F 7202 o), vI (z11 * 2 ^ (F 7203 o).toNat)]) (rest := [vR (o : Int)]) dJ3_ensureCapacityInternal_32 lkJ3_108 (vJ14_copyOf_3 (d := 3) (Nat.le_of_ble_eq_true rfl) hW r17 hp19) rfl rfl (Nat.le_of_ble_eq_true rfl) (Nat.le_trans (Nat.le_of_ble_eq_true rfl) hd) (cknR fun z20 N23 F21 A22 hW24 hT25 p26 r27 => ?_)
    have h := h z20 N23 F21 A22 p26
    have t28 : jtg N23 o = 21 := (hT25.tg hW ht)
    obtain ⟨w29, h⟩ := h
    refine c_pR hW24 dJ3_ensureCapacityInternal_35 flJ3_15_21 rfl t28 w29 rfl (ty := (.array .byte)) (by decide +kernel) (Or.inr ⟨_, rfl⟩) fun F31 eF31 hW30 => ?_
    have h := h F31 eF31
    exact j_vret dJ3_ensureCapacityInternal_38 rfl ⟨rfl, hW30, hT25, h⟩
/-- java/lang/StringBuilder.charAt(I)C -/
def wqJ4_charAt (S : Nat → Nat) (o : Nat) (a1 : Int) (N : jSh) (F : jFl) (A : jAr) (Q : Int → Prop) : Prop :=
  ∃ (P1 : Int → Prop), wqJ3_charAt S o a1 N F A P1 ∧
  ∀ z3, P1 z3 →
  Q z3
theorem vJ4_charAt {G : jG} {l : Launch} {d : Nat} {N : jSh} {F : jFl} {A : jAr} {o : Nat} {a1 : Int} {Q : Int → Prop} (hd : 5 ≤ d) (hW : jWg G N F A) (ht : jtg N o = 21) (ra1 : jR a1) (h : wqJ4_charAt (gS G) o a1 N F A Q) : jCall G l d mJ4_charAt [vR (o : Int), vI a1] N F A (jpC N F A Q) := by
  unfold wqJ4_charAt at h
  refine jCall.of (by decide) rfl (ls := [vR (o : Int), vI a1]) (by simp only [jent_R, jent_I, jent_L, jent_nil]; exact Nat.le_of_ble_eq_true rfl) (by simp only [jloc, jent_R, jent_I, jent_L, jent_nil]; rfl) ?_
  refine r_aload_n dJ4_charAt_0 rfl ?_
  refine j_iload_n dJ4_charAt_1 rfl ?_
  obtain ⟨P1, hp2, h⟩ := h
  refine r_invSU (ci := 21) (As := [vI a1]) (rest := []) dJ4_charAt_2 lkSUJ4_329 rfl ht rfl (vJ3_charAt (d := 4) (Nat.le_of_ble_eq_true rfl) hW ht ra1 hp2) rfl rfl (Nat.le_of_ble_eq_true rfl) (Nat.le_trans (Nat.le_of_ble_eq_true rfl) hd) (jkpC fun z3 p6 r7 => ?_)
  have h := h z3 p6
  exact j_zret dJ4_charAt_5 rfl (nr_char r7) ⟨_, rfl, rfl, rfl, rfl, h, r7⟩
/-- java/lang/StringBuilder.<init>()V -/
def wqJ4_init (S : Nat → Nat) (o : Nat) (N : jSh) (F : jFl) (A : jAr) (Q : jSh → jFl → jAr → Prop) : Prop :=
  ∃ (P1 : jSh → jFl → jAr → Prop), wqJ3_init S o 16 N F A P1 ∧
  ∀ N6 F4 A5, P1 N6 F4 A5 →
  Q N6 F4 A5
theorem vJ4_init {G : jG} {l : Launch} {d : Nat} {N : jSh} {F : jFl} {A : jAr} {o : Nat} {Q : jSh → jFl → jAr → Prop} (hd : 5 ≤ d) (hW : jWg G N F A) (ht : jtg N o = 21) (h : wqJ4_init (gS G) o N F A Q) : jCall G l d mJ4_init [vR (o : Int)] N F A (cnV G N Q) := by
  unfold wqJ4_init at h
  refine jCall.of (by decide) rfl (ls := [vR (o : Int)]) (by simp only [jent_R, jent_I, jent_L, jent_nil]; exact Nat.le_of_ble_eq_true rfl) (by simp only [jloc, jent_R, jent_I, jent_L, jent_nil]; rfl) ?_
  refine r_aload_n dJ4_init_0 rfl ?_
  refine j_bipush dJ4_init_1 ?_
  obtain ⟨P1, hp2, h⟩ := h
  refine r_invI (As := [vI 16]) (rest := []) dJ4_init_3 lkJ4_1 rfl (vJ3_init (d := 4) (Nat.le_of_ble_eq_true rfl) hW ht (by decide) hp2) rfl rfl (Nat.le_of_ble_eq_true rfl) (Nat.le_trans (Nat.le_of_ble_eq_true rfl) hd) (cknV fun N6 F4 A5 hW7 hT8 p9 => ?_)
  have h := h N6 F4 A5 p9
  exact j_vret dJ4_init_6 rfl ⟨rfl, hW7, hT8, h⟩
/-- java/lang/StringUTF16.charAt([BI)C -/
def wqJ6_charAt (S : Nat → Nat) (a1 : Int) (a2 : Int) (N : jSh) (F : jFl) (A : jAr) (Q : Int → Prop) : Prop :=
  ∃ (P1 : Prop), wqJ6_checkIndex S a2 a1 N F A P1 ∧
  (P1 →
  ∃ (P8 : Int → Prop), wqJ6_getChar S a1 a2 N F A P8 ∧
  ∀ z10, P8 z10 →
  Q z10)
theorem vJ6_charAt {G : jG} {l : Launch} {d : Nat} {N : jSh} {F : jFl} {A : jAr} {a1 a2 : Int} {Q : Int → Prop} (hd : 5 ≤ d) (hW : jWg G N F A) (ra2 : jR a2) (h : wqJ6_charAt (gS G) a1 a2 N F A Q) : jCall G l d mJ6_charAt [vR a1, vI a2] N F A (jpC N F A Q) := by
  unfold wqJ6_charAt at h
  refine jCall.of (by decide) rfl (ls := [vR a1, vI a2]) (by simp only [jent_R, jent_I, jent_L, jent_nil]; exact Nat.le_of_ble_eq_true rfl) (by simp only [jloc, jent_R, jent_I, jent_L, jent_nil]; rfl) ?_
  refine j_iload_n dJ6_charAt_0 rfl ?_
  refine r_aload_n dJ6_charAt_1 rfl ?_
  obtain ⟨P1, hp2, h⟩ := h
  refine r_invS (As := [vI a2, vR a1]) (rest := []) dJ6_charAt_2 lkJ6_67 (vJ6_checkIndex (d := 4) (Nat.le_of_ble_eq_true rfl) hW ra2 hp2) rfl rfl (Nat.le_of_ble_eq_true rfl) (Nat.le_trans (Nat.le_of_ble_eq_true rfl) hd) (jkpV fun p6 => ?_)
  have h := h p6
  refine r_aload_n dJ6_charAt_5 rfl ?_
  refine j_iload_n dJ6_charAt_6 rfl ?_
  obtain ⟨P8, hp9, h⟩ := h
  refine r_invS (As := [vR a1, vI a2]) (rest := []) dJ6_charAt_7 lkJ6_71 (vJ6_getChar (d := 3) (Nat.le_of_ble_eq_true rfl) hW ra2 hp9) rfl rfl (Nat.le_of_ble_eq_true rfl) (Nat.le_trans (Nat.le_of_ble_eq_true rfl) hd) (jkpC fun z10 p13 r14 => ?_)
  have h := h z10 p13
  exact j_zret dJ6_charAt_10 rfl (nr_char r14) ⟨_, rfl, rfl, rfl, rfl, h, r14⟩
/-- java/lang/StringUTF16.compress([BI[BII)I -/
def wqJ6_compress_3 (S : Nat → Nat) (a1 : Int) (a2 : Int) (a3 : Int) (a4 : Int) (a5 : Int) (N : jSh) (F : jFl) (A : jAr) (Q : Int → jFl → jAr → Prop) : Prop :=
  ∃ (P1 : Prop), wqJ6_checkBoundsOffCount S a2 a5 a1 N F A P1 ∧
  (P1 →
  ∃ (I14 : Int → Int → Int → jAr → Prop) (m15 : Int → Int → Int → jAr → Nat), I14 a2 a4 0 A ∧ ∀ (v8 : Int) (v9 : Int) (v10 : Int) (A11 : jAr), I14 v8 v9 v10 A11 →
    ((a5 ≤ v10) →
      Q a5 F A11) ∧
    ((¬ (a5 ≤ v10)) →
      ∃ (P17 : Int → Prop), wqJ6_getChar S a1 v8 N F A11 P17 ∧
      ∀ z19, P17 z19 →
      ((z19 ≤ 255) →
        ∃ b25 : Nat, a3 = (b25 : Int) ∧
        jtg N b25 = 108 ∧
        jfn N 0 b25 = 1 ∧
        ((0 : Int) ≤ v9 ∧ (v9 : Int) < (jln N b25 : Int)) ∧
        ∀ A30 : jAr, A30 = upA A11 b25 v9 (jby z19) →
        jR (v8 + 1) ∧
        jR (v9 + 1) ∧
        jR (v10 + 1) ∧
        I14 (v8 + 1) (v9 + 1) (v10 + 1) A30 ∧ m15 (v8 + 1) (v9 + 1) (v10 + 1) A30 < m15 v8 v9 v10 A11) ∧
      ((¬ (z19 ≤ 255)) →
        Q v10 F A11)))
theorem vJ6_compress_3 {G : jG} {l : Launch} {d : Nat} {N : jSh} {F : jFl} {A : jAr} {a1 a2 a3 a4 a5 : Int} {Q : Int → jFl → jAr → Prop} (hd : 5 ≤ d) (hW : jWg G N F A) (ra2 : jR a2) (ra4 : jR a4) (ra5 : jR a5) (h : wqJ6_compress_3 (gS G) a1 a2 a3 a4 a5 N F A Q) : jCall G l d mJ6_compress_3 [vR a1, vI a2, vR a3, vI a4, vI a5] N F A (cmI G N Q) := by
  unfold wqJ6_compress_3 at h
  refine jCall.of (by decide) rfl (ls := [vR a1, vI a2, vR a3, vI a4, vI a5, jD, jD]) (by simp only [jent_R, jent_I, jent_L, jent_nil]; exact Nat.le_of_ble_eq_true rfl) (by simp only [jloc, jent_R, jent_I, jent_L, jent_nil]; rfl) ?_
  refine j_iload_n dJ6_compress_3_0 rfl ?_
  refine j_iload dJ6_compress_3_1 rfl ?_
  refine r_aload_n dJ6_compress_3_3 rfl ?_
  obtain ⟨P1, hp2, h⟩ := h
  refine r_invS (As := [vI a2, vI a5, vR a1]) (rest := []) dJ6_compress_3_4 lkJ6_173 (vJ6_checkBoundsOffCount (d := 4) (Nat.le_of_ble_eq_true rfl) hW ra2 ra5 hp2) rfl rfl (Nat.le_of_ble_eq_true rfl) (Nat.le_trans (Nat.le_of_ble_eq_true rfl) hd) (jkpV fun p6 => ?_)
  have h := h p6
  refine j_iconst dJ6_compress_3_7 ?_
  refine j_istore dJ6_compress_3_8 rfl ?_
  obtain ⟨I14, m15, h0, hs⟩ := h
  have lp : ∀ (n : Nat) (v8 : Int) (v9 : Int) (v10 : Int) (A11 : jAr), m15 v8 v9 v10 A11 < n → jWg G N F A11 → jR v8 → jR v9 → jR v10 → I14 v8 v9 v10 A11 → J G l d mJ6_compress_3 10 [vR a1, vI v8, vR a3, vI v9, vI a5, vI v10, jD] [] N F A11 (cmI G N Q) := by
    intro nI14
    induction nI14 with
    | zero =>
      intro v8 v9 v10 A11 hmu
      exact absurd hmu (Nat.not_lt_zero _)
    | succ nI14 ihI14 =>
      intro v8 v9 v10 A11 hmuI14 hW12 rv8 rv9 rv10 hI
      have h := hs v8 v9 v10 A11 hI
      refine j_iload dJ6_compress_3_10 rfl ?_
      refine j_iload dJ6_compress_3_12 rfl ?_
      obtain ⟨h1, h2⟩ := h
      refine j_icmp_ge 53 dJ6_compress_3_14 rfl rv10 ra5 (fun q16 => ?_) (fun q16 => ?_)
      · have h := h1 q16
        clear h1 h2
        refine j_iload dJ6_compress_3_53 rfl ?_
        exact j_iret dJ6_compress_3_55 rfl ⟨_, rfl, rfl, hW12, h, ra5⟩
      · have h := h2 q16
        clear h1 h2
        refine r_aload_n dJ6_compress_3_17 rfl ?_
        refine j_iload_n dJ6_compress_3_18 rfl ?_
        obtain ⟨P17, hp18, h⟩ := h
        refine r_invS (As := [vR a1, vI v8]) (rest := []) dJ6_compress_3_19 lkJ6_71 (vJ6_getChar (d := 3) (Nat.le_of_ble_eq_true rfl) hW12 rv8 hp18) rfl rfl (Nat.le_of_ble_eq_true rfl) (Nat.le_trans (Nat.le_of_ble_eq_true rfl) hd) (jkpC fun z19 p22 r23 => ?_)
        have h := h z19 p22
        refine j_istore dJ6_compress_3_22 rfl ?_
        refine j_iload dJ6_compress_3_24 rfl ?_
        refine j_sipush dJ6_compress_3_26 ?_
        obtain ⟨h1, h2⟩ := h
        refine j_icmp_le 35 dJ6_compress_3_29 rfl (jR_c r23) (by decide) (fun q24 => ?_) (fun q24 => ?_)
        · have h := h1 q24
          clear h1 h2
          refine r_aload_n dJ6_compress_3_35 rfl ?_
          refine j_iload_n dJ6_compress_3_36 rfl ?_
          refine j_iload dJ6_compress_3_37 rfl ?_
          refine r_i2b dJ6_compress_3_39 (jR_c r23) ?_
          obtain ⟨b25, hz26, h⟩ := h
          obtain ⟨t27, h⟩ := h
          obtain ⟨w28, h⟩ := h
          obtain ⟨c29, h⟩ := h
          refine c_bast hW12 dJ6_compress_3_40 hz26 t27 w28 c29 (jR_y (jby_R _)) (jby_R _) fun A30 eA30 hW31 => ?_
          have h := h A30 eA30
          obtain ⟨r32, h⟩ := h
          refine j_iinc dJ6_compress_3_41 rfl (jokR rfl (Nat.le_of_ble_eq_true rfl)) ?_
          obtain ⟨r33, h⟩ := h
          refine j_iinc dJ6_compress_3_44 rfl (jokR rfl (Nat.le_of_ble_eq_true rfl)) ?_
          obtain ⟨r34, h⟩ := h
          refine j_iinc dJ6_compress_3_47 rfl rfl ?_
          refine j_goto 10 dJ6_compress_3_50 rfl ?_
          exact J.wk ((((((((jWk.nil).no).eq).eq).eq).eq).eq).eq) (ihI14 _ _ _ _ (Nat.lt_of_lt_of_le h.2 (Nat.le_of_lt_succ hmuI14)) hW31 r32 r33 r34 h.1)
        · have h := h2 q24
          clear h1 h2
          refine j_iload dJ6_compress_3_32 rfl ?_
          exact j_iret dJ6_compress_3_34 rfl ⟨_, rfl, rfl, hW12, h, rv10⟩
  exact J.wk ((((((((jWk.nil).no).eq).eq).eq).eq).eq).eq) (lp _ _ _ _ _ (Nat.lt_succ_self _) hW ra2 ra4 (by decide) h0)
/-- java/lang/StringUTF16.inflate([BI[BII)V -/
def wqJ6_inflate (S : Nat → Nat) (a1 : Int) (a2 : Int) (a3 : Int) (a4 : Int) (a5 : Int) (N : jSh) (F : jFl) (A : jAr) (Q : jFl → jAr → Prop) : Prop :=
  ∃ (P1 : Prop), wqJ6_checkBoundsOffCount S a4 a5 a3 N F A P1 ∧
  (P1 →
  ∃ (I15 : Int → Int → Int → jFl → jAr → Prop) (m16 : Int → Int → Int → jFl → jAr → Nat), I15 a2 a4 0 F A ∧ ∀ (v8 : Int) (v9 : Int) (v10 : Int) (F11 : jFl) (A12 : jAr), I15 v8 v9 v10 F11 A12 →
    ((a5 ≤ v10) →
      Q F11 A12) ∧
    ((¬ (a5 ≤ v10)) →
      jR (v9 + 1) ∧
      jR (v8 + 1) ∧
      ∃ b20 : Nat, a1 = (b20 : Int) ∧
      jtg N b20 = 108 ∧
      ((0 : Int) ≤ v8 ∧ (v8 : Int) < (jln N b20 : Int)) ∧
      ∃ (P24 : jFl → jAr → Prop), wqJ6_putChar S a3 v9 ((A12 b20 v8) % 256) N F11 A12 P24 ∧
      ∀ F27 A28, P24 F27 A28 →
      jR (v10 + 1) ∧
      I15 (v8 + 1) (v9 + 1) (v10 + 1) F27 A28 ∧ m16 (v8 + 1) (v9 + 1) (v10 + 1) F27 A28 < m16 v8 v9 v10 F11 A12))
theorem vJ6_inflate {G : jG} {l : Launch} {d : Nat} {N : jSh} {F : jFl} {A : jAr} {a1 a2 a3 a4 a5 : Int} {Q : jFl → jAr → Prop} (hd : 5 ≤ d) (hW : jWg G N F A) (ra2 : jR a2) (ra4 : jR a4) (ra5 : jR a5) (h : wqJ6_inflate (gS G) a1 a2 a3 a4 a5 N F A Q) : jCall G l d mJ6_inflate [vR a1, vI a2, vR a3, vI a4, vI a5] N F A (cmV G N Q) := by
  unfold wqJ6_inflate at h
  refine jCall.of (by decide) rfl (ls := [vR a1, vI a2, vR a3, vI a4, vI a5, jD]) (by simp only [jent_R, jent_I, jent_L, jent_nil]; exact Nat.le_of_ble_eq_true rfl) (by simp only [jloc, jent_R, jent_I, jent_L, jent_nil]; rfl) ?_
  refine j_iload_n dJ6_inflate_0 rfl ?_
  refine j_iload dJ6_inflate_1 rfl ?_
  refine r_aload_n dJ6_inflate_3 rfl ?_
  obtain ⟨P1, hp2, h⟩ := h
  refine r_invS (As := [vI a4, vI a5, vR a3]) (rest := []) dJ6_inflate_4 lkJ6_173 (vJ6_checkBoundsOffCount (d := 4) (Nat.le_of_ble_eq_true rfl) hW ra4 ra5 hp2) rfl rfl (Nat.le_of_ble_eq_true rfl) (Nat.le_trans (Nat.le_of_ble_eq_true rfl) hd) (jkpV fun p6 => ?_)
  have h := h p6
  refine j_iconst dJ6_inflate_7 ?_
  refine j_istore dJ6_inflate_8 rfl ?_
  obtain ⟨I15, m16, h0, hs⟩ := h
  have lp : ∀ (n : Nat) (v8 : Int) (v9 : Int) (v10 : Int) (F11 : jFl) (A12 : jAr), m16 v8 v9 v10 F11 A12 < n → jWg G N F11 A12 → jR v8 → jR v9 → jR v10 → I15 v8 v9 v10 F11 A12 → J G l d mJ6_inflate 10 [vR a1, vI v8, vR a3, vI v9, vI a5, vI v10] [] N F11 A12 (cmV G N Q) := by
    intro nI15
    induction nI15 with
    | zero =>
      intro v8 v9 v10 F11 A12 hmu
      exact absurd hmu (Nat.not_lt_zero _)
    | succ nI15 ihI15 =>
      intro v8 v9 v10 F11 A12 hmuI15 hW13 rv8 rv9 rv10 hI
      have h := hs v8 v9 v10 F11 A12 hI
      refine j_iload dJ6_inflate_10 rfl ?_
      refine j_iload dJ6_inflate_12 rfl ?_
      obtain ⟨h1, h2⟩ := h
      refine j_icmp_ge 41 dJ6_inflate_14 rfl rv10 ra5 (fun q17 => ?_) (fun q17 => ?_)
      · have h := h1 q17
        clear h1 h2
        exact j_vret dJ6_inflate_41 rfl ⟨rfl, rfl, hW13, h⟩
      · have h := h2 q17
        clear h1 h2
        refine r_aload_n dJ6_inflate_17 rfl ?_
        refine j_iload_n dJ6_inflate_18 rfl ?_
        obtain ⟨r18, h⟩ := h
        refine j_iinc dJ6_inflate_19 rfl (jokR rfl (Nat.le_of_ble_eq_true rfl)) ?_
        refine r_aload_n dJ6_inflate_22 rfl ?_
        refine j_iload_n dJ6_inflate_23 rfl ?_
        obtain ⟨r19, h⟩ := h
        refine j_iinc dJ6_inflate_24 rfl (jokR rfl (Nat.le_of_ble_eq_true rfl)) ?_
        obtain ⟨b20, hz21, h⟩ := h
        obtain ⟨t22, h⟩ := h
        obtain ⟨c23, h⟩ := h
        refine r_bald dJ6_inflate_27 hz21 t22 c23 ?_
        refine j_sipush dJ6_inflate_28 ?_
        refine j_iand 8 (by decide) (by decide +kernel) dJ6_inflate_31 ?_
        rw [show ((2 ^ 8 : Nat) : Int) = 256 from rfl]
        obtain ⟨P24, hp25, h⟩ := h
        refine r_invS (As := [vR a3, vI v9, vI ((A12 b20 v8) % 256)]) (rest := []) dJ6_inflate_32 lkJ6_111 (vJ6_putChar (d := 3) (Nat.le_of_ble_eq_true rfl) hW13 rv9 (jR_mod (x := A12 b20 v8) (m := 256) (by decide)) hp25) rfl rfl (Nat.le_of_ble_eq_true rfl) (Nat.le_trans (Nat.le_of_ble_eq_true rfl) hd) (ckmV fun F27 A28 hW29 p31 => ?_)
        have h := h F27 A28 p31
        obtain ⟨r33, h⟩ := h
        refine j_iinc dJ6_inflate_35 rfl rfl ?_
        refine j_goto 10 dJ6_inflate_38 rfl ?_
        exact J.wk (((((((jWk.nil).eq).eq).eq).eq).eq).eq) (ihI15 _ _ _ _ _ (Nat.lt_of_lt_of_le h.2 (Nat.le_of_lt_succ hmuI15)) hW29 r19 r18 r33 h.1)
  exact J.wk (((((((jWk.nil).eq).eq).eq).eq).eq).eq) (lp _ _ _ _ _ _ (Nat.lt_succ_self _) hW ra2 ra4 (by decide) h0)
/-- java/lang/StringUTF16.putCharSB([BII)V -/
def wqJ6_putCharSB (S : Nat → Nat) (a1 : Int) (a2 : Int) (a3 : Int) (N : jSh) (F : jFl) (A : jAr) (Q : jFl → jAr → Prop) : Prop :=
  ∃ (P1 : Prop), wqJ6_checkIndex S a2 a1 N F A P1 ∧
  (P1 →
  ∃ (P8 : jFl → jAr → Prop), wqJ6_putChar S a1 a2 a3 N F A P8 ∧
  ∀ F11 A12, P8 F11 A12 →
  Q F11 A12)
theorem vJ6_putCharSB {G : jG} {l : Launch} {d : Nat} {N : jSh} {F : jFl} {A : jAr} {a1 a2 a3 : Int} {Q : jFl → jAr → Prop} (hd : 5 ≤ d) (hW : jWg G N F A) (ra2 : jR a2) (ra3 : jR a3) (h : wqJ6_putCharSB (gS G) a1 a2 a3 N F A Q) : jCall G l d mJ6_putCharSB [vR a1, vI a2, vI a3] N F A (cmV G N Q) := by
  unfold wqJ6_putCharSB at h
  refine jCall.of (by decide) rfl (ls := [vR a1, vI a2, vI a3]) (by simp only [jent_R, jent_I, jent_L, jent_nil]; exact Nat.le_of_ble_eq_true rfl) (by simp only [jloc, jent_R, jent_I, jent_L, jent_nil]; rfl) ?_
  refine j_iload_n dJ6_putCharSB_0 rfl ?_
  refine r_aload_n dJ6_putCharSB_1 rfl ?_
  obtain ⟨P1, hp2, h⟩ := h
  refine r_invS (As := [vI a2, vR a1]) (rest := []) dJ6_putCharSB_2 lkJ6_67 (vJ6_checkIndex (d := 4) (Nat.le_of_ble_eq_true rfl) hW ra2 hp2) rfl rfl (Nat.le_of_ble_eq_true rfl) (Nat.le_trans (Nat.le_of_ble_eq_true rfl) hd) (jkpV fun p6 => ?_)
  have h := h p6
  refine r_aload_n dJ6_putCharSB_5 rfl ?_
  refine j_iload_n dJ6_putCharSB_6 rfl ?_
  refine j_iload_n dJ6_putCharSB_7 rfl ?_
  obtain ⟨P8, hp9, h⟩ := h
  refine r_invS (As := [vR a1, vI a2, vI a3]) (rest := []) dJ6_putCharSB_8 lkJ6_111 (vJ6_putChar (d := 3) (Nat.le_of_ble_eq_true rfl) hW ra2 ra3 hp9) rfl rfl (Nat.le_of_ble_eq_true rfl) (Nat.le_trans (Nat.le_of_ble_eq_true rfl) hd) (ckmV fun F11 A12 hW13 p15 => ?_)
  have h := h F11 A12 p15
  exact j_vret dJ6_putCharSB_11 rfl ⟨rfl, rfl, hW13, h⟩
/-- ChildSays.book(II)I -/
def wqX0_book (o : Nat) (a1 : Int) (a2 : Int) (N : jSh) (F : jFl) (A : jAr) (Q : Int → Prop) : Prop :=
  ∃ b1 : Nat, F 311 o = (b1 : Int) ∧
  jtg N b1 = 2 ∧
  ∃ b4 : Nat, jfn N 632 b1 = (b4 : Int) ∧
  jtg N b4 = 20 ∧
  ∃ (P7 : Int → Prop), wqJ2_size b4 N F A P7 ∧
  ∀ z9, P7 z9 →
  jR (z9 - 1) ∧
  ∃ (P15 : Int → Prop), wqX0_isIn a1 0 (z9 - 1) N F A P15 ∧
  ∀ z17, P15 z17 →
  ((¬ z17 = 0) →
    ∃ (P23 : Int → Prop), wqJ2_get b4 a1 N F A P23 ∧
    ∀ z25, P23 z25 →
    jcst N "ChildSays$Line" z25 ∧
    (a2 = 0 →
      ∃ b31 : Nat, z25 = (b31 : Int) ∧
      jtg N b31 = 19 ∧
      Q (jfn N 5700 b31)) ∧
    (a2 = 1 →
      ∃ b34 : Nat, z25 = (b34 : Int) ∧
      jtg N b34 = 19 ∧
      Q (jfn N 5703 b34)) ∧
    (a2 = 2 →
      ∃ b37 : Nat, z25 = (b37 : Int) ∧
      jtg N b37 = 19 ∧
      Q (jfn N 5706 b37)) ∧
    (a2 = 3 →
      ∃ b40 : Nat, z25 = (b40 : Int) ∧
      jtg N b40 = 19 ∧
      Q (jfn N 5709 b40)) ∧
    (¬ a2 = 0 → ¬ a2 = 1 → ¬ a2 = 2 → ¬ a2 = 3 →
      Q (-1))) ∧
  ((z17 = 0) →
    Q (-1))
theorem vX0_book {G : jG} {l : Launch} {d : Nat} {N : jSh} {F : jFl} {A : jAr} {o : Nat} {a1 a2 : Int} {Q : Int → Prop} (hd : 5 ≤ d) (hW : jWg G N F A) (ht : jtg N o = 1) (ra1 : jR a1) (ra2 : jR a2) (h : wqX0_book o a1 a2 N F A Q) : jCall G l d mX0_book [vR (o : Int), vI a1, vI a2] N F A (jpI N F A Q) := by
  unfold wqX0_book at h
  refine jCall.of (by decide) rfl (ls := [vR (o : Int), vI a1, vI a2, jD]) (by simp only [jent_R, jent_I, jent_L, jent_nil]; exact Nat.le_of_ble_eq_true rfl) (by simp only [jloc, jent_R, jent_I, jent_L, jent_nil]; rfl) ?_
  refine j_iload_n dX0_book_0 rfl ?_
  refine j_i2l dX0_book_1 ra1 ?_
  refine j_lconst 0 rfl dX0_book_2 ?_
  refine r_aload_n dX0_book_3 rfl ?_
  refine r_gR dX0_book_4 flX0_20_1 rfl ht rfl ?_
  obtain ⟨b1, hz2, h⟩ := h
  obtain ⟨t3, h⟩ := h
  refine r_gRF dX0_book_7 flX0_224_2 hz2 t3 rfl ?_
  obtain ⟨b4, hz5, h⟩ := h
  obtain ⟨t6, h⟩ := h
  obtain ⟨P7, hp8, h⟩ := h
  refine r_invV (ci := 20) (As := []) (rest := [vL 0, vL a1]) dX0_book_10 lkX0_128 hz5 t6 rfl rfl (vJ2_size (d := 2) (Nat.le_of_ble_eq_true rfl) hW t6  hp8) rfl rfl (Nat.le_of_ble_eq_true rfl) (Nat.le_trans (Nat.le_of_ble_eq_true rfl) hd) (jkpI fun z9 p12 r13 => ?_)
  have h := h z9 p12
  refine j_iconst dX0_book_13 ?_
  refine j_isub dX0_book_14 ?_
  obtain ⟨r14, h⟩ := h
  refine j_i2l dX0_book_15 r14 ?_
  obtain ⟨P15, hp16, h⟩ := h
  refine r_invS (As := [vL a1, vL 0, vL (z9 - 1)]) (rest := []) dX0_book_16 lkX0_124 (vX0_isIn (d := 2) (Nat.le_of_ble_eq_true rfl) hW (jR_L ra1) (by decide) (jR_L r14) hp16) rfl rfl (Nat.le_of_ble_eq_true rfl) (Nat.le_trans (Nat.le_of_ble_eq_true rfl) hd) (jkpB fun z17 p20 r21 => ?_)
  have h := h z17 p20
  obtain ⟨h1, h2⟩ := h
  refine j_if_ne 24 dX0_book_19 rfl (jR_b r21) (fun q22 => ?_) (fun q22 => ?_)
  · have h := h1 q22
    clear h1 h2
    refine r_aload_n dX0_book_24 rfl ?_
    refine r_gR dX0_book_25 flX0_20_1 rfl ht rfl ?_
    refine r_gRF dX0_book_28 flX0_224_2 hz2 t3 rfl ?_
    refine j_iload_n dX0_book_31 rfl ?_
    obtain ⟨P23, hp24, h⟩ := h
    refine r_invV (ci := 20) (As := [vI a1]) (rest := []) dX0_book_32 lkX0_132 hz5 t6 rfl rfl (vJ2_get (d := 4) (Nat.le_of_ble_eq_true rfl) hW t6 ra1 hp24) rfl rfl (Nat.le_of_ble_eq_true rfl) (Nat.le_trans (Nat.le_of_ble_eq_true rfl) hd) (jkpR fun z25 p28 r29 => ?_)
    have h := h z25 p28
    obtain ⟨j30, h⟩ := h
    refine r_chk dX0_book_35 q1519 j30 ?_
    refine r_astore_n dX0_book_38 rfl ?_
    refine j_iload_n dX0_book_39 rfl ?_
    obtain ⟨h1, h⟩ := h
    by_cases q43 : a2 = 0
    · refine j_tableIn (off := 32) 72 dX0_book_40 ra2 (by rw [q43]; decide) (by rw [q43]; decide) (by rw [q43]; rfl) rfl ?_
      have h := h1 q43
      clear h1
      refine r_aload_n dX0_book_72 rfl ?_
      obtain ⟨b31, hz32, h⟩ := h
      obtain ⟨t33, h⟩ := h
      refine r_gIF dX0_book_73 flX0_426_19 hz32 t33 rfl ?_
      exact j_iret dX0_book_76 rfl ⟨_, rfl, rfl, rfl, rfl, h, (hW.ni rfl (by decide))⟩
    clear h1
    obtain ⟨h1, h⟩ := h
    by_cases q44 : a2 = 1
    · refine j_tableIn (off := 37) 77 dX0_book_40 ra2 (by rw [q44]; decide) (by rw [q44]; decide) (by rw [q44]; rfl) rfl ?_
      have h := h1 q44
      clear h1
      refine r_aload_n dX0_book_77 rfl ?_
      obtain ⟨b34, hz35, h⟩ := h
      obtain ⟨t36, h⟩ := h
      refine r_gIF dX0_book_78 flX0_427_19 hz35 t36 rfl ?_
      exact j_iret dX0_book_81 rfl ⟨_, rfl, rfl, rfl, rfl, h, (hW.ni rfl (by decide))⟩
    clear h1
    obtain ⟨h1, h⟩ := h
    by_cases q45 : a2 = 2
    · refine j_tableIn (off := 42) 82 dX0_book_40 ra2 (by rw [q45]; decide) (by rw [q45]; decide) (by rw [q45]; rfl) rfl ?_
      have h := h1 q45
      clear h1
      refine r_aload_n dX0_book_82 rfl ?_
      obtain ⟨b37, hz38, h⟩ := h
      obtain ⟨t39, h⟩ := h
      refine r_gIF dX0_book_83 flX0_430_19 hz38 t39 rfl ?_
      exact j_iret dX0_book_86 rfl ⟨_, rfl, rfl, rfl, rfl, h, (hW.ni rfl (by decide))⟩
    clear h1
    obtain ⟨h1, h⟩ := h
    by_cases q46 : a2 = 3
    · refine j_tableIn (off := 47) 87 dX0_book_40 ra2 (by rw [q46]; decide) (by rw [q46]; decide) (by rw [q46]; rfl) rfl ?_
      have h := h1 q46
      clear h1
      refine r_aload_n dX0_book_87 rfl ?_
      obtain ⟨b40, hz41, h⟩ := h
      obtain ⟨t42, h⟩ := h
      refine r_gIF dX0_book_88 flX0_433_19 hz41 t42 rfl ?_
      exact j_iret dX0_book_91 rfl ⟨_, rfl, rfl, rfl, rfl, h, (hW.ni rfl (by decide))⟩
    clear h1
    have h := h q43 q44 q45 q46
    refine j_tableOut 92 dX0_book_40 ra2 (by omega) rfl ?_
    refine j_iconst dX0_book_92 ?_
    exact j_iret dX0_book_93 rfl ⟨_, rfl, rfl, rfl, rfl, h, (by decide)⟩
  · have h := h2 (Classical.not_not.mp q22)
    clear h1 h2
    refine j_iconst dX0_book_22 ?_
    exact j_iret dX0_book_23 rfl ⟨_, rfl, rfl, rfl, rfl, h, (by decide)⟩
/-- ChildSays.byMany(LChildSays$Row;Z)I -/
def wqX0_byMany (o : Nat) (a1 : Int) (a2 : Int) (N : jSh) (F : jFl) (A : jAr) (Q : Int → jFl → jAr → Prop) : Prop :=
  ∃ (I7 : Int → Int → jFl → jAr → Prop) (m8 : Int → Int → jFl → jAr → Nat), I7 0 0 F A ∧ ∀ (v1 : Int) (v2 : Int) (F3 : jFl) (A4 : jAr), I7 v1 v2 F3 A4 →
    ∃ b9 : Nat, F3 311 o = (b9 : Int) ∧
    jtg N b9 = 2 ∧
    ∃ b12 : Nat, jfn N 623 b9 = (b12 : Int) ∧
    jtg N b12 = 20 ∧
    ∃ (P15 : Int → Prop), wqJ2_size b12 N F3 A4 P15 ∧
    ∀ z17, P15 z17 →
    ((z17 ≤ v2) →
      Q v1 F3 A4) ∧
    ((¬ (z17 ≤ v2)) →
      ∃ b23 : Nat, a1 = (b23 : Int) ∧
      jtg N b23 = 4 ∧
      ∃ (P26 : Int → Prop), wqX3_isOne b23 N F3 A4 P26 ∧
      ∀ z28, P26 z28 →
      ((z28 = 0) →
        Q v1 F3 A4) ∧
      ((¬ (z28 = 0)) →
        ∃ (P34 : Int → Prop), wqJ2_get b12 v2 N F3 A4 P34 ∧
        ∀ z36, P34 z36 →
        jcst N "ChildSays$Child" z36 ∧
        ∃ b42 : Nat, z36 = (b42 : Int) ∧
        jtg N b42 = 16 ∧
        ∃ b45 : Nat, jfn N 326 o = (b45 : Int) ∧
        jtg N b45 = 3 ∧
        ∃ (P48 : Int → jFl → jAr → Prop), wqX2_of_2 b45 z36 a1 a2 (F3 4803 b42) N F3 A4 P48 ∧
        ∀ z50 F51 A52, P48 z50 F51 A52 →
        ∃ b57 : Nat, z50 = (b57 : Int) ∧
        jtg N b57 = 3 ∧
        ((¬ (F51 903 b57) = 0) →
          jR (v2 + 1) ∧
          I7 v1 (v2 + 1) F51 A52 ∧ m8 v1 (v2 + 1) F51 A52 < m8 v1 v2 F3 A4) ∧
        (((F51 903 b57) = 0) →
          jR (v1 + 1) ∧
          jR (v2 + 1) ∧
          I7 (v1 + 1) (v2 + 1) F51 A52 ∧ m8 (v1 + 1) (v2 + 1) F51 A52 < m8 v1 v2 F3 A4)))
theorem vX0_byMany {G : jG} {l : Launch} {d : Nat} {N : jSh} {F : jFl} {A : jAr} {o : Nat} {a1 a2 : Int} {Q : Int → jFl → jAr → Prop} (hd : 5 ≤ d) (hW : jWg G N F A) (ht : jtg N o = 1) (ba2 : a2 = 0 ∨ a2 = 1) (h : wqX0_byMany o a1 a2 N F A Q) : jCall G l d mX0_byMany [vR (o : Int), vR a1, vI a2] N F A (cmI G N Q) := by
  unfold wqX0_byMany at h
  refine jCall.of (by decide) rfl (ls := [vR (o : Int), vR a1, vI a2, jD, jD, jD]) (by simp only [jent_R, jent_I, jent_L, jent_nil]; exact Nat.le_of_ble_eq_true rfl) (by simp only [jloc, jent_R, jent_I, jent_L, jent_nil]; rfl) ?_
  refine j_iconst dX0_byMany_0 ?_
  refine j_istore_n dX0_byMany_1 rfl ?_
  refine j_iconst dX0_byMany_2 ?_
  refine j_istore dX0_byMany_3 rfl ?_
  obtain ⟨I7, m8, h0, hs⟩ := h
  have lp : ∀ (n : Nat) (v1 : Int) (v2 : Int) (F3 : jFl) (A4 : jAr), m8 v1 v2 F3 A4 < n → jWg G N F3 A4 → jR v1 → jR v2 → I7 v1 v2 F3 A4 → J G l d mX0_byMany 5 [vR (o : Int), vR a1, vI a2, vI v1, vI v2, jD] [] N F3 A4 (cmI G N Q) := by
    intro nI7
    induction nI7 with
    | zero =>
      intro v1 v2 F3 A4 hmu
      exact absurd hmu (Nat.not_lt_zero _)
    | succ nI7 ihI7 =>
      intro v1 v2 F3 A4 hmuI7 hW5 rv1 rv2 hI
      have h := hs v1 v2 F3 A4 hI
      refine j_iload dX0_byMany_5 rfl ?_
      refine r_aload_n dX0_byMany_7 rfl ?_
      refine r_gR dX0_byMany_8 flX0_20_1 rfl ht rfl ?_
      obtain ⟨b9, hz10, h⟩ := h
      obtain ⟨t11, h⟩ := h
      refine r_gRF dX0_byMany_11 flX0_203_2 hz10 t11 rfl ?_
      obtain ⟨b12, hz13, h⟩ := h
      obtain ⟨t14, h⟩ := h
      obtain ⟨P15, hp16, h⟩ := h
      refine r_invV (ci := 20) (As := []) (rest := [vI v2]) dX0_byMany_14 lkX0_128 hz13 t14 rfl rfl (vJ2_size (d := 2) (Nat.le_of_ble_eq_true rfl) hW5 t14  hp16) rfl rfl (Nat.le_of_ble_eq_true rfl) (Nat.le_trans (Nat.le_of_ble_eq_true rfl) hd) (jkpI fun z17 p20 r21 => ?_)
      have h := h z17 p20
      obtain ⟨h1, h2⟩ := h
      refine j_icmp_ge 75 dX0_byMany_17 rfl rv2 r21 (fun q22 => ?_) (fun q22 => ?_)
      · have h := h1 q22
        clear h1 h2
        refine j_iload_n dX0_byMany_75 rfl ?_
        exact j_iret dX0_byMany_76 rfl ⟨_, rfl, rfl, hW5, h, rv1⟩
      · have h := h2 q22
        clear h1 h2
        refine r_aload_n dX0_byMany_20 rfl ?_
        obtain ⟨b23, hz24, h⟩ := h
        obtain ⟨t25, h⟩ := h
        obtain ⟨P26, hp27, h⟩ := h
        refine r_invV (ci := 4) (As := []) (rest := []) dX0_byMany_21 lkX0_246 hz24 t25 rfl rfl (vX3_isOne (d := 2) (Nat.le_of_ble_eq_true rfl) hW5 t25  hp27) rfl rfl (Nat.le_of_ble_eq_true rfl) (Nat.le_trans (Nat.le_of_ble_eq_true rfl) hd) (jkpB fun z28 p31 r32 => ?_)
        have h := h z28 p31
        obtain ⟨h1, h2⟩ := h
        refine j_if_eq 75 dX0_byMany_24 rfl (jR_b r32) (fun q33 => ?_) (fun q33 => ?_)
        · have h := h1 q33
          clear h1 h2
          refine j_iload_n dX0_byMany_75 rfl ?_
          exact j_iret dX0_byMany_76 rfl ⟨_, rfl, rfl, hW5, h, rv1⟩
        · have h := h2 q33
          clear h1 h2
          refine r_aload_n dX0_byMany_27 rfl ?_
          refine r_gR dX0_byMany_28 flX0_20_1 rfl ht rfl ?_
          refine r_gRF dX0_byMany_31 flX0_203_2 hz10 t11 rfl ?_
          refine j_iload dX0_byMany_34 rfl ?_
          obtain ⟨P34, hp35, h⟩ := h
          refine r_invV (ci := 20) (As := [vI v2]) (rest := []) dX0_byMany_36 lkX0_132 hz13 t14 rfl rfl (vJ2_get (d := 4) (Nat.le_of_ble_eq_true rfl) hW5 t14 rv2 hp35) rfl rfl (Nat.le_of_ble_eq_true rfl) (Nat.le_trans (Nat.le_of_ble_eq_true rfl) hd) (jkpR fun z36 p39 r40 => ?_)
          have h := h z36 p39
          obtain ⟨j41, h⟩ := h
          refine r_chk dX0_byMany_39 q1308 j41 ?_
          refine r_astore dX0_byMany_42 rfl ?_
          refine r_aload_n dX0_byMany_44 rfl ?_
          refine r_gRF dX0_byMany_45 flX0_44_1 rfl ht rfl ?_
          refine r_aload dX0_byMany_48 rfl ?_
          refine r_aload_n dX0_byMany_50 rfl ?_
          refine j_iload_n dX0_byMany_51 rfl ?_
          refine r_aload dX0_byMany_52 rfl ?_
          obtain ⟨b42, hz43, h⟩ := h
          obtain ⟨t44, h⟩ := h
          refine r_gI dX0_byMany_54 flX0_290_16 hz43 t44 rfl ?_
          obtain ⟨b45, hz46, h⟩ := h
          obtain ⟨t47, h⟩ := h
          obtain ⟨P48, hp49, h⟩ := h
          refine r_invV (ci := 3) (As := [vR z36, vR a1, vI a2, vI (F3 4803 b42)]) (rest := []) dX0_byMany_57 lkX0_344 hz46 t47 rfl rfl (vX2_of_2 (d := 4) (Nat.le_of_ble_eq_true rfl) hW5 t47 ba2 (hW5.fi rfl) hp49) rfl rfl (Nat.le_of_ble_eq_true rfl) (Nat.le_trans (Nat.le_of_ble_eq_true rfl) hd) (ckmR fun z50 F51 A52 hW53 p55 r56 => ?_)
          have h := h z50 F51 A52 p55
          obtain ⟨b57, hz58, h⟩ := h
          obtain ⟨t59, h⟩ := h
          refine r_gI dX0_byMany_60 flX0_343_3 hz58 t59 rfl ?_
          obtain ⟨h1, h2⟩ := h
          refine j_if_ne 69 dX0_byMany_63 rfl (hW53.fi rfl) (fun q60 => ?_) (fun q60 => ?_)
          · have h := h1 q60
            clear h1 h2
            obtain ⟨r61, h⟩ := h
            refine j_iinc dX0_byMany_69 rfl rfl ?_
            refine j_goto 5 dX0_byMany_72 rfl ?_
            exact J.wk (((((((jWk.nil).no).eq).eq).eq).eq).eq) (ihI7 _ _ _ _ (Nat.lt_of_lt_of_le h.2 (Nat.le_of_lt_succ hmuI7)) hW53 rv1 r61 h.1)
          · have h := h2 (Classical.not_not.mp q60)
            clear h1 h2
            obtain ⟨r62, h⟩ := h
            refine j_iinc dX0_byMany_66 rfl rfl ?_
            obtain ⟨r63, h⟩ := h
            refine j_iinc dX0_byMany_69 rfl rfl ?_
            refine j_goto 5 dX0_byMany_72 rfl ?_
            exact J.wk (((((((jWk.nil).no).eq).eq).eq).eq).eq) (ihI7 _ _ _ _ (Nat.lt_of_lt_of_le h.2 (Nat.le_of_lt_succ hmuI7)) hW53 r62 r63 h.1)
  exact J.wk (((((((jWk.nil).no).eq).eq).eq).eq).eq) (lp _ _ _ _ _ (Nat.lt_succ_self _) hW (by decide) (by decide) h0)
/-- ChildSays.childOf(I)LChildSays$Child; -/
def wqX0_childOf (o : Nat) (a1 : Int) (N : jSh) (F : jFl) (A : jAr) (Q : Int → Prop) : Prop :=
  ∃ b1 : Nat, F 311 o = (b1 : Int) ∧
  jtg N b1 = 2 ∧
  ∃ b4 : Nat, jfn N 623 b1 = (b4 : Int) ∧
  jtg N b4 = 20 ∧
  ∃ (P7 : Int → Prop), wqJ2_size b4 N F A P7 ∧
  ∀ z9, P7 z9 →
  jR (z9 - 1) ∧
  ∃ (P15 : Int → Prop), wqX0_isIn a1 0 (z9 - 1) N F A P15 ∧
  ∀ z17, P15 z17 →
  ((z17 = 0) →
    Q (-1)) ∧
  ((¬ (z17 = 0)) →
    ∃ (P23 : Int → Prop), wqJ2_get b4 a1 N F A P23 ∧
    ∀ z25, P23 z25 →
    jcst N "ChildSays$Child" z25 ∧
    Q z25)
theorem vX0_childOf {G : jG} {l : Launch} {d : Nat} {N : jSh} {F : jFl} {A : jAr} {o : Nat} {a1 : Int} {Q : Int → Prop} (hd : 5 ≤ d) (hW : jWg G N F A) (ht : jtg N o = 1) (ra1 : jR a1) (h : wqX0_childOf o a1 N F A Q) : jCall G l d mX0_childOf [vR (o : Int), vI a1] N F A (jpR N F A Q) := by
  unfold wqX0_childOf at h
  refine jCall.of (by decide) rfl (ls := [vR (o : Int), vI a1]) (by simp only [jent_R, jent_I, jent_L, jent_nil]; exact Nat.le_of_ble_eq_true rfl) (by simp only [jloc, jent_R, jent_I, jent_L, jent_nil]; rfl) ?_
  refine j_iload_n dX0_childOf_0 rfl ?_
  refine j_i2l dX0_childOf_1 ra1 ?_
  refine j_lconst 0 rfl dX0_childOf_2 ?_
  refine r_aload_n dX0_childOf_3 rfl ?_
  refine r_gR dX0_childOf_4 flX0_20_1 rfl ht rfl ?_
  obtain ⟨b1, hz2, h⟩ := h
  obtain ⟨t3, h⟩ := h
  refine r_gRF dX0_childOf_7 flX0_203_2 hz2 t3 rfl ?_
  obtain ⟨b4, hz5, h⟩ := h
  obtain ⟨t6, h⟩ := h
  obtain ⟨P7, hp8, h⟩ := h
  refine r_invV (ci := 20) (As := []) (rest := [vL 0, vL a1]) dX0_childOf_10 lkX0_128 hz5 t6 rfl rfl (vJ2_size (d := 2) (Nat.le_of_ble_eq_true rfl) hW t6  hp8) rfl rfl (Nat.le_of_ble_eq_true rfl) (Nat.le_trans (Nat.le_of_ble_eq_true rfl) hd) (jkpI fun z9 p12 r13 => ?_)
  have h := h z9 p12
  refine j_iconst dX0_childOf_13 ?_
  refine j_isub dX0_childOf_14 ?_
  obtain ⟨r14, h⟩ := h
  refine j_i2l dX0_childOf_15 r14 ?_
  obtain ⟨P15, hp16, h⟩ := h
  refine r_invS (As := [vL a1, vL 0, vL (z9 - 1)]) (rest := []) dX0_childOf_16 lkX0_124 (vX0_isIn (d := 2) (Nat.le_of_ble_eq_true rfl) hW (jR_L ra1) (by decide) (jR_L r14) hp16) rfl rfl (Nat.le_of_ble_eq_true rfl) (Nat.le_trans (Nat.le_of_ble_eq_true rfl) hd) (jkpB fun z17 p20 r21 => ?_)
  have h := h z17 p20
  obtain ⟨h1, h2⟩ := h
  refine j_if_eq 39 dX0_childOf_19 rfl (jR_b r21) (fun q22 => ?_) (fun q22 => ?_)
  · have h := h1 q22
    clear h1 h2
    refine r_null dX0_childOf_39 ?_
    exact r_aret dX0_childOf_40 rfl (Or.inl ⟨_, rfl⟩) ⟨_, rfl, rfl, rfl, rfl, h, trivial⟩
  · have h := h2 q22
    clear h1 h2
    refine r_aload_n dX0_childOf_22 rfl ?_
    refine r_gR dX0_childOf_23 flX0_20_1 rfl ht rfl ?_
    refine r_gRF dX0_childOf_26 flX0_203_2 hz2 t3 rfl ?_
    refine j_iload_n dX0_childOf_29 rfl ?_
    obtain ⟨P23, hp24, h⟩ := h
    refine r_invV (ci := 20) (As := [vI a1]) (rest := []) dX0_childOf_30 lkX0_132 hz5 t6 rfl rfl (vJ2_get (d := 4) (Nat.le_of_ble_eq_true rfl) hW t6 ra1 hp24) rfl rfl (Nat.le_of_ble_eq_true rfl) (Nat.le_trans (Nat.le_of_ble_eq_true rfl) hd) (jkpR fun z25 p28 r29 => ?_)
    have h := h z25 p28
    obtain ⟨j30, h⟩ := h
    refine r_chk dX0_childOf_33 q1308 j30 ?_
    refine j_goto 40 dX0_childOf_36 rfl ?_
    exact r_aret dX0_childOf_40 rfl (Or.inl ⟨_, rfl⟩) ⟨_, rfl, rfl, rfl, rfl, h, trivial⟩
/-- ChildSays.isSaidSo(LChildSays$Child;LChildSays$Law;)Z -/
def wqX0_isSaidSo (o : Nat) (a1 : Int) (a2 : Int) (N : jSh) (F : jFl) (A : jAr) (Q : Int → jFl → jAr → Prop) : Prop :=
  ∃ b1 : Nat, a2 = (b1 : Int) ∧
  jtg N b1 = 17 ∧
  ∃ b4 : Nat, jfn N 5102 b1 = (b4 : Int) ∧
  jtg N b4 = 4 ∧
  ∃ b7 : Nat, jfn N 347 o = (b7 : Int) ∧
  jtg N b7 = 4 ∧
  jfn N 0 b7 = 1 ∧
  ∀ F12 : jFl, F12 = upF F 1203 b7 (F 1203 b4) →
  ∀ F14 : jFl, F14 = upF F12 1206 b7 0 →
  ∃ b15 : Nat, a1 = (b15 : Int) ∧
  jtg N b15 = 16 ∧
  ∃ b18 : Nat, jfn N 326 o = (b18 : Int) ∧
  jtg N b18 = 3 ∧
  ∃ (P21 : Int → jFl → jAr → Prop), wqX2_of_2 b18 a1 (jfn N 347 o) 0 (F14 4803 b15) N F14 A P21 ∧
  ∀ z23 F24 A25, P21 z23 F24 A25 →
  ∃ b30 : Nat, z23 = (b30 : Int) ∧
  jtg N b30 = 3 ∧
  ∀ z34 : Int, z34 = (if (F24 903 b30) = 3 then (0 : Int) else 1) →
  Q z34 F24 A25
theorem vX0_isSaidSo {G : jG} {l : Launch} {d : Nat} {N : jSh} {F : jFl} {A : jAr} {o : Nat} {a1 a2 : Int} {Q : Int → jFl → jAr → Prop} (hd : 5 ≤ d) (hW : jWg G N F A) (ht : jtg N o = 1) (h : wqX0_isSaidSo o a1 a2 N F A Q) : jCall G l d mX0_isSaidSo [vR (o : Int), vR a1, vR a2] N F A (cmB G N Q) := by
  unfold wqX0_isSaidSo at h
  refine jCall.of (by decide) rfl (ls := [vR (o : Int), vR a1, vR a2]) (by simp only [jent_R, jent_I, jent_L, jent_nil]; exact Nat.le_of_ble_eq_true rfl) (by simp only [jloc, jent_R, jent_I, jent_L, jent_nil]; rfl) ?_
  refine r_aload_n dX0_isSaidSo_0 rfl ?_
  refine r_gRF dX0_isSaidSo_1 flX0_86_1 rfl ht rfl ?_
  refine r_aload_n dX0_isSaidSo_4 rfl ?_
  obtain ⟨b1, hz2, h⟩ := h
  obtain ⟨t3, h⟩ := h
  refine r_gRF dX0_isSaidSo_5 flX0_243_17 hz2 t3 rfl ?_
  obtain ⟨b4, hz5, h⟩ := h
  obtain ⟨t6, h⟩ := h
  refine r_gI dX0_isSaidSo_8 flX0_296_4 hz5 t6 rfl ?_
  obtain ⟨b7, hz8, h⟩ := h
  obtain ⟨t9, h⟩ := h
  obtain ⟨w10, h⟩ := h
  refine c_pI hW dX0_isSaidSo_11 flX0_296_4 hz8 t9 w10 rfl (hW.fi rfl) fun F12 eF12 hW11 => ?_
  have h := h F12 eF12
  refine r_aload_n dX0_isSaidSo_14 rfl ?_
  refine r_gRF dX0_isSaidSo_15 flX0_86_1 rfl ht rfl ?_
  refine j_iconst dX0_isSaidSo_18 ?_
  refine c_pI hW11 dX0_isSaidSo_19 flX0_299_4 hz8 t9 w10 rfl (by decide) fun F14 eF14 hW13 => ?_
  have h := h F14 eF14
  refine r_aload_n dX0_isSaidSo_22 rfl ?_
  refine r_gRF dX0_isSaidSo_23 flX0_44_1 rfl ht rfl ?_
  refine r_aload_n dX0_isSaidSo_26 rfl ?_
  refine r_aload_n dX0_isSaidSo_27 rfl ?_
  refine r_gRF dX0_isSaidSo_28 flX0_86_1 rfl ht rfl ?_
  refine j_iconst dX0_isSaidSo_31 ?_
  refine r_aload_n dX0_isSaidSo_32 rfl ?_
  obtain ⟨b15, hz16, h⟩ := h
  obtain ⟨t17, h⟩ := h
  refine r_gI dX0_isSaidSo_33 flX0_290_16 hz16 t17 rfl ?_
  obtain ⟨b18, hz19, h⟩ := h
  obtain ⟨t20, h⟩ := h
  obtain ⟨P21, hp22, h⟩ := h
  refine r_invV (ci := 3) (As := [vR a1, vR (jfn N 347 o), vI 0, vI (F14 4803 b15)]) (rest := []) dX0_isSaidSo_36 lkX0_344 hz19 t20 rfl rfl (vX2_of_2 (d := 4) (Nat.le_of_ble_eq_true rfl) hW13 t20 (by decide) (hW13.fi rfl) hp22) rfl rfl (Nat.le_of_ble_eq_true rfl) (Nat.le_trans (Nat.le_of_ble_eq_true rfl) hd) (ckmR fun z23 F24 A25 hW26 p28 r29 => ?_)
  have h := h z23 F24 A25 p28
  obtain ⟨b30, hz31, h⟩ := h
  obtain ⟨t32, h⟩ := h
  refine r_gI dX0_isSaidSo_39 flX0_343_3 hz31 t32 rfl ?_
  refine j_iconst dX0_isSaidSo_42 ?_
  have jn35 : ∀ z34 : Int, z34 = (if (F24 903 b30) = 3 then (0 : Int) else 1) → J G l d mX0_isSaidSo 51 [vR (o : Int), vR a1, vR a2] [vI z34] N F24 A25 (cmB G N Q) := by
    intro z34 ez34
    have h := h z34 ez34
    exact j_zret dX0_isSaidSo_51 rfl (nr_bool (ez34 ▸ jB_ite (by decide) (by decide))) ⟨_, rfl, rfl, hW26, h, (ez34 ▸ jB_ite (by decide) (by decide))⟩
  clear h
  refine j_icmp_eq 50 dX0_isSaidSo_43 rfl (hW26.fi rfl) (by decide) (fun q33 => ?_) (fun q33 => ?_)
  · refine j_iconst dX0_isSaidSo_50 ?_
    exact jn35 _ (if_pos q33).symm
  · refine j_iconst dX0_isSaidSo_46 ?_
    refine j_goto 51 dX0_isSaidSo_47 rfl ?_
    exact jn35 _ (if_neg q33).symm
/-- ChildSays.lawOf(I)LChildSays$Law; -/
def wqX0_lawOf (o : Nat) (a1 : Int) (N : jSh) (F : jFl) (A : jAr) (Q : Int → Prop) : Prop :=
  ∃ b1 : Nat, F 311 o = (b1 : Int) ∧
  jtg N b1 = 2 ∧
  ∃ b4 : Nat, jfn N 626 b1 = (b4 : Int) ∧
  jtg N b4 = 20 ∧
  ∃ (P7 : Int → Prop), wqJ2_size b4 N F A P7 ∧
  ∀ z9, P7 z9 →
  jR (z9 - 1) ∧
  ∃ (P15 : Int → Prop), wqX0_isIn a1 0 (z9 - 1) N F A P15 ∧
  ∀ z17, P15 z17 →
  ((z17 = 0) →
    Q (-1)) ∧
  ((¬ (z17 = 0)) →
    ∃ (P23 : Int → Prop), wqJ2_get b4 a1 N F A P23 ∧
    ∀ z25, P23 z25 →
    jcst N "ChildSays$Law" z25 ∧
    Q z25)
theorem vX0_lawOf {G : jG} {l : Launch} {d : Nat} {N : jSh} {F : jFl} {A : jAr} {o : Nat} {a1 : Int} {Q : Int → Prop} (hd : 5 ≤ d) (hW : jWg G N F A) (ht : jtg N o = 1) (ra1 : jR a1) (h : wqX0_lawOf o a1 N F A Q) : jCall G l d mX0_lawOf [vR (o : Int), vI a1] N F A (jpR N F A Q) := by
  unfold wqX0_lawOf at h
  refine jCall.of (by decide) rfl (ls := [vR (o : Int), vI a1]) (by simp only [jent_R, jent_I, jent_L, jent_nil]; exact Nat.le_of_ble_eq_true rfl) (by simp only [jloc, jent_R, jent_I, jent_L, jent_nil]; rfl) ?_
  refine j_iload_n dX0_lawOf_0 rfl ?_
  refine j_i2l dX0_lawOf_1 ra1 ?_
  refine j_lconst 0 rfl dX0_lawOf_2 ?_
  refine r_aload_n dX0_lawOf_3 rfl ?_
  refine r_gR dX0_lawOf_4 flX0_20_1 rfl ht rfl ?_
  obtain ⟨b1, hz2, h⟩ := h
  obtain ⟨t3, h⟩ := h
  refine r_gRF dX0_lawOf_7 flX0_206_2 hz2 t3 rfl ?_
  obtain ⟨b4, hz5, h⟩ := h
  obtain ⟨t6, h⟩ := h
  obtain ⟨P7, hp8, h⟩ := h
  refine r_invV (ci := 20) (As := []) (rest := [vL 0, vL a1]) dX0_lawOf_10 lkX0_128 hz5 t6 rfl rfl (vJ2_size (d := 2) (Nat.le_of_ble_eq_true rfl) hW t6  hp8) rfl rfl (Nat.le_of_ble_eq_true rfl) (Nat.le_trans (Nat.le_of_ble_eq_true rfl) hd) (jkpI fun z9 p12 r13 => ?_)
  have h := h z9 p12
  refine j_iconst dX0_lawOf_13 ?_
  refine j_isub dX0_lawOf_14 ?_
  obtain ⟨r14, h⟩ := h
  refine j_i2l dX0_lawOf_15 r14 ?_
  obtain ⟨P15, hp16, h⟩ := h
  refine r_invS (As := [vL a1, vL 0, vL (z9 - 1)]) (rest := []) dX0_lawOf_16 lkX0_124 (vX0_isIn (d := 2) (Nat.le_of_ble_eq_true rfl) hW (jR_L ra1) (by decide) (jR_L r14) hp16) rfl rfl (Nat.le_of_ble_eq_true rfl) (Nat.le_trans (Nat.le_of_ble_eq_true rfl) hd) (jkpB fun z17 p20 r21 => ?_)
  have h := h z17 p20
  obtain ⟨h1, h2⟩ := h
  refine j_if_eq 39 dX0_lawOf_19 rfl (jR_b r21) (fun q22 => ?_) (fun q22 => ?_)
  · have h := h1 q22
    clear h1 h2
    refine r_null dX0_lawOf_39 ?_
    exact r_aret dX0_lawOf_40 rfl (Or.inl ⟨_, rfl⟩) ⟨_, rfl, rfl, rfl, rfl, h, trivial⟩
  · have h := h2 q22
    clear h1 h2
    refine r_aload_n dX0_lawOf_22 rfl ?_
    refine r_gR dX0_lawOf_23 flX0_20_1 rfl ht rfl ?_
    refine r_gRF dX0_lawOf_26 flX0_206_2 hz2 t3 rfl ?_
    refine j_iload_n dX0_lawOf_29 rfl ?_
    obtain ⟨P23, hp24, h⟩ := h
    refine r_invV (ci := 20) (As := [vI a1]) (rest := []) dX0_lawOf_30 lkX0_132 hz5 t6 rfl rfl (vJ2_get (d := 4) (Nat.le_of_ble_eq_true rfl) hW t6 ra1 hp24) rfl rfl (Nat.le_of_ble_eq_true rfl) (Nat.le_trans (Nat.le_of_ble_eq_true rfl) hd) (jkpR fun z25 p28 r29 => ?_)
    have h := h z25 p28
    obtain ⟨j30, h⟩ := h
    refine r_chk dX0_lawOf_33 q1295 j30 ?_
    refine j_goto 40 dX0_lawOf_36 rfl ?_
    exact r_aret dX0_lawOf_40 rfl (Or.inl ⟨_, rfl⟩) ⟨_, rfl, rfl, rfl, rfl, h, trivial⟩
/-- ChildSays.named(Ljava/util/ArrayList;Ljava/lang/String;)LChildSays$Named; -/
def wqX0_named (S : Nat → Nat) (a1 : Int) (a2 : Int) (N : jSh) (F : jFl) (A : jAr) (Q : Int → Prop) : Prop :=
  ∃ (I3 : Int → Prop) (m4 : Int → Nat), I3 0 ∧ ∀ (v1 : Int), I3 v1 →
    ∃ b5 : Nat, a1 = (b5 : Int) ∧
    jtg N b5 = 20 ∧
    ∃ (P8 : Int → Prop), wqJ2_size b5 N F A P8 ∧
    ∀ z10, P8 z10 →
    ((z10 ≤ v1) →
      Q (-1)) ∧
    ((¬ (z10 ≤ v1)) →
      ∃ (P16 : Int → Prop), wqJ2_get b5 v1 N F A P16 ∧
      ∀ z18, P16 z18 →
      jcst N "ChildSays$Named" z18 ∧
      ∃ b24 : Nat, z18 = (b24 : Int) ∧
      (jtg N b24 = 14 ∨ jtg N b24 = 15 ∨ jtg N b24 = 16 ∨ jtg N b24 = 17) ∧
      ∃ b27 : Nat, jfn N 3902 b24 = (b27 : Int) ∧
      jtg N b27 = 22 ∧
      ∃ (P30 : Int → Prop), wqJ5_equals S b27 a2 N F A P30 ∧
      ∀ z32, P30 z32 →
      ((z32 = 0) →
        jR (v1 + 1) ∧
        I3 (v1 + 1) ∧ m4 (v1 + 1) < m4 v1) ∧
      ((¬ (z32 = 0)) →
        ∃ (P39 : Int → Prop), wqJ2_get b5 v1 N F A P39 ∧
        ∀ z41, P39 z41 →
        jcst N "ChildSays$Named" z41 ∧
        Q z41))
theorem vX0_named {G : jG} {l : Launch} {d : Nat} {N : jSh} {F : jFl} {A : jAr} {a1 a2 : Int} {Q : Int → Prop} (hd : 5 ≤ d) (hW : jWg G N F A) (h : wqX0_named (gS G) a1 a2 N F A Q) : jCall G l d mX0_named [vR a1, vR a2] N F A (jpR N F A Q) := by
  unfold wqX0_named at h
  refine jCall.of (by decide) rfl (ls := [vR a1, vR a2, jD]) (by simp only [jent_R, jent_I, jent_L, jent_nil]; exact Nat.le_of_ble_eq_true rfl) (by simp only [jloc, jent_R, jent_I, jent_L, jent_nil]; rfl) ?_
  refine j_iconst dX0_named_0 ?_
  refine j_istore_n dX0_named_1 (jokR rfl (Nat.le_of_ble_eq_true rfl)) ?_
  obtain ⟨I3, m4, h0, hs⟩ := h
  have lp : ∀ (n : Nat) (v1 : Int), m4 v1 < n → jR v1 → I3 v1 → J G l d mX0_named 2 [vR a1, vR a2, vI v1] [] N F A (jpR N F A Q) := by
    intro nI3
    induction nI3 with
    | zero =>
      intro v1 hmu
      exact absurd hmu (Nat.not_lt_zero _)
    | succ nI3 ihI3 =>
      intro v1 hmuI3 rv1 hI
      have h := hs v1 hI
      refine j_iload_n dX0_named_2 rfl ?_
      refine r_aload_n dX0_named_3 rfl ?_
      obtain ⟨b5, hz6, h⟩ := h
      obtain ⟨t7, h⟩ := h
      obtain ⟨P8, hp9, h⟩ := h
      refine r_invV (ci := 20) (As := []) (rest := [vI v1]) dX0_named_4 lkX0_128 hz6 t7 rfl rfl (vJ2_size (d := 2) (Nat.le_of_ble_eq_true rfl) hW t7  hp9) rfl rfl (Nat.le_of_ble_eq_true rfl) (Nat.le_trans (Nat.le_of_ble_eq_true rfl) hd) (jkpI fun z10 p13 r14 => ?_)
      have h := h z10 p13
      obtain ⟨h1, h2⟩ := h
      refine j_icmp_ge 43 dX0_named_7 rfl rv1 r14 (fun q15 => ?_) (fun q15 => ?_)
      · have h := h1 q15
        clear h1 h2
        refine r_null dX0_named_43 ?_
        exact r_aret dX0_named_44 rfl (Or.inl ⟨_, rfl⟩) ⟨_, rfl, rfl, rfl, rfl, h, trivial⟩
      · have h := h2 q15
        clear h1 h2
        refine r_aload_n dX0_named_10 rfl ?_
        refine j_iload_n dX0_named_11 rfl ?_
        obtain ⟨P16, hp17, h⟩ := h
        refine r_invV (ci := 20) (As := [vI v1]) (rest := []) dX0_named_12 lkX0_132 hz6 t7 rfl rfl (vJ2_get (d := 4) (Nat.le_of_ble_eq_true rfl) hW t7 rv1 hp17) rfl rfl (Nat.le_of_ble_eq_true rfl) (Nat.le_trans (Nat.le_of_ble_eq_true rfl) hd) (jkpR fun z18 p21 r22 => ?_)
        have h := h z18 p21
        obtain ⟨j23, h⟩ := h
        refine r_chk dX0_named_15 q914 j23 ?_
        obtain ⟨b24, hz25, h⟩ := h
        obtain ⟨t26, h⟩ := h
        refine r_named138 rfl dX0_named_18 hz25 t26 ?_
        refine r_aload_n dX0_named_21 rfl ?_
        obtain ⟨b27, hz28, h⟩ := h
        obtain ⟨t29, h⟩ := h
        obtain ⟨P30, hp31, h⟩ := h
        refine r_invV (ci := 22) (As := [vR a2]) (rest := []) dX0_named_22 lkX0_101 hz28 t29 rfl rfl (vJ5_equals (d := 3) (Nat.le_of_ble_eq_true rfl) hW t29  hp31) rfl rfl (Nat.le_of_ble_eq_true rfl) (Nat.le_trans (Nat.le_of_ble_eq_true rfl) hd) (jkpB fun z32 p35 r36 => ?_)
        have h := h z32 p35
        obtain ⟨h1, h2⟩ := h
        refine j_if_eq 37 dX0_named_25 rfl (jR_b r36) (fun q37 => ?_) (fun q37 => ?_)
        · have h := h1 q37
          clear h1 h2
          obtain ⟨r38, h⟩ := h
          refine j_iinc dX0_named_37 rfl (jokR rfl (Nat.le_of_ble_eq_true rfl)) ?_
          refine j_goto 2 dX0_named_40 rfl ?_
          exact J.wk ((((jWk.nil).eq).eq).eq) (ihI3 _ (Nat.lt_of_lt_of_le h.2 (Nat.le_of_lt_succ hmuI3)) r38 h.1)
        · have h := h2 q37
          clear h1 h2
          refine r_aload_n dX0_named_28 rfl ?_
          refine j_iload_n dX0_named_29 rfl ?_
          obtain ⟨P39, hp40, h⟩ := h
          refine r_invV (ci := 20) (As := [vI v1]) (rest := []) dX0_named_30 lkX0_132 hz6 t7 rfl rfl (vJ2_get (d := 4) (Nat.le_of_ble_eq_true rfl) hW t7 rv1 hp40) rfl rfl (Nat.le_of_ble_eq_true rfl) (Nat.le_trans (Nat.le_of_ble_eq_true rfl) hd) (jkpR fun z41 p44 r45 => ?_)
          have h := h z41 p44
          obtain ⟨j46, h⟩ := h
          refine r_chk dX0_named_33 q914 j46 ?_
          exact r_aret dX0_named_36 rfl (Or.inl ⟨_, rfl⟩) ⟨_, rfl, rfl, rfl, rfl, h, trivial⟩
  exact J.wk ((((jWk.nil).eq).eq).eq) (lp _ _ (Nat.lt_succ_self _) (by decide) h0)
/-- ChildSays.order(I)I -/
def wqX0_order (o : Nat) (a1 : Int) (N : jSh) (F : jFl) (A : jAr) (Q : Int → Prop) : Prop :=
  ∃ (P1 : Int → Prop), wqX0_isPlace o a1 N F A P1 ∧
  ∀ z3, P1 z3 →
  ((z3 = 0) →
    Q (-1)) ∧
  ((¬ (z3 = 0)) →
    ∃ b9 : Nat, F 311 o = (b9 : Int) ∧
    jtg N b9 = 2 ∧
    ∃ b12 : Nat, jfn N 629 b9 = (b12 : Int) ∧
    jtg N b12 = 20 ∧
    ∃ (P15 : Int → Prop), wqJ2_get b12 a1 N F A P15 ∧
    ∀ z17, P15 z17 →
    jcst N "ChildSays$Law" z17 ∧
    ∃ b23 : Nat, z17 = (b23 : Int) ∧
    jtg N b23 = 17 ∧
    Q (jfn N 3903 b23))
theorem vX0_order {G : jG} {l : Launch} {d : Nat} {N : jSh} {F : jFl} {A : jAr} {o : Nat} {a1 : Int} {Q : Int → Prop} (hd : 5 ≤ d) (hW : jWg G N F A) (ht : jtg N o = 1) (ra1 : jR a1) (h : wqX0_order o a1 N F A Q) : jCall G l d mX0_order [vR (o : Int), vI a1] N F A (jpI N F A Q) := by
  unfold wqX0_order at h
  refine jCall.of (by decide) rfl (ls := [vR (o : Int), vI a1]) (by simp only [jent_R, jent_I, jent_L, jent_nil]; exact Nat.le_of_ble_eq_true rfl) (by simp only [jloc, jent_R, jent_I, jent_L, jent_nil]; rfl) ?_
  refine r_aload_n dX0_order_0 rfl ?_
  refine j_iload_n dX0_order_1 rfl ?_
  obtain ⟨P1, hp2, h⟩ := h
  refine r_invV (ci := 1) (As := [vI a1]) (rest := []) dX0_order_2 lkX0_324 rfl ht rfl rfl (vX0_isPlace (d := 3) (Nat.le_of_ble_eq_true rfl) hW ht ra1 hp2) rfl rfl (Nat.le_of_ble_eq_true rfl) (Nat.le_trans (Nat.le_of_ble_eq_true rfl) hd) (jkpB fun z3 p6 r7 => ?_)
  have h := h z3 p6
  obtain ⟨h1, h2⟩ := h
  refine j_if_eq 28 dX0_order_5 rfl (jR_b r7) (fun q8 => ?_) (fun q8 => ?_)
  · have h := h1 q8
    clear h1 h2
    refine j_iconst dX0_order_28 ?_
    exact j_iret dX0_order_29 rfl ⟨_, rfl, rfl, rfl, rfl, h, (by decide)⟩
  · have h := h2 q8
    clear h1 h2
    refine r_aload_n dX0_order_8 rfl ?_
    refine r_gR dX0_order_9 flX0_20_1 rfl ht rfl ?_
    obtain ⟨b9, hz10, h⟩ := h
    obtain ⟨t11, h⟩ := h
    refine r_gRF dX0_order_12 flX0_305_2 hz10 t11 rfl ?_
    refine j_iload_n dX0_order_15 rfl ?_
    obtain ⟨b12, hz13, h⟩ := h
    obtain ⟨t14, h⟩ := h
    obtain ⟨P15, hp16, h⟩ := h
    refine r_invV (ci := 20) (As := [vI a1]) (rest := []) dX0_order_16 lkX0_132 hz13 t14 rfl rfl (vJ2_get (d := 4) (Nat.le_of_ble_eq_true rfl) hW t14 ra1 hp16) rfl rfl (Nat.le_of_ble_eq_true rfl) (Nat.le_trans (Nat.le_of_ble_eq_true rfl) hd) (jkpR fun z17 p20 r21 => ?_)
    have h := h z17 p20
    obtain ⟨j22, h⟩ := h
    refine r_chk dX0_order_19 q1295 j22 ?_
    obtain ⟨b23, hz24, h⟩ := h
    obtain ⟨t25, h⟩ := h
    refine r_gIF dX0_order_22 flX0_327_17 hz24 t25 rfl ?_
    refine j_goto 29 dX0_order_25 rfl ?_
    exact j_iret dX0_order_29 rfl ⟨_, rfl, rfl, rfl, rfl, h, (hW.ni rfl (by decide))⟩
/-- ChildSays.wordOf(I)LChildSays$Word; -/
def wqX0_wordOf (o : Nat) (a1 : Int) (N : jSh) (F : jFl) (A : jAr) (Q : Int → Prop) : Prop :=
  ∃ b1 : Nat, F 311 o = (b1 : Int) ∧
  jtg N b1 = 2 ∧
  ∃ b4 : Nat, jfn N 617 b1 = (b4 : Int) ∧
  jtg N b4 = 20 ∧
  ∃ (P7 : Int → Prop), wqJ2_size b4 N F A P7 ∧
  ∀ z9, P7 z9 →
  jR (z9 - 1) ∧
  ∃ (P15 : Int → Prop), wqX0_isIn a1 0 (z9 - 1) N F A P15 ∧
  ∀ z17, P15 z17 →
  ((z17 = 0) →
    Q (-1)) ∧
  ((¬ (z17 = 0)) →
    ∃ (P23 : Int → Prop), wqJ2_get b4 a1 N F A P23 ∧
    ∀ z25, P23 z25 →
    jcst N "ChildSays$Word" z25 ∧
    Q z25)
theorem vX0_wordOf {G : jG} {l : Launch} {d : Nat} {N : jSh} {F : jFl} {A : jAr} {o : Nat} {a1 : Int} {Q : Int → Prop} (hd : 5 ≤ d) (hW : jWg G N F A) (ht : jtg N o = 1) (ra1 : jR a1) (h : wqX0_wordOf o a1 N F A Q) : jCall G l d mX0_wordOf [vR (o : Int), vI a1] N F A (jpR N F A Q) := by
  unfold wqX0_wordOf at h
  refine jCall.of (by decide) rfl (ls := [vR (o : Int), vI a1]) (by simp only [jent_R, jent_I, jent_L, jent_nil]; exact Nat.le_of_ble_eq_true rfl) (by simp only [jloc, jent_R, jent_I, jent_L, jent_nil]; rfl) ?_
  refine j_iload_n dX0_wordOf_0 rfl ?_
  refine j_i2l dX0_wordOf_1 ra1 ?_
  refine j_lconst 0 rfl dX0_wordOf_2 ?_
  refine r_aload_n dX0_wordOf_3 rfl ?_
  refine r_gR dX0_wordOf_4 flX0_20_1 rfl ht rfl ?_
  obtain ⟨b1, hz2, h⟩ := h
  obtain ⟨t3, h⟩ := h
  refine r_gRF dX0_wordOf_7 flX0_197_2 hz2 t3 rfl ?_
  obtain ⟨b4, hz5, h⟩ := h
  obtain ⟨t6, h⟩ := h
  obtain ⟨P7, hp8, h⟩ := h
  refine r_invV (ci := 20) (As := []) (rest := [vL 0, vL a1]) dX0_wordOf_10 lkX0_128 hz5 t6 rfl rfl (vJ2_size (d := 2) (Nat.le_of_ble_eq_true rfl) hW t6  hp8) rfl rfl (Nat.le_of_ble_eq_true rfl) (Nat.le_trans (Nat.le_of_ble_eq_true rfl) hd) (jkpI fun z9 p12 r13 => ?_)
  have h := h z9 p12
  refine j_iconst dX0_wordOf_13 ?_
  refine j_isub dX0_wordOf_14 ?_
  obtain ⟨r14, h⟩ := h
  refine j_i2l dX0_wordOf_15 r14 ?_
  obtain ⟨P15, hp16, h⟩ := h
  refine r_invS (As := [vL a1, vL 0, vL (z9 - 1)]) (rest := []) dX0_wordOf_16 lkX0_124 (vX0_isIn (d := 2) (Nat.le_of_ble_eq_true rfl) hW (jR_L ra1) (by decide) (jR_L r14) hp16) rfl rfl (Nat.le_of_ble_eq_true rfl) (Nat.le_trans (Nat.le_of_ble_eq_true rfl) hd) (jkpB fun z17 p20 r21 => ?_)
  have h := h z17 p20
  obtain ⟨h1, h2⟩ := h
  refine j_if_eq 39 dX0_wordOf_19 rfl (jR_b r21) (fun q22 => ?_) (fun q22 => ?_)
  · have h := h1 q22
    clear h1 h2
    refine r_null dX0_wordOf_39 ?_
    exact r_aret dX0_wordOf_40 rfl (Or.inl ⟨_, rfl⟩) ⟨_, rfl, rfl, rfl, rfl, h, trivial⟩
  · have h := h2 q22
    clear h1 h2
    refine r_aload_n dX0_wordOf_22 rfl ?_
    refine r_gR dX0_wordOf_23 flX0_20_1 rfl ht rfl ?_
    refine r_gRF dX0_wordOf_26 flX0_197_2 hz2 t3 rfl ?_
    refine j_iload_n dX0_wordOf_29 rfl ?_
    obtain ⟨P23, hp24, h⟩ := h
    refine r_invV (ci := 20) (As := [vI a1]) (rest := []) dX0_wordOf_30 lkX0_132 hz5 t6 rfl rfl (vJ2_get (d := 4) (Nat.le_of_ble_eq_true rfl) hW t6 ra1 hp24) rfl rfl (Nat.le_of_ble_eq_true rfl) (Nat.le_trans (Nat.le_of_ble_eq_true rfl) hd) (jkpR fun z25 p28 r29 => ?_)
    have h := h z25 p28
    obtain ⟨j30, h⟩ := h
    refine r_chk dX0_wordOf_33 q1294 j30 ?_
    refine j_goto 40 dX0_wordOf_36 rfl ?_
    exact r_aret dX0_wordOf_40 rfl (Or.inl ⟨_, rfl⟩) ⟨_, rfl, rfl, rfl, rfl, h, trivial⟩
/-- ChildSays$Child.nearest(LChildSays$Word;LChildSays$Town;)LChildSays$Word; -/
def wqX15_nearest (o : Nat) (a1 : Int) (a2 : Int) (N : jSh) (F : jFl) (A : jAr) (Q : Int → Prop) : Prop :=
  ∃ b1 : Nat, a1 = (b1 : Int) ∧
  jtg N b1 = 14 ∧
  ∃ b4 : Nat, jfn N 4811 o = (b4 : Int) ∧
  jtg N b4 = 105 ∧
  ((0 : Int) ≤ jfn N 3903 b1 ∧ (jfn N 3903 b1 : Int) < (jln N b4 : Int)) ∧
  (((A b4 (jfn N 3903 b1)) = 0) →
    ∃ b9 : Nat, a2 = (b9 : Int) ∧
    jtg N b9 = 2 ∧
    jR ((F 606 b9) - 1) ∧
    ∀ v13 : Int, v13 = (F 606 b9) - 1 →
    ∃ (I18 : Int → Int → Int → Prop) (m19 : Int → Int → Int → Nat), I18 a1 v13 0 ∧ ∀ (v14 : Int) (v15 : Int) (v16 : Int), I18 v14 v15 v16 →
      ∃ b20 : Nat, jfn N 617 b9 = (b20 : Int) ∧
      jtg N b20 = 20 ∧
      ∃ (P23 : Int → Prop), wqJ2_size b20 N F A P23 ∧
      ∀ z25, P23 z25 →
      ((z25 ≤ v16) →
        Q v14) ∧
      ((¬ (z25 ≤ v16)) →
        ∃ (P31 : Int → Prop), wqJ2_get b20 v16 N F A P31 ∧
        ∀ z33, P31 z33 →
        jcst N "ChildSays$Word" z33 ∧
        ((0 : Int) ≤ v16 ∧ (v16 : Int) < (jln N b4 : Int)) ∧
        (((A b4 v16) = 0) →
          jR (v16 + 1) ∧
          I18 v14 v15 (v16 + 1) ∧ m19 v14 v15 (v16 + 1) < m19 v14 v15 v16) ∧
        ((¬ ((A b4 v16) = 0)) →
          ∃ b42 : Nat, z33 = (b42 : Int) ∧
          jtg N b42 = 14 ∧
          ∃ (P45 : Int → Prop), wqX13_alike b42 a1 N F A P45 ∧
          ∀ z47, P45 z47 →
          ((v15 < z47) →
            ∃ (P53 : Int → Prop), wqX13_alike b42 a1 N F A P53 ∧
            ∀ z55, P53 z55 →
            jR (v16 + 1) ∧
            I18 z33 z55 (v16 + 1) ∧ m19 z33 z55 (v16 + 1) < m19 v14 v15 v16) ∧
          ((¬ (v15 < z47)) →
            jR (v16 + 1) ∧
            I18 v14 v15 (v16 + 1) ∧ m19 v14 v15 (v16 + 1) < m19 v14 v15 v16)))) ∧
  ((¬ ((A b4 (jfn N 3903 b1)) = 0)) →
    Q a1)
theorem vX15_nearest {G : jG} {l : Launch} {d : Nat} {N : jSh} {F : jFl} {A : jAr} {o : Nat} {a1 a2 : Int} {Q : Int → Prop} (hd : 5 ≤ d) (hW : jWg G N F A) (ht : jtg N o = 16) (h : wqX15_nearest o a1 a2 N F A Q) : jCall G l d mX15_nearest [vR (o : Int), vR a1, vR a2] N F A (jpR N F A Q) := by
  unfold wqX15_nearest at h
  refine jCall.of (by decide) rfl (ls := [vR (o : Int), vR a1, vR a2, jD, jD, jD, jD]) (by simp only [jent_R, jent_I, jent_L, jent_nil]; exact Nat.le_of_ble_eq_true rfl) (by simp only [jloc, jent_R, jent_I, jent_L, jent_nil]; rfl) ?_
  refine r_aload_n dX15_nearest_0 rfl ?_
  refine r_gRF dX15_nearest_1 flX15_9_16 rfl ht rfl ?_
  refine r_aload_n dX15_nearest_4 rfl ?_
  obtain ⟨b1, hz2, h⟩ := h
  obtain ⟨t3, h⟩ := h
  refine r_gIF dX15_nearest_5 flX15_51_14 hz2 t3 rfl ?_
  obtain ⟨b4, hz5, h⟩ := h
  obtain ⟨t6, h⟩ := h
  obtain ⟨c7, h⟩ := h
  refine r_zald dX15_nearest_8 hz5 t6 c7 ?_
  obtain ⟨h1, h2⟩ := h
  refine j_if_eq 14 dX15_nearest_9 rfl (hW.ai t6 rfl) (fun q8 => ?_) (fun q8 => ?_)
  · have h := h1 q8
    clear h1 h2
    refine r_aload_n dX15_nearest_14 rfl ?_
    refine r_astore_n dX15_nearest_15 (jokR rfl (Nat.le_of_ble_eq_true rfl)) ?_
    refine r_aload_n dX15_nearest_16 rfl ?_
    obtain ⟨b9, hz10, h⟩ := h
    obtain ⟨t11, h⟩ := h
    refine r_gI dX15_nearest_17 flX15_55_2 hz10 t11 rfl ?_
    refine j_iconst dX15_nearest_20 ?_
    refine j_isub dX15_nearest_21 ?_
    obtain ⟨r12, h⟩ := h
    obtain ⟨v13, ev13⟩ : ∃ x : Int, x = (F 606 b9) - 1 := ⟨_, rfl⟩
    have h := h v13 ev13
    refine jnmI (e := ev13) ?_
    refine j_istore dX15_nearest_22 (jokR rfl (Nat.le_of_ble_eq_true rfl)) ?_
    refine j_iconst dX15_nearest_24 ?_
    refine j_istore dX15_nearest_25 rfl ?_
    obtain ⟨I18, m19, h0, hs⟩ := h
    have lp : ∀ (n : Nat) (v14 : Int) (v15 : Int) (v16 : Int), m19 v14 v15 v16 < n → jR v15 → jR v16 → I18 v14 v15 v16 → J G l d mX15_nearest 27 [vR (o : Int), vR a1, vR a2, vR v14, vI v15, vI v16, jD] [] N F A (jpR N F A Q) := by
      intro nI18
      induction nI18 with
      | zero =>
        intro v14 v15 v16 hmu
        exact absurd hmu (Nat.not_lt_zero _)
      | succ nI18 ihI18 =>
        intro v14 v15 v16 hmuI18 rv15 rv16 hI
        have h := hs v14 v15 v16 hI
        refine j_iload dX15_nearest_27 rfl ?_
        refine r_aload_n dX15_nearest_29 rfl ?_
        refine r_gRF dX15_nearest_30 flX15_25_2 hz10 t11 rfl ?_
        obtain ⟨b20, hz21, h⟩ := h
        obtain ⟨t22, h⟩ := h
        obtain ⟨P23, hp24, h⟩ := h
        refine r_invV (ci := 20) (As := []) (rest := [vI v16]) dX15_nearest_33 lkX15_31 hz21 t22 rfl rfl (vJ2_size (d := 2) (Nat.le_of_ble_eq_true rfl) hW t22  hp24) rfl rfl (Nat.le_of_ble_eq_true rfl) (Nat.le_trans (Nat.le_of_ble_eq_true rfl) hd) (jkpI fun z25 p28 r29 => ?_)
        have h := h z25 p28
        obtain ⟨h1, h2⟩ := h
        refine j_icmp_ge 94 dX15_nearest_36 rfl rv16 r29 (fun q30 => ?_) (fun q30 => ?_)
        · have h := h1 q30
          clear h1 h2
          refine r_aload_n dX15_nearest_94 rfl ?_
          exact r_aret dX15_nearest_95 rfl (Or.inl ⟨_, rfl⟩) ⟨_, rfl, rfl, rfl, rfl, h, trivial⟩
        · have h := h2 q30
          clear h1 h2
          refine r_aload_n dX15_nearest_39 rfl ?_
          refine r_gRF dX15_nearest_40 flX15_25_2 hz10 t11 rfl ?_
          refine j_iload dX15_nearest_43 rfl ?_
          obtain ⟨P31, hp32, h⟩ := h
          refine r_invV (ci := 20) (As := [vI v16]) (rest := []) dX15_nearest_45 lkX15_37 hz21 t22 rfl rfl (vJ2_get (d := 4) (Nat.le_of_ble_eq_true rfl) hW t22 rv16 hp32) rfl rfl (Nat.le_of_ble_eq_true rfl) (Nat.le_trans (Nat.le_of_ble_eq_true rfl) hd) (jkpR fun z33 p36 r37 => ?_)
          have h := h z33 p36
          obtain ⟨j38, h⟩ := h
          refine r_chk dX15_nearest_48 q1088 j38 ?_
          refine r_astore dX15_nearest_51 rfl ?_
          refine r_aload_n dX15_nearest_53 rfl ?_
          refine r_gRF dX15_nearest_54 flX15_9_16 rfl ht rfl ?_
          refine j_iload dX15_nearest_57 rfl ?_
          obtain ⟨c39, h⟩ := h
          refine r_zald dX15_nearest_59 hz5 t6 c39 ?_
          obtain ⟨h1, h2⟩ := h
          refine j_if_eq 88 dX15_nearest_60 rfl (hW.ai t6 rfl) (fun q40 => ?_) (fun q40 => ?_)
          · have h := h1 q40
            clear h1 h2
            obtain ⟨r41, h⟩ := h
            refine j_iinc dX15_nearest_88 rfl rfl ?_
            refine j_goto 27 dX15_nearest_91 rfl ?_
            exact J.wk ((((((((jWk.nil).no).eq).eq).eq).eq).eq).eq) (ihI18 _ _ _ (Nat.lt_of_lt_of_le h.2 (Nat.le_of_lt_succ hmuI18)) rv15 r41 h.1)
          · have h := h2 q40
            clear h1 h2
            refine r_aload dX15_nearest_63 rfl ?_
            refine r_aload_n dX15_nearest_65 rfl ?_
            obtain ⟨b42, hz43, h⟩ := h
            obtain ⟨t44, h⟩ := h
            obtain ⟨P45, hp46, h⟩ := h
            refine r_invV (ci := 14) (As := [vR a1]) (rest := []) dX15_nearest_66 lkX15_58 hz43 t44 rfl rfl (vX13_alike (d := 2) (Nat.le_of_ble_eq_true rfl) hW t44  hp46) rfl rfl (Nat.le_of_ble_eq_true rfl) (Nat.le_trans (Nat.le_of_ble_eq_true rfl) hd) (jkpI fun z47 p50 r51 => ?_)
            have h := h z47 p50
            refine j_iload dX15_nearest_69 rfl ?_
            obtain ⟨h1, h2⟩ := h
            refine j_icmp_gt 77 dX15_nearest_71 rfl r51 rv15 (fun q52 => ?_) (fun q52 => ?_)
            · have h := h1 q52
              clear h1 h2
              refine r_aload dX15_nearest_77 rfl ?_
              refine r_astore_n dX15_nearest_79 (jokR rfl (Nat.le_of_ble_eq_true rfl)) ?_
              refine r_aload dX15_nearest_80 rfl ?_
              refine r_aload_n dX15_nearest_82 rfl ?_
              obtain ⟨P53, hp54, h⟩ := h
              refine r_invV (ci := 14) (As := [vR a1]) (rest := []) dX15_nearest_83 lkX15_58 hz43 t44 rfl rfl (vX13_alike (d := 2) (Nat.le_of_ble_eq_true rfl) hW t44  hp54) rfl rfl (Nat.le_of_ble_eq_true rfl) (Nat.le_trans (Nat.le_of_ble_eq_true rfl) hd) (jkpI fun z55 p58 r59 => ?_)
              have h := h z55 p58
              refine j_istore dX15_nearest_86 (jokR rfl (Nat.le_of_ble_eq_true rfl)) ?_
              obtain ⟨r60, h⟩ := h
              refine j_iinc dX15_nearest_88 rfl rfl ?_
              refine j_goto 27 dX15_nearest_91 rfl ?_
              exact J.wk ((((((((jWk.nil).no).eq).eq).eq).eq).eq).eq) (ihI18 _ _ _ (Nat.lt_of_lt_of_le h.2 (Nat.le_of_lt_succ hmuI18)) r59 r60 h.1)
            · have h := h2 q52
              clear h1 h2
              refine j_goto 88 dX15_nearest_74 rfl ?_
              obtain ⟨r61, h⟩ := h
              refine j_iinc dX15_nearest_88 rfl rfl ?_
              refine j_goto 27 dX15_nearest_91 rfl ?_
              exact J.wk ((((((((jWk.nil).no).eq).eq).eq).eq).eq).eq) (ihI18 _ _ _ (Nat.lt_of_lt_of_le h.2 (Nat.le_of_lt_succ hmuI18)) rv15 r61 h.1)
    exact J.wk ((((((((jWk.nil).no).eq).eq).eq).eq).eq).eq) (lp _ _ _ _ (Nat.lt_succ_self _) (ev13 ▸ r12) (by decide) h0)
  · have h := h2 q8
    clear h1 h2
    refine r_aload_n dX15_nearest_12 rfl ?_
    exact r_aret dX15_nearest_13 rfl (Or.inl ⟨_, rfl⟩) ⟨_, rfl, rfl, rfl, rfl, h, trivial⟩
/-- ChildSays$Town.<init>()V -/
def wqX1_init (S : Nat → Nat) (o : Nat) (N : jSh) (F : jFl) (A : jAr) (Q : jSh → jFl → jAr → Prop) : Prop :=
  jfn N 0 o = 1 ∧
  ∀ F3 : jFl, F3 = upF F 603 o 12 →
  ∀ F5 : jFl, F5 = upF F3 606 o 2 →
  ∀ (b6 : Nat) (N7 : jSh) (F8 : jFl), b6 = jnx N → N7 = jnew N 20 0 3 1 → F8 = nwF N F5 →
  ∃ (P13 : jFl → jAr → Prop), wqJ2_init S b6 N7 F8 A P13 ∧
  ∀ F16 A17, P13 F16 A17 →
  ∀ N25 : jSh, N25 = jpF N7 617 o (b6 : Int) →
  ∀ (b27 : Nat) (N28 : jSh) (F29 : jFl), b27 = jnx N25 → N28 = jnew N25 20 0 3 1 → F29 = nwF N25 F16 →
  ∃ (P34 : jFl → jAr → Prop), wqJ2_init S b27 N28 F29 A17 P34 ∧
  ∀ F37 A38, P34 F37 A38 →
  ∀ N46 : jSh, N46 = jpF N28 620 o (b27 : Int) →
  ∀ (b48 : Nat) (N49 : jSh) (F50 : jFl), b48 = jnx N46 → N49 = jnew N46 20 0 3 1 → F50 = nwF N46 F37 →
  ∃ (P55 : jFl → jAr → Prop), wqJ2_init S b48 N49 F50 A38 P55 ∧
  ∀ F58 A59, P55 F58 A59 →
  ∀ N67 : jSh, N67 = jpF N49 623 o (b48 : Int) →
  ∀ (b69 : Nat) (N70 : jSh) (F71 : jFl), b69 = jnx N67 → N70 = jnew N67 20 0 3 1 → F71 = nwF N67 F58 →
  ∃ (P76 : jFl → jAr → Prop), wqJ2_init S b69 N70 F71 A59 P76 ∧
  ∀ F79 A80, P76 F79 A80 →
  ∀ N88 : jSh, N88 = jpF N70 626 o (b69 : Int) →
  ∀ (b90 : Nat) (N91 : jSh) (F92 : jFl), b90 = jnx N88 → N91 = jnew N88 20 0 3 1 → F92 = nwF N88 F79 →
  ∃ (P97 : jFl → jAr → Prop), wqJ2_init S b90 N91 F92 A80 P97 ∧
  ∀ F100 A101, P97 F100 A101 →
  ∀ N109 : jSh, N109 = jpF N91 629 o (b90 : Int) →
  ∀ (b111 : Nat) (N112 : jSh) (F113 : jFl), b111 = jnx N109 → N112 = jnew N109 20 0 3 1 → F113 = nwF N109 F100 →
  ∃ (P118 : jFl → jAr → Prop), wqJ2_init S b111 N112 F113 A101 P118 ∧
  ∀ F121 A122, P118 F121 A122 →
  ∀ N130 : jSh, N130 = jpF N112 632 o (b111 : Int) →
  Q N130 F121 A122
theorem vX1_init {G : jG} {l : Launch} {d : Nat} {N : jSh} {F : jFl} {A : jAr} {o : Nat} {Q : jSh → jFl → jAr → Prop} (hd : 5 ≤ d) (hW : jWg G N F A) (ht : jtg N o = 2) (h : wqX1_init (gS G) o N F A Q) : jCall G l d mX1_init [vR (o : Int)] N F A (cnV G N Q) := by
  unfold wqX1_init at h
  refine jCall.of (by decide) rfl (ls := [vR (o : Int)]) (by simp only [jent_R, jent_I, jent_L, jent_nil]; exact Nat.le_of_ble_eq_true rfl) (by simp only [jloc, jent_R, jent_I, jent_L, jent_nil]; rfl) ?_
  refine r_aload_n dX1_init_0 rfl ?_
  refine r_objInit dX1_init_1 q195 rfl (Nat.le_trans (Nat.le_of_ble_eq_true rfl) hd) (Nat.le_of_ble_eq_true rfl) ?_
  refine r_aload_n dX1_init_4 rfl ?_
  refine j_bipush dX1_init_5 ?_
  obtain ⟨w1, h⟩ := h
  refine c_pI hW dX1_init_7 flX1_9_2 rfl ht w1 rfl (by decide) fun F3 eF3 hW2 => ?_
  have h := h F3 eF3
  refine r_aload_n dX1_init_10 rfl ?_
  refine j_iconst dX1_init_11 ?_
  refine c_pI hW2 dX1_init_12 flX1_15_2 rfl ht w1 rfl (by decide) fun F5 eF5 hW4 => ?_
  have h := h F5 eF5
  refine r_aload_n dX1_init_15 rfl ?_
  refine c_new (ci := 20) hW4 dX1_init_16 rfl q196 rfl rfl fun b6 N7 F8 eb6 eN7 eF8 t9 w10 hT11 hW12 => ?_
  have h := h b6 N7 F8 eb6 eN7 eF8
  refine j_dup dX1_init_19 (vR_cat _) ?_
  obtain ⟨P13, hp14, h⟩ := h
  refine r_invI (As := []) (rest := [vR (b6 : Int), vR (o : Int)]) dX1_init_20 lkX1_20 rfl (vJ2_init (d := 4) (Nat.le_of_ble_eq_true rfl) hW12 t9  hp14) rfl rfl (Nat.le_of_ble_eq_true rfl) (Nat.le_trans (Nat.le_of_ble_eq_true rfl) hd) (ckmV fun F16 A17 hW18 p20 => ?_)
  have h := h F16 A17 p20
  have t22 : jtg N7 o = 2 := (hT11.tg hW4 ht)
  have w23 : jfn N7 0 o = 1 := (hT11.ow hW4 ht w1)
  refine c_pRF hW18 dX1_init_23 flX1_21_2 rfl t22 w23 rfl (ty := .object "java/util/ArrayList") rfl (by intro c hc; cases hc; rfl) (by decide) (by decide +kernel) (Or.inl ⟨_, rfl⟩) fun N25 eN25 hT26 hW24 => ?_
  have h := h N25 eN25
  refine r_aload_n dX1_init_26 rfl ?_
  refine c_new (ci := 20) hW24 dX1_init_27 rfl q196 rfl rfl fun b27 N28 F29 eb27 eN28 eF29 t30 w31 hT32 hW33 => ?_
  have h := h b27 N28 F29 eb27 eN28 eF29
  refine j_dup dX1_init_30 (vR_cat _) ?_
  obtain ⟨P34, hp35, h⟩ := h
  refine r_invI (As := []) (rest := [vR (b27 : Int), vR (o : Int)]) dX1_init_31 lkX1_20 rfl (vJ2_init (d := 4) (Nat.le_of_ble_eq_true rfl) hW33 t30  hp35) rfl rfl (Nat.le_of_ble_eq_true rfl) (Nat.le_trans (Nat.le_of_ble_eq_true rfl) hd) (ckmV fun F37 A38 hW39 p41 => ?_)
  have h := h F37 A38 p41
  have t43 : jtg N28 o = 2 := (hT32.tg hW24 (hT26.tg hW18 t22))
  have w44 : jfn N28 0 o = 1 := (hT32.ow hW24 (hT26.tg hW18 (hT11.tg hW4 ht)) (hT26.ow hW18 (hT11.tg hW4 ht) w23))
  refine c_pRF hW39 dX1_init_34 flX1_25_2 rfl t43 w44 rfl (ty := .object "java/util/ArrayList") rfl (by intro c hc; cases hc; rfl) (by decide) (by decide +kernel) (Or.inl ⟨_, rfl⟩) fun N46 eN46 hT47 hW45 => ?_
  have h := h N46 eN46
  refine r_aload_n dX1_init_37 rfl ?_
  refine c_new (ci := 20) hW45 dX1_init_38 rfl q196 rfl rfl fun b48 N49 F50 eb48 eN49 eF50 t51 w52 hT53 hW54 => ?_
  have h := h b48 N49 F50 eb48 eN49 eF50
  refine j_dup dX1_init_41 (vR_cat _) ?_
  obtain ⟨P55, hp56, h⟩ := h
  refine r_invI (As := []) (rest := [vR (b48 : Int), vR (o : Int)]) dX1_init_42 lkX1_20 rfl (vJ2_init (d := 4) (Nat.le_of_ble_eq_true rfl) hW54 t51  hp56) rfl rfl (Nat.le_of_ble_eq_true rfl) (Nat.le_trans (Nat.le_of_ble_eq_true rfl) hd) (ckmV fun F58 A59 hW60 p62 => ?_)
  have h := h F58 A59 p62
  have t64 : jtg N49 o = 2 := (hT53.tg hW45 (hT47.tg hW39 t43))
  have w65 : jfn N49 0 o = 1 := (hT53.ow hW45 (hT47.tg hW39 (hT32.tg hW24 (hT26.tg hW18 (hT11.tg hW4 ht)))) (hT47.ow hW39 (hT32.tg hW24 (hT26.tg hW18 (hT11.tg hW4 ht))) w44))
  refine c_pRF hW60 dX1_init_45 flX1_28_2 rfl t64 w65 rfl (ty := .object "java/util/ArrayList") rfl (by intro c hc; cases hc; rfl) (by decide) (by decide +kernel) (Or.inl ⟨_, rfl⟩) fun N67 eN67 hT68 hW66 => ?_
  have h := h N67 eN67
  refine r_aload_n dX1_init_48 rfl ?_
  refine c_new (ci := 20) hW66 dX1_init_49 rfl q196 rfl rfl fun b69 N70 F71 eb69 eN70 eF71 t72 w73 hT74 hW75 => ?_
  have h := h b69 N70 F71 eb69 eN70 eF71
  refine j_dup dX1_init_52 (vR_cat _) ?_
  obtain ⟨P76, hp77, h⟩ := h
  refine r_invI (As := []) (rest := [vR (b69 : Int), vR (o : Int)]) dX1_init_53 lkX1_20 rfl (vJ2_init (d := 4) (Nat.le_of_ble_eq_true rfl) hW75 t72  hp77) rfl rfl (Nat.le_of_ble_eq_true rfl) (Nat.le_trans (Nat.le_of_ble_eq_true rfl) hd) (ckmV fun F79 A80 hW81 p83 => ?_)
  have h := h F79 A80 p83
  have t85 : jtg N70 o = 2 := (hT74.tg hW66 (hT68.tg hW60 t64))
  have w86 : jfn N70 0 o = 1 := (hT74.ow hW66 (hT68.tg hW60 (hT53.tg hW45 (hT47.tg hW39 (hT32.tg hW24 (hT26.tg hW18 (hT11.tg hW4 ht)))))) (hT68.ow hW60 (hT53.tg hW45 (hT47.tg hW39 (hT32.tg hW24 (hT26.tg hW18 (hT11.tg hW4 ht))))) w65))
  refine c_pRF hW81 dX1_init_56 flX1_31_2 rfl t85 w86 rfl (ty := .object "java/util/ArrayList") rfl (by intro c hc; cases hc; rfl) (by decide) (by decide +kernel) (Or.inl ⟨_, rfl⟩) fun N88 eN88 hT89 hW87 => ?_
  have h := h N88 eN88
  refine r_aload_n dX1_init_59 rfl ?_
  refine c_new (ci := 20) hW87 dX1_init_60 rfl q196 rfl rfl fun b90 N91 F92 eb90 eN91 eF92 t93 w94 hT95 hW96 => ?_
  have h := h b90 N91 F92 eb90 eN91 eF92
  refine j_dup dX1_init_63 (vR_cat _) ?_
  obtain ⟨P97, hp98, h⟩ := h
  refine r_invI (As := []) (rest := [vR (b90 : Int), vR (o : Int)]) dX1_init_64 lkX1_20 rfl (vJ2_init (d := 4) (Nat.le_of_ble_eq_true rfl) hW96 t93  hp98) rfl rfl (Nat.le_of_ble_eq_true rfl) (Nat.le_trans (Nat.le_of_ble_eq_true rfl) hd) (ckmV fun F100 A101 hW102 p104 => ?_)
  have h := h F100 A101 p104
  have t106 : jtg N91 o = 2 := (hT95.tg hW87 (hT89.tg hW81 t85))
  have w107 : jfn N91 0 o = 1 := (hT95.ow hW87 (hT89.tg hW81 (hT74.tg hW66 (hT68.tg hW60 (hT53.tg hW45 (hT47.tg hW39 (hT32.tg hW24 (hT26.tg hW18 (hT11.tg hW4 ht)))))))) (hT89.ow hW81 (hT74.tg hW66 (hT68.tg hW60 (hT53.tg hW45 (hT47.tg hW39 (hT32.tg hW24 (hT26.tg hW18 (hT11.tg hW4 ht))))))) w86))
  refine c_pRF hW102 dX1_init_67 flX1_34_2 rfl t106 w107 rfl (ty := .object "java/util/ArrayList") rfl (by intro c hc; cases hc; rfl) (by decide) (by decide +kernel) (Or.inl ⟨_, rfl⟩) fun N109 eN109 hT110 hW108 => ?_
  have h := h N109 eN109
  refine r_aload_n dX1_init_70 rfl ?_
  refine c_new (ci := 20) hW108 dX1_init_71 rfl q196 rfl rfl fun b111 N112 F113 eb111 eN112 eF113 t114 w115 hT116 hW117 => ?_
  have h := h b111 N112 F113 eb111 eN112 eF113
  refine j_dup dX1_init_74 (vR_cat _) ?_
  obtain ⟨P118, hp119, h⟩ := h
  refine r_invI (As := []) (rest := [vR (b111 : Int), vR (o : Int)]) dX1_init_75 lkX1_20 rfl (vJ2_init (d := 4) (Nat.le_of_ble_eq_true rfl) hW117 t114  hp119) rfl rfl (Nat.le_of_ble_eq_true rfl) (Nat.le_trans (Nat.le_of_ble_eq_true rfl) hd) (ckmV fun F121 A122 hW123 p125 => ?_)
  have h := h F121 A122 p125
  have t127 : jtg N112 o = 2 := (hT116.tg hW108 (hT110.tg hW102 t106))
  have w128 : jfn N112 0 o = 1 := (hT116.ow hW108 (hT110.tg hW102 (hT95.tg hW87 (hT89.tg hW81 (hT74.tg hW66 (hT68.tg hW60 (hT53.tg hW45 (hT47.tg hW39 (hT32.tg hW24 (hT26.tg hW18 (hT11.tg hW4 ht)))))))))) (hT110.ow hW102 (hT95.tg hW87 (hT89.tg hW81 (hT74.tg hW66 (hT68.tg hW60 (hT53.tg hW45 (hT47.tg hW39 (hT32.tg hW24 (hT26.tg hW18 (hT11.tg hW4 ht))))))))) w107))
  refine c_pRF hW123 dX1_init_78 flX1_37_2 rfl t127 w128 rfl (ty := .object "java/util/ArrayList") rfl (by intro c hc; cases hc; rfl) (by decide) (by decide +kernel) (Or.inl ⟨_, rfl⟩) fun N130 eN130 hT131 hW129 => ?_
  have h := h N130 eN130
  exact j_vret dX1_init_81 rfl ⟨rfl, hW129, (((((((((((hT11.trans hT26).trans hT32).trans hT47).trans hT53).trans hT68).trans hT74).trans hT89).trans hT95).trans hT110).trans hT116).trans hT131), h⟩
