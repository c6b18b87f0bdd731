set_option maxRecDepth 100000
set_option linter.unusedVariables false
/-! walks of the component and of JDK methods: printed by gen/walkc.py -/
/-- ChildSays$Reader.known(Ljava/util/ArrayList;)LChildSays$Named; -/
def wqX10_known (S : Nat → Nat) (o : Nat) (a1 : Int) (N : jSh) (F : jFl) (A : jAr) (Q : Int → jSh → jFl → jAr → Prop) (X : Nat → jSh → jFl → jAr → Prop) : Prop :=
  ∃ (P1 : Int → jSh → jFl → jAr → Prop), wqX10_name S o N F A P1 X ∧
  ∀ z3 N6 F4 A5, P1 z3 N6 F4 A5 →
  ∃ (P11 : Int → Prop), wqX0_named S a1 z3 N6 F4 A5 P11 ∧
  ∀ z13, P11 z13 →
  ((¬ z13 < 0) →
    jfn N6 0 o = 1 ∧
    ∀ F22 : jFl, F22 = upF F4 3321 o 0 →
    Q z13 N6 F22 A5) ∧
  ((z13 < 0) →
    ∀ (b23 : Nat) (N24 : jSh) (F25 : jFl), b23 = jnx N6 → N24 = jnew N6 12 0 8 1 → F25 = nwF N6 F4 →
    ∃ (P31 : jSh → jFl → jAr → Prop), wqX11_init b23 3 (F25 3312 o) N24 F25 A5 P31 ∧
    ∀ N36 F34 A35, P31 N36 F34 A35 →
    X b23 N36 F34 A35)
theorem vX10_known {G : jG} {l : Launch} [jOff l] {d : Nat} {N : jSh} {F : jFl} {A : jAr} {o : Nat} {a1 : Int} {Q : Int → jSh → jFl → jAr → Prop} {X : Nat → jSh → jFl → jAr → Prop} (hd : 11 ≤ d) (hW : jWg G N F A) (ht : jtg N o = 11) (h : wqX10_known (gS G) o a1 N F A Q X) : jCall G l d mX10_known [vR (o : Int), vR a1] N F A (cX G N X (cnR G N Q)) := by
  unfold wqX10_known at h
  refine jCall.of (by decide) rfl (ls := [vR (o : Int), vR a1, jD]) (by simp only [jent_R, jent_I, jent_L, jent_nil]; exact Nat.le_of_ble_eq_true rfl) (by simp only [jloc, jent_R, jent_I, jent_L, jent_nil]; rfl) ?_
  refine r_aload_n dX10_known_0 rfl ?_
  refine r_aload_n dX10_known_1 rfl ?_
  obtain ⟨P1, hp2, h⟩ := h
  refine r_invV (ci := 11) (As := []) (rest := [vR a1]) dX10_known_2 lkX10_106 rfl ht rfl rfl (vX10_name (d := 10) (Nat.le_of_ble_eq_true rfl) hW ht  hp2) rfl rfl (Nat.le_of_ble_eq_true rfl) (Nat.le_trans (Nat.le_of_ble_eq_true rfl) hd) (ckX (fun q N9 F9 A9 W9 T9 t9 w9 h9 => JT.thru (hout0 rfl _) W9 ((jTx.refl N).trans T9) t9 w9 h9) (cknR fun z3 N6 F4 A5 hW7 hT8 p9 r10 => ?_))
  have h := h z3 N6 F4 A5 p9
  obtain ⟨P11, hp12, h⟩ := h
  refine r_invSN (As := [vR a1, vR z3]) (rest := []) dX10_known_5 lkX10_115 (vX0_named (d := 5) (Nat.le_of_ble_eq_true rfl) hW7  hp12) rfl rfl (Nat.le_of_ble_eq_true rfl) (Nat.le_trans (Nat.le_of_ble_eq_true rfl) hd) (jkpR fun z13 p16 r17 => ?_)
  have h := h z13 p16
  refine r_astore_n dX10_known_8 (jokR rfl (Nat.le_of_ble_eq_true rfl)) ?_
  refine r_aload_n dX10_known_9 rfl ?_
  obtain ⟨h1, h2⟩ := h
  refine r_ifnonnull 26 dX10_known_10 rfl (fun q18 => ?_) (fun q18 => ?_)
  · have h := h1 q18
    clear h1 h2
    refine r_aload_n dX10_known_26 rfl ?_
    refine j_iconst dX10_known_27 ?_
    have t19 : jtg N6 o = 11 := (hT8.tg hW ht)
    obtain ⟨w20, h⟩ := h
    refine c_pZ hW7 dX10_known_28 flX10_26_11 rfl t19 w20 rfl (by decide) (by decide) fun F22 eF22 hW21 => ?_
    have h := h F22 eF22
    refine r_aload_n dX10_known_31 rfl ?_
    exact r_aret dX10_known_32 rfl (Or.inl ⟨_, rfl⟩) (Or.inl ⟨_, rfl, hW21, hT8, h, trivial⟩)
  · have h := h2 q18
    clear h1 h2
    refine c_new (ci := 12) hW7 dX10_known_13 rfl q665 rfl rfl fun b23 N24 F25 eb23 eN24 eF25 t26 w27 hT28 hW29 => ?_
    have h := h b23 N24 F25 eb23 eN24 eF25
    refine j_dup dX10_known_16 (vR_cat _) ?_
    refine j_iconst dX10_known_17 ?_
    refine r_aload_n dX10_known_18 rfl ?_
    have t30 : jtg N24 o = 11 := (hT28.tg hW7 (hT8.tg hW ht))
    refine r_gI dX10_known_19 flX10_40_11 rfl t30 rfl ?_
    obtain ⟨P31, hp32, h⟩ := h
    refine r_invI (As := [vI 3, vI (F25 3312 o)]) (rest := [vR (b23 : Int)]) dX10_known_22 lkX10_56 rfl (vX11_init (d := 8) (Nat.le_of_ble_eq_true rfl) hW29 t26 (by decide) (hW29.fi rfl) hp32) rfl rfl (Nat.le_of_ble_eq_true rfl) (Nat.le_trans (Nat.le_of_ble_eq_true rfl) hd) (cknV fun N36 F34 A35 hW37 hT38 p39 => ?_)
    have h := h N36 F34 A35 p39
    have t41 : jtg N36 b23 = 12 := (hT38.tg hW29 t26)
    have w42 : jfn N36 0 b23 = 1 := (hT38.ow hW29 t26 w27)
    exact r_athrow dX10_known_25 rfl (JT.thru (hout0 rfl _) hW37 ((hT8.trans hT28).trans hT38) t41 w42 h)
/-- ChildSays$Reader.newName()Ljava/lang/String; -/
def wqX10_newName (S : Nat → Nat) (o : Nat) (N : jSh) (F : jFl) (A : jAr) (Q : Int → jSh → jFl → jAr → Prop) (X : Nat → jSh → jFl → jAr → Prop) : Prop :=
  ∃ (P1 : Int → jSh → jFl → jAr → Prop), wqX10_name S o N F A P1 X ∧
  ∀ z3 N6 F4 A5, P1 z3 N6 F4 A5 →
  ∃ b12 : Nat, jfn N6 3305 o = (b12 : Int) ∧
  jtg N6 b12 = 2 ∧
  ∃ (P15 : Int → Prop), wqX1_knows S b12 z3 N6 F4 A5 P15 ∧
  ∀ z17, P15 z17 →
  ((z17 = 0) →
    jfn N6 0 o = 1 ∧
    ∀ F25 : jFl, F25 = upF F4 3321 o 0 →
    Q z3 N6 F25 A5) ∧
  ((¬ (z17 = 0)) →
    ∀ (b26 : Nat) (N27 : jSh) (F28 : jFl), b26 = jnx N6 → N27 = jnew N6 12 0 8 1 → F28 = nwF N6 F4 →
    ∃ (P34 : jSh → jFl → jAr → Prop), wqX11_init b26 2 (F28 3312 o) N27 F28 A5 P34 ∧
    ∀ N39 F37 A38, P34 N39 F37 A38 →
    X b26 N39 F37 A38)
theorem vX10_newName {G : jG} {l : Launch} [jOff l] {d : Nat} {N : jSh} {F : jFl} {A : jAr} {o : Nat} {Q : Int → jSh → jFl → jAr → Prop} {X : Nat → jSh → jFl → jAr → Prop} (hd : 11 ≤ d) (hW : jWg G N F A) (ht : jtg N o = 11) (h : wqX10_newName (gS G) o N F A Q X) : jCall G l d mX10_newName [vR (o : Int)] N F A (cX G N X (cnR G N Q)) := by
  unfold wqX10_newName at h
  refine jCall.of (by decide) rfl (ls := [vR (o : Int), jD]) (by simp only [jent_R, jent_I, jent_L, jent_nil]; exact Nat.le_of_ble_eq_true rfl) (by simp only [jloc, jent_R, jent_I, jent_L, jent_nil]; rfl) ?_
  refine r_aload_n dX10_newName_0 rfl ?_
  obtain ⟨P1, hp2, h⟩ := h
  refine r_invV (ci := 11) (As := []) (rest := []) dX10_newName_1 lkX10_106 rfl ht rfl rfl (vX10_name (d := 10) (Nat.le_of_ble_eq_true rfl) hW ht  hp2) rfl rfl (Nat.le_of_ble_eq_true rfl) (Nat.le_trans (Nat.le_of_ble_eq_true rfl) hd) (ckX (fun q N9 F9 A9 W9 T9 t9 w9 h9 => JT.thru (hout0 rfl _) W9 ((jTx.refl N).trans T9) t9 w9 h9) (cknR fun z3 N6 F4 A5 hW7 hT8 p9 r10 => ?_))
  have h := h z3 N6 F4 A5 p9
  refine r_astore_n dX10_newName_4 (jokR rfl (Nat.le_of_ble_eq_true rfl)) ?_
  refine r_aload_n dX10_newName_5 rfl ?_
  have t11 : jtg N6 o = 11 := (hT8.tg hW ht)
  refine r_gRF dX10_newName_6 flX10_22_11 rfl t11 rfl ?_
  refine r_aload_n dX10_newName_9 rfl ?_
  obtain ⟨b12, hz13, h⟩ := h
  obtain ⟨t14, h⟩ := h
  obtain ⟨P15, hp16, h⟩ := h
  refine r_invV (ci := 2) (As := [vR z3]) (rest := []) dX10_newName_10 lkX10_110 hz13 t14 rfl rfl (vX1_knows (d := 6) (Nat.le_of_ble_eq_true rfl) hW7 t14  hp16) rfl rfl (Nat.le_of_ble_eq_true rfl) (Nat.le_trans (Nat.le_of_ble_eq_true rfl) hd) (jkpB fun z17 p20 r21 => ?_)
  have h := h z17 p20
  obtain ⟨h1, h2⟩ := h
  refine j_if_eq 29 dX10_newName_13 rfl (jR_b r21) (fun q22 => ?_) (fun q22 => ?_)
  · have h := h1 q22
    clear h1 h2
    refine r_aload_n dX10_newName_29 rfl ?_
    refine j_iconst dX10_newName_30 ?_
    obtain ⟨w23, h⟩ := h
    refine c_pZ hW7 dX10_newName_31 flX10_26_11 rfl t11 w23 rfl (by decide) (by decide) fun F25 eF25 hW24 => ?_
    have h := h F25 eF25
    refine r_aload_n dX10_newName_34 rfl ?_
    exact r_aret dX10_newName_35 rfl (Or.inl ⟨_, rfl⟩) (Or.inl ⟨_, rfl, hW24, hT8, h, trivial⟩)
  · have h := h2 q22
    clear h1 h2
    refine c_new (ci := 12) hW7 dX10_newName_16 rfl q665 rfl rfl fun b26 N27 F28 eb26 eN27 eF28 t29 w30 hT31 hW32 => ?_
    have h := h b26 N27 F28 eb26 eN27 eF28
    refine j_dup dX10_newName_19 (vR_cat _) ?_
    refine j_iconst dX10_newName_20 ?_
    refine r_aload_n dX10_newName_21 rfl ?_
    have t33 : jtg N27 o = 11 := (hT31.tg hW7 t11)
    refine r_gI dX10_newName_22 flX10_40_11 rfl t33 rfl ?_
    obtain ⟨P34, hp35, h⟩ := h
    refine r_invI (As := [vI 2, vI (F28 3312 o)]) (rest := [vR (b26 : Int)]) dX10_newName_25 lkX10_56 rfl (vX11_init (d := 8) (Nat.le_of_ble_eq_true rfl) hW32 t29 (by decide) (hW32.fi rfl) hp35) rfl rfl (Nat.le_of_ble_eq_true rfl) (Nat.le_trans (Nat.le_of_ble_eq_true rfl) hd) (cknV fun N39 F37 A38 hW40 hT41 p42 => ?_)
    have h := h N39 F37 A38 p42
    have t44 : jtg N39 b26 = 12 := (hT41.tg hW32 t29)
    have w45 : jfn N39 0 b26 = 1 := (hT41.ow hW32 t29 w30)
    exact r_athrow dX10_newName_28 rfl (JT.thru (hout0 rfl _) hW40 ((hT8.trans hT31).trans hT41) t44 w45 h)
/-- ChildSays$Reader.takes(Ljava/lang/String;)Z -/
def wqX10_takes (S : Nat → Nat) (o : Nat) (a1 : Int) (N : jSh) (F : jFl) (A : jAr) (Q : Int → jSh → jFl → jAr → Prop) (X : Nat → jSh → jFl → jAr → Prop) : Prop :=
  ∃ (P1 : Int → jSh → jFl → jAr → Prop), wqX10_isWord S o a1 N F A P1 X ∧
  ∀ z3 N6 F4 A5, P1 z3 N6 F4 A5 →
  ((¬ z3 = 0) →
    jfn N6 0 o = 1 ∧
    ∀ F15 : jFl, F15 = upF F4 3321 o 0 →
    Q 1 N6 F15 A5) ∧
  ((z3 = 0) →
    Q 0 N6 F4 A5)
theorem vX10_takes {G : jG} {l : Launch} [jOff l] {d : Nat} {N : jSh} {F : jFl} {A : jAr} {o : Nat} {a1 : Int} {Q : Int → jSh → jFl → jAr → Prop} {X : Nat → jSh → jFl → jAr → Prop} (hd : 11 ≤ d) (hW : jWg G N F A) (ht : jtg N o = 11) (h : wqX10_takes (gS G) o a1 N F A Q X) : jCall G l d mX10_takes [vR (o : Int), vR a1] N F A (cX G N X (cnB G N Q)) := by
  unfold wqX10_takes at h
  refine jCall.of (by decide) rfl (ls := [vR (o : Int), vR a1]) (by simp only [jent_R, jent_I, jent_L, jent_nil]; exact Nat.le_of_ble_eq_true rfl) (by simp only [jloc, jent_R, jent_I, jent_L, jent_nil]; rfl) ?_
  refine r_aload_n dX10_takes_0 rfl ?_
  refine r_aload_n dX10_takes_1 rfl ?_
  obtain ⟨P1, hp2, h⟩ := h
  refine r_invV (ci := 11) (As := [vR a1]) (rest := []) dX10_takes_2 lkX10_86 rfl ht rfl rfl (vX10_isWord (d := 10) (Nat.le_of_ble_eq_true rfl) hW ht  hp2) rfl rfl (Nat.le_of_ble_eq_true rfl) (Nat.le_trans (Nat.le_of_ble_eq_true rfl) hd) (ckX (fun q N9 F9 A9 W9 T9 t9 w9 h9 => JT.thru (hout0 rfl _) W9 ((jTx.refl N).trans T9) t9 w9 h9) (cknB fun z3 N6 F4 A5 hW7 hT8 p9 r10 => ?_))
  have h := h z3 N6 F4 A5 p9
  obtain ⟨h1, h2⟩ := h
  refine j_if_ne 10 dX10_takes_5 rfl (jR_b r10) (fun q11 => ?_) (fun q11 => ?_)
  · have h := h1 q11
    clear h1 h2
    refine r_aload_n dX10_takes_10 rfl ?_
    refine j_iconst dX10_takes_11 ?_
    have t12 : jtg N6 o = 11 := (hT8.tg hW ht)
    obtain ⟨w13, h⟩ := h
    refine c_pZ hW7 dX10_takes_12 flX10_26_11 rfl t12 w13 rfl (by decide) (by decide) fun F15 eF15 hW14 => ?_
    have h := h F15 eF15
    refine j_iconst dX10_takes_15 ?_
    exact j_zret dX10_takes_16 rfl (nr_bool (by decide)) (Or.inl ⟨_, rfl, hW14, hT8, h, (by decide)⟩)
  · have h := h2 (Classical.not_not.mp q11)
    clear h1 h2
    refine j_iconst dX10_takes_8 ?_
    exact j_zret dX10_takes_9 rfl (nr_bool (by decide)) (Or.inl ⟨_, rfl, hW7, hT8, h, (by decide)⟩)
/-- ChildSays$Reader.takes(C)Z -/
def wqX10_takes_2 (S : Nat → Nat) (o : Nat) (a1 : Int) (N : jSh) (F : jFl) (A : jAr) (Q : Int → jSh → jFl → jAr → Prop) (X : Nat → jSh → jFl → jAr → Prop) : Prop :=
  ∃ (P1 : Int → jSh → jFl → jAr → Prop), wqX10_isSign S o a1 N F A P1 X ∧
  ∀ z3 N6 F4 A5, P1 z3 N6 F4 A5 →
  ((¬ z3 = 0) →
    jfn N6 0 o = 1 ∧
    ∀ F15 : jFl, F15 = upF F4 3321 o 0 →
    Q 1 N6 F15 A5) ∧
  ((z3 = 0) →
    Q 0 N6 F4 A5)
theorem vX10_takes_2 {G : jG} {l : Launch} [jOff l] {d : Nat} {N : jSh} {F : jFl} {A : jAr} {o : Nat} {a1 : Int} {Q : Int → jSh → jFl → jAr → Prop} {X : Nat → jSh → jFl → jAr → Prop} (hd : 11 ≤ d) (hW : jWg G N F A) (ht : jtg N o = 11) (ra1 : jR a1) (h : wqX10_takes_2 (gS G) o a1 N F A Q X) : jCall G l d mX10_takes_2 [vR (o : Int), vI a1] N F A (cX G N X (cnB G N Q)) := by
  unfold wqX10_takes_2 at h
  refine jCall.of (by decide) rfl (ls := [vR (o : Int), vI a1]) (by simp only [jent_R, jent_I, jent_L, jent_nil]; exact Nat.le_of_ble_eq_true rfl) (by simp only [jloc, jent_R, jent_I, jent_L, jent_nil]; rfl) ?_
  refine r_aload_n dX10_takes_2_0 rfl ?_
  refine j_iload_n dX10_takes_2_1 rfl ?_
  obtain ⟨P1, hp2, h⟩ := h
  refine r_invV (ci := 11) (As := [vI a1]) (rest := []) dX10_takes_2_2 lkX10_83 rfl ht rfl rfl (vX10_isSign (d := 10) (Nat.le_of_ble_eq_true rfl) hW ht ra1 hp2) rfl rfl (Nat.le_of_ble_eq_true rfl) (Nat.le_trans (Nat.le_of_ble_eq_true rfl) hd) (ckX (fun q N9 F9 A9 W9 T9 t9 w9 h9 => JT.thru (hout0 rfl _) W9 ((jTx.refl N).trans T9) t9 w9 h9) (cknB fun z3 N6 F4 A5 hW7 hT8 p9 r10 => ?_))
  have h := h z3 N6 F4 A5 p9
  obtain ⟨h1, h2⟩ := h
  refine j_if_ne 10 dX10_takes_2_5 rfl (jR_b r10) (fun q11 => ?_) (fun q11 => ?_)
  · have h := h1 q11
    clear h1 h2
    refine r_aload_n dX10_takes_2_10 rfl ?_
    refine j_iconst dX10_takes_2_11 ?_
    have t12 : jtg N6 o = 11 := (hT8.tg hW ht)
    obtain ⟨w13, h⟩ := h
    refine c_pZ hW7 dX10_takes_2_12 flX10_26_11 rfl t12 w13 rfl (by decide) (by decide) fun F15 eF15 hW14 => ?_
    have h := h F15 eF15
    refine j_iconst dX10_takes_2_15 ?_
    exact j_zret dX10_takes_2_16 rfl (nr_bool (by decide)) (Or.inl ⟨_, rfl, hW14, hT8, h, (by decide)⟩)
  · have h := h2 (Classical.not_not.mp q11)
    clear h1 h2
    refine j_iconst dX10_takes_2_8 ?_
    exact j_zret dX10_takes_2_9 rfl (nr_bool (by decide)) (Or.inl ⟨_, rfl, hW7, hT8, h, (by decide)⟩)
/-- ChildSays.runs(III)I -/
def wqX0_runs (S : Nat → Nat) (o : Nat) (a1 : Int) (a2 : Int) (a3 : Int) (N : jSh) (F : jFl) (A : jAr) (Q : Int → jSh → jFl → jAr → Prop) : Prop :=
  ∃ (P1 : Int → Prop), wqX0_standingOf o a2 N F A P1 ∧
  ∀ z3, P1 z3 →
  ((z3 < 0) →
    Q (-1) N F A) ∧
  ((¬ (z3 < 0)) →
    ∃ (P9 : Int → Prop), wqX0_isIn a1 1 20 N F A P9 ∧
    ∀ z11, P9 z11 →
    ((z11 = 0) →
      Q (-1) N F A) ∧
    ((¬ (z11 = 0)) →
      ∃ (P17 : Int → Prop), wqX0_isIn a3 0 2 N F A P17 ∧
      ∀ z19, P17 z19 →
      ((¬ z19 = 0) →
        ∀ (b25 : Nat) (N26 : jSh) (F27 : jFl), b25 = jnx N → N26 = jnew N 4 0 3 1 → F27 = nwF N F →
        ∃ (P32 : jSh → jFl → jAr → Prop), wqX3_init b25 N26 F27 A P32 ∧
        ∀ N37 F35 A36, P32 N37 F35 A36 →
        ∃ b42 : Nat, z3 = (b42 : Int) ∧
        jtg N37 b42 = 17 ∧
        ∃ (P46 : Int → jFl → jAr → Prop), wqX3_like b25 (jfn N37 5102 b42) N37 F35 A36 P46 ∧
        ∀ z48 F49 A50, P46 z48 F49 A50 →
        ∀ (b55 : Nat) (N56 : jSh) (F57 : jFl), b55 = jnx N37 → N56 = jnew N37 18 0 7 1 → F57 = nwF N37 F49 →
        ∃ (P62 : jSh → jFl → jAr → Prop), wqX17_init S b55 (o : Int) N56 F57 A50 P62 ∧
        ∀ N67 F65 A66, P62 N67 F65 A66 →
        jfn N67 0 o = 1 ∧
        ∀ F75 : jFl, F75 = upF F65 330 o 1 →
        ∃ (I85 : Int → Int → Int → Int → jSh → jFl → jAr → Prop) (m86 : Int → Int → Int → Int → jSh → jFl → jAr → Nat), I85 0 0 0 0 N67 F75 A66 ∧ ∀ (v76 : Int) (v77 : Int) (v78 : Int) (v79 : Int) (N80 : jSh) (F81 : jFl) (A82 : jAr), I85 v76 v77 v78 v79 N80 F81 A82 →
          ((a1 ≤ v79) →
            ∀ F91 : jFl, F91 = upF F81 330 o 0 →
            ((¬ a3 = 0) →
              ((¬ a3 = 1) →
                Q v78 N80 F91 A82) ∧
              ((a3 = 1) →
                Q v77 N80 F91 A82)) ∧
            ((a3 = 0) →
              Q v76 N80 F91 A82)) ∧
          ((¬ (a1 ≤ v79)) →
            ∃ (I101 : Int → Int → jSh → jFl → jAr → Prop) (m102 : Int → Int → jSh → jFl → jAr → Nat), I101 v78 0 N80 F81 A82 ∧ ∀ (v94 : Int) (v95 : Int) (N96 : jSh) (F97 : jFl) (A98 : jAr), I101 v94 v95 N96 F97 A98 →
              ∃ K105 : Prop, (
                K105  →
                ∃ b109 : Nat, jfn N96 5102 b42 = (b109 : Int) ∧
                jtg N96 b109 = 4 ∧
                ∃ (P112 : Int → Prop), wqX3_isLike b109 z48 N96 F97 A98 P112 ∧
                ∀ z114, P112 z114 →
                ∃ K122 : Int → Prop, (
                  ∀ (v120 : Int), K122 v120 →
                  ∃ (P125 : Int → Prop), wqX3_isOne b109 N96 F97 A98 P125 ∧
                  ∀ z127, P125 z127 →
                  ((¬ z127 = 0) →
                    ∃ (P134 : jSh → jFl → jAr → Prop), wqX17_comesBack S b55 N96 F97 A98 P134 ∧
                    ∀ N139 F137 A138, P134 N139 F137 A138 →
                    jR (v79 + 1) ∧
                    I85 v120 v77 v94 (v79 + 1) N139 F137 A138 ∧ m86 v120 v77 v94 (v79 + 1) N139 F137 A138 < m86 v76 v77 v78 v79 N80 F81 A82) ∧
                  ((z127 = 0) →
                    jR (v77 + 1) ∧
                    ∃ (P147 : jSh → jFl → jAr → Prop), wqX17_comesBack S b55 N96 F97 A98 P147 ∧
                    ∀ N152 F150 A151, P147 N152 F150 A151 →
                    jR (v79 + 1) ∧
                    I85 v120 (v77 + 1) v94 (v79 + 1) N152 F150 A151 ∧ m86 v120 (v77 + 1) v94 (v79 + 1) N152 F150 A151 < m86 v76 v77 v78 v79 N80 F81 A82)) ∧
                ((z114 = 0) →
                  K122 v76) ∧
                ((¬ (z114 = 0)) →
                  jR (v76 + 1) ∧
                  K122 (v76 + 1))) ∧
              ((45 ≤ v95) →
                K105 ) ∧
              ((¬ (45 ≤ v95)) →
                ∃ b160 : Nat, F97 311 o = (b160 : Int) ∧
                jtg N96 b160 = 2 ∧
                ((9999 ≤ (F97 612 b160)) →
                  K105 ) ∧
                ((¬ (9999 ≤ (F97 612 b160))) →
                  ∃ (P164 : jSh → jFl → jAr → Prop), wqX0_year S o N96 F97 A98 P164 ∧
                  ∀ N169 F167 A168, P164 N169 F167 A168 →
                  ∃ b175 : Nat, jfn N169 5102 b42 = (b175 : Int) ∧
                  jtg N169 b175 = 4 ∧
                  ∃ (P178 : Int → Prop), wqX3_isLike b175 z48 N169 F167 A168 P178 ∧
                  ∀ z180, P178 z180 →
                  ((z180 = 0) →
                    jR (v95 + 1) ∧
                    I101 v94 (v95 + 1) N169 F167 A168 ∧ m102 v94 (v95 + 1) N169 F167 A168 < m102 v94 v95 N96 F97 A98) ∧
                  ((¬ (z180 = 0)) →
                    jR (v94 + 1) ∧
                    jR (v95 + 1) ∧
                    I101 (v94 + 1) (v95 + 1) N169 F167 A168 ∧ m102 (v94 + 1) (v95 + 1) N169 F167 A168 < m102 v94 v95 N96 F97 A98))))) ∧
      ((z19 = 0) →
        Q (-1) N F A)))
theorem vX0_runs {G : jG} {l : Launch} [jOff l] {d : Nat} {N : jSh} {F : jFl} {A : jAr} {o : Nat} {a1 a2 a3 : Int} {Q : Int → jSh → jFl → jAr → Prop} (hd : 12 ≤ d) (hW : jWg G N F A) (ht : jtg N o = 1) (ra1 : jR a1) (ra2 : jR a2) (ra3 : jR a3) (h : wqX0_runs (gS G) o a1 a2 a3 N F A Q) : jCall G l d mX0_runs [vR (o : Int), vI a1, vI a2, vI a3] N F A (cnI G N Q) := by
  unfold wqX0_runs at h
  refine jCall.of (by decide) rfl (ls := [vR (o : Int), vI a1, vI a2, vI a3, jD, jD, jD, jD, jD, jD, jD, jD]) (by simp only [jent_R, jent_I, jent_L, jent_nil]; exact Nat.le_of_ble_eq_true rfl) (by simp only [jloc, jent_R, jent_I, jent_L, jent_nil]; rfl) ?_
  refine r_aload_n dX0_runs_0 rfl ?_
  refine j_iload_n dX0_runs_1 rfl ?_
  obtain ⟨P1, hp2, h⟩ := h
  refine r_invV (ci := 1) (As := [vI a2]) (rest := []) dX0_runs_2 lkX0_347 rfl ht rfl rfl (vX0_standingOf (d := 6) (Nat.le_of_ble_eq_true rfl) hW ht ra2 hp2) rfl rfl (Nat.le_of_ble_eq_true rfl) (Nat.le_trans (Nat.le_of_ble_eq_true rfl) hd) (jkpR fun z3 p6 r7 => ?_)
  have h := h z3 p6
  refine r_astore dX0_runs_5 rfl ?_
  refine r_aload dX0_runs_7 rfl ?_
  obtain ⟨h1, h2⟩ := h
  refine r_ifnull 36 dX0_runs_9 rfl (fun q8 => ?_) (fun q8 => ?_)
  · have h := h1 q8
    clear h1 h2
    refine j_iconst dX0_runs_36 ?_
    exact j_iret dX0_runs_37 rfl ⟨_, rfl, hW, (jTx.refl N), h, (by decide)⟩
  · have h := h2 q8
    clear h1 h2
    refine j_iload_n dX0_runs_12 rfl ?_
    refine j_i2l dX0_runs_13 ra1 ?_
    refine j_lconst 1 rfl dX0_runs_14 ?_
    refine j_ldc2 (n := 20) dX0_runs_15 q1797 ?_
    obtain ⟨P9, hp10, h⟩ := h
    refine r_invS (As := [vL a1, vL 1, vL 20]) (rest := []) dX0_runs_18 lkX0_124 (vX0_isIn (d := 2) (Nat.le_of_ble_eq_true rfl) hW (jR_L ra1) (by decide) (by decide) hp10) rfl rfl (Nat.le_of_ble_eq_true rfl) (Nat.le_trans (Nat.le_of_ble_eq_true rfl) hd) (jkpB fun z11 p14 r15 => ?_)
    have h := h z11 p14
    obtain ⟨h1, h2⟩ := h
    refine j_if_eq 36 dX0_runs_21 rfl (jR_b r15) (fun q16 => ?_) (fun q16 => ?_)
    · have h := h1 q16
      clear h1 h2
      refine j_iconst dX0_runs_36 ?_
      exact j_iret dX0_runs_37 rfl ⟨_, rfl, hW, (jTx.refl N), h, (by decide)⟩
    · have h := h2 q16
      clear h1 h2
      refine j_iload_n dX0_runs_24 rfl ?_
      refine j_i2l dX0_runs_25 ra3 ?_
      refine j_lconst 0 rfl dX0_runs_26 ?_
      refine j_ldc2 (n := 2) dX0_runs_27 q1613 ?_
      obtain ⟨P17, hp18, h⟩ := h
      refine r_invS (As := [vL a3, vL 0, vL 2]) (rest := []) dX0_runs_30 lkX0_124 (vX0_isIn (d := 2) (Nat.le_of_ble_eq_true rfl) hW (jR_L ra3) (by decide) (by decide) hp18) rfl rfl (Nat.le_of_ble_eq_true rfl) (Nat.le_trans (Nat.le_of_ble_eq_true rfl) hd) (jkpB fun z19 p22 r23 => ?_)
      have h := h z19 p22
      obtain ⟨h1, h2⟩ := h
      refine j_if_ne 38 dX0_runs_33 rfl (jR_b r23) (fun q24 => ?_) (fun q24 => ?_)
      · have h := h1 q24
        clear h1 h2
        refine c_new (ci := 4) hW dX0_runs_38 rfl q487 rfl rfl fun b25 N26 F27 eb25 eN26 eF27 t28 w29 hT30 hW31 => ?_
        have h := h b25 N26 F27 eb25 eN26 eF27
        refine j_dup dX0_runs_41 (vR_cat _) ?_
        obtain ⟨P32, hp33, h⟩ := h
        refine r_invIN (As := []) (rest := [vR (b25 : Int)]) dX0_runs_42 lkX0_85 rfl (vX3_init (d := 2) (Nat.le_of_ble_eq_true rfl) hW31 t28  hp33) rfl rfl (Nat.le_of_ble_eq_true rfl) (Nat.le_trans (Nat.le_of_ble_eq_true rfl) hd) (cknV fun N37 F35 A36 hW38 hT39 p40 => ?_)
        have h := h N37 F35 A36 p40
        refine r_aload dX0_runs_45 rfl ?_
        obtain ⟨b42, hz43, h⟩ := h
        obtain ⟨t44, h⟩ := h
        refine r_gRF dX0_runs_47 flX0_243_17 hz43 t44 rfl ?_
        have t45 : jtg N37 b25 = 4 := (hT39.tg hW31 t28)
        obtain ⟨P46, hp47, h⟩ := h
        refine r_invV (ci := 4) (As := [vR (jfn N37 5102 b42)]) (rest := []) dX0_runs_50 lkX0_374 rfl t45 rfl rfl (vX3_like (d := 3) (Nat.le_of_ble_eq_true rfl) hW38 t45  hp47) rfl rfl (Nat.le_of_ble_eq_true rfl) (Nat.le_trans (Nat.le_of_ble_eq_true rfl) hd) (ckmR fun z48 F49 A50 hW51 p53 r54 => ?_)
        have h := h z48 F49 A50 p53
        refine r_astore dX0_runs_53 (jokR rfl (Nat.le_of_ble_eq_true rfl)) ?_
        refine c_new (ci := 18) hW51 dX0_runs_55 rfl q1239 rfl rfl fun b55 N56 F57 eb55 eN56 eF57 t58 w59 hT60 hW61 => ?_
        have h := h b55 N56 F57 eb55 eN56 eF57
        refine j_dup dX0_runs_58 (vR_cat _) ?_
        refine r_aload_n dX0_runs_59 rfl ?_
        obtain ⟨P62, hp63, h⟩ := h
        refine r_invI (As := [vR (o : Int)]) (rest := [vR (b55 : Int)]) dX0_runs_60 lkX0_186 rfl (vX17_init (d := 9) (Nat.le_of_ble_eq_true rfl) hW61 t58  hp63) rfl rfl (Nat.le_of_ble_eq_true rfl) (Nat.le_trans (Nat.le_of_ble_eq_true rfl) hd) (cknV fun N67 F65 A66 hW68 hT69 p70 => ?_)
        have h := h N67 F65 A66 p70
        refine r_astore dX0_runs_63 (jokR rfl (Nat.le_of_ble_eq_true rfl)) ?_
        refine j_iconst dX0_runs_65 ?_
        refine j_istore dX0_runs_66 (jokR rfl (Nat.le_of_ble_eq_true rfl)) ?_
        refine j_iconst dX0_runs_68 ?_
        refine j_istore dX0_runs_69 rfl ?_
        refine j_iconst dX0_runs_71 ?_
        refine j_istore dX0_runs_72 rfl ?_
        refine r_aload_n dX0_runs_74 rfl ?_
        refine j_iconst dX0_runs_75 ?_
        have t72 : jtg N67 o = 1 := (hT69.tg hW61 (hT60.tg hW51 (hT39.tg hW31 (hT30.tg hW ht))))
        obtain ⟨w73, h⟩ := h
        refine c_pZ hW68 dX0_runs_76 flX0_378_1 rfl t72 w73 rfl (by decide) (by decide) fun F75 eF75 hW74 => ?_
        have h := h F75 eF75
        refine j_iconst dX0_runs_79 ?_
        refine j_istore dX0_runs_80 rfl ?_
        obtain ⟨I85, m86, h0, hs⟩ := h
        have lp : ∀ (n : Nat) (v76 : Int) (v77 : Int) (v78 : Int) (v79 : Int) (N80 : jSh) (F81 : jFl) (A82 : jAr), m86 v76 v77 v78 v79 N80 F81 A82 < n → jWg G N80 F81 A82 → jTx N67 N80 → jR v76 → jR v77 → jR v78 → jR v79 → I85 v76 v77 v78 v79 N80 F81 A82 → J G l d mX0_runs 82 [vR (o : Int), vI a1, jD, vI a3, vR z3, vR z48, vR (b55 : Int), vI v76, vI v77, vI v78, vI v79, jD] [] N80 F81 A82 (cnI G N Q) := by
          intro nI85
          induction nI85 with
          | zero =>
            intro v76 v77 v78 v79 N80 F81 A82 hmu
            exact absurd hmu (Nat.not_lt_zero _)
          | succ nI85 ihI85 =>
            intro v76 v77 v78 v79 N80 F81 A82 hmuI85 hW83 hT84 rv76 rv77 rv78 rv79 hI
            have h := hs v76 v77 v78 v79 N80 F81 A82 hI
            refine j_iload dX0_runs_82 rfl ?_
            refine j_iload_n dX0_runs_84 rfl ?_
            obtain ⟨h1, h2⟩ := h
            refine j_icmp_ge 178 dX0_runs_85 rfl rv79 ra1 (fun q87 => ?_) (fun q87 => ?_)
            · have h := h1 q87
              clear h1 h2
              refine r_aload_n dX0_runs_178 rfl ?_
              refine j_iconst dX0_runs_179 ?_
              have t88 : jtg N80 o = 1 := (hT84.tg hW74 t72)
              have w89 : jfn N80 0 o = 1 := (hT84.ow hW74 t72 w73)
              refine c_pZ hW83 dX0_runs_180 flX0_378_1 rfl t88 w89 rfl (by decide) (by decide) fun F91 eF91 hW90 => ?_
              have h := h F91 eF91
              refine j_iload_n dX0_runs_183 rfl ?_
              obtain ⟨h1, h2⟩ := h
              refine j_if_ne 192 dX0_runs_184 rfl ra3 (fun q92 => ?_) (fun q92 => ?_)
              · have h := h1 q92
                clear h1 h2
                refine j_iload_n dX0_runs_192 rfl ?_
                refine j_iconst dX0_runs_193 ?_
                obtain ⟨h1, h2⟩ := h
                refine j_icmp_ne 202 dX0_runs_194 rfl ra3 (by decide) (fun q93 => ?_) (fun q93 => ?_)
                · have h := h1 q93
                  clear h1 h2
                  refine j_iload dX0_runs_202 rfl ?_
                  exact j_iret dX0_runs_204 rfl ⟨_, rfl, hW90, ((((hT30.trans hT39).trans hT60).trans hT69).trans hT84), h, rv78⟩
                · have h := h2 (Classical.not_not.mp q93)
                  clear h1 h2
                  refine j_iload dX0_runs_197 rfl ?_
                  refine j_goto 204 dX0_runs_199 rfl ?_
                  exact j_iret dX0_runs_204 rfl ⟨_, rfl, hW90, ((((hT30.trans hT39).trans hT60).trans hT69).trans hT84), h, rv77⟩
              · have h := h2 (Classical.not_not.mp q92)
                clear h1 h2
                refine j_iload dX0_runs_187 rfl ?_
                refine j_goto 204 dX0_runs_189 rfl ?_
                exact j_iret dX0_runs_204 rfl ⟨_, rfl, hW90, ((((hT30.trans hT39).trans hT60).trans hT69).trans hT84), h, rv76⟩
            · have h := h2 q87
              clear h1 h2
              refine j_iconst dX0_runs_88 ?_
              refine j_istore dX0_runs_89 rfl ?_
              obtain ⟨I101, m102, h0, hs⟩ := h
              have lp : ∀ (n : Nat) (v94 : Int) (v95 : Int) (N96 : jSh) (F97 : jFl) (A98 : jAr), m102 v94 v95 N96 F97 A98 < n → jWg G N96 F97 A98 → jTx N80 N96 → jR v94 → jR v95 → I101 v94 v95 N96 F97 A98 → J G l d mX0_runs 91 [vR (o : Int), vI a1, jD, vI a3, vR z3, vR z48, vR (b55 : Int), vI v76, vI v77, vI v94, vI v79, vI v95] [] N96 F97 A98 (cnI G N Q) := by
                intro nI101
                induction nI101 with
                | zero =>
                  intro v94 v95 N96 F97 A98 hmu
                  exact absurd hmu (Nat.not_lt_zero _)
                | succ nI101 ihI101 =>
                  intro v94 v95 N96 F97 A98 hmuI101 hW99 hT100 rv94 rv95 hI
                  have h := hs v94 v95 N96 F97 A98 hI
                  refine j_iload dX0_runs_91 rfl ?_
                  refine j_bipush dX0_runs_93 ?_
                  obtain ⟨K105, hK107, h⟩ := h
                  have jn106 : K105  → J G l d mX0_runs 137 [vR (o : Int), vI a1, jD, vI a3, vR z3, vR z48, vR (b55 : Int), vI v76, vI v77, vI v94, vI v79, jD] [] N96 F97 A98 (cnI G N Q) := by
                    intro   h
                    have h := hK107  h
                    refine r_aload dX0_runs_137 rfl ?_
                    have t108 : jtg N96 b42 = 17 := (hT100.tg hW83 (hT84.tg hW74 (hT69.tg hW61 (hT60.tg hW51 t44))))
                    refine r_gRF dX0_runs_139 flX0_243_17 hz43 t108 rfl ?_
                    refine r_aload dX0_runs_142 rfl ?_
                    obtain ⟨b109, hz110, h⟩ := h
                    obtain ⟨t111, h⟩ := h
                    obtain ⟨P112, hp113, h⟩ := h
                    refine r_invV (ci := 4) (As := [vR z48]) (rest := []) dX0_runs_144 lkX0_370 hz110 t111 rfl rfl (vX3_isLike (d := 3) (Nat.le_of_ble_eq_true rfl) hW99 t111  hp113) rfl rfl (Nat.le_of_ble_eq_true rfl) (Nat.le_trans (Nat.le_of_ble_eq_true rfl) hd) (jkpB fun z114 p117 r118 => ?_)
                    have h := h z114 p117
                    obtain ⟨K122, hK124, h⟩ := h
                    have jn123 : ∀ (v120 : Int), jR v120 → K122 v120 → J G l d mX0_runs 153 [vR (o : Int), vI a1, jD, vI a3, vR z3, vR z48, vR (b55 : Int), vI v120, vI v77, vI v94, vI v79, jD] [] N96 F97 A98 (cnI G N Q) := by
                      intro v120 rv120 h
                      have h := hK124 v120 h
                      refine r_aload dX0_runs_153 rfl ?_
                      refine r_gRF dX0_runs_155 flX0_243_17 hz43 t108 rfl ?_
                      obtain ⟨P125, hp126, h⟩ := h
                      refine r_invV (ci := 4) (As := []) (rest := []) dX0_runs_158 lkX0_246 hz110 t111 rfl rfl (vX3_isOne (d := 2) (Nat.le_of_ble_eq_true rfl) hW99 t111  hp126) rfl rfl (Nat.le_of_ble_eq_true rfl) (Nat.le_trans (Nat.le_of_ble_eq_true rfl) hd) (jkpB fun z127 p130 r131 => ?_)
                      have h := h z127 p130
                      obtain ⟨h1, h2⟩ := h
                      refine j_if_ne 167 dX0_runs_161 rfl (jR_b r131) (fun q132 => ?_) (fun q132 => ?_)
                      · have h := h1 q132
                        clear h1 h2
                        refine r_aload dX0_runs_167 rfl ?_
                        have t133 : jtg N96 b55 = 18 := (hT100.tg hW83 (hT84.tg hW74 (hT69.tg hW61 t58)))
                        obtain ⟨P134, hp135, h⟩ := h
                        refine r_invV (ci := 18) (As := []) (rest := []) dX0_runs_169 lkX0_194 rfl t133 rfl rfl (vX17_comesBack (d := 9) (Nat.le_of_ble_eq_true rfl) hW99 t133  hp135) rfl rfl (Nat.le_of_ble_eq_true rfl) (Nat.le_trans (Nat.le_of_ble_eq_true rfl) hd) (cknV fun N139 F137 A138 hW140 hT141 p142 => ?_)
                        have h := h N139 F137 A138 p142
                        obtain ⟨r144, h⟩ := h
                        refine j_iinc dX0_runs_172 rfl rfl ?_
                        refine j_goto 82 dX0_runs_175 rfl ?_
                        exact J.wk (((((((((((((jWk.nil).no).eq).eq).eq).eq).eq).eq).eq).eq).no).eq).eq) (ihI85 _ _ _ _ _ _ _ (Nat.lt_of_lt_of_le h.2 (Nat.le_of_lt_succ hmuI85)) hW140 ((hT84.trans hT100).trans hT141) rv120 rv77 rv94 r144 h.1)
                      · have h := h2 (Classical.not_not.mp q132)
                        clear h1 h2
                        obtain ⟨r145, h⟩ := h
                        refine j_iinc dX0_runs_164 rfl rfl ?_
                        refine r_aload dX0_runs_167 rfl ?_
                        have t146 : jtg N96 b55 = 18 := (hT100.tg hW83 (hT84.tg hW74 (hT69.tg hW61 t58)))
                        obtain ⟨P147, hp148, h⟩ := h
                        refine r_invV (ci := 18) (As := []) (rest := []) dX0_runs_169 lkX0_194 rfl t146 rfl rfl (vX17_comesBack (d := 9) (Nat.le_of_ble_eq_true rfl) hW99 t146  hp148) rfl rfl (Nat.le_of_ble_eq_true rfl) (Nat.le_trans (Nat.le_of_ble_eq_true rfl) hd) (cknV fun N152 F150 A151 hW153 hT154 p155 => ?_)
                        have h := h N152 F150 A151 p155
                        obtain ⟨r157, h⟩ := h
                        refine j_iinc dX0_runs_172 rfl rfl ?_
                        refine j_goto 82 dX0_runs_175 rfl ?_
                        exact J.wk (((((((((((((jWk.nil).no).eq).eq).eq).eq).eq).eq).eq).eq).no).eq).eq) (ihI85 _ _ _ _ _ _ _ (Nat.lt_of_lt_of_le h.2 (Nat.le_of_lt_succ hmuI85)) hW153 ((hT84.trans hT100).trans hT154) rv120 r145 rv94 r157 h.1)
                    obtain ⟨h1, h2⟩ := h
                    refine j_if_eq 153 dX0_runs_147 rfl (jR_b r118) (fun q119 => ?_) (fun q119 => ?_)
                    · have h := h1 q119
                      clear h1 h2
                      exact J.wk (((((((((((((jWk.nil).no).eq).eq).eq).eq).eq).eq).eq).eq).no).eq).eq) (jn123 _ rv76 h)
                    · have h := h2 q119
                      clear h1 h2
                      obtain ⟨r158, h⟩ := h
                      refine j_iinc dX0_runs_150 rfl (jokR rfl (Nat.le_of_ble_eq_true rfl)) ?_
                      exact J.wk (((((((((((((jWk.nil).no).eq).eq).eq).eq).eq).eq).eq).eq).no).eq).eq) (jn123 _ r158 h)
                  obtain ⟨h1, h2⟩ := h
                  refine j_icmp_ge 137 dX0_runs_95 rfl rv95 (by decide) (fun q103 => ?_) (fun q103 => ?_)
                  · have h := h1 q103
                    clear h1 h2
                    exact J.wk (((((((((((((jWk.nil).no).eq).eq).eq).eq).eq).eq).eq).eq).no).eq).eq) (jn106   h)
                  · have h := h2 q103
                    clear h1 h2
                    refine r_aload_n dX0_runs_98 rfl ?_
                    have t159 : jtg N96 o = 1 := (hT100.tg hW83 (hT84.tg hW74 t72))
                    refine r_gR dX0_runs_99 flX0_20_1 rfl t159 rfl ?_
                    obtain ⟨b160, hz161, h⟩ := h
                    obtain ⟨t162, h⟩ := h
                    refine r_gI dX0_runs_102 flX0_221_2 hz161 t162 rfl ?_
                    refine j_sipush dX0_runs_105 ?_
                    obtain ⟨h1, h2⟩ := h
                    refine j_icmp_ge 137 dX0_runs_108 rfl (hW99.fi rfl) (by decide) (fun q163 => ?_) (fun q163 => ?_)
                    · have h := h1 q163
                      clear h1 h2
                      exact J.wk (((((((((((((jWk.nil).no).eq).eq).eq).eq).eq).eq).eq).eq).no).eq).eq) (jn106   h)
                    · have h := h2 q163
                      clear h1 h2
                      refine r_aload_n dX0_runs_111 rfl ?_
                      obtain ⟨P164, hp165, h⟩ := h
                      refine r_invV (ci := 1) (As := []) (rest := []) dX0_runs_112 lkX0_424 rfl t159 rfl rfl (vX0_year (d := 11) (Nat.le_of_ble_eq_true rfl) hW99 t159  hp165) rfl rfl (Nat.le_of_ble_eq_true rfl) (Nat.le_trans (Nat.le_of_ble_eq_true rfl) hd) (cknV fun N169 F167 A168 hW170 hT171 p172 => ?_)
                      have h := h N169 F167 A168 p172
                      refine r_aload dX0_runs_115 rfl ?_
                      have t174 : jtg N169 b42 = 17 := (hT171.tg hW99 (hT100.tg hW83 (hT84.tg hW74 (hT69.tg hW61 (hT60.tg hW51 t44)))))
                      refine r_gRF dX0_runs_117 flX0_243_17 hz43 t174 rfl ?_
                      refine r_aload dX0_runs_120 rfl ?_
                      obtain ⟨b175, hz176, h⟩ := h
                      obtain ⟨t177, h⟩ := h
                      obtain ⟨P178, hp179, h⟩ := h
                      refine r_invV (ci := 4) (As := [vR z48]) (rest := []) dX0_runs_122 lkX0_370 hz176 t177 rfl rfl (vX3_isLike (d := 3) (Nat.le_of_ble_eq_true rfl) hW170 t177  hp179) rfl rfl (Nat.le_of_ble_eq_true rfl) (Nat.le_trans (Nat.le_of_ble_eq_true rfl) hd) (jkpB fun z180 p183 r184 => ?_)
                      have h := h z180 p183
                      obtain ⟨h1, h2⟩ := h
                      refine j_if_eq 131 dX0_runs_125 rfl (jR_b r184) (fun q185 => ?_) (fun q185 => ?_)
                      · have h := h1 q185
                        clear h1 h2
                        obtain ⟨r186, h⟩ := h
                        refine j_iinc dX0_runs_131 rfl rfl ?_
                        refine j_goto 91 dX0_runs_134 rfl ?_
                        exact J.wk (((((((((((((jWk.nil).eq).eq).eq).eq).eq).eq).eq).eq).eq).no).eq).eq) (ihI101 _ _ _ _ _ (Nat.lt_of_lt_of_le h.2 (Nat.le_of_lt_succ hmuI101)) hW170 (hT100.trans hT171) rv94 r186 h.1)
                      · have h := h2 q185
                        clear h1 h2
                        obtain ⟨r187, h⟩ := h
                        refine j_iinc dX0_runs_128 rfl rfl ?_
                        obtain ⟨r188, h⟩ := h
                        refine j_iinc dX0_runs_131 rfl rfl ?_
                        refine j_goto 91 dX0_runs_134 rfl ?_
                        exact J.wk (((((((((((((jWk.nil).eq).eq).eq).eq).eq).eq).eq).eq).eq).no).eq).eq) (ihI101 _ _ _ _ _ (Nat.lt_of_lt_of_le h.2 (Nat.le_of_lt_succ hmuI101)) hW170 (hT100.trans hT171) r187 r188 h.1)
              exact J.wk (((((((((((((jWk.nil).eq).eq).eq).eq).eq).eq).eq).eq).eq).no).eq).eq) (lp _ _ _ _ _ _ (Nat.lt_succ_self _) hW83 (jTx.refl _) rv78 (by decide) h0)
        exact J.wk (((((((((((((jWk.nil).no).eq).eq).eq).eq).eq).eq).eq).eq).no).eq).eq) (lp _ _ _ _ _ _ _ _ (Nat.lt_succ_self _) hW74 (jTx.refl _) (by decide) (by decide) (by decide) (by decide) h0)
      · have h := h2 (Classical.not_not.mp q24)
        clear h1 h2
        refine j_iconst dX0_runs_36 ?_
        exact j_iret dX0_runs_37 rfl ⟨_, rfl, hW, (jTx.refl N), h, (by decide)⟩
/-- ChildSays.years(I)I -/
def wqX0_years (S : Nat → Nat) (o : Nat) (a1 : Int) (N : jSh) (F : jFl) (A : jAr) (Q : Int → jSh → jFl → jAr → Prop) : Prop :=
  ∃ (P1 : Int → Prop), wqX0_isIn a1 1 99 N F A P1 ∧
  ∀ z3, P1 z3 →
  ((z3 = 0) →
    ∃ (P9 : Int → jFl → jAr → Prop), wqX0_refused o 3 N F A P9 ∧
    ∀ z11 F12 A13, P9 z11 F12 A13 →
    Q z11 N F12 A13) ∧
  ((¬ (z3 = 0)) →
    ∃ b18 : Nat, F 311 o = (b18 : Int) ∧
    jtg N b18 = 2 ∧
    jR ((F 612 b18) + a1) ∧
    ((((F 612 b18) + a1) ≤ 9999) →
      ∃ (P23 : jSh → jFl → jAr → Prop), wqX0_keeps S o N F A P23 ∧
      ∀ N28 F26 A27, P23 N28 F26 A27 →
      ∃ (I39 : Int → jSh → jFl → jAr → Prop) (m40 : Int → jSh → jFl → jAr → Nat), I39 0 N28 F26 A27 ∧ ∀ (v33 : Int) (N34 : jSh) (F35 : jFl) (A36 : jAr), I39 v33 N34 F35 A36 →
        ((a1 ≤ v33) →
          ∃ b43 : Nat, F35 311 o = (b43 : Int) ∧
          jtg N34 b43 = 2 ∧
          ∃ (P46 : Int → Prop), wqX1_standing b43 N34 F35 A36 P46 ∧
          ∀ z48, P46 z48 →
          Q z48 N34 F35 A36) ∧
        ((¬ (a1 ≤ v33)) →
          ∃ (P54 : jSh → jFl → jAr → Prop), wqX0_year S o N34 F35 A36 P54 ∧
          ∀ N59 F57 A58, P54 N59 F57 A58 →
          jR (v33 + 1) ∧
          I39 (v33 + 1) N59 F57 A58 ∧ m40 (v33 + 1) N59 F57 A58 < m40 v33 N34 F35 A36)) ∧
    ((¬ (((F 612 b18) + a1) ≤ 9999)) →
      ∃ (P65 : Int → jFl → jAr → Prop), wqX0_refused o 3 N F A P65 ∧
      ∀ z67 F68 A69, P65 z67 F68 A69 →
      Q z67 N F68 A69))
theorem vX0_years {G : jG} {l : Launch} [jOff l] {d : Nat} {N : jSh} {F : jFl} {A : jAr} {o : Nat} {a1 : Int} {Q : Int → jSh → jFl → jAr → Prop} (hd : 12 ≤ d) (hW : jWg G N F A) (ht : jtg N o = 1) (ra1 : jR a1) (h : wqX0_years (gS G) o a1 N F A Q) : jCall G l d mX0_years [vR (o : Int), vI a1] N F A (cnI G N Q) := by
  unfold wqX0_years at h
  refine jCall.of (by decide) rfl (ls := [vR (o : Int), vI a1, jD]) (by simp only [jent_R, jent_I, jent_L, jent_nil]; exact Nat.le_of_ble_eq_true rfl) (by simp only [jloc, jent_R, jent_I, jent_L, jent_nil]; rfl) ?_
  refine j_iload_n dX0_years_0 rfl ?_
  refine j_i2l dX0_years_1 ra1 ?_
  refine j_lconst 1 rfl dX0_years_2 ?_
  refine j_ldc2 (n := 99) dX0_years_3 q1571 ?_
  obtain ⟨P1, hp2, h⟩ := h
  refine r_invS (As := [vL a1, vL 1, vL 99]) (rest := []) dX0_years_6 lkX0_124 (vX0_isIn (d := 2) (Nat.le_of_ble_eq_true rfl) hW (jR_L ra1) (by decide) (by decide) hp2) rfl rfl (Nat.le_of_ble_eq_true rfl) (Nat.le_trans (Nat.le_of_ble_eq_true rfl) hd) (jkpB fun z3 p6 r7 => ?_)
  have h := h z3 p6
  obtain ⟨h1, h2⟩ := h
  refine j_if_eq 27 dX0_years_9 rfl (jR_b r7) (fun q8 => ?_) (fun q8 => ?_)
  · have h := h1 q8
    clear h1 h2
    refine r_aload_n dX0_years_27 rfl ?_
    refine j_iconst dX0_years_28 ?_
    obtain ⟨P9, hp10, h⟩ := h
    refine r_invV (ci := 1) (As := [vI 3]) (rest := []) dX0_years_29 lkX0_107 rfl ht rfl rfl (vX0_refused (d := 2) (Nat.le_of_ble_eq_true rfl) hW ht (by decide) hp10) rfl rfl (Nat.le_of_ble_eq_true rfl) (Nat.le_trans (Nat.le_of_ble_eq_true rfl) hd) (ckmI fun z11 F12 A13 hW14 p16 r17 => ?_)
    have h := h z11 F12 A13 p16
    exact j_iret dX0_years_32 rfl ⟨_, rfl, hW14, (jTx.refl N), h, r17⟩
  · have h := h2 q8
    clear h1 h2
    refine r_aload_n dX0_years_12 rfl ?_
    refine r_gR dX0_years_13 flX0_20_1 rfl ht rfl ?_
    obtain ⟨b18, hz19, h⟩ := h
    obtain ⟨t20, h⟩ := h
    refine r_gI dX0_years_16 flX0_221_2 hz19 t20 rfl ?_
    refine j_iload_n dX0_years_19 rfl ?_
    refine j_iadd dX0_years_20 ?_
    refine j_sipush dX0_years_21 ?_
    obtain ⟨r21, h⟩ := h
    obtain ⟨h1, h2⟩ := h
    refine j_icmp_le 33 dX0_years_24 rfl r21 (by decide) (fun q22 => ?_) (fun q22 => ?_)
    · have h := h1 q22
      clear h1 h2
      refine r_aload_n dX0_years_33 rfl ?_
      obtain ⟨P23, hp24, h⟩ := h
      refine r_invV (ci := 1) (As := []) (rest := []) dX0_years_34 lkX0_397 rfl ht rfl rfl (vX0_keeps (d := 10) (Nat.le_of_ble_eq_true rfl) hW ht  hp24) rfl rfl (Nat.le_of_ble_eq_true rfl) (Nat.le_trans (Nat.le_of_ble_eq_true rfl) hd) (cknV fun N28 F26 A27 hW29 hT30 p31 => ?_)
      have h := h N28 F26 A27 p31
      refine j_iconst dX0_years_37 ?_
      refine j_istore_n dX0_years_38 rfl ?_
      obtain ⟨I39, m40, h0, hs⟩ := h
      have lp : ∀ (n : Nat) (v33 : Int) (N34 : jSh) (F35 : jFl) (A36 : jAr), m40 v33 N34 F35 A36 < n → jWg G N34 F35 A36 → jTx N28 N34 → jR v33 → I39 v33 N34 F35 A36 → J G l d mX0_years 39 [vR (o : Int), vI a1, vI v33] [] N34 F35 A36 (cnI G N Q) := by
        intro nI39
        induction nI39 with
        | zero =>
          intro v33 N34 F35 A36 hmu
          exact absurd hmu (Nat.not_lt_zero _)
        | succ nI39 ihI39 =>
          intro v33 N34 F35 A36 hmuI39 hW37 hT38 rv33 hI
          have h := hs v33 N34 F35 A36 hI
          refine j_iload_n dX0_years_39 rfl ?_
          refine j_iload_n dX0_years_40 rfl ?_
          obtain ⟨h1, h2⟩ := h
          refine j_icmp_ge 54 dX0_years_41 rfl rv33 ra1 (fun q41 => ?_) (fun q41 => ?_)
          · have h := h1 q41
            clear h1 h2
            refine r_aload_n dX0_years_54 rfl ?_
            have t42 : jtg N34 o = 1 := (hT38.tg hW29 (hT30.tg hW ht))
            refine r_gR dX0_years_55 flX0_20_1 rfl t42 rfl ?_
            obtain ⟨b43, hz44, h⟩ := h
            obtain ⟨t45, h⟩ := h
            obtain ⟨P46, hp47, h⟩ := h
            refine r_invV (ci := 2) (As := []) (rest := []) dX0_years_58 lkX0_209 hz44 t45 rfl rfl (vX1_standing (d := 5) (Nat.le_of_ble_eq_true rfl) hW37 t45  hp47) rfl rfl (Nat.le_of_ble_eq_true rfl) (Nat.le_trans (Nat.le_of_ble_eq_true rfl) hd) (jkpI fun z48 p51 r52 => ?_)
            have h := h z48 p51
            exact j_iret dX0_years_61 rfl ⟨_, rfl, hW37, (hT30.trans hT38), h, r52⟩
          · have h := h2 q41
            clear h1 h2
            refine r_aload_n dX0_years_44 rfl ?_
            have t53 : jtg N34 o = 1 := (hT38.tg hW29 (hT30.tg hW ht))
            obtain ⟨P54, hp55, h⟩ := h
            refine r_invV (ci := 1) (As := []) (rest := []) dX0_years_45 lkX0_424 rfl t53 rfl rfl (vX0_year (d := 11) (Nat.le_of_ble_eq_true rfl) hW37 t53  hp55) rfl rfl (Nat.le_of_ble_eq_true rfl) (Nat.le_trans (Nat.le_of_ble_eq_true rfl) hd) (cknV fun N59 F57 A58 hW60 hT61 p62 => ?_)
            have h := h N59 F57 A58 p62
            obtain ⟨r64, h⟩ := h
            refine j_iinc dX0_years_48 rfl rfl ?_
            refine j_goto 39 dX0_years_51 rfl ?_
            exact J.wk ((((jWk.nil).eq).eq).eq) (ihI39 _ _ _ _ (Nat.lt_of_lt_of_le h.2 (Nat.le_of_lt_succ hmuI39)) hW60 (hT38.trans hT61) r64 h.1)
      exact J.wk ((((jWk.nil).eq).eq).eq) (lp _ _ _ _ _ (Nat.lt_succ_self _) hW29 (jTx.refl _) (by decide) h0)
    · have h := h2 q22
      clear h1 h2
      refine r_aload_n dX0_years_27 rfl ?_
      refine j_iconst dX0_years_28 ?_
      obtain ⟨P65, hp66, h⟩ := h
      refine r_invV (ci := 1) (As := [vI 3]) (rest := []) dX0_years_29 lkX0_107 rfl ht rfl rfl (vX0_refused (d := 2) (Nat.le_of_ble_eq_true rfl) hW ht (by decide) hp66) rfl rfl (Nat.le_of_ble_eq_true rfl) (Nat.le_trans (Nat.le_of_ble_eq_true rfl) hd) (ckmI fun z67 F68 A69 hW70 p72 r73 => ?_)
      have h := h z67 F68 A69 p72
      exact j_iret dX0_years_32 rfl ⟨_, rfl, hW70, (jTx.refl N), h, r73⟩
/-- ChildSays$Reader.asks(Ljava/lang/String;)V -/
def wqX10_asks (S : Nat → Nat) (o : Nat) (a1 : Int) (N : jSh) (F : jFl) (A : jAr) (Q : jSh → jFl → jAr → Prop) (X : Nat → jSh → jFl → jAr → Prop) : Prop :=
  ∃ (P1 : Int → jSh → jFl → jAr → Prop), wqX10_takes S o a1 N F A P1 X ∧
  ∀ z3 N6 F4 A5, P1 z3 N6 F4 A5 →
  ((¬ z3 = 0) →
    Q N6 F4 A5) ∧
  ((z3 = 0) →
    ∃ (P13 : Int → jSh → jFl → jAr → Prop), wqX10_wrong o N6 F4 A5 P13 ∧
    ∀ z15 N18 F16 A17, P13 z15 N18 F16 A17 →
    ∃ b23 : Nat, z15 = (b23 : Int) ∧
    jtg N18 b23 = 12 ∧
    jfn N18 0 b23 = 1 ∧
    X b23 N18 F16 A17)
theorem vX10_asks {G : jG} {l : Launch} [jOff l] {d : Nat} {N : jSh} {F : jFl} {A : jAr} {o : Nat} {a1 : Int} {Q : jSh → jFl → jAr → Prop} {X : Nat → jSh → jFl → jAr → Prop} (hd : 12 ≤ d) (hW : jWg G N F A) (ht : jtg N o = 11) (h : wqX10_asks (gS G) o a1 N F A Q X) : jCall G l d mX10_asks [vR (o : Int), vR a1] N F A (cX G N X (cnV G N Q)) := by
  unfold wqX10_asks at h
  refine jCall.of (by decide) rfl (ls := [vR (o : Int), vR a1]) (by simp only [jent_R, jent_I, jent_L, jent_nil]; exact Nat.le_of_ble_eq_true rfl) (by simp only [jloc, jent_R, jent_I, jent_L, jent_nil]; rfl) ?_
  refine r_aload_n dX10_asks_0 rfl ?_
  refine r_aload_n dX10_asks_1 rfl ?_
  obtain ⟨P1, hp2, h⟩ := h
  refine r_invV (ci := 11) (As := [vR a1]) (rest := []) dX10_asks_2 lkX10_97 rfl ht rfl rfl (vX10_takes (d := 11) (Nat.le_of_ble_eq_true rfl) hW ht  hp2) rfl rfl (Nat.le_of_ble_eq_true rfl) (Nat.le_trans (Nat.le_of_ble_eq_true rfl) hd) (ckX (fun q N9 F9 A9 W9 T9 t9 w9 h9 => JT.thru (hout0 rfl _) W9 ((jTx.refl N).trans T9) t9 w9 h9) (cknB fun z3 N6 F4 A5 hW7 hT8 p9 r10 => ?_))
  have h := h z3 N6 F4 A5 p9
  obtain ⟨h1, h2⟩ := h
  refine j_if_ne 13 dX10_asks_5 rfl (jR_b r10) (fun q11 => ?_) (fun q11 => ?_)
  · have h := h1 q11
    clear h1 h2
    exact j_vret dX10_asks_13 rfl (Or.inl ⟨rfl, hW7, hT8, h⟩)
  · have h := h2 (Classical.not_not.mp q11)
    clear h1 h2
    refine r_aload_n dX10_asks_8 rfl ?_
    have t12 : jtg N6 o = 11 := (hT8.tg hW ht)
    obtain ⟨P13, hp14, h⟩ := h
    refine r_invV (ci := 11) (As := []) (rest := []) dX10_asks_9 lkX10_93 rfl t12 rfl rfl (vX10_wrong (d := 9) (Nat.le_of_ble_eq_true rfl) hW7 t12  hp14) rfl rfl (Nat.le_of_ble_eq_true rfl) (Nat.le_trans (Nat.le_of_ble_eq_true rfl) hd) (cknR fun z15 N18 F16 A17 hW19 hT20 p21 r22 => ?_)
    have h := h z15 N18 F16 A17 p21
    obtain ⟨b23, hz24, h⟩ := h
    obtain ⟨t25, h⟩ := h
    obtain ⟨w26, h⟩ := h
    exact r_athrow dX10_asks_12 hz24 (JT.thru (hout0 rfl _) hW19 (hT8.trans hT20) t25 w26 h)
/-- ChildSays$Reader.asks(C)V -/
def wqX10_asks_2 (S : Nat → Nat) (o : Nat) (a1 : Int) (N : jSh) (F : jFl) (A : jAr) (Q : jSh → jFl → jAr → Prop) (X : Nat → jSh → jFl → jAr → Prop) : Prop :=
  ∃ (P1 : Int → jSh → jFl → jAr → Prop), wqX10_takes_2 S o a1 N F A P1 X ∧
  ∀ z3 N6 F4 A5, P1 z3 N6 F4 A5 →
  ((¬ z3 = 0) →
    Q N6 F4 A5) ∧
  ((z3 = 0) →
    ∃ (P13 : Int → jSh → jFl → jAr → Prop), wqX10_wrong o N6 F4 A5 P13 ∧
    ∀ z15 N18 F16 A17, P13 z15 N18 F16 A17 →
    ∃ b23 : Nat, z15 = (b23 : Int) ∧
    jtg N18 b23 = 12 ∧
    jfn N18 0 b23 = 1 ∧
    X b23 N18 F16 A17)
theorem vX10_asks_2 {G : jG} {l : Launch} [jOff l] {d : Nat} {N : jSh} {F : jFl} {A : jAr} {o : Nat} {a1 : Int} {Q : jSh → jFl → jAr → Prop} {X : Nat → jSh → jFl → jAr → Prop} (hd : 12 ≤ d) (hW : jWg G N F A) (ht : jtg N o = 11) (ra1 : jR a1) (h : wqX10_asks_2 (gS G) o a1 N F A Q X) : jCall G l d mX10_asks_2 [vR (o : Int), vI a1] N F A (cX G N X (cnV G N Q)) := by
  unfold wqX10_asks_2 at h
  refine jCall.of (by decide) rfl (ls := [vR (o : Int), vI a1]) (by simp only [jent_R, jent_I, jent_L, jent_nil]; exact Nat.le_of_ble_eq_true rfl) (by simp only [jloc, jent_R, jent_I, jent_L, jent_nil]; rfl) ?_
  refine r_aload_n dX10_asks_2_0 rfl ?_
  refine j_iload_n dX10_asks_2_1 rfl ?_
  obtain ⟨P1, hp2, h⟩ := h
  refine r_invV (ci := 11) (As := [vI a1]) (rest := []) dX10_asks_2_2 lkX10_90 rfl ht rfl rfl (vX10_takes_2 (d := 11) (Nat.le_of_ble_eq_true rfl) hW ht ra1 hp2) rfl rfl (Nat.le_of_ble_eq_true rfl) (Nat.le_trans (Nat.le_of_ble_eq_true rfl) hd) (ckX (fun q N9 F9 A9 W9 T9 t9 w9 h9 => JT.thru (hout0 rfl _) W9 ((jTx.refl N).trans T9) t9 w9 h9) (cknB fun z3 N6 F4 A5 hW7 hT8 p9 r10 => ?_))
  have h := h z3 N6 F4 A5 p9
  obtain ⟨h1, h2⟩ := h
  refine j_if_ne 13 dX10_asks_2_5 rfl (jR_b r10) (fun q11 => ?_) (fun q11 => ?_)
  · have h := h1 q11
    clear h1 h2
    exact j_vret dX10_asks_2_13 rfl (Or.inl ⟨rfl, hW7, hT8, h⟩)
  · have h := h2 (Classical.not_not.mp q11)
    clear h1 h2
    refine r_aload_n dX10_asks_2_8 rfl ?_
    have t12 : jtg N6 o = 11 := (hT8.tg hW ht)
    obtain ⟨P13, hp14, h⟩ := h
    refine r_invV (ci := 11) (As := []) (rest := []) dX10_asks_2_9 lkX10_93 rfl t12 rfl rfl (vX10_wrong (d := 9) (Nat.le_of_ble_eq_true rfl) hW7 t12  hp14) rfl rfl (Nat.le_of_ble_eq_true rfl) (Nat.le_trans (Nat.le_of_ble_eq_true rfl) hd) (cknR fun z15 N18 F16 A17 hW19 hT20 p21 r22 => ?_)
    have h := h z15 N18 F16 A17 p21
    obtain ⟨b23, hz24, h⟩ := h
    obtain ⟨t25, h⟩ := h
    obtain ⟨w26, h⟩ := h
    exact r_athrow dX10_asks_2_12 hz24 (JT.thru (hout0 rfl _) hW19 (hT8.trans hT20) t25 w26 h)
/-- ChildSays$Reader.words(LChildSays$Row;II)I -/
def wqX10_words (S : Nat → Nat) (o : Nat) (a1 : Int) (a2 : Int) (a3 : Int) (N : jSh) (F : jFl) (A : jAr) (Q : Int → jSh → jFl → jAr → Prop) (X : Nat → jSh → jFl → jAr → Prop) : Prop :=
  ∃ b1 : Nat, a1 = (b1 : Int) ∧
  jtg N b1 = 4 ∧
  ∃ b4 : Nat, jfn N 3305 o = (b4 : Int) ∧
  jtg N b4 = 2 ∧
  ∃ (P7 : Int → jSh → jFl → jAr → Prop), wqX10_known S o (jfn N 617 b4) N F A P7 X ∧
  ∀ z9 N12 F10 A11, P7 z9 N12 F10 A11 →
  jcst N12 "ChildSays$Word" z9 ∧
  ∃ b18 : Nat, jfn N 1202 b1 = (b18 : Int) ∧
  jtg N12 b18 = 107 ∧
  jfn N12 0 b18 = 1 ∧
  ((0 : Int) ≤ a2 ∧ (a2 : Int) < (jln N12 b18 : Int)) ∧
  jast N12 "ChildSays$Word" z9 ∧
  ∀ A23 : jAr, A23 = upA A11 b18 a2 z9 →
  ∃ (P27 : Int → jSh → jFl → jAr → Prop), wqX10_ahead S o N12 F10 A23 P27 ∧
  ∀ z29 N32 F30 A31, P27 z29 N32 F30 A31 →
  ∃ (I44 : Int → Int → jSh → jFl → jAr → Prop) (m45 : Int → Int → jSh → jFl → jAr → Nat), I44 1 z29 N32 F30 A31 ∧ ∀ (v37 : Int) (v38 : Int) (N39 : jSh) (F40 : jFl) (A41 : jAr), I44 v37 v38 N39 F40 A41 →
    ∃ b46 : Nat, v38 = (b46 : Int) ∧
    jtg N39 b46 = 22 ∧
    ∃ (P49 : Int → Prop), wqJ5_isEmpty b46 N39 F40 A41 P49 ∧
    ∀ z51, P49 z51 →
    ((¬ z51 = 0) →
      Q v37 N39 F40 A41) ∧
    ((z51 = 0) →
      ∃ (P57 : Int → Prop), wqX0_isOwn S v38 N39 F40 A41 P57 ∧
      ∀ z59, P57 z59 →
      ((¬ z59 = 0) →
        Q v37 N39 F40 A41) ∧
      ((z59 = 0) →
        ((¬ v37 = a3) →
          ∃ b68 : Nat, jfn N39 3305 o = (b68 : Int) ∧
          jtg N39 b68 = 2 ∧
          ∃ (P71 : Int → jSh → jFl → jAr → Prop), wqX10_known S o (jfn N39 617 b68) N39 F40 A41 P71 X ∧
          ∀ z73 N76 F74 A75, P71 z73 N76 F74 A75 →
          jcst N76 "ChildSays$Word" z73 ∧
          ∃ b82 : Nat, jfn N39 1202 b1 = (b82 : Int) ∧
          jtg N76 b82 = 107 ∧
          jfn N76 0 b82 = 1 ∧
          ((0 : Int) ≤ a2 + v37 ∧ (a2 + v37 : Int) < (jln N76 b82 : Int)) ∧
          jast N76 "ChildSays$Word" z73 ∧
          ∀ A87 : jAr, A87 = upA A75 b82 (a2 + v37) z73 →
          jR (v37 + 1) ∧
          ∃ (P92 : Int → jSh → jFl → jAr → Prop), wqX10_ahead S o N76 F74 A87 P92 ∧
          ∀ z94 N97 F95 A96, P92 z94 N97 F95 A96 →
          I44 (v37 + 1) z94 N97 F95 A96 ∧ m45 (v37 + 1) z94 N97 F95 A96 < m45 v37 v38 N39 F40 A41) ∧
        ((v37 = a3) →
          ∀ (b102 : Nat) (N103 : jSh) (F104 : jFl), b102 = jnx N39 → N103 = jnew N39 12 0 8 1 → F104 = nwF N39 F40 →
          ∃ (P110 : jSh → jFl → jAr → Prop), wqX11_init b102 5 (F104 3312 o) N103 F104 A41 P110 ∧
          ∀ N115 F113 A114, P110 N115 F113 A114 →
          X b102 N115 F113 A114)))
theorem vX10_words {G : jG} {l : Launch} [jOff l] {d : Nat} {N : jSh} {F : jFl} {A : jAr} {o : Nat} {a1 a2 a3 : Int} {Q : Int → jSh → jFl → jAr → Prop} {X : Nat → jSh → jFl → jAr → Prop} (hd : 12 ≤ d) (hW : jWg G N F A) (ht : jtg N o = 11) (ra2 : jR a2) (ra3 : jR a3) (h : wqX10_words (gS G) o a1 a2 a3 N F A Q X) : jCall G l d mX10_words [vR (o : Int), vR a1, vI a2, vI a3] N F A (cX G N X (cnI G N Q)) := by
  unfold wqX10_words at h
  refine jCall.of (by decide) rfl (ls := [vR (o : Int), vR a1, vI a2, vI a3, jD, jD]) (by simp only [jent_R, jent_I, jent_L, jent_nil]; exact Nat.le_of_ble_eq_true rfl) (by simp only [jloc, jent_R, jent_I, jent_L, jent_nil]; rfl) ?_
  refine r_aload_n dX10_words_0 rfl ?_
  obtain ⟨b1, hz2, h⟩ := h
  obtain ⟨t3, h⟩ := h
  refine r_gRF dX10_words_1 flX10_205_4 hz2 t3 rfl ?_
  refine j_iload_n dX10_words_4 rfl ?_
  refine r_aload_n dX10_words_5 rfl ?_
  refine r_aload_n dX10_words_6 rfl ?_
  refine r_gRF dX10_words_7 flX10_22_11 rfl ht rfl ?_
  obtain ⟨b4, hz5, h⟩ := h
  obtain ⟨t6, h⟩ := h
  refine r_gRF dX10_words_10 flX10_119_2 hz5 t6 rfl ?_
  obtain ⟨P7, hp8, h⟩ := h
  refine r_invV (ci := 11) (As := [vR (jfn N 617 b4)]) (rest := [vI a2, vR (jfn N 1202 b1)]) dX10_words_13 lkX10_175 rfl ht rfl rfl (vX10_known (d := 11) (Nat.le_of_ble_eq_true rfl) hW ht  hp8) rfl rfl (Nat.le_of_ble_eq_true rfl) (Nat.le_trans (Nat.le_of_ble_eq_true rfl) hd) (ckX (fun q N9 F9 A9 W9 T9 t9 w9 h9 => JT.thru (hout0 rfl _) W9 ((jTx.refl N).trans T9) t9 w9 h9) (cknR fun z9 N12 F10 A11 hW13 hT14 p15 r16 => ?_))
  have h := h z9 N12 F10 A11 p15
  obtain ⟨j17, h⟩ := h
  refine r_chk dX10_words_16 q874 j17 ?_
  obtain ⟨b18, hz19, h⟩ := h
  obtain ⟨t20, h⟩ := h
  obtain ⟨w21, h⟩ := h
  obtain ⟨c22, h⟩ := h
  obtain ⟨j25, h⟩ := h
  refine c_aast hW13 dX10_words_19 hz19 t20 rfl w21 c22 j25 rfl fun A23 eA23 hW24 => ?_
  have h := h A23 eA23
  refine j_iconst dX10_words_20 ?_
  refine j_istore dX10_words_21 rfl ?_
  refine r_aload_n dX10_words_23 rfl ?_
  have t26 : jtg N12 o = 11 := (hT14.tg hW ht)
  obtain ⟨P27, hp28, h⟩ := h
  refine r_invV (ci := 11) (As := []) (rest := []) dX10_words_24 lkX10_209 rfl t26 rfl rfl (vX10_ahead (d := 9) (Nat.le_of_ble_eq_true rfl) hW24 t26  hp28) rfl rfl (Nat.le_of_ble_eq_true rfl) (Nat.le_trans (Nat.le_of_ble_eq_true rfl) hd) (cknR fun z29 N32 F30 A31 hW33 hT34 p35 r36 => ?_)
  have h := h z29 N32 F30 A31 p35
  refine r_astore dX10_words_27 rfl ?_
  obtain ⟨I44, m45, h0, hs⟩ := h
  have lp : ∀ (n : Nat) (v37 : Int) (v38 : Int) (N39 : jSh) (F40 : jFl) (A41 : jAr), m45 v37 v38 N39 F40 A41 < n → jWg G N39 F40 A41 → jTx N32 N39 → jR v37 → I44 v37 v38 N39 F40 A41 → J G l d mX10_words 29 [vR (o : Int), vR a1, vI a2, vI a3, vI v37, vR v38] [] N39 F40 A41 (cX G N X (cnI G N Q)) := by
    intro nI44
    induction nI44 with
    | zero =>
      intro v37 v38 N39 F40 A41 hmu
      exact absurd hmu (Nat.not_lt_zero _)
    | succ nI44 ihI44 =>
      intro v37 v38 N39 F40 A41 hmuI44 hW42 hT43 rv37 hI
      have h := hs v37 v38 N39 F40 A41 hI
      refine r_aload dX10_words_29 rfl ?_
      obtain ⟨b46, hz47, h⟩ := h
      obtain ⟨t48, h⟩ := h
      obtain ⟨P49, hp50, h⟩ := h
      refine r_invV (ci := 22) (As := []) (rest := []) dX10_words_31 lkX10_212 hz47 t48 rfl rfl (vJ5_isEmpty (d := 2) (Nat.le_of_ble_eq_true rfl) hW42 t48  hp50) rfl rfl (Nat.le_of_ble_eq_true rfl) (Nat.le_trans (Nat.le_of_ble_eq_true rfl) hd) (jkpB fun z51 p54 r55 => ?_)
      have h := h z51 p54
      obtain ⟨h1, h2⟩ := h
      refine j_if_ne 99 dX10_words_34 rfl (jR_b r55) (fun q56 => ?_) (fun q56 => ?_)
      · have h := h1 q56
        clear h1 h2
        refine j_iload dX10_words_99 rfl ?_
        exact j_iret dX10_words_101 rfl (Or.inl ⟨_, rfl, hW42, ((hT14.trans hT34).trans hT43), h, rv37⟩)
      · have h := h2 (Classical.not_not.mp q56)
        clear h1 h2
        refine r_aload dX10_words_37 rfl ?_
        obtain ⟨P57, hp58, h⟩ := h
        refine r_invSN (As := [vR v38]) (rest := []) dX10_words_39 lkX10_103 (vX0_isOwn (d := 4) (Nat.le_of_ble_eq_true rfl) hW42  hp58) rfl rfl (Nat.le_of_ble_eq_true rfl) (Nat.le_trans (Nat.le_of_ble_eq_true rfl) hd) (jkpB fun z59 p62 r63 => ?_)
        have h := h z59 p62
        obtain ⟨h1, h2⟩ := h
        refine j_if_ne 99 dX10_words_42 rfl (jR_b r63) (fun q64 => ?_) (fun q64 => ?_)
        · have h := h1 q64
          clear h1 h2
          refine j_iload dX10_words_99 rfl ?_
          exact j_iret dX10_words_101 rfl (Or.inl ⟨_, rfl, hW42, ((hT14.trans hT34).trans hT43), h, rv37⟩)
        · have h := h2 (Classical.not_not.mp q64)
          clear h1 h2
          refine j_iload dX10_words_45 rfl ?_
          refine j_iload_n dX10_words_47 rfl ?_
          obtain ⟨h1, h2⟩ := h
          refine j_icmp_ne 64 dX10_words_48 rfl rv37 ra3 (fun q65 => ?_) (fun q65 => ?_)
          · have h := h1 q65
            clear h1 h2
            refine r_aload_n dX10_words_64 rfl ?_
            have t66 : jtg N39 b1 = 4 := (hT43.tg hW33 (hT34.tg hW24 (hT14.tg hW t3)))
            refine r_gRF dX10_words_65 flX10_205_4 hz2 t66 rfl ?_
            refine j_iload_n dX10_words_68 rfl ?_
            refine j_iload dX10_words_69 rfl ?_
            refine j_iadd dX10_words_71 ?_
            refine r_aload_n dX10_words_72 rfl ?_
            refine r_aload_n dX10_words_73 rfl ?_
            have t67 : jtg N39 o = 11 := (hT43.tg hW33 (hT34.tg hW24 t26))
            refine r_gRF dX10_words_74 flX10_22_11 rfl t67 rfl ?_
            obtain ⟨b68, hz69, h⟩ := h
            obtain ⟨t70, h⟩ := h
            refine r_gRF dX10_words_77 flX10_119_2 hz69 t70 rfl ?_
            obtain ⟨P71, hp72, h⟩ := h
            refine r_invV (ci := 11) (As := [vR (jfn N39 617 b68)]) (rest := [vI (a2 + v37), vR (jfn N39 1202 b1)]) dX10_words_80 lkX10_175 rfl t67 rfl rfl (vX10_known (d := 11) (Nat.le_of_ble_eq_true rfl) hW42 t67  hp72) rfl rfl (Nat.le_of_ble_eq_true rfl) (Nat.le_trans (Nat.le_of_ble_eq_true rfl) hd) (ckX (fun q N9 F9 A9 W9 T9 t9 w9 h9 => JT.thru (hout0 rfl _) W9 (((hT14.trans hT34).trans hT43).trans T9) t9 w9 h9) (cknR fun z73 N76 F74 A75 hW77 hT78 p79 r80 => ?_))
            have h := h z73 N76 F74 A75 p79
            obtain ⟨j81, h⟩ := h
            refine r_chk dX10_words_83 q874 j81 ?_
            obtain ⟨b82, hz83, h⟩ := h
            obtain ⟨t84, h⟩ := h
            obtain ⟨w85, h⟩ := h
            obtain ⟨c86, h⟩ := h
            obtain ⟨j89, h⟩ := h
            refine c_aast hW77 dX10_words_86 hz83 t84 rfl w85 c86 j89 rfl fun A87 eA87 hW88 => ?_
            have h := h A87 eA87
            obtain ⟨r90, h⟩ := h
            refine j_iinc dX10_words_87 rfl rfl ?_
            refine r_aload_n dX10_words_90 rfl ?_
            have t91 : jtg N76 o = 11 := (hT78.tg hW42 t67)
            obtain ⟨P92, hp93, h⟩ := h
            refine r_invV (ci := 11) (As := []) (rest := []) dX10_words_91 lkX10_209 rfl t91 rfl rfl (vX10_ahead (d := 9) (Nat.le_of_ble_eq_true rfl) hW88 t91  hp93) rfl rfl (Nat.le_of_ble_eq_true rfl) (Nat.le_trans (Nat.le_of_ble_eq_true rfl) hd) (cknR fun z94 N97 F95 A96 hW98 hT99 p100 r101 => ?_)
            have h := h z94 N97 F95 A96 p100
            refine r_astore dX10_words_94 rfl ?_
            refine j_goto 29 dX10_words_96 rfl ?_
            exact J.wk (((((((jWk.nil).eq).eq).eq).eq).eq).eq) (ihI44 _ _ _ _ _ (Nat.lt_of_lt_of_le h.2 (Nat.le_of_lt_succ hmuI44)) hW98 ((hT43.trans hT78).trans hT99) r90 h.1)
          · have h := h2 (Classical.not_not.mp q65)
            clear h1 h2
            refine c_new (ci := 12) hW42 dX10_words_51 rfl q665 rfl rfl fun b102 N103 F104 eb102 eN103 eF104 t105 w106 hT107 hW108 => ?_
            have h := h b102 N103 F104 eb102 eN103 eF104
            refine j_dup dX10_words_54 (vR_cat _) ?_
            refine j_iconst dX10_words_55 ?_
            refine r_aload_n dX10_words_56 rfl ?_
            have t109 : jtg N103 o = 11 := (hT107.tg hW42 (hT43.tg hW33 (hT34.tg hW24 t26)))
            refine r_gI dX10_words_57 flX10_40_11 rfl t109 rfl ?_
            obtain ⟨P110, hp111, h⟩ := h
            refine r_invI (As := [vI 5, vI (F104 3312 o)]) (rest := [vR (b102 : Int)]) dX10_words_60 lkX10_56 rfl (vX11_init (d := 8) (Nat.le_of_ble_eq_true rfl) hW108 t105 (by decide) (hW108.fi rfl) hp111) rfl rfl (Nat.le_of_ble_eq_true rfl) (Nat.le_trans (Nat.le_of_ble_eq_true rfl) hd) (cknV fun N115 F113 A114 hW116 hT117 p118 => ?_)
            have h := h N115 F113 A114 p118
            have t120 : jtg N115 b102 = 12 := (hT117.tg hW108 t105)
            have w121 : jfn N115 0 b102 = 1 := (hT117.ow hW108 t105 w106)
            exact r_athrow dX10_words_63 rfl (JT.thru (hout0 rfl _) hW116 ((((hT14.trans hT34).trans hT43).trans hT107).trans hT117) t120 w121 h)
  exact J.wk (((((((jWk.nil).eq).eq).eq).eq).eq).eq) (lp _ _ _ _ _ _ (Nat.lt_succ_self _) hW33 (jTx.refl _) (by decide) h0)
/-- ChildSays$Reader.child(I)V -/
def wqX10_child (S : Nat → Nat) (o : Nat) (a1 : Int) (N : jSh) (F : jFl) (A : jAr) (Q : jSh → jFl → jAr → Prop) (X : Nat → jSh → jFl → jAr → Prop) : Prop :=
  ∃ b1 : Nat, jfn N 3305 o = (b1 : Int) ∧
  jtg N b1 = 2 ∧
  ∃ b4 : Nat, jfn N 623 b1 = (b4 : Int) ∧
  jtg N b4 = 20 ∧
  ∃ (P7 : Int → Prop), wqJ2_size b4 N F A P7 ∧
  ∀ z9, P7 z9 →
  ∃ (P14 : Prop), wqX10_space o z9 10 a1 N F A P14 X ∧
  (P14 →
  ∃ (P21 : Int → jSh → jFl → jAr → Prop), wqX10_newName S o N F A P21 X ∧
  ∀ z23 N26 F24 A25, P21 z23 N26 F24 A25 →
  ∃ (P32 : jSh → jFl → jAr → Prop), wqX10_asks S o (S 9 : Int) N26 F24 A25 P32 X ∧
  ∀ N37 F35 A36, P32 N37 F35 A36 →
  ∀ (b42 : Nat) (N43 : jSh) (F44 : jFl), b42 = jnx N37 → N43 = jnew N37 16 0 7 1 → F44 = nwF N37 F35 →
  ∃ b50 : Nat, jfn N43 3305 o = (b50 : Int) ∧
  jtg N43 b50 = 2 ∧
  ∃ b53 : Nat, jfn N43 623 b50 = (b53 : Int) ∧
  jtg N43 b53 = 20 ∧
  ∃ (P56 : Int → Prop), wqJ2_size b53 N43 F44 A36 P56 ∧
  ∀ z58, P56 z58 →
  ∃ (P63 : Int → jSh → jFl → jAr → Prop), wqX10_known S o (jfn N43 620 b50) N43 F44 A36 P63 X ∧
  ∀ z65 N68 F66 A67, P63 z65 N68 F66 A67 →
  jcst N68 "ChildSays$Street" z65 ∧
  ∃ (P75 : jSh → jFl → jAr → Prop), wqX15_init b42 z23 z58 z65 N68 F66 A67 P75 ∧
  ∀ N80 F78 A79, P75 N80 F78 A79 →
  ∃ (P86 : jSh → jFl → jAr → Prop), wqX10_asks S o (S 10 : Int) N80 F78 A79 P86 X ∧
  ∀ N91 F89 A90, P86 N91 F89 A90 →
  ∃ (P97 : Int → jSh → jFl → jAr → Prop), wqX10_number S o 1 60 N91 F89 A90 P97 X ∧
  ∀ z99 N102 F100 A101, P97 z99 N102 F100 A101 →
  ∀ F110 : jFl, F110 = upF F100 4803 b42 z99 →
  ∃ (I116 : jSh → jFl → jAr → Prop) (m117 : jSh → jFl → jAr → Nat), I116 N102 F110 A101 ∧ ∀ (N111 : jSh) (F112 : jFl) (A113 : jAr), I116 N111 F112 A113 →
    ∃ (P119 : Int → jSh → jFl → jAr → Prop), wqX10_see S o N111 F112 A113 P119 X ∧
    ∀ z121 N124 F122 A123, P119 z121 N124 F122 A123 →
    ((¬ z121 = 1) →
      ∃ b131 : Nat, jfn N124 3305 o = (b131 : Int) ∧
      jtg N124 b131 = 2 ∧
      ∃ b134 : Nat, jfn N124 623 b131 = (b134 : Int) ∧
      jtg N124 b134 = 20 ∧
      ∃ (P137 : Int → jSh → jFl → jAr → Prop), wqJ2_add S b134 (b42 : Int) N124 F122 A123 P137 ∧
      ∀ z139 N142 F140 A141, P137 z139 N142 F140 A141 →
      Q N142 F140 A141) ∧
    ((z121 = 1) →
      ∃ b148 : Nat, jfn N124 3305 o = (b148 : Int) ∧
      jtg N124 b148 = 2 ∧
      ∃ (P151 : Int → jSh → jFl → jAr → Prop), wqX10_known S o (jfn N124 617 b148) N124 F122 A123 P151 X ∧
      ∀ z153 N156 F154 A155, P151 z153 N156 F154 A155 →
      jcst N156 "ChildSays$Word" z153 ∧
      ∃ b163 : Nat, z153 = (b163 : Int) ∧
      jtg N156 b163 = 14 ∧
      ∃ b166 : Nat, jfn N156 4811 b42 = (b166 : Int) ∧
      jtg N156 b166 = 105 ∧
      ((0 : Int) ≤ jfn N156 3903 b163 ∧ (jfn N156 3903 b163 : Int) < (jln N156 b166 : Int)) ∧
      (((A155 b166 (jfn N156 3903 b163)) = 0) →
        jfn N156 0 b166 = 1 ∧
        ((0 : Int) ≤ jfn N156 3903 b163 ∧ (jfn N156 3903 b163 : Int) < (jln N156 b166 : Int)) ∧
        ∀ A173 : jAr, A173 = upA A155 b166 (jfn N156 3903 b163) 1 →
        jR ((F154 4806 b42) + 1) ∧
        ∀ F178 : jFl, F178 = upF F154 4806 b42 ((F154 4806 b42) + 1) →
        I116 N156 F178 A173 ∧ m117 N156 F178 A173 < m117 N111 F112 A113) ∧
      ((¬ ((A155 b166 (jfn N156 3903 b163)) = 0)) →
        ∀ (b179 : Nat) (N180 : jSh) (F181 : jFl), b179 = jnx N156 → N180 = jnew N156 12 0 8 1 → F181 = nwF N156 F154 →
        ∃ (P187 : jSh → jFl → jAr → Prop), wqX11_init b179 3 (F181 3312 o) N180 F181 A155 P187 ∧
        ∀ N192 F190 A191, P187 N192 F190 A191 →
        X b179 N192 F190 A191)))
theorem vX10_child {G : jG} {l : Launch} [jOff l] {d : Nat} {N : jSh} {F : jFl} {A : jAr} {o : Nat} {a1 : Int} {Q : jSh → jFl → jAr → Prop} {X : Nat → jSh → jFl → jAr → Prop} (hd : 13 ≤ d) (hW : jWg G N F A) (ht : jtg N o = 11) (ra1 : jR a1) (h : wqX10_child (gS G) o a1 N F A Q X) : jCall G l d mX10_child [vR (o : Int), vI a1] N F A (cX G N X (cnV G N Q)) := by
  unfold wqX10_child at h
  refine jCall.of (by decide) rfl (ls := [vR (o : Int), vI a1, jD, jD, jD]) (by simp only [jent_R, jent_I, jent_L, jent_nil]; exact Nat.le_of_ble_eq_true rfl) (by simp only [jloc, jent_R, jent_I, jent_L, jent_nil]; rfl) ?_
  refine r_aload_n dX10_child_0 rfl ?_
  refine r_aload_n dX10_child_1 rfl ?_
  refine r_gRF dX10_child_2 flX10_22_11 rfl ht rfl ?_
  obtain ⟨b1, hz2, h⟩ := h
  obtain ⟨t3, h⟩ := h
  refine r_gRF dX10_child_5 flX10_186_2 hz2 t3 rfl ?_
  obtain ⟨b4, hz5, h⟩ := h
  obtain ⟨t6, h⟩ := h
  obtain ⟨P7, hp8, h⟩ := h
  refine r_invV (ci := 20) (As := []) (rest := [vR (o : Int)]) dX10_child_8 lkX10_123 hz5 t6 rfl rfl (vJ2_size (d := 2) (Nat.le_of_ble_eq_true rfl) hW t6  hp8) rfl rfl (Nat.le_of_ble_eq_true rfl) (Nat.le_trans (Nat.le_of_ble_eq_true rfl) hd) (jkpI fun z9 p12 r13 => ?_)
  have h := h z9 p12
  refine j_bipush dX10_child_11 ?_
  refine j_iload_n dX10_child_13 rfl ?_
  obtain ⟨P14, hp15, h⟩ := h
  refine r_invV (ci := 11) (As := [vI z9, vI 10, vI a1]) (rest := []) dX10_child_14 lkX10_127 rfl ht rfl rfl (vX10_space (d := 9) (Nat.le_of_ble_eq_true rfl) hW ht r13 (by decide) ra1 hp15) rfl rfl (Nat.le_of_ble_eq_true rfl) (Nat.le_trans (Nat.le_of_ble_eq_true rfl) hd) (ckX (fun q N9 F9 A9 W9 T9 t9 w9 h9 => JT.thru (hout0 rfl _) W9 ((jTx.refl N).trans T9) t9 w9 h9) (jkpV fun p19 => ?_))
  have h := h p19
  refine r_aload_n dX10_child_17 rfl ?_
  obtain ⟨P21, hp22, h⟩ := h
  refine r_invV (ci := 11) (As := []) (rest := []) dX10_child_18 lkX10_133 rfl ht rfl rfl (vX10_newName (d := 11) (Nat.le_of_ble_eq_true rfl) hW ht  hp22) rfl rfl (Nat.le_of_ble_eq_true rfl) (Nat.le_trans (Nat.le_of_ble_eq_true rfl) hd) (ckX (fun q N9 F9 A9 W9 T9 t9 w9 h9 => JT.thru (hout0 rfl _) W9 ((jTx.refl N).trans T9) t9 w9 h9) (cknR fun z23 N26 F24 A25 hW27 hT28 p29 r30 => ?_))
  have h := h z23 N26 F24 A25 p29
  refine r_astore_n dX10_child_21 rfl ?_
  refine r_aload_n dX10_child_22 rfl ?_
  refine r_ldcs (n := 9) (tx := "of") dX10_child_23 (List.mem_of_elem_eq_true (by decide +kernel)) ?_
  have t31 : jtg N26 o = 11 := (hT28.tg hW ht)
  obtain ⟨P32, hp33, h⟩ := h
  refine r_invV (ci := 11) (As := [vR (gS G 9 : Int)]) (rest := []) dX10_child_25 lkX10_141 rfl t31 rfl rfl (vX10_asks (d := 12) (Nat.le_of_ble_eq_true rfl) hW27 t31  hp33) rfl rfl (Nat.le_of_ble_eq_true rfl) (Nat.le_trans (Nat.le_of_ble_eq_true rfl) hd) (ckX (fun q N9 F9 A9 W9 T9 t9 w9 h9 => JT.thru (hout0 rfl _) W9 (hT28.trans T9) t9 w9 h9) (cknV fun N37 F35 A36 hW38 hT39 p40 => ?_))
  have h := h N37 F35 A36 p40
  refine c_new (ci := 16) hW38 dX10_child_28 rfl q1082 rfl rfl fun b42 N43 F44 eb42 eN43 eF44 t45 w46 hT47 hW48 => ?_
  have h := h b42 N43 F44 eb42 eN43 eF44
  refine j_dup dX10_child_31 (vR_cat _) ?_
  refine r_aload_n dX10_child_32 rfl ?_
  refine r_aload_n dX10_child_33 rfl ?_
  have t49 : jtg N43 o = 11 := (hT47.tg hW38 (hT39.tg hW27 t31))
  refine r_gRF dX10_child_34 flX10_22_11 rfl t49 rfl ?_
  obtain ⟨b50, hz51, h⟩ := h
  obtain ⟨t52, h⟩ := h
  refine r_gRF dX10_child_37 flX10_186_2 hz51 t52 rfl ?_
  obtain ⟨b53, hz54, h⟩ := h
  obtain ⟨t55, h⟩ := h
  obtain ⟨P56, hp57, h⟩ := h
  refine r_invV (ci := 20) (As := []) (rest := [vR z23, vR (b42 : Int), vR (b42 : Int)]) dX10_child_40 lkX10_123 hz54 t55 rfl rfl (vJ2_size (d := 2) (Nat.le_of_ble_eq_true rfl) hW48 t55  hp57) rfl rfl (Nat.le_of_ble_eq_true rfl) (Nat.le_trans (Nat.le_of_ble_eq_true rfl) hd) (jkpI fun z58 p61 r62 => ?_)
  have h := h z58 p61
  refine r_aload_n dX10_child_43 rfl ?_
  refine r_aload_n dX10_child_44 rfl ?_
  refine r_gRF dX10_child_45 flX10_22_11 rfl t49 rfl ?_
  refine r_gRF dX10_child_48 flX10_169_2 hz51 t52 rfl ?_
  obtain ⟨P63, hp64, h⟩ := h
  refine r_invV (ci := 11) (As := [vR (jfn N43 620 b50)]) (rest := [vI z58, vR z23, vR (b42 : Int), vR (b42 : Int)]) dX10_child_51 lkX10_175 rfl t49 rfl rfl (vX10_known (d := 11) (Nat.le_of_ble_eq_true rfl) hW48 t49  hp64) rfl rfl (Nat.le_of_ble_eq_true rfl) (Nat.le_trans (Nat.le_of_ble_eq_true rfl) hd) (ckX (fun q N9 F9 A9 W9 T9 t9 w9 h9 => JT.thru (hout0 rfl _) W9 (((hT28.trans hT39).trans hT47).trans T9) t9 w9 h9) (cknR fun z65 N68 F66 A67 hW69 hT70 p71 r72 => ?_))
  have h := h z65 N68 F66 A67 p71
  obtain ⟨j73, h⟩ := h
  refine r_chk dX10_child_54 q1056 j73 ?_
  have t74 : jtg N68 b42 = 16 := (hT70.tg hW48 t45)
  obtain ⟨P75, hp76, h⟩ := h
  refine r_invI (As := [vR z23, vI z58, vR z65]) (rest := [vR (b42 : Int)]) dX10_child_57 lkX10_193 rfl (vX15_init (d := 3) (Nat.le_of_ble_eq_true rfl) hW69 t74 r62 hp76) rfl rfl (Nat.le_of_ble_eq_true rfl) (Nat.le_trans (Nat.le_of_ble_eq_true rfl) hd) (cknV fun N80 F78 A79 hW81 hT82 p83 => ?_)
  have h := h N80 F78 A79 p83
  refine r_astore_n dX10_child_60 (jokR rfl (Nat.le_of_ble_eq_true rfl)) ?_
  refine r_aload_n dX10_child_61 rfl ?_
  refine r_ldcs (n := 10) (tx := "holds") dX10_child_62 (List.mem_of_elem_eq_true (by decide +kernel)) ?_
  have t85 : jtg N80 o = 11 := (hT82.tg hW69 (hT70.tg hW48 t49))
  obtain ⟨P86, hp87, h⟩ := h
  refine r_invV (ci := 11) (As := [vR (gS G 10 : Int)]) (rest := []) dX10_child_64 lkX10_141 rfl t85 rfl rfl (vX10_asks (d := 12) (Nat.le_of_ble_eq_true rfl) hW81 t85  hp87) rfl rfl (Nat.le_of_ble_eq_true rfl) (Nat.le_trans (Nat.le_of_ble_eq_true rfl) hd) (ckX (fun q N9 F9 A9 W9 T9 t9 w9 h9 => JT.thru (hout0 rfl _) W9 (((((hT28.trans hT39).trans hT47).trans hT70).trans hT82).trans T9) t9 w9 h9) (cknV fun N91 F89 A90 hW92 hT93 p94 => ?_))
  have h := h N91 F89 A90 p94
  refine r_aload_n dX10_child_67 rfl ?_
  refine r_aload_n dX10_child_68 rfl ?_
  refine j_iconst dX10_child_69 ?_
  refine j_bipush dX10_child_70 ?_
  have t96 : jtg N91 o = 11 := (hT93.tg hW81 t85)
  obtain ⟨P97, hp98, h⟩ := h
  refine r_invV (ci := 11) (As := [vI 1, vI 60]) (rest := [vR (b42 : Int)]) dX10_child_72 lkX10_145 rfl t96 rfl rfl (vX10_number (d := 10) (Nat.le_of_ble_eq_true rfl) hW92 t96 (by decide) (by decide) hp98) rfl rfl (Nat.le_of_ble_eq_true rfl) (Nat.le_trans (Nat.le_of_ble_eq_true rfl) hd) (ckX (fun q N9 F9 A9 W9 T9 t9 w9 h9 => JT.thru (hout0 rfl _) W9 ((((((hT28.trans hT39).trans hT47).trans hT70).trans hT82).trans hT93).trans T9) t9 w9 h9) (cknI fun z99 N102 F100 A101 hW103 hT104 p105 r106 => ?_))
  have h := h z99 N102 F100 A101 p105
  have t107 : jtg N102 b42 = 16 := (hT104.tg hW92 (hT93.tg hW81 (hT82.tg hW69 t74)))
  have w108 : jfn N102 0 b42 = 1 := (hT104.ow hW92 (hT93.tg hW81 (hT82.tg hW69 (hT70.tg hW48 t45))) (hT93.ow hW81 (hT82.tg hW69 (hT70.tg hW48 t45)) (hT82.ow hW69 (hT70.tg hW48 t45) (hT70.ow hW48 t45 w46))))
  refine c_pI hW103 dX10_child_75 flX10_198_16 rfl t107 w108 rfl r106 fun F110 eF110 hW109 => ?_
  have h := h F110 eF110
  obtain ⟨I116, m117, h0, hs⟩ := h
  have lp : ∀ (n : Nat) (N111 : jSh) (F112 : jFl) (A113 : jAr), m117 N111 F112 A113 < n → jWg G N111 F112 A113 → jTx N102 N111 → I116 N111 F112 A113 → J G l d mX10_child 78 [vR (o : Int), jD, jD, vR (b42 : Int), jD] [] N111 F112 A113 (cX G N X (cnV G N Q)) := by
    intro nI116
    induction nI116 with
    | zero =>
      intro N111 F112 A113 hmu
      exact absurd hmu (Nat.not_lt_zero _)
    | succ nI116 ihI116 =>
      intro N111 F112 A113 hmuI116 hW114 hT115  hI
      have h := hs N111 F112 A113 hI
      refine r_aload_n dX10_child_78 rfl ?_
      have t118 : jtg N111 o = 11 := (hT115.tg hW109 (hT104.tg hW92 t96))
      obtain ⟨P119, hp120, h⟩ := h
      refine r_invV (ci := 11) (As := []) (rest := []) dX10_child_79 lkX10_75 rfl t118 rfl rfl (vX10_see (d := 9) (Nat.le_of_ble_eq_true rfl) hW114 t118  hp120) rfl rfl (Nat.le_of_ble_eq_true rfl) (Nat.le_trans (Nat.le_of_ble_eq_true rfl) hd) (ckX (fun q N9 F9 A9 W9 T9 t9 w9 h9 => JT.thru (hout0 rfl _) W9 ((((((((hT28.trans hT39).trans hT47).trans hT70).trans hT82).trans hT93).trans hT104).trans hT115).trans T9) t9 w9 h9) (cknI fun z121 N124 F122 A123 hW125 hT126 p127 r128 => ?_))
      have h := h z121 N124 F122 A123 p127
      refine j_iconst dX10_child_82 ?_
      obtain ⟨h1, h2⟩ := h
      refine j_icmp_ne 152 dX10_child_83 rfl r128 (by decide) (fun q129 => ?_) (fun q129 => ?_)
      · have h := h1 q129
        clear h1 h2
        refine r_aload_n dX10_child_152 rfl ?_
        have t130 : jtg N124 o = 11 := (hT126.tg hW114 t118)
        refine r_gRF dX10_child_153 flX10_22_11 rfl t130 rfl ?_
        obtain ⟨b131, hz132, h⟩ := h
        obtain ⟨t133, h⟩ := h
        refine r_gRF dX10_child_156 flX10_186_2 hz132 t133 rfl ?_
        refine r_aload_n dX10_child_159 rfl ?_
        obtain ⟨b134, hz135, h⟩ := h
        obtain ⟨t136, h⟩ := h
        obtain ⟨P137, hp138, h⟩ := h
        refine r_invV (ci := 20) (As := [vR (b42 : Int)]) (rest := []) dX10_child_160 lkX10_166 hz135 t136 rfl rfl (vJ2_add (d := 8) (Nat.le_of_ble_eq_true rfl) hW125 t136  hp138) rfl rfl (Nat.le_of_ble_eq_true rfl) (Nat.le_trans (Nat.le_of_ble_eq_true rfl) hd) (cknB fun z139 N142 F140 A141 hW143 hT144 p145 r146 => ?_)
        have h := h z139 N142 F140 A141 p145
        refine j_pop dX10_child_163 rfl ?_
        exact j_vret dX10_child_164 rfl (Or.inl ⟨rfl, hW143, (((((((((hT28.trans hT39).trans hT47).trans hT70).trans hT82).trans hT93).trans hT104).trans hT115).trans hT126).trans hT144), h⟩)
      · have h := h2 (Classical.not_not.mp q129)
        clear h1 h2
        refine r_aload_n dX10_child_86 rfl ?_
        refine r_aload_n dX10_child_87 rfl ?_
        have t147 : jtg N124 o = 11 := (hT126.tg hW114 t118)
        refine r_gRF dX10_child_88 flX10_22_11 rfl t147 rfl ?_
        obtain ⟨b148, hz149, h⟩ := h
        obtain ⟨t150, h⟩ := h
        refine r_gRF dX10_child_91 flX10_119_2 hz149 t150 rfl ?_
        obtain ⟨P151, hp152, h⟩ := h
        refine r_invV (ci := 11) (As := [vR (jfn N124 617 b148)]) (rest := []) dX10_child_94 lkX10_175 rfl t147 rfl rfl (vX10_known (d := 11) (Nat.le_of_ble_eq_true rfl) hW125 t147  hp152) rfl rfl (Nat.le_of_ble_eq_true rfl) (Nat.le_trans (Nat.le_of_ble_eq_true rfl) hd) (ckX (fun q N9 F9 A9 W9 T9 t9 w9 h9 => JT.thru (hout0 rfl _) W9 (((((((((hT28.trans hT39).trans hT47).trans hT70).trans hT82).trans hT93).trans hT104).trans hT115).trans hT126).trans T9) t9 w9 h9) (cknR fun z153 N156 F154 A155 hW157 hT158 p159 r160 => ?_))
        have h := h z153 N156 F154 A155 p159
        obtain ⟨j161, h⟩ := h
        refine r_chk dX10_child_97 q874 j161 ?_
        refine r_astore dX10_child_100 (jokR rfl (Nat.le_of_ble_eq_true rfl)) ?_
        refine r_aload_n dX10_child_102 rfl ?_
        have t162 : jtg N156 b42 = 16 := (hT158.tg hW125 (hT126.tg hW114 (hT115.tg hW109 t107)))
        refine r_gRF dX10_child_103 flX10_200_16 rfl t162 rfl ?_
        refine r_aload dX10_child_106 rfl ?_
        obtain ⟨b163, hz164, h⟩ := h
        obtain ⟨t165, h⟩ := h
        refine r_gIF dX10_child_108 flX10_183_14 hz164 t165 rfl ?_
        obtain ⟨b166, hz167, h⟩ := h
        obtain ⟨t168, h⟩ := h
        obtain ⟨c169, h⟩ := h
        refine r_zald dX10_child_111 hz167 t168 c169 ?_
        obtain ⟨h1, h2⟩ := h
        refine j_if_eq 128 dX10_child_112 rfl (hW157.ai t168 rfl) (fun q170 => ?_) (fun q170 => ?_)
        · have h := h1 q170
          clear h1 h2
          refine r_aload_n dX10_child_128 rfl ?_
          refine r_gRF dX10_child_129 flX10_200_16 rfl t162 rfl ?_
          refine r_aload dX10_child_132 rfl ?_
          refine r_gIF dX10_child_134 flX10_183_14 hz164 t165 rfl ?_
          refine j_iconst dX10_child_137 ?_
          obtain ⟨w171, h⟩ := h
          obtain ⟨c172, h⟩ := h
          refine c_zast hW157 dX10_child_138 hz167 t168 w171 c172 (by decide) (by decide) fun A173 eA173 hW174 => ?_
          have h := h A173 eA173
          refine r_aload_n dX10_child_139 rfl ?_
          refine j_dup dX10_child_140 (vR_cat _) ?_
          refine r_gI dX10_child_141 flX10_203_16 rfl t162 rfl ?_
          refine j_iconst dX10_child_144 ?_
          refine j_iadd dX10_child_145 ?_
          have w175 : jfn N156 0 b42 = 1 := (hT158.ow hW125 (hT126.tg hW114 (hT115.tg hW109 (hT104.tg hW92 (hT93.tg hW81 (hT82.tg hW69 (hT70.tg hW48 t45)))))) (hT126.ow hW114 (hT115.tg hW109 (hT104.tg hW92 (hT93.tg hW81 (hT82.tg hW69 (hT70.tg hW48 t45))))) (hT115.ow hW109 (hT104.tg hW92 (hT93.tg hW81 (hT82.tg hW69 (hT70.tg hW48 t45)))) w108)))
          obtain ⟨r176, h⟩ := h
          refine c_pI hW174 dX10_child_146 flX10_203_16 rfl t162 w175 rfl r176 fun F178 eF178 hW177 => ?_
          have h := h F178 eF178
          refine j_goto 78 dX10_child_149 rfl ?_
          exact J.wk ((((((jWk.nil).no).eq).no).no).eq) (ihI116 _ _ _ (Nat.lt_of_lt_of_le h.2 (Nat.le_of_lt_succ hmuI116)) hW177 ((hT115.trans hT126).trans hT158) h.1)
        · have h := h2 q170
          clear h1 h2
          refine c_new (ci := 12) hW157 dX10_child_115 rfl q665 rfl rfl fun b179 N180 F181 eb179 eN180 eF181 t182 w183 hT184 hW185 => ?_
          have h := h b179 N180 F181 eb179 eN180 eF181
          refine j_dup dX10_child_118 (vR_cat _) ?_
          refine j_iconst dX10_child_119 ?_
          refine r_aload_n dX10_child_120 rfl ?_
          have t186 : jtg N180 o = 11 := (hT184.tg hW157 (hT158.tg hW125 t147))
          refine r_gI dX10_child_121 flX10_40_11 rfl t186 rfl ?_
          obtain ⟨P187, hp188, h⟩ := h
          refine r_invI (As := [vI 3, vI (F181 3312 o)]) (rest := [vR (b179 : Int)]) dX10_child_124 lkX10_56 rfl (vX11_init (d := 8) (Nat.le_of_ble_eq_true rfl) hW185 t182 (by decide) (hW185.fi rfl) hp188) rfl rfl (Nat.le_of_ble_eq_true rfl) (Nat.le_trans (Nat.le_of_ble_eq_true rfl) hd) (cknV fun N192 F190 A191 hW193 hT194 p195 => ?_)
          have h := h N192 F190 A191 p195
          have t197 : jtg N192 b179 = 12 := (hT194.tg hW185 t182)
          have w198 : jfn N192 0 b179 = 1 := (hT194.ow hW185 t182 w183)
          exact r_athrow dX10_child_127 rfl (JT.thru (hout0 rfl _) hW193 (((((((((((hT28.trans hT39).trans hT47).trans hT70).trans hT82).trans hT93).trans hT104).trans hT115).trans hT126).trans hT158).trans hT184).trans hT194) t197 w198 h)
  exact J.wk ((((((jWk.nil).no).eq).no).no).eq) (lp _ _ _ _ (Nat.lt_succ_self _) hW109 (jTx.refl _) h0)
/-- ChildSays$Reader.row(LChildSays$Row;)LChildSays$Row; -/
def wqX10_row (S : Nat → Nat) (o : Nat) (a1 : Int) (N : jSh) (F : jFl) (A : jAr) (Q : Int → jSh → jFl → jAr → Prop) (X : Nat → jSh → jFl → jAr → Prop) : Prop :=
  ∃ (P1 : Int → jSh → jFl → jAr → Prop), wqX10_words S o a1 0 8 N F A P1 X ∧
  ∀ z3 N6 F4 A5, P1 z3 N6 F4 A5 →
  ∃ b11 : Nat, a1 = (b11 : Int) ∧
  jtg N6 b11 = 4 ∧
  jfn N6 0 b11 = 1 ∧
  ∀ F16 : jFl, F16 = upF F4 1203 b11 z3 →
  ∃ (P18 : Int → jSh → jFl → jAr → Prop), wqX10_takes S o (S 14 : Int) N6 F16 A5 P18 X ∧
  ∀ z20 N23 F21 A22, P18 z20 N23 F21 A22 →
  ((z20 = 0) →
    ∀ F32 : jFl, F32 = upF F21 1206 b11 0 →
    Q a1 N23 F32 A22) ∧
  ((¬ (z20 = 0)) →
    ∃ (P35 : Int → jSh → jFl → jAr → Prop), wqX10_words S o a1 (F21 1203 b11) 4 N23 F21 A22 P35 X ∧
    ∀ z37 N40 F38 A39, P35 z37 N40 F38 A39 →
    ∀ F48 : jFl, F48 = upF F38 1206 b11 z37 →
    Q a1 N40 F48 A39)
theorem vX10_row {G : jG} {l : Launch} [jOff l] {d : Nat} {N : jSh} {F : jFl} {A : jAr} {o : Nat} {a1 : Int} {Q : Int → jSh → jFl → jAr → Prop} {X : Nat → jSh → jFl → jAr → Prop} (hd : 13 ≤ d) (hW : jWg G N F A) (ht : jtg N o = 11) (h : wqX10_row (gS G) o a1 N F A Q X) : jCall G l d mX10_row [vR (o : Int), vR a1] N F A (cX G N X (cnR G N Q)) := by
  unfold wqX10_row at h
  refine jCall.of (by decide) rfl (ls := [vR (o : Int), vR a1]) (by simp only [jent_R, jent_I, jent_L, jent_nil]; exact Nat.le_of_ble_eq_true rfl) (by simp only [jloc, jent_R, jent_I, jent_L, jent_nil]; rfl) ?_
  refine r_aload_n dX10_row_0 rfl ?_
  refine r_aload_n dX10_row_1 rfl ?_
  refine r_aload_n dX10_row_2 rfl ?_
  refine j_iconst dX10_row_3 ?_
  refine j_bipush dX10_row_4 ?_
  obtain ⟨P1, hp2, h⟩ := h
  refine r_invV (ci := 11) (As := [vR a1, vI 0, vI 8]) (rest := [vR a1]) dX10_row_6 lkX10_216 rfl ht rfl rfl (vX10_words (d := 12) (Nat.le_of_ble_eq_true rfl) hW ht (by decide) (by decide) hp2) rfl rfl (Nat.le_of_ble_eq_true rfl) (Nat.le_trans (Nat.le_of_ble_eq_true rfl) hd) (ckX (fun q N9 F9 A9 W9 T9 t9 w9 h9 => JT.thru (hout0 rfl _) W9 ((jTx.refl N).trans T9) t9 w9 h9) (cknI fun z3 N6 F4 A5 hW7 hT8 p9 r10 => ?_))
  have h := h z3 N6 F4 A5 p9
  obtain ⟨b11, hz12, h⟩ := h
  obtain ⟨t13, h⟩ := h
  obtain ⟨w14, h⟩ := h
  refine c_pI hW7 dX10_row_9 flX10_219_4 hz12 t13 w14 rfl r10 fun F16 eF16 hW15 => ?_
  have h := h F16 eF16
  refine r_aload_n dX10_row_12 rfl ?_
  refine r_aload_n dX10_row_13 rfl ?_
  refine r_ldcs (n := 14) (tx := "but") dX10_row_14 (List.mem_of_elem_eq_true (by decide +kernel)) ?_
  have t17 : jtg N6 o = 11 := (hT8.tg hW ht)
  obtain ⟨P18, hp19, h⟩ := h
  refine r_invV (ci := 11) (As := [vR (gS G 14 : Int)]) (rest := [vR a1]) dX10_row_16 lkX10_97 rfl t17 rfl rfl (vX10_takes (d := 11) (Nat.le_of_ble_eq_true rfl) hW15 t17  hp19) rfl rfl (Nat.le_of_ble_eq_true rfl) (Nat.le_trans (Nat.le_of_ble_eq_true rfl) hd) (ckX (fun q N9 F9 A9 W9 T9 t9 w9 h9 => JT.thru (hout0 rfl _) W9 (hT8.trans T9) t9 w9 h9) (cknB fun z20 N23 F21 A22 hW24 hT25 p26 r27 => ?_))
  have h := h z20 N23 F21 A22 p26
  obtain ⟨h1, h2⟩ := h
  refine j_if_eq 35 dX10_row_19 rfl (jR_b r27) (fun q28 => ?_) (fun q28 => ?_)
  · have h := h1 q28
    clear h1 h2
    refine j_iconst dX10_row_35 ?_
    have t29 : jtg N23 b11 = 4 := (hT25.tg hW15 t13)
    have w30 : jfn N23 0 b11 = 1 := (hT25.ow hW15 t13 w14)
    refine c_pI hW24 dX10_row_36 flX10_224_4 hz12 t29 w30 rfl (by decide) fun F32 eF32 hW31 => ?_
    have h := h F32 eF32
    refine r_aload_n dX10_row_39 rfl ?_
    exact r_aret dX10_row_40 rfl (Or.inl ⟨_, rfl⟩) (Or.inl ⟨_, rfl, hW31, (hT8.trans hT25), h, trivial⟩)
  · have h := h2 q28
    clear h1 h2
    refine r_aload_n dX10_row_22 rfl ?_
    refine r_aload_n dX10_row_23 rfl ?_
    refine r_aload_n dX10_row_24 rfl ?_
    have t33 : jtg N23 b11 = 4 := (hT25.tg hW15 t13)
    refine r_gI dX10_row_25 flX10_219_4 hz12 t33 rfl ?_
    refine j_iconst dX10_row_28 ?_
    have t34 : jtg N23 o = 11 := (hT25.tg hW15 t17)
    obtain ⟨P35, hp36, h⟩ := h
    refine r_invV (ci := 11) (As := [vR a1, vI (F21 1203 b11), vI 4]) (rest := [vR a1]) dX10_row_29 lkX10_216 rfl t34 rfl rfl (vX10_words (d := 12) (Nat.le_of_ble_eq_true rfl) hW24 t34 (hW24.fi rfl) (by decide) hp36) rfl rfl (Nat.le_of_ble_eq_true rfl) (Nat.le_trans (Nat.le_of_ble_eq_true rfl) hd) (ckX (fun q N9 F9 A9 W9 T9 t9 w9 h9 => JT.thru (hout0 rfl _) W9 ((hT8.trans hT25).trans T9) t9 w9 h9) (cknI fun z37 N40 F38 A39 hW41 hT42 p43 r44 => ?_))
    have h := h z37 N40 F38 A39 p43
    refine j_goto 36 dX10_row_32 rfl ?_
    have t45 : jtg N40 b11 = 4 := (hT42.tg hW24 t33)
    have w46 : jfn N40 0 b11 = 1 := (hT42.ow hW24 (hT25.tg hW15 t13) (hT25.ow hW15 t13 w14))
    refine c_pI hW41 dX10_row_36 flX10_224_4 hz12 t45 w46 rfl r44 fun F48 eF48 hW47 => ?_
    have h := h F48 eF48
    refine r_aload_n dX10_row_39 rfl ?_
    exact r_aret dX10_row_40 rfl (Or.inl ⟨_, rfl⟩) (Or.inl ⟨_, rfl, hW47, ((hT8.trans hT25).trans hT42), h, trivial⟩)
/-- ChildSays$Reader.street(I)V -/
def wqX10_street (S : Nat → Nat) (o : Nat) (a1 : Int) (N : jSh) (F : jFl) (A : jAr) (Q : jSh → jFl → jAr → Prop) (X : Nat → jSh → jFl → jAr → Prop) : Prop :=
  ∃ b1 : Nat, jfn N 3305 o = (b1 : Int) ∧
  jtg N b1 = 2 ∧
  ∃ b4 : Nat, jfn N 620 b1 = (b4 : Int) ∧
  jtg N b4 = 20 ∧
  ∃ (P7 : Int → Prop), wqJ2_size b4 N F A P7 ∧
  ∀ z9, P7 z9 →
  ∃ (P14 : Prop), wqX10_space o z9 6 a1 N F A P14 X ∧
  (P14 →
  ∀ (b21 : Nat) (N22 : jSh) (F23 : jFl), b21 = jnx N → N22 = jnew N 15 0 3 1 → F23 = nwF N F →
  ∃ (P29 : Int → jSh → jFl → jAr → Prop), wqX10_newName S o N22 F23 A P29 X ∧
  ∀ z31 N34 F32 A33, P29 z31 N34 F32 A33 →
  ∃ b40 : Nat, jfn N34 3305 o = (b40 : Int) ∧
  jtg N34 b40 = 2 ∧
  ∃ b43 : Nat, jfn N34 620 b40 = (b43 : Int) ∧
  jtg N34 b43 = 20 ∧
  ∃ (P46 : Int → Prop), wqJ2_size b43 N34 F32 A33 P46 ∧
  ∀ z48, P46 z48 →
  ∃ (P54 : jSh → jFl → jAr → Prop), wqX14_init b21 z31 z48 N34 F32 A33 P54 ∧
  ∀ N59 F57 A58, P54 N59 F57 A58 →
  ∃ (I69 : jSh → jFl → jAr → Prop) (m70 : jSh → jFl → jAr → Nat), I69 N59 F57 A58 ∧ ∀ (N64 : jSh) (F65 : jFl) (A66 : jAr), I69 N64 F65 A66 →
    ∃ (P72 : Int → jSh → jFl → jAr → Prop), wqX10_see S o N64 F65 A66 P72 X ∧
    ∀ z74 N77 F75 A76, P72 z74 N77 F75 A76 →
    ((¬ z74 = 1) →
      ∃ b84 : Nat, jfn N77 3305 o = (b84 : Int) ∧
      jtg N77 b84 = 2 ∧
      ∃ b87 : Nat, jfn N77 620 b84 = (b87 : Int) ∧
      jtg N77 b87 = 20 ∧
      ∃ (P90 : Int → jSh → jFl → jAr → Prop), wqJ2_add S b87 (b21 : Int) N77 F75 A76 P90 ∧
      ∀ z92 N95 F93 A94, P90 z92 N95 F93 A94 →
      Q N95 F93 A94) ∧
    ((z74 = 1) →
      ∃ b101 : Nat, jfn N77 3305 o = (b101 : Int) ∧
      jtg N77 b101 = 2 ∧
      ∃ (P104 : Int → jSh → jFl → jAr → Prop), wqX10_known S o (jfn N77 617 b101) N77 F75 A76 P104 X ∧
      ∀ z106 N109 F107 A108, P104 z106 N109 F107 A108 →
      jcst N109 "ChildSays$Word" z106 ∧
      ∃ b116 : Nat, z106 = (b116 : Int) ∧
      jtg N109 b116 = 14 ∧
      ∃ b119 : Nat, jfn N109 4502 b21 = (b119 : Int) ∧
      jtg N109 b119 = 107 ∧
      ((0 : Int) ≤ jfn N109 3903 b116 ∧ (jfn N109 3903 b116 : Int) < (jln N109 b119 : Int)) ∧
      (((A108 b119 (jfn N109 3903 b116)) < 0) →
        ∃ (P125 : jSh → jFl → jAr → Prop), wqX10_asks S o (S 7 : Int) N109 F107 A108 P125 X ∧
        ∀ N130 F128 A129, P125 N130 F128 A129 →
        ∃ b138 : Nat, jfn N130 3305 o = (b138 : Int) ∧
        jtg N130 b138 = 2 ∧
        ∃ (P141 : Int → jSh → jFl → jAr → Prop), wqX10_known S o (jfn N130 617 b138) N130 F128 A129 P141 X ∧
        ∀ z143 N146 F144 A145, P141 z143 N146 F144 A145 →
        jcst N146 "ChildSays$Word" z143 ∧
        ∃ b152 : Nat, jfn N130 4502 b21 = (b152 : Int) ∧
        jtg N146 b152 = 107 ∧
        jfn N146 0 b152 = 1 ∧
        ((0 : Int) ≤ jfn N130 3903 b116 ∧ (jfn N130 3903 b116 : Int) < (jln N146 b152 : Int)) ∧
        jast N146 "ChildSays$Word" z143 ∧
        ∀ A157 : jAr, A157 = upA A145 b152 (jfn N130 3903 b116) z143 →
        I69 N146 F144 A157 ∧ m70 N146 F144 A157 < m70 N64 F65 A66) ∧
      ((¬ ((A108 b119 (jfn N109 3903 b116)) < 0)) →
        ∀ (b160 : Nat) (N161 : jSh) (F162 : jFl), b160 = jnx N109 → N161 = jnew N109 12 0 8 1 → F162 = nwF N109 F107 →
        ∃ (P168 : jSh → jFl → jAr → Prop), wqX11_init b160 3 (F162 3312 o) N161 F162 A108 P168 ∧
        ∀ N173 F171 A172, P168 N173 F171 A172 →
        X b160 N173 F171 A172)))
theorem vX10_street {G : jG} {l : Launch} [jOff l] {d : Nat} {N : jSh} {F : jFl} {A : jAr} {o : Nat} {a1 : Int} {Q : jSh → jFl → jAr → Prop} {X : Nat → jSh → jFl → jAr → Prop} (hd : 13 ≤ d) (hW : jWg G N F A) (ht : jtg N o = 11) (ra1 : jR a1) (h : wqX10_street (gS G) o a1 N F A Q X) : jCall G l d mX10_street [vR (o : Int), vI a1] N F A (cX G N X (cnV G N Q)) := by
  unfold wqX10_street at h
  refine jCall.of (by decide) rfl (ls := [vR (o : Int), vI a1, jD, jD]) (by simp only [jent_R, jent_I, jent_L, jent_nil]; exact Nat.le_of_ble_eq_true rfl) (by simp only [jloc, jent_R, jent_I, jent_L, jent_nil]; rfl) ?_
  refine r_aload_n dX10_street_0 rfl ?_
  refine r_aload_n dX10_street_1 rfl ?_
  refine r_gRF dX10_street_2 flX10_22_11 rfl ht rfl ?_
  obtain ⟨b1, hz2, h⟩ := h
  obtain ⟨t3, h⟩ := h
  refine r_gRF dX10_street_5 flX10_169_2 hz2 t3 rfl ?_
  obtain ⟨b4, hz5, h⟩ := h
  obtain ⟨t6, h⟩ := h
  obtain ⟨P7, hp8, h⟩ := h
  refine r_invV (ci := 20) (As := []) (rest := [vR (o : Int)]) dX10_street_8 lkX10_123 hz5 t6 rfl rfl (vJ2_size (d := 2) (Nat.le_of_ble_eq_true rfl) hW t6  hp8) rfl rfl (Nat.le_of_ble_eq_true rfl) (Nat.le_trans (Nat.le_of_ble_eq_true rfl) hd) (jkpI fun z9 p12 r13 => ?_)
  have h := h z9 p12
  refine j_bipush dX10_street_11 ?_
  refine j_iload_n dX10_street_13 rfl ?_
  obtain ⟨P14, hp15, h⟩ := h
  refine r_invV (ci := 11) (As := [vI z9, vI 6, vI a1]) (rest := []) dX10_street_14 lkX10_127 rfl ht rfl rfl (vX10_space (d := 9) (Nat.le_of_ble_eq_true rfl) hW ht r13 (by decide) ra1 hp15) rfl rfl (Nat.le_of_ble_eq_true rfl) (Nat.le_trans (Nat.le_of_ble_eq_true rfl) hd) (ckX (fun q N9 F9 A9 W9 T9 t9 w9 h9 => JT.thru (hout0 rfl _) W9 ((jTx.refl N).trans T9) t9 w9 h9) (jkpV fun p19 => ?_))
  have h := h p19
  refine c_new (ci := 15) hW dX10_street_17 rfl q1056 rfl rfl fun b21 N22 F23 eb21 eN22 eF23 t24 w25 hT26 hW27 => ?_
  have h := h b21 N22 F23 eb21 eN22 eF23
  refine j_dup dX10_street_20 (vR_cat _) ?_
  refine r_aload_n dX10_street_21 rfl ?_
  have t28 : jtg N22 o = 11 := (hT26.tg hW ht)
  obtain ⟨P29, hp30, h⟩ := h
  refine r_invV (ci := 11) (As := []) (rest := [vR (b21 : Int), vR (b21 : Int)]) dX10_street_22 lkX10_133 rfl t28 rfl rfl (vX10_newName (d := 11) (Nat.le_of_ble_eq_true rfl) hW27 t28  hp30) rfl rfl (Nat.le_of_ble_eq_true rfl) (Nat.le_trans (Nat.le_of_ble_eq_true rfl) hd) (ckX (fun q N9 F9 A9 W9 T9 t9 w9 h9 => JT.thru (hout0 rfl _) W9 (hT26.trans T9) t9 w9 h9) (cknR fun z31 N34 F32 A33 hW35 hT36 p37 r38 => ?_))
  have h := h z31 N34 F32 A33 p37
  refine r_aload_n dX10_street_25 rfl ?_
  have t39 : jtg N34 o = 11 := (hT36.tg hW27 t28)
  refine r_gRF dX10_street_26 flX10_22_11 rfl t39 rfl ?_
  obtain ⟨b40, hz41, h⟩ := h
  obtain ⟨t42, h⟩ := h
  refine r_gRF dX10_street_29 flX10_169_2 hz41 t42 rfl ?_
  obtain ⟨b43, hz44, h⟩ := h
  obtain ⟨t45, h⟩ := h
  obtain ⟨P46, hp47, h⟩ := h
  refine r_invV (ci := 20) (As := []) (rest := [vR z31, vR (b21 : Int), vR (b21 : Int)]) dX10_street_32 lkX10_123 hz44 t45 rfl rfl (vJ2_size (d := 2) (Nat.le_of_ble_eq_true rfl) hW35 t45  hp47) rfl rfl (Nat.le_of_ble_eq_true rfl) (Nat.le_trans (Nat.le_of_ble_eq_true rfl) hd) (jkpI fun z48 p51 r52 => ?_)
  have h := h z48 p51
  have t53 : jtg N34 b21 = 15 := (hT36.tg hW27 t24)
  obtain ⟨P54, hp55, h⟩ := h
  refine r_invI (As := [vR z31, vI z48]) (rest := [vR (b21 : Int)]) dX10_street_35 lkX10_174 rfl (vX14_init (d := 3) (Nat.le_of_ble_eq_true rfl) hW35 t53 r52 hp55) rfl rfl (Nat.le_of_ble_eq_true rfl) (Nat.le_trans (Nat.le_of_ble_eq_true rfl) hd) (cknV fun N59 F57 A58 hW60 hT61 p62 => ?_)
  have h := h N59 F57 A58 p62
  refine r_astore_n dX10_street_38 rfl ?_
  obtain ⟨I69, m70, h0, hs⟩ := h
  have lp : ∀ (n : Nat) (N64 : jSh) (F65 : jFl) (A66 : jAr), m70 N64 F65 A66 < n → jWg G N64 F65 A66 → jTx N59 N64 → I69 N64 F65 A66 → J G l d mX10_street 39 [vR (o : Int), jD, vR (b21 : Int), jD] [] N64 F65 A66 (cX G N X (cnV G N Q)) := by
    intro nI69
    induction nI69 with
    | zero =>
      intro N64 F65 A66 hmu
      exact absurd hmu (Nat.not_lt_zero _)
    | succ nI69 ihI69 =>
      intro N64 F65 A66 hmuI69 hW67 hT68  hI
      have h := hs N64 F65 A66 hI
      refine r_aload_n dX10_street_39 rfl ?_
      have t71 : jtg N64 o = 11 := (hT68.tg hW60 (hT61.tg hW35 t39))
      obtain ⟨P72, hp73, h⟩ := h
      refine r_invV (ci := 11) (As := []) (rest := []) dX10_street_40 lkX10_75 rfl t71 rfl rfl (vX10_see (d := 9) (Nat.le_of_ble_eq_true rfl) hW67 t71  hp73) rfl rfl (Nat.le_of_ble_eq_true rfl) (Nat.le_trans (Nat.le_of_ble_eq_true rfl) hd) (ckX (fun q N9 F9 A9 W9 T9 t9 w9 h9 => JT.thru (hout0 rfl _) W9 ((((hT26.trans hT36).trans hT61).trans hT68).trans T9) t9 w9 h9) (cknI fun z74 N77 F75 A76 hW78 hT79 p80 r81 => ?_))
      have h := h z74 N77 F75 A76 p80
      refine j_iconst dX10_street_43 ?_
      obtain ⟨h1, h2⟩ := h
      refine j_icmp_ne 119 dX10_street_44 rfl r81 (by decide) (fun q82 => ?_) (fun q82 => ?_)
      · have h := h1 q82
        clear h1 h2
        refine r_aload_n dX10_street_119 rfl ?_
        have t83 : jtg N77 o = 11 := (hT79.tg hW67 t71)
        refine r_gRF dX10_street_120 flX10_22_11 rfl t83 rfl ?_
        obtain ⟨b84, hz85, h⟩ := h
        obtain ⟨t86, h⟩ := h
        refine r_gRF dX10_street_123 flX10_169_2 hz85 t86 rfl ?_
        refine r_aload_n dX10_street_126 rfl ?_
        obtain ⟨b87, hz88, h⟩ := h
        obtain ⟨t89, h⟩ := h
        obtain ⟨P90, hp91, h⟩ := h
        refine r_invV (ci := 20) (As := [vR (b21 : Int)]) (rest := []) dX10_street_127 lkX10_166 hz88 t89 rfl rfl (vJ2_add (d := 8) (Nat.le_of_ble_eq_true rfl) hW78 t89  hp91) rfl rfl (Nat.le_of_ble_eq_true rfl) (Nat.le_trans (Nat.le_of_ble_eq_true rfl) hd) (cknB fun z92 N95 F93 A94 hW96 hT97 p98 r99 => ?_)
        have h := h z92 N95 F93 A94 p98
        refine j_pop dX10_street_130 rfl ?_
        exact j_vret dX10_street_131 rfl (Or.inl ⟨rfl, hW96, (((((hT26.trans hT36).trans hT61).trans hT68).trans hT79).trans hT97), h⟩)
      · have h := h2 (Classical.not_not.mp q82)
        clear h1 h2
        refine r_aload_n dX10_street_47 rfl ?_
        refine r_aload_n dX10_street_48 rfl ?_
        have t100 : jtg N77 o = 11 := (hT79.tg hW67 t71)
        refine r_gRF dX10_street_49 flX10_22_11 rfl t100 rfl ?_
        obtain ⟨b101, hz102, h⟩ := h
        obtain ⟨t103, h⟩ := h
        refine r_gRF dX10_street_52 flX10_119_2 hz102 t103 rfl ?_
        obtain ⟨P104, hp105, h⟩ := h
        refine r_invV (ci := 11) (As := [vR (jfn N77 617 b101)]) (rest := []) dX10_street_55 lkX10_175 rfl t100 rfl rfl (vX10_known (d := 11) (Nat.le_of_ble_eq_true rfl) hW78 t100  hp105) rfl rfl (Nat.le_of_ble_eq_true rfl) (Nat.le_trans (Nat.le_of_ble_eq_true rfl) hd) (ckX (fun q N9 F9 A9 W9 T9 t9 w9 h9 => JT.thru (hout0 rfl _) W9 (((((hT26.trans hT36).trans hT61).trans hT68).trans hT79).trans T9) t9 w9 h9) (cknR fun z106 N109 F107 A108 hW110 hT111 p112 r113 => ?_))
        have h := h z106 N109 F107 A108 p112
        obtain ⟨j114, h⟩ := h
        refine r_chk dX10_street_58 q874 j114 ?_
        refine r_astore_n dX10_street_61 (jokR rfl (Nat.le_of_ble_eq_true rfl)) ?_
        refine r_aload_n dX10_street_62 rfl ?_
        have t115 : jtg N109 b21 = 15 := (hT111.tg hW78 (hT79.tg hW67 (hT68.tg hW60 (hT61.tg hW35 t53))))
        refine r_gRF dX10_street_63 flX10_179_15 rfl t115 rfl ?_
        refine r_aload_n dX10_street_66 rfl ?_
        obtain ⟨b116, hz117, h⟩ := h
        obtain ⟨t118, h⟩ := h
        refine r_gIF dX10_street_67 flX10_183_14 hz117 t118 rfl ?_
        obtain ⟨b119, hz120, h⟩ := h
        obtain ⟨t121, h⟩ := h
        obtain ⟨c122, h⟩ := h
        refine r_aald dX10_street_70 hz120 t121 rfl rfl c122 ?_
        obtain ⟨h1, h2⟩ := h
        refine r_ifnull 87 dX10_street_71 rfl (fun q123 => ?_) (fun q123 => ?_)
        · have h := h1 q123
          clear h1 h2
          refine r_aload_n dX10_street_87 rfl ?_
          refine r_ldcs (n := 7) (tx := "as") dX10_street_88 (List.mem_of_elem_eq_true (by decide +kernel)) ?_
          have t124 : jtg N109 o = 11 := (hT111.tg hW78 t100)
          obtain ⟨P125, hp126, h⟩ := h
          refine r_invV (ci := 11) (As := [vR (gS G 7 : Int)]) (rest := []) dX10_street_90 lkX10_141 rfl t124 rfl rfl (vX10_asks (d := 12) (Nat.le_of_ble_eq_true rfl) hW110 t124  hp126) rfl rfl (Nat.le_of_ble_eq_true rfl) (Nat.le_trans (Nat.le_of_ble_eq_true rfl) hd) (ckX (fun q N9 F9 A9 W9 T9 t9 w9 h9 => JT.thru (hout0 rfl _) W9 ((((((hT26.trans hT36).trans hT61).trans hT68).trans hT79).trans hT111).trans T9) t9 w9 h9) (cknV fun N130 F128 A129 hW131 hT132 p133 => ?_))
          have h := h N130 F128 A129 p133
          refine r_aload_n dX10_street_93 rfl ?_
          have t135 : jtg N130 b21 = 15 := (hT132.tg hW110 t115)
          refine r_gRF dX10_street_94 flX10_179_15 rfl t135 rfl ?_
          refine r_aload_n dX10_street_97 rfl ?_
          have t136 : jtg N130 b116 = 14 := (hT132.tg hW110 t118)
          refine r_gIF dX10_street_98 flX10_183_14 hz117 t136 rfl ?_
          refine r_aload_n dX10_street_101 rfl ?_
          refine r_aload_n dX10_street_102 rfl ?_
          have t137 : jtg N130 o = 11 := (hT132.tg hW110 t124)
          refine r_gRF dX10_street_103 flX10_22_11 rfl t137 rfl ?_
          obtain ⟨b138, hz139, h⟩ := h
          obtain ⟨t140, h⟩ := h
          refine r_gRF dX10_street_106 flX10_119_2 hz139 t140 rfl ?_
          obtain ⟨P141, hp142, h⟩ := h
          refine r_invV (ci := 11) (As := [vR (jfn N130 617 b138)]) (rest := [vI (jfn N130 3903 b116), vR (jfn N130 4502 b21)]) dX10_street_109 lkX10_175 rfl t137 rfl rfl (vX10_known (d := 11) (Nat.le_of_ble_eq_true rfl) hW131 t137  hp142) rfl rfl (Nat.le_of_ble_eq_true rfl) (Nat.le_trans (Nat.le_of_ble_eq_true rfl) hd) (ckX (fun q N9 F9 A9 W9 T9 t9 w9 h9 => JT.thru (hout0 rfl _) W9 (((((((hT26.trans hT36).trans hT61).trans hT68).trans hT79).trans hT111).trans hT132).trans T9) t9 w9 h9) (cknR fun z143 N146 F144 A145 hW147 hT148 p149 r150 => ?_))
          have h := h z143 N146 F144 A145 p149
          obtain ⟨j151, h⟩ := h
          refine r_chk dX10_street_112 q874 j151 ?_
          obtain ⟨b152, hz153, h⟩ := h
          obtain ⟨t154, h⟩ := h
          obtain ⟨w155, h⟩ := h
          obtain ⟨c156, h⟩ := h
          obtain ⟨j159, h⟩ := h
          refine c_aast hW147 dX10_street_115 hz153 t154 rfl w155 c156 j159 rfl fun A157 eA157 hW158 => ?_
          have h := h A157 eA157
          refine j_goto 39 dX10_street_116 rfl ?_
          exact J.wk (((((jWk.nil).no).eq).no).eq) (ihI69 _ _ _ (Nat.lt_of_lt_of_le h.2 (Nat.le_of_lt_succ hmuI69)) hW158 ((((hT68.trans hT79).trans hT111).trans hT132).trans hT148) h.1)
        · have h := h2 q123
          clear h1 h2
          refine c_new (ci := 12) hW110 dX10_street_74 rfl q665 rfl rfl fun b160 N161 F162 eb160 eN161 eF162 t163 w164 hT165 hW166 => ?_
          have h := h b160 N161 F162 eb160 eN161 eF162
          refine j_dup dX10_street_77 (vR_cat _) ?_
          refine j_iconst dX10_street_78 ?_
          refine r_aload_n dX10_street_79 rfl ?_
          have t167 : jtg N161 o = 11 := (hT165.tg hW110 (hT111.tg hW78 t100))
          refine r_gI dX10_street_80 flX10_40_11 rfl t167 rfl ?_
          obtain ⟨P168, hp169, h⟩ := h
          refine r_invI (As := [vI 3, vI (F162 3312 o)]) (rest := [vR (b160 : Int)]) dX10_street_83 lkX10_56 rfl (vX11_init (d := 8) (Nat.le_of_ble_eq_true rfl) hW166 t163 (by decide) (hW166.fi rfl) hp169) rfl rfl (Nat.le_of_ble_eq_true rfl) (Nat.le_trans (Nat.le_of_ble_eq_true rfl) hd) (cknV fun N173 F171 A172 hW174 hT175 p176 => ?_)
          have h := h N173 F171 A172 p176
          have t178 : jtg N173 b160 = 12 := (hT175.tg hW166 t163)
          have w179 : jfn N173 0 b160 = 1 := (hT175.ow hW166 t163 w164)
          exact r_athrow dX10_street_86 rfl (JT.thru (hout0 rfl _) hW174 (((((((hT26.trans hT36).trans hT61).trans hT68).trans hT79).trans hT111).trans hT165).trans hT175) t178 w179 h)
  exact J.wk (((((jWk.nil).no).eq).no).eq) (lp _ _ _ _ (Nat.lt_succ_self _) hW60 (jTx.refl _) h0)
