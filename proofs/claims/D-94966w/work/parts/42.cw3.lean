set_option maxRecDepth 100000
set_option linter.unusedVariables false
/-! walks of the component and of JDK methods: printed by gen/walkc.py -/
/-- ChildSays.feed(IIIII)I -/
def wqX0_feed (o : Nat) (a1 : Int) (a2 : Int) (a3 : Int) (a4 : Int) (a5 : Int) (N : jSh) (F : jFl) (A : jAr) (Q : Int → jFl → jAr → Prop) : Prop :=
  jR ((F 303 o) + 20) ∧
  ((((F 303 o) + 20) ≤ 1600) →
    ∃ (P3 : jFl → jAr → Prop), wqX0_lays o a1 N F A P3 ∧
    ∀ F6 A7, P3 F6 A7 →
    ∃ (P12 : jFl → jAr → Prop), wqX0_lays o a2 N F6 A7 P12 ∧
    ∀ F15 A16, P12 F15 A16 →
    ∃ (P21 : jFl → jAr → Prop), wqX0_lays o a3 N F15 A16 P21 ∧
    ∀ F24 A25, P21 F24 A25 →
    ∃ (P30 : jFl → jAr → Prop), wqX0_lays o a4 N F24 A25 P30 ∧
    ∀ F33 A34, P30 F33 A34 →
    ∃ (P39 : jFl → jAr → Prop), wqX0_lays o a5 N F33 A34 P39 ∧
    ∀ F42 A43, P39 F42 A43 →
    Q (F42 303 o) F42 A43) ∧
  ((¬ (((F 303 o) + 20) ≤ 1600)) →
    ∃ (P48 : Int → jFl → jAr → Prop), wqX0_refused o 0 N F A P48 ∧
    ∀ z50 F51 A52, P48 z50 F51 A52 →
    Q z50 F51 A52)
theorem vX0_feed {G : jG} {l : Launch} {d : Nat} {N : jSh} {F : jFl} {A : jAr} {o : Nat} {a1 a2 a3 a4 a5 : Int} {Q : Int → jFl → jAr → Prop} (hd : 3 ≤ d) (hW : jWg G N F A) (ht : jtg N o = 1) (ra1 : jR a1) (ra2 : jR a2) (ra3 : jR a3) (ra4 : jR a4) (ra5 : jR a5) (h : wqX0_feed o a1 a2 a3 a4 a5 N F A Q) : jCall G l d mX0_feed [vR (o : Int), vI a1, vI a2, vI a3, vI a4, vI a5] N F A (cmI G N Q) := by
  unfold wqX0_feed at h
  refine jCall.of (by decide) rfl (ls := [vR (o : Int), vI a1, vI a2, vI a3, vI a4, vI a5]) (by simp only [jent_R, jent_I, jent_L, jent_nil]; exact Nat.le_of_ble_eq_true rfl) (by simp only [jloc, jent_R, jent_I, jent_L, jent_nil]; rfl) ?_
  refine r_aload_n dX0_feed_0 rfl ?_
  refine r_gI dX0_feed_1 flX0_111_1 rfl ht rfl ?_
  refine j_bipush dX0_feed_4 ?_
  refine j_iadd dX0_feed_6 ?_
  refine j_sipush dX0_feed_7 ?_
  obtain ⟨r1, h⟩ := h
  obtain ⟨h1, h2⟩ := h
  refine j_icmp_le 19 dX0_feed_10 rfl r1 (by decide) (fun q2 => ?_) (fun q2 => ?_)
  · have h := h1 q2
    clear h1 h2
    refine r_aload_n dX0_feed_19 rfl ?_
    refine j_iload_n dX0_feed_20 rfl ?_
    obtain ⟨P3, hp4, h⟩ := h
    refine r_invV (ci := 1) (As := [vI a1]) (rest := []) dX0_feed_21 lkX0_114 rfl ht rfl rfl (vX0_lays (d := 2) (Nat.le_of_ble_eq_true rfl) hW ht ra1 hp4) rfl rfl (Nat.le_of_ble_eq_true rfl) (Nat.le_trans (Nat.le_of_ble_eq_true rfl) hd) (ckmV fun F6 A7 hW8 p10 => ?_)
    have h := h F6 A7 p10
    refine r_aload_n dX0_feed_24 rfl ?_
    refine j_iload_n dX0_feed_25 rfl ?_
    obtain ⟨P12, hp13, h⟩ := h
    refine r_invV (ci := 1) (As := [vI a2]) (rest := []) dX0_feed_26 lkX0_114 rfl ht rfl rfl (vX0_lays (d := 2) (Nat.le_of_ble_eq_true rfl) hW8 ht ra2 hp13) rfl rfl (Nat.le_of_ble_eq_true rfl) (Nat.le_trans (Nat.le_of_ble_eq_true rfl) hd) (ckmV fun F15 A16 hW17 p19 => ?_)
    have h := h F15 A16 p19
    refine r_aload_n dX0_feed_29 rfl ?_
    refine j_iload_n dX0_feed_30 rfl ?_
    obtain ⟨P21, hp22, h⟩ := h
    refine r_invV (ci := 1) (As := [vI a3]) (rest := []) dX0_feed_31 lkX0_114 rfl ht rfl rfl (vX0_lays (d := 2) (Nat.le_of_ble_eq_true rfl) hW17 ht ra3 hp22) rfl rfl (Nat.le_of_ble_eq_true rfl) (Nat.le_trans (Nat.le_of_ble_eq_true rfl) hd) (ckmV fun F24 A25 hW26 p28 => ?_)
    have h := h F24 A25 p28
    refine r_aload_n dX0_feed_34 rfl ?_
    refine j_iload dX0_feed_35 rfl ?_
    obtain ⟨P30, hp31, h⟩ := h
    refine r_invV (ci := 1) (As := [vI a4]) (rest := []) dX0_feed_37 lkX0_114 rfl ht rfl rfl (vX0_lays (d := 2) (Nat.le_of_ble_eq_true rfl) hW26 ht ra4 hp31) rfl rfl (Nat.le_of_ble_eq_true rfl) (Nat.le_trans (Nat.le_of_ble_eq_true rfl) hd) (ckmV fun F33 A34 hW35 p37 => ?_)
    have h := h F33 A34 p37
    refine r_aload_n dX0_feed_40 rfl ?_
    refine j_iload dX0_feed_41 rfl ?_
    obtain ⟨P39, hp40, h⟩ := h
    refine r_invV (ci := 1) (As := [vI a5]) (rest := []) dX0_feed_43 lkX0_114 rfl ht rfl rfl (vX0_lays (d := 2) (Nat.le_of_ble_eq_true rfl) hW35 ht ra5 hp40) rfl rfl (Nat.le_of_ble_eq_true rfl) (Nat.le_trans (Nat.le_of_ble_eq_true rfl) hd) (ckmV fun F42 A43 hW44 p46 => ?_)
    have h := h F42 A43 p46
    refine r_aload_n dX0_feed_46 rfl ?_
    refine r_gI dX0_feed_47 flX0_111_1 rfl ht rfl ?_
    exact j_iret dX0_feed_50 rfl ⟨_, rfl, rfl, hW44, h, (hW44.fi rfl)⟩
  · have h := h2 q2
    clear h1 h2
    refine r_aload_n dX0_feed_13 rfl ?_
    refine j_iconst dX0_feed_14 ?_
    obtain ⟨P48, hp49, h⟩ := h
    refine r_invV (ci := 1) (As := [vI 0]) (rest := []) dX0_feed_15 lkX0_107 rfl ht rfl rfl (vX0_refused (d := 2) (Nat.le_of_ble_eq_true rfl) hW ht (by decide) hp49) rfl rfl (Nat.le_of_ble_eq_true rfl) (Nat.le_trans (Nat.le_of_ble_eq_true rfl) hd) (ckmI fun z50 F51 A52 hW53 p55 r56 => ?_)
    have h := h z50 F51 A52 p55
    exact j_iret dX0_feed_18 rfl ⟨_, rfl, rfl, hW53, h, r56⟩
/-- ChildSays.isPlace(I)Z -/
def wqX0_isPlace (o : Nat) (a1 : Int) (N : jSh) (F : jFl) (A : jAr) (Q : Int → Prop) : Prop :=
  ∃ b1 : Nat, F 311 o = (b1 : Int) ∧
  jtg N b1 = 2 ∧
  ∃ b4 : Nat, jfn N 629 b1 = (b4 : Int) ∧
  jtg N b4 = 20 ∧
  ∃ (P7 : Int → Prop), wqJ2_size b4 N F A P7 ∧
  ∀ z9, P7 z9 →
  jR (z9 - 1) ∧
  ∃ (P15 : Int → Prop), wqX0_isIn a1 0 (z9 - 1) N F A P15 ∧
  ∀ z17, P15 z17 →
  Q z17
theorem vX0_isPlace {G : jG} {l : Launch} {d : Nat} {N : jSh} {F : jFl} {A : jAr} {o : Nat} {a1 : Int} {Q : Int → Prop} (hd : 3 ≤ d) (hW : jWg G N F A) (ht : jtg N o = 1) (ra1 : jR a1) (h : wqX0_isPlace o a1 N F A Q) : jCall G l d mX0_isPlace [vR (o : Int), vI a1] N F A (jpB N F A Q) := by
  unfold wqX0_isPlace at h
  refine jCall.of (by decide) rfl (ls := [vR (o : Int), vI a1]) (by simp only [jent_R, jent_I, jent_L, jent_nil]; exact Nat.le_of_ble_eq_true rfl) (by simp only [jloc, jent_R, jent_I, jent_L, jent_nil]; rfl) ?_
  refine j_iload_n dX0_isPlace_0 rfl ?_
  refine j_i2l dX0_isPlace_1 ra1 ?_
  refine j_lconst 0 rfl dX0_isPlace_2 ?_
  refine r_aload_n dX0_isPlace_3 rfl ?_
  refine r_gR dX0_isPlace_4 flX0_20_1 rfl ht rfl ?_
  obtain ⟨b1, hz2, h⟩ := h
  obtain ⟨t3, h⟩ := h
  refine r_gRF dX0_isPlace_7 flX0_305_2 hz2 t3 rfl ?_
  obtain ⟨b4, hz5, h⟩ := h
  obtain ⟨t6, h⟩ := h
  obtain ⟨P7, hp8, h⟩ := h
  refine r_invV (ci := 20) (As := []) (rest := [vL 0, vL a1]) dX0_isPlace_10 lkX0_128 hz5 t6 rfl rfl (vJ2_size (d := 2) (Nat.le_of_ble_eq_true rfl) hW t6  hp8) rfl rfl (Nat.le_of_ble_eq_true rfl) (Nat.le_trans (Nat.le_of_ble_eq_true rfl) hd) (jkpI fun z9 p12 r13 => ?_)
  have h := h z9 p12
  refine j_iconst dX0_isPlace_13 ?_
  refine j_isub dX0_isPlace_14 ?_
  obtain ⟨r14, h⟩ := h
  refine j_i2l dX0_isPlace_15 r14 ?_
  obtain ⟨P15, hp16, h⟩ := h
  refine r_invS (As := [vL a1, vL 0, vL (z9 - 1)]) (rest := []) dX0_isPlace_16 lkX0_124 (vX0_isIn (d := 2) (Nat.le_of_ble_eq_true rfl) hW (jR_L ra1) (by decide) (jR_L r14) hp16) rfl rfl (Nat.le_of_ble_eq_true rfl) (Nat.le_trans (Nat.le_of_ble_eq_true rfl) hd) (jkpB fun z17 p20 r21 => ?_)
  have h := h z17 p20
  exact j_zret dX0_isPlace_19 rfl (nr_bool r21) ⟨_, rfl, rfl, rfl, rfl, h, r21⟩
/-- ChildSays.lambda$apart$0(LChildSays$Row;LChildSays$Row;)Z -/
def wqX0_lambda_apart_0 (a1 : Int) (a2 : Int) (N : jSh) (F : jFl) (A : jAr) (Q : Int → Prop) : Prop :=
  ∃ b1 : Nat, a1 = (b1 : Int) ∧
  jtg N b1 = 4 ∧
  ∃ (P4 : Int → Prop), wqX3_beginsLike b1 a2 N F A P4 ∧
  ∀ z6, P4 z6 →
  Q z6
theorem vX0_lambda_apart_0 {G : jG} {l : Launch} {d : Nat} {N : jSh} {F : jFl} {A : jAr} {a1 a2 : Int} {Q : Int → Prop} (hd : 3 ≤ d) (hW : jWg G N F A) (h : wqX0_lambda_apart_0 a1 a2 N F A Q) : jCall G l d mX0_lambda_apart_0 [vR a1, vR a2] N F A (jpB N F A Q) := by
  unfold wqX0_lambda_apart_0 at h
  refine jCall.of (by decide) rfl (ls := [vR a1, vR a2]) (by simp only [jent_R, jent_I, jent_L, jent_nil]; exact Nat.le_of_ble_eq_true rfl) (by simp only [jloc, jent_R, jent_I, jent_L, jent_nil]; rfl) ?_
  refine r_aload_n dX0_lambda_apart_0_0 rfl ?_
  refine r_aload_n dX0_lambda_apart_0_1 rfl ?_
  obtain ⟨b1, hz2, h⟩ := h
  obtain ⟨t3, h⟩ := h
  obtain ⟨P4, hp5, h⟩ := h
  refine r_invV (ci := 4) (As := [vR a2]) (rest := []) dX0_lambda_apart_0_2 lkX0_549 hz2 t3 rfl rfl (vX3_beginsLike (d := 2) (Nat.le_of_ble_eq_true rfl) hW t3  hp5) rfl rfl (Nat.le_of_ble_eq_true rfl) (Nat.le_trans (Nat.le_of_ble_eq_true rfl) hd) (jkpB fun z6 p9 r10 => ?_)
  have h := h z6 p9
  exact j_zret dX0_lambda_apart_0_5 rfl (nr_bool r10) ⟨_, rfl, rfl, rfl, rfl, h, r10⟩
/-- ChildSays.refuses(I)Z -/
def wqX0_refuses (o : Nat) (a1 : Int) (N : jSh) (F : jFl) (A : jAr) (Q : Int → jFl → jAr → Prop) : Prop :=
  ∃ (P1 : Int → jFl → jAr → Prop), wqX0_refused o a1 N F A P1 ∧
  ∀ z3 F4 A5, P1 z3 F4 A5 →
  ∀ z11 : Int, z11 = (if z3 = (-1) then (0 : Int) else 1) →
  Q z11 F4 A5
theorem vX0_refuses {G : jG} {l : Launch} {d : Nat} {N : jSh} {F : jFl} {A : jAr} {o : Nat} {a1 : Int} {Q : Int → jFl → jAr → Prop} (hd : 3 ≤ d) (hW : jWg G N F A) (ht : jtg N o = 1) (ra1 : jR a1) (h : wqX0_refuses o a1 N F A Q) : jCall G l d mX0_refuses [vR (o : Int), vI a1] N F A (cmB G N Q) := by
  unfold wqX0_refuses at h
  refine jCall.of (by decide) rfl (ls := [vR (o : Int), vI a1]) (by simp only [jent_R, jent_I, jent_L, jent_nil]; exact Nat.le_of_ble_eq_true rfl) (by simp only [jloc, jent_R, jent_I, jent_L, jent_nil]; rfl) ?_
  refine r_aload_n dX0_refuses_0 rfl ?_
  refine j_iload_n dX0_refuses_1 rfl ?_
  obtain ⟨P1, hp2, h⟩ := h
  refine r_invV (ci := 1) (As := [vI a1]) (rest := []) dX0_refuses_2 lkX0_107 rfl ht rfl rfl (vX0_refused (d := 2) (Nat.le_of_ble_eq_true rfl) hW ht ra1 hp2) rfl rfl (Nat.le_of_ble_eq_true rfl) (Nat.le_trans (Nat.le_of_ble_eq_true rfl) hd) (ckmI fun z3 F4 A5 hW6 p8 r9 => ?_)
  have h := h z3 F4 A5 p8
  refine j_iconst dX0_refuses_5 ?_
  have jn12 : ∀ z11 : Int, z11 = (if z3 = (-1) then (0 : Int) else 1) → J G l d mX0_refuses 14 [vR (o : Int), vI a1] [vI z11] N F4 A5 (cmB G N Q) := by
    intro z11 ez11
    have h := h z11 ez11
    exact j_zret dX0_refuses_14 rfl (nr_bool (ez11 ▸ jB_ite (by decide) (by decide))) ⟨_, rfl, rfl, hW6, h, (ez11 ▸ jB_ite (by decide) (by decide))⟩
  clear h
  refine j_icmp_eq 13 dX0_refuses_6 rfl r9 (by decide) (fun q10 => ?_) (fun q10 => ?_)
  · refine j_iconst dX0_refuses_13 ?_
    exact jn12 _ (if_pos q10).symm
  · refine j_iconst dX0_refuses_9 ?_
    refine j_goto 14 dX0_refuses_10 rfl ?_
    exact jn12 _ (if_neg q10).symm
/-- ChildSays.status(I)I -/
def wqX0_status (S : Nat → Nat) (o : Nat) (a1 : Int) (N : jSh) (F : jFl) (A : jAr) (Q : Int → Prop) : Prop :=
  ∃ (P1 : Int → Prop), wqX0_isIn a1 0 5 N F A P1 ∧
  ∀ z3, P1 z3 →
  ((z3 = 0) →
    Q (-1)) ∧
  ((¬ (z3 = 0)) →
    ∃ b9 : Nat, jfn N 308 o = (b9 : Int) ∧
    jtg N b9 = 102 ∧
    ((0 : Int) ≤ a1 ∧ (a1 : Int) < (jln N b9 : Int)) ∧
    Q (A b9 a1))
theorem vX0_status {G : jG} {l : Launch} {d : Nat} {N : jSh} {F : jFl} {A : jAr} {o : Nat} {a1 : Int} {Q : Int → Prop} (hd : 3 ≤ d) (hW : jWg G N F A) (ht : jtg N o = 1) (ra1 : jR a1) (h : wqX0_status (gS G) o a1 N F A Q) : jCall G l d mX0_status [vR (o : Int), vI a1] N F A (jpI N F A Q) := by
  unfold wqX0_status at h
  refine jCall.of (by decide) rfl (ls := [vR (o : Int), vI a1]) (by simp only [jent_R, jent_I, jent_L, jent_nil]; exact Nat.le_of_ble_eq_true rfl) (by simp only [jloc, jent_R, jent_I, jent_L, jent_nil]; rfl) ?_
  refine j_iload_n dX0_status_0 rfl ?_
  refine j_i2l dX0_status_1 ra1 ?_
  refine j_lconst 0 rfl dX0_status_2 ?_
  refine j_ldc2 (n := 5) dX0_status_3 q604 ?_
  obtain ⟨P1, hp2, h⟩ := h
  refine r_invS (As := [vL a1, vL 0, vL 5]) (rest := []) dX0_status_6 lkX0_124 (vX0_isIn (d := 2) (Nat.le_of_ble_eq_true rfl) hW (jR_L ra1) (by decide) (by decide) hp2) rfl rfl (Nat.le_of_ble_eq_true rfl) (Nat.le_trans (Nat.le_of_ble_eq_true rfl) hd) (jkpB fun z3 p6 r7 => ?_)
  have h := h z3 p6
  obtain ⟨h1, h2⟩ := h
  refine j_if_eq 21 dX0_status_9 rfl (jR_b r7) (fun q8 => ?_) (fun q8 => ?_)
  · have h := h1 q8
    clear h1 h2
    refine j_iconst dX0_status_21 ?_
    exact j_iret dX0_status_22 rfl ⟨_, rfl, rfl, rfl, rfl, h, (by decide)⟩
  · have h := h2 q8
    clear h1 h2
    refine r_aload_n dX0_status_12 rfl ?_
    refine r_gRF dX0_status_13 flX0_13_1 rfl ht rfl ?_
    refine j_iload_n dX0_status_16 rfl ?_
    obtain ⟨b9, hz10, h⟩ := h
    obtain ⟨t11, h⟩ := h
    obtain ⟨c12, h⟩ := h
    refine r_iald dX0_status_17 hz10 t11 c12 ?_
    refine j_goto 22 dX0_status_18 rfl ?_
    exact j_iret dX0_status_22 rfl ⟨_, rfl, rfl, rfl, rfl, h, (hW.ai t11 rfl)⟩
/-- ChildSays.wrong(LChildSays$Fault;I)I -/
def wqX0_wrong (o : Nat) (a1 : Int) (a2 : Int) (N : jSh) (F : jFl) (A : jAr) (Q : Int → jFl → jAr → Prop) : Prop :=
  ∃ b1 : Nat, a1 = (b1 : Int) ∧
  jtg N b1 = 12 ∧
  jfn N 0 o = 1 ∧
  ∀ F6 : jFl, F6 = upF F 312 o (jfn N 3600 b1) →
  ∀ F8 : jFl, F8 = upF F6 315 o (jfn N 3603 b1) →
  ∃ (P9 : Int → jFl → jAr → Prop), wqX0_refused o a2 N F8 A P9 ∧
  ∀ z11 F12 A13, P9 z11 F12 A13 →
  Q z11 F12 A13
theorem vX0_wrong {G : jG} {l : Launch} {d : Nat} {N : jSh} {F : jFl} {A : jAr} {o : Nat} {a1 a2 : Int} {Q : Int → jFl → jAr → Prop} (hd : 3 ≤ d) (hW : jWg G N F A) (ht : jtg N o = 1) (ra2 : jR a2) (h : wqX0_wrong o a1 a2 N F A Q) : jCall G l d mX0_wrong [vR (o : Int), vR a1, vI a2] N F A (cmI G N Q) := by
  unfold wqX0_wrong at h
  refine jCall.of (by decide) rfl (ls := [vR (o : Int), vR a1, vI a2]) (by simp only [jent_R, jent_I, jent_L, jent_nil]; exact Nat.le_of_ble_eq_true rfl) (by simp only [jloc, jent_R, jent_I, jent_L, jent_nil]; rfl) ?_
  refine r_aload_n dX0_wrong_0 rfl ?_
  refine r_aload_n dX0_wrong_1 rfl ?_
  obtain ⟨b1, hz2, h⟩ := h
  obtain ⟨t3, h⟩ := h
  refine r_gIF dX0_wrong_2 flX0_149_12 hz2 t3 rfl ?_
  obtain ⟨w4, h⟩ := h
  refine c_pI hW dX0_wrong_5 flX0_154_1 rfl ht w4 rfl (hW.ni rfl (by decide)) fun F6 eF6 hW5 => ?_
  have h := h F6 eF6
  refine r_aload_n dX0_wrong_8 rfl ?_
  refine r_aload_n dX0_wrong_9 rfl ?_
  refine r_gIF dX0_wrong_10 flX0_157_12 hz2 t3 rfl ?_
  refine c_pI hW5 dX0_wrong_13 flX0_24_1 rfl ht w4 rfl (hW5.ni rfl (by decide)) fun F8 eF8 hW7 => ?_
  have h := h F8 eF8
  refine r_aload_n dX0_wrong_16 rfl ?_
  refine j_iload_n dX0_wrong_17 rfl ?_
  obtain ⟨P9, hp10, h⟩ := h
  refine r_invV (ci := 1) (As := [vI a2]) (rest := []) dX0_wrong_18 lkX0_107 rfl ht rfl rfl (vX0_refused (d := 2) (Nat.le_of_ble_eq_true rfl) hW7 ht ra2 hp10) rfl rfl (Nat.le_of_ble_eq_true rfl) (Nat.le_trans (Nat.le_of_ble_eq_true rfl) hd) (ckmI fun z11 F12 A13 hW14 p16 r17 => ?_)
  have h := h z11 F12 A13 p16
  exact j_iret dX0_wrong_21 rfl ⟨_, rfl, rfl, hW14, h, r17⟩
/-- ChildSays$Word.<init>(Ljava/lang/String;I)V -/
def wqX13_init (o : Nat) (a1 : Int) (a2 : Int) (N : jSh) (F : jFl) (A : jAr) (Q : jSh → jFl → jAr → Prop) : Prop :=
  ∃ (P1 : jSh → jFl → jAr → Prop), wqX12_init_14 o a1 a2 N F A P1 ∧
  ∀ N6 F4 A5, P1 N6 F4 A5 →
  Q N6 F4 A5
theorem vX13_init {G : jG} {l : Launch} {d : Nat} {N : jSh} {F : jFl} {A : jAr} {o : Nat} {a1 a2 : Int} {Q : jSh → jFl → jAr → Prop} (hd : 3 ≤ d) (hW : jWg G N F A) (ht : jtg N o = 14) (ra2 : jR a2) (h : wqX13_init o a1 a2 N F A Q) : jCall G l d mX13_init [vR (o : Int), vR a1, vI a2] N F A (cnV G N Q) := by
  unfold wqX13_init at h
  refine jCall.of (by decide) rfl (ls := [vR (o : Int), vR a1, vI a2]) (by simp only [jent_R, jent_I, jent_L, jent_nil]; exact Nat.le_of_ble_eq_true rfl) (by simp only [jloc, jent_R, jent_I, jent_L, jent_nil]; rfl) ?_
  refine r_aload_n dX13_init_0 rfl ?_
  refine r_aload_n dX13_init_1 rfl ?_
  refine j_iload_n dX13_init_2 rfl ?_
  obtain ⟨P1, hp2, h⟩ := h
  refine r_invI (As := [vR a1, vI a2]) (rest := []) dX13_init_3 lkX13_1 rfl (vX12_init_14 (d := 2) (Nat.le_of_ble_eq_true rfl) hW ht ra2 hp2) rfl rfl (Nat.le_of_ble_eq_true rfl) (Nat.le_trans (Nat.le_of_ble_eq_true rfl) hd) (cknV fun N6 F4 A5 hW7 hT8 p9 => ?_)
  have h := h N6 F4 A5 p9
  exact j_vret dX13_init_6 rfl ⟨rfl, hW7, hT8, h⟩
/-- ChildSays$Street.<init>(Ljava/lang/String;I)V -/
def wqX14_init (o : Nat) (a1 : Int) (a2 : Int) (N : jSh) (F : jFl) (A : jAr) (Q : jSh → jFl → jAr → Prop) : Prop :=
  ∃ (P1 : jSh → jFl → jAr → Prop), wqX12_init_15 o a1 a2 N F A P1 ∧
  ∀ N6 F4 A5, P1 N6 F4 A5 →
  ∀ (b11 : Nat) (N12 : jSh) (F13 : jFl) (A14 : jAr), b11 = jnx N6 → N12 = jnew N6 107 24 24 1 → F13 = nwF N6 F4 → A14 = nwA N6 107 A5 →
  jfn N12 0 o = 1 ∧
  ∀ N22 : jSh, N22 = jpF N12 4502 o (b11 : Int) →
  Q N22 F13 A14
theorem vX14_init {G : jG} {l : Launch} {d : Nat} {N : jSh} {F : jFl} {A : jAr} {o : Nat} {a1 a2 : Int} {Q : jSh → jFl → jAr → Prop} (hd : 3 ≤ d) (hW : jWg G N F A) (ht : jtg N o = 15) (ra2 : jR a2) (h : wqX14_init o a1 a2 N F A Q) : jCall G l d mX14_init [vR (o : Int), vR a1, vI a2] N F A (cnV G N Q) := by
  unfold wqX14_init at h
  refine jCall.of (by decide) rfl (ls := [vR (o : Int), vR a1, vI a2]) (by simp only [jent_R, jent_I, jent_L, jent_nil]; exact Nat.le_of_ble_eq_true rfl) (by simp only [jloc, jent_R, jent_I, jent_L, jent_nil]; rfl) ?_
  refine r_aload_n dX14_init_0 rfl ?_
  refine r_aload_n dX14_init_1 rfl ?_
  refine j_iload_n dX14_init_2 rfl ?_
  obtain ⟨P1, hp2, h⟩ := h
  refine r_invI (As := [vR a1, vI a2]) (rest := []) dX14_init_3 lkX14_3 rfl (vX12_init_15 (d := 2) (Nat.le_of_ble_eq_true rfl) hW ht ra2 hp2) rfl rfl (Nat.le_of_ble_eq_true rfl) (Nat.le_trans (Nat.le_of_ble_eq_true rfl) hd) (cknV fun N6 F4 A5 hW7 hT8 p9 => ?_)
  have h := h N6 F4 A5 p9
  refine r_aload_n dX14_init_6 rfl ?_
  refine j_bipush dX14_init_7 ?_
  refine c_anew (t := 107) (n := 24) hW7 dX14_init_9 rfl rfl q1062 (List.mem_of_elem_eq_true (by decide +kernel)) rfl (Nat.le_of_ble_eq_true rfl) fun b11 N12 F13 A14 eb11 eN12 eF13 eA14 t15 w16 hT17 hW18 => ?_
  have h := h b11 N12 F13 A14 eb11 eN12 eF13 eA14
  have t19 : jtg N12 o = 15 := (hT17.tg hW7 (hT8.tg hW ht))
  obtain ⟨w20, h⟩ := h
  refine c_pRF hW18 dX14_init_12 flX14_11_15 rfl t19 w20 rfl (ty := (.array (.object "ChildSays$Word"))) rfl (by intro c hc; cases hc; rfl) (by decide) (by decide +kernel) (Or.inr ⟨_, rfl⟩) fun N22 eN22 hT23 hW21 => ?_
  have h := h N22 eN22
  exact j_vret dX14_init_15 rfl ⟨rfl, hW21, ((hT8.trans hT17).trans hT23), h⟩
/-- ChildSays$Child.<init>(Ljava/lang/String;ILChildSays$Street;)V -/
def wqX15_init (o : Nat) (a1 : Int) (a2 : Int) (a3 : Int) (N : jSh) (F : jFl) (A : jAr) (Q : jSh → jFl → jAr → Prop) : Prop :=
  ∃ (P1 : jSh → jFl → jAr → Prop), wqX12_init_16 o a1 a2 N F A P1 ∧
  ∀ N6 F4 A5, P1 N6 F4 A5 →
  ∀ (b11 : Nat) (N12 : jSh) (F13 : jFl) (A14 : jAr), b11 = jnx N6 → N12 = jnew N6 105 24 24 1 → F13 = nwF N6 F4 → A14 = nwA N6 105 A5 →
  jfn N12 0 o = 1 ∧
  ∀ N22 : jSh, N22 = jpF N12 4811 o (b11 : Int) →
  ∀ (b24 : Nat) (N25 : jSh) (F26 : jFl) (A27 : jAr), b24 = jnx N22 → N25 = jnew N22 107 24 24 1 → F26 = nwF N22 F13 → A27 = nwA N22 107 A14 →
  ∀ N35 : jSh, N35 = jpF N25 4814 o (b24 : Int) →
  ∀ N40 : jSh, N40 = jpF N35 4802 o a3 →
  Q N40 F26 A27
theorem vX15_init {G : jG} {l : Launch} {d : Nat} {N : jSh} {F : jFl} {A : jAr} {o : Nat} {a1 a2 a3 : Int} {Q : jSh → jFl → jAr → Prop} (hd : 3 ≤ d) (hW : jWg G N F A) (ht : jtg N o = 16) (ra2 : jR a2) (h : wqX15_init o a1 a2 a3 N F A Q) : jCall G l d mX15_init [vR (o : Int), vR a1, vI a2, vR a3] N F A (cnV G N Q) := by
  unfold wqX15_init at h
  refine jCall.of (by decide) rfl (ls := [vR (o : Int), vR a1, vI a2, vR a3]) (by simp only [jent_R, jent_I, jent_L, jent_nil]; exact Nat.le_of_ble_eq_true rfl) (by simp only [jloc, jent_R, jent_I, jent_L, jent_nil]; rfl) ?_
  refine r_aload_n dX15_init_0 rfl ?_
  refine r_aload_n dX15_init_1 rfl ?_
  refine j_iload_n dX15_init_2 rfl ?_
  obtain ⟨P1, hp2, h⟩ := h
  refine r_invI (As := [vR a1, vI a2]) (rest := []) dX15_init_3 lkX15_3 rfl (vX12_init_16 (d := 2) (Nat.le_of_ble_eq_true rfl) hW ht ra2 hp2) rfl rfl (Nat.le_of_ble_eq_true rfl) (Nat.le_trans (Nat.le_of_ble_eq_true rfl) hd) (cknV fun N6 F4 A5 hW7 hT8 p9 => ?_)
  have h := h N6 F4 A5 p9
  refine r_aload_n dX15_init_6 rfl ?_
  refine j_bipush dX15_init_7 ?_
  refine c_newa (t := 105) (n := 24) hW7 dX15_init_9 rfl rfl rfl (fun _ h => by cases h) q1115 (by decide) rfl (Nat.le_of_ble_eq_true rfl) fun b11 N12 F13 A14 eb11 eN12 eF13 eA14 t15 w16 hT17 hW18 => ?_
  have h := h b11 N12 F13 A14 eb11 eN12 eF13 eA14
  have t19 : jtg N12 o = 16 := (hT17.tg hW7 (hT8.tg hW ht))
  obtain ⟨w20, h⟩ := h
  refine c_pRF hW18 dX15_init_11 flX15_9_16 rfl t19 w20 rfl (ty := (.array .boolean)) rfl (by intro c hc; cases hc; rfl) (by decide) (by decide +kernel) (Or.inr ⟨_, rfl⟩) fun N22 eN22 hT23 hW21 => ?_
  have h := h N22 eN22
  refine r_aload_n dX15_init_14 rfl ?_
  refine j_bipush dX15_init_15 ?_
  refine c_anew (t := 107) (n := 24) hW21 dX15_init_17 rfl rfl q1088 (List.mem_of_elem_eq_true (by decide +kernel)) rfl (Nat.le_of_ble_eq_true rfl) fun b24 N25 F26 A27 eb24 eN25 eF26 eA27 t28 w29 hT30 hW31 => ?_
  have h := h b24 N25 F26 A27 eb24 eN25 eF26 eA27
  have t32 : jtg N25 o = 16 := (hT30.tg hW21 (hT23.tg hW18 t19))
  have w33 : jfn N25 0 o = 1 := (hT30.ow hW21 (hT23.tg hW18 t19) (hT23.ow hW18 t19 w20))
  refine c_pRF hW31 dX15_init_20 flX15_17_16 rfl t32 w33 rfl (ty := (.array (.object "ChildSays$Word"))) rfl (by intro c hc; cases hc; rfl) (by decide) (by decide +kernel) (Or.inr ⟨_, rfl⟩) fun N35 eN35 hT36 hW34 => ?_
  have h := h N35 eN35
  refine r_aload_n dX15_init_23 rfl ?_
  refine r_aload_n dX15_init_24 rfl ?_
  have t37 : jtg N35 o = 16 := (hT36.tg hW31 t32)
  have w38 : jfn N35 0 o = 1 := (hT36.ow hW31 (hT30.tg hW21 (hT23.tg hW18 t19)) w33)
  refine c_pRF hW34 dX15_init_25 flX15_21_16 rfl t37 w38 rfl (ty := .object "ChildSays$Street") rfl (by intro c hc; cases hc; rfl) (by decide) (by decide +kernel) (Or.inl ⟨_, rfl⟩) fun N40 eN40 hT41 hW39 => ?_
  have h := h N40 eN40
  exact j_vret dX15_init_28 rfl ⟨rfl, hW39, (((((hT8.trans hT17).trans hT23).trans hT30).trans hT36).trans hT41), h⟩
/-- ChildSays$Law.<init>(Ljava/lang/String;I)V -/
def wqX16_init (o : Nat) (a1 : Int) (a2 : Int) (N : jSh) (F : jFl) (A : jAr) (Q : jSh → jFl → jAr → Prop) : Prop :=
  ∃ (P1 : jSh → jFl → jAr → Prop), wqX12_init_17 o a1 a2 N F A P1 ∧
  ∀ N6 F4 A5, P1 N6 F4 A5 →
  ∀ (b11 : Nat) (N12 : jSh) (F13 : jFl), b11 = jnx N6 → N12 = jnew N6 4 0 3 1 → F13 = nwF N6 F4 →
  ∃ (P18 : jSh → jFl → jAr → Prop), wqX3_init b11 N12 F13 A5 P18 ∧
  ∀ N23 F21 A22, P18 N23 F21 A22 →
  jfn N23 0 o = 1 ∧
  ∀ N31 : jSh, N31 = jpF N23 5102 o (b11 : Int) →
  Q N31 F21 A22
theorem vX16_init {G : jG} {l : Launch} {d : Nat} {N : jSh} {F : jFl} {A : jAr} {o : Nat} {a1 a2 : Int} {Q : jSh → jFl → jAr → Prop} (hd : 3 ≤ d) (hW : jWg G N F A) (ht : jtg N o = 17) (ra2 : jR a2) (h : wqX16_init o a1 a2 N F A Q) : jCall G l d mX16_init [vR (o : Int), vR a1, vI a2] N F A (cnV G N Q) := by
  unfold wqX16_init at h
  refine jCall.of (by decide) rfl (ls := [vR (o : Int), vR a1, vI a2]) (by simp only [jent_R, jent_I, jent_L, jent_nil]; exact Nat.le_of_ble_eq_true rfl) (by simp only [jloc, jent_R, jent_I, jent_L, jent_nil]; rfl) ?_
  refine r_aload_n dX16_init_0 rfl ?_
  refine r_aload_n dX16_init_1 rfl ?_
  refine j_iload_n dX16_init_2 rfl ?_
  obtain ⟨P1, hp2, h⟩ := h
  refine r_invI (As := [vR a1, vI a2]) (rest := []) dX16_init_3 lkX16_1 rfl (vX12_init_17 (d := 2) (Nat.le_of_ble_eq_true rfl) hW ht ra2 hp2) rfl rfl (Nat.le_of_ble_eq_true rfl) (Nat.le_trans (Nat.le_of_ble_eq_true rfl) hd) (cknV fun N6 F4 A5 hW7 hT8 p9 => ?_)
  have h := h N6 F4 A5 p9
  refine r_aload_n dX16_init_6 rfl ?_
  refine c_new (ci := 4) hW7 dX16_init_7 rfl q1128 rfl rfl fun b11 N12 F13 eb11 eN12 eF13 t14 w15 hT16 hW17 => ?_
  have h := h b11 N12 F13 eb11 eN12 eF13
  refine j_dup dX16_init_10 (vR_cat _) ?_
  obtain ⟨P18, hp19, h⟩ := h
  refine r_invIN (As := []) (rest := [vR (b11 : Int), vR (o : Int)]) dX16_init_11 lkX16_9 rfl (vX3_init (d := 2) (Nat.le_of_ble_eq_true rfl) hW17 t14  hp19) rfl rfl (Nat.le_of_ble_eq_true rfl) (Nat.le_trans (Nat.le_of_ble_eq_true rfl) hd) (cknV fun N23 F21 A22 hW24 hT25 p26 => ?_)
  have h := h N23 F21 A22 p26
  have t28 : jtg N23 o = 17 := (hT25.tg hW17 (hT16.tg hW7 (hT8.tg hW ht)))
  obtain ⟨w29, h⟩ := h
  refine c_pRF hW24 dX16_init_14 flX16_12_17 rfl t28 w29 rfl (ty := .object "ChildSays$Row") rfl (by intro c hc; cases hc; rfl) (by decide) (by decide +kernel) (Or.inl ⟨_, rfl⟩) fun N31 eN31 hT32 hW30 => ?_
  have h := h N31 eN31
  exact j_vret dX16_init_17 rfl ⟨rfl, hW30, (((hT8.trans hT16).trans hT25).trans hT32), h⟩
/-- ChildSays$Saying.<init>(LChildSays;)V -/
def wqX2_init (o : Nat) (a1 : Int) (N : jSh) (F : jFl) (A : jAr) (Q : jSh → jFl → jAr → Prop) : Prop :=
  jfn N 0 o = 1 ∧
  ∀ N3 : jSh, N3 = jpF N 914 o a1 →
  ∀ (b5 : Nat) (N6 : jSh) (F7 : jFl), b5 = jnx N3 → N6 = jnew N3 4 0 3 1 → F7 = nwF N3 F →
  ∃ (P12 : jSh → jFl → jAr → Prop), wqX3_init b5 N6 F7 A P12 ∧
  ∀ N17 F15 A16, P12 N17 F15 A16 →
  ∀ N25 : jSh, N25 = jpF N17 902 o (b5 : Int) →
  Q N25 F15 A16
theorem vX2_init {G : jG} {l : Launch} {d : Nat} {N : jSh} {F : jFl} {A : jAr} {o : Nat} {a1 : Int} {Q : jSh → jFl → jAr → Prop} (hd : 3 ≤ d) (hW : jWg G N F A) (ht : jtg N o = 3) (h : wqX2_init o a1 N F A Q) : jCall G l d mX2_init [vR (o : Int), vR a1] N F A (cnV G N Q) := by
  unfold wqX2_init at h
  refine jCall.of (by decide) rfl (ls := [vR (o : Int), vR a1]) (by simp only [jent_R, jent_I, jent_L, jent_nil]; exact Nat.le_of_ble_eq_true rfl) (by simp only [jloc, jent_R, jent_I, jent_L, jent_nil]; rfl) ?_
  refine r_aload_n dX2_init_0 rfl ?_
  refine r_aload_n dX2_init_1 rfl ?_
  obtain ⟨w1, h⟩ := h
  refine c_pRF hW dX2_init_2 flX2_3_3 rfl ht w1 rfl (ty := .object "ChildSays") rfl (by intro c hc; cases hc; rfl) (by decide) (by decide +kernel) (Or.inl ⟨_, rfl⟩) fun N3 eN3 hT4 hW2 => ?_
  have h := h N3 eN3
  refine r_aload_n dX2_init_5 rfl ?_
  refine r_objInit dX2_init_6 q293 rfl (Nat.le_trans (Nat.le_of_ble_eq_true rfl) hd) (Nat.le_of_ble_eq_true rfl) ?_
  refine r_aload_n dX2_init_9 rfl ?_
  refine c_new (ci := 4) hW2 dX2_init_10 rfl q294 rfl rfl fun b5 N6 F7 eb5 eN6 eF7 t8 w9 hT10 hW11 => ?_
  have h := h b5 N6 F7 eb5 eN6 eF7
  refine j_dup dX2_init_13 (vR_cat _) ?_
  obtain ⟨P12, hp13, h⟩ := h
  refine r_invIN (As := []) (rest := [vR (b5 : Int), vR (o : Int)]) dX2_init_14 lkX2_17 rfl (vX3_init (d := 2) (Nat.le_of_ble_eq_true rfl) hW11 t8  hp13) rfl rfl (Nat.le_of_ble_eq_true rfl) (Nat.le_trans (Nat.le_of_ble_eq_true rfl) hd) (cknV fun N17 F15 A16 hW18 hT19 p20 => ?_)
  have h := h N17 F15 A16 p20
  have t22 : jtg N17 o = 3 := (hT19.tg hW11 (hT10.tg hW2 (hT4.tg hW ht)))
  have w23 : jfn N17 0 o = 1 := (hT19.ow hW11 (hT10.tg hW2 (hT4.tg hW ht)) (hT10.ow hW2 (hT4.tg hW ht) (hT4.ow hW ht w1)))
  refine c_pRF hW18 dX2_init_17 flX2_18_3 rfl t22 w23 rfl (ty := .object "ChildSays$Row") rfl (by intro c hc; cases hc; rfl) (by decide) (by decide +kernel) (Or.inl ⟨_, rfl⟩) fun N25 eN25 hT26 hW24 => ?_
  have h := h N25 eN25
  exact j_vret dX2_init_20 rfl ⟨rfl, hW24, (((hT4.trans hT10).trans hT19).trans hT26), h⟩
/-- ChildSays$Saying.lost()LChildSays$Saying; -/
def wqX2_lost (o : Nat) (N : jSh) (F : jFl) (A : jAr) (Q : Int → jFl → jAr → Prop) : Prop :=
  ∃ b1 : Nat, jfn N 902 o = (b1 : Int) ∧
  jtg N b1 = 4 ∧
  ∃ (P4 : Int → jFl → jAr → Prop), wqX3_empty b1 N F A P4 ∧
  ∀ z6 F7 A8, P4 z6 F7 A8 →
  ∃ (P13 : Int → jFl → jAr → Prop), wqX2_is o 3 N F7 A8 P13 ∧
  ∀ z15 F16 A17, P13 z15 F16 A17 →
  Q z15 F16 A17
theorem vX2_lost {G : jG} {l : Launch} {d : Nat} {N : jSh} {F : jFl} {A : jAr} {o : Nat} {Q : Int → jFl → jAr → Prop} (hd : 3 ≤ d) (hW : jWg G N F A) (ht : jtg N o = 3) (h : wqX2_lost o N F A Q) : jCall G l d mX2_lost [vR (o : Int)] N F A (cmR G N Q) := by
  unfold wqX2_lost at h
  refine jCall.of (by decide) rfl (ls := [vR (o : Int)]) (by simp only [jent_R, jent_I, jent_L, jent_nil]; exact Nat.le_of_ble_eq_true rfl) (by simp only [jloc, jent_R, jent_I, jent_L, jent_nil]; rfl) ?_
  refine r_aload_n dX2_lost_0 rfl ?_
  refine r_gRF dX2_lost_1 flX2_18_3 rfl ht rfl ?_
  obtain ⟨b1, hz2, h⟩ := h
  obtain ⟨t3, h⟩ := h
  obtain ⟨P4, hp5, h⟩ := h
  refine r_invV (ci := 4) (As := []) (rest := []) dX2_lost_4 lkX2_48 hz2 t3 rfl rfl (vX3_empty (d := 2) (Nat.le_of_ble_eq_true rfl) hW t3  hp5) rfl rfl (Nat.le_of_ble_eq_true rfl) (Nat.le_trans (Nat.le_of_ble_eq_true rfl) hd) (ckmR fun z6 F7 A8 hW9 p11 r12 => ?_)
  have h := h z6 F7 A8 p11
  refine j_pop dX2_lost_7 (vR_cat _) ?_
  refine r_aload_n dX2_lost_8 rfl ?_
  refine j_iconst dX2_lost_9 ?_
  obtain ⟨P13, hp14, h⟩ := h
  refine r_invV (ci := 3) (As := [vI 3]) (rest := []) dX2_lost_10 lkX2_67 rfl ht rfl rfl (vX2_is (d := 2) (Nat.le_of_ble_eq_true rfl) hW9 ht (by decide) hp14) rfl rfl (Nat.le_of_ble_eq_true rfl) (Nat.le_trans (Nat.le_of_ble_eq_true rfl) hd) (ckmR fun z15 F16 A17 hW18 p20 r21 => ?_)
  have h := h z15 F16 A17 p20
  exact r_aret dX2_lost_13 rfl (Or.inl ⟨_, rfl⟩) ⟨_, rfl, rfl, hW18, h, trivial⟩
/-- ChildSays$Saying.says(LChildSays$Child;LChildSays$Row;II)Z -/
def wqX2_says (o : Nat) (a1 : Int) (a2 : Int) (a3 : Int) (a4 : Int) (N : jSh) (F : jFl) (A : jAr) (Q : Int → jFl → jAr → Prop) : Prop :=
  ∃ (I6 : Int → jFl → jAr → Prop) (m7 : Int → jFl → jAr → Nat), I6 a3 F A ∧ ∀ (v1 : Int) (F2 : jFl) (A3 : jAr), I6 v1 F2 A3 →
    ((a4 ≤ v1) →
      Q 1 F2 A3) ∧
    ((¬ (a4 ≤ v1)) →
      ∃ b9 : Nat, a1 = (b9 : Int) ∧
      jtg N b9 = 16 ∧
      ∃ b12 : Nat, a2 = (b12 : Int) ∧
      jtg N b12 = 4 ∧
      ∃ b15 : Nat, jfn N 1202 b12 = (b15 : Int) ∧
      jtg N b15 = 107 ∧
      ((0 : Int) ≤ v1 ∧ (v1 : Int) < (jln N b15 : Int)) ∧
      ∃ b19 : Nat, A3 b15 v1 = (b19 : Int) ∧
      jtg N b19 = 14 ∧
      ∃ b22 : Nat, jfn N 4814 b9 = (b22 : Int) ∧
      jtg N b22 = 107 ∧
      ((0 : Int) ≤ jfn N 3903 b19 ∧ (jfn N 3903 b19 : Int) < (jln N b22 : Int)) ∧
      ∀ v26 : Int, v26 = A3 b22 (jfn N 3903 b19) →
      ∃ b27 : Nat, v26 = (b27 : Int) ∧
      jtg N b27 = 14 ∧
      ∃ (P30 : Int → Prop), wqX13_takes b27 (F2 911 o) N F2 A3 P30 ∧
      ∀ z32, P30 z32 →
      jfn N 0 o = 1 ∧
      jR ((F2 906 o) - z32) ∧
      ∀ F40 : jFl, F40 = upF F2 906 o ((F2 906 o) - z32) →
      ((0 ≤ (F40 906 o)) →
        ∃ b42 : Nat, jfn N 902 o = (b42 : Int) ∧
        jtg N b42 = 4 ∧
        ∃ b45 : Nat, jfn N 1202 b42 = (b45 : Int) ∧
        jtg N b45 = 107 ∧
        jfn N 0 b45 = 1 ∧
        ((0 : Int) ≤ v1 ∧ (v1 : Int) < (jln N b45 : Int)) ∧
        jast N "ChildSays$Word" v26 ∧
        ∀ A50 : jAr, A50 = upA A3 b45 v1 v26 →
        ∀ F54 : jFl, F54 = upF F40 911 o v26 →
        jR (v1 + 1) ∧
        I6 (v1 + 1) F54 A50 ∧ m7 (v1 + 1) F54 A50 < m7 v1 F2 A3) ∧
      ((¬ (0 ≤ (F40 906 o))) →
        Q 0 F40 A3))
theorem vX2_says {G : jG} {l : Launch} {d : Nat} {N : jSh} {F : jFl} {A : jAr} {o : Nat} {a1 a2 a3 a4 : Int} {Q : Int → jFl → jAr → Prop} (hd : 3 ≤ d) (hW : jWg G N F A) (ht : jtg N o = 3) (ra3 : jR a3) (ra4 : jR a4) (h : wqX2_says o a1 a2 a3 a4 N F A Q) : jCall G l d mX2_says [vR (o : Int), vR a1, vR a2, vI a3, vI a4] N F A (cmB G N Q) := by
  unfold wqX2_says at h
  refine jCall.of (by decide) rfl (ls := [vR (o : Int), vR a1, vR a2, vI a3, vI a4, jD, jD]) (by simp only [jent_R, jent_I, jent_L, jent_nil]; exact Nat.le_of_ble_eq_true rfl) (by simp only [jloc, jent_R, jent_I, jent_L, jent_nil]; rfl) ?_
  refine j_iload_n dX2_says_0 rfl ?_
  refine j_istore dX2_says_1 rfl ?_
  obtain ⟨I6, m7, h0, hs⟩ := h
  have lp : ∀ (n : Nat) (v1 : Int) (F2 : jFl) (A3 : jAr), m7 v1 F2 A3 < n → jWg G N F2 A3 → jR v1 → I6 v1 F2 A3 → J G l d mX2_says 3 [vR (o : Int), vR a1, vR a2, jD, vI a4, vI v1, jD] [] N F2 A3 (cmB G N Q) := by
    intro nI6
    induction nI6 with
    | zero =>
      intro v1 F2 A3 hmu
      exact absurd hmu (Nat.not_lt_zero _)
    | succ nI6 ihI6 =>
      intro v1 F2 A3 hmuI6 hW4 rv1 hI
      have h := hs v1 F2 A3 hI
      refine j_iload dX2_says_3 rfl ?_
      refine j_iload dX2_says_5 rfl ?_
      obtain ⟨h1, h2⟩ := h
      refine j_icmp_ge 78 dX2_says_7 rfl rv1 ra4 (fun q8 => ?_) (fun q8 => ?_)
      · have h := h1 q8
        clear h1 h2
        refine j_iconst dX2_says_78 ?_
        exact j_zret dX2_says_79 rfl (nr_bool (by decide)) ⟨_, rfl, rfl, hW4, h, (by decide)⟩
      · have h := h2 q8
        clear h1 h2
        refine r_aload_n dX2_says_10 rfl ?_
        obtain ⟨b9, hz10, h⟩ := h
        obtain ⟨t11, h⟩ := h
        refine r_gRF dX2_says_11 flX2_22_16 hz10 t11 rfl ?_
        refine r_aload_n dX2_says_14 rfl ?_
        obtain ⟨b12, hz13, h⟩ := h
        obtain ⟨t14, h⟩ := h
        refine r_gRF dX2_says_15 flX2_28_4 hz13 t14 rfl ?_
        refine j_iload dX2_says_18 rfl ?_
        obtain ⟨b15, hz16, h⟩ := h
        obtain ⟨t17, h⟩ := h
        obtain ⟨c18, h⟩ := h
        refine r_aald dX2_says_20 hz16 t17 rfl rfl c18 ?_
        obtain ⟨b19, hz20, h⟩ := h
        obtain ⟨t21, h⟩ := h
        refine r_gIF dX2_says_21 flX2_31_14 hz20 t21 rfl ?_
        obtain ⟨b22, hz23, h⟩ := h
        obtain ⟨t24, h⟩ := h
        obtain ⟨c25, h⟩ := h
        refine r_aald dX2_says_24 hz23 t24 rfl rfl c25 ?_
        obtain ⟨v26, ev26⟩ : ∃ x : Int, x = A3 b22 (jfn N 3903 b19) := ⟨_, rfl⟩
        have h := h v26 ev26
        refine jnmR (e := ev26) ?_
        refine r_astore dX2_says_25 rfl ?_
        refine r_aload_n dX2_says_27 rfl ?_
        refine j_dup dX2_says_28 (vR_cat _) ?_
        refine r_gI dX2_says_29 flX2_37_3 rfl ht rfl ?_
        refine r_aload dX2_says_32 rfl ?_
        refine r_aload_n dX2_says_34 rfl ?_
        refine r_gR dX2_says_35 flX2_40_3 rfl ht rfl ?_
        obtain ⟨b27, hz28, h⟩ := h
        obtain ⟨t29, h⟩ := h
        obtain ⟨P30, hp31, h⟩ := h
        refine r_invV (ci := 14) (As := [vR (F2 911 o)]) (rest := [vI (F2 906 o), vR (o : Int)]) dX2_says_38 lkX2_44 hz28 t29 rfl rfl (vX13_takes (d := 2) (Nat.le_of_ble_eq_true rfl) hW4 t29  hp31) rfl rfl (Nat.le_of_ble_eq_true rfl) (Nat.le_trans (Nat.le_of_ble_eq_true rfl) hd) (jkpI fun z32 p35 r36 => ?_)
        have h := h z32 p35
        refine j_isub dX2_says_41 ?_
        obtain ⟨w37, h⟩ := h
        obtain ⟨r38, h⟩ := h
        refine c_pI hW4 dX2_says_42 flX2_37_3 rfl ht w37 rfl r38 fun F40 eF40 hW39 => ?_
        have h := h F40 eF40
        refine r_aload_n dX2_says_45 rfl ?_
        refine r_gI dX2_says_46 flX2_37_3 rfl ht rfl ?_
        obtain ⟨h1, h2⟩ := h
        refine j_if_ge 54 dX2_says_49 rfl (hW39.fi rfl) (fun q41 => ?_) (fun q41 => ?_)
        · have h := h1 q41
          clear h1 h2
          refine r_aload_n dX2_says_54 rfl ?_
          refine r_gRF dX2_says_55 flX2_18_3 rfl ht rfl ?_
          obtain ⟨b42, hz43, h⟩ := h
          obtain ⟨t44, h⟩ := h
          refine r_gRF dX2_says_58 flX2_28_4 hz43 t44 rfl ?_
          refine j_iload dX2_says_61 rfl ?_
          refine r_aload dX2_says_63 rfl ?_
          obtain ⟨b45, hz46, h⟩ := h
          obtain ⟨t47, h⟩ := h
          obtain ⟨w48, h⟩ := h
          obtain ⟨c49, h⟩ := h
          obtain ⟨j52, h⟩ := h
          refine c_aast hW39 dX2_says_65 hz46 t47 rfl w48 c49 j52 rfl fun A50 eA50 hW51 => ?_
          have h := h A50 eA50
          refine r_aload_n dX2_says_66 rfl ?_
          refine r_aload dX2_says_67 rfl ?_
          refine c_pR hW51 dX2_says_69 flX2_40_3 rfl ht w37 rfl (ty := .object "ChildSays$Word") (by decide +kernel) (Or.inl ⟨_, rfl⟩) fun F54 eF54 hW53 => ?_
          have h := h F54 eF54
          obtain ⟨r55, h⟩ := h
          refine j_iinc dX2_says_72 rfl rfl ?_
          refine j_goto 3 dX2_says_75 rfl ?_
          exact J.wk ((((((((jWk.nil).no).eq).eq).no).eq).eq).eq) (ihI6 _ _ _ (Nat.lt_of_lt_of_le h.2 (Nat.le_of_lt_succ hmuI6)) hW53 r55 h.1)
        · have h := h2 q41
          clear h1 h2
          refine j_iconst dX2_says_52 ?_
          exact j_zret dX2_says_53 rfl (nr_bool (by decide)) ⟨_, rfl, rfl, hW39, h, (by decide)⟩
  exact J.wk ((((((((jWk.nil).no).eq).eq).no).eq).eq).eq) (lp _ _ _ _ (Nat.lt_succ_self _) hW ra3 h0)
/-- ChildSays$Saying.tells(I)I -/
def wqX2_tells (o : Nat) (a1 : Int) (N : jSh) (F : jFl) (A : jAr) (Q : Int → Prop) : Prop :=
  ((¬ a1 = (-1)) →
    ((¬ a1 = 20) →
      ∃ b3 : Nat, jfn N 902 o = (b3 : Int) ∧
      jtg N b3 = 4 ∧
      ∃ (P6 : Int → Prop), wqX3_size b3 N F A P6 ∧
      ∀ z8, P6 z8 →
      jR (z8 - 1) ∧
      ∃ (P14 : Int → Prop), wqX0_isIn a1 0 (z8 - 1) N F A P14 ∧
      ∀ z16, P14 z16 →
      ((z16 = 0) →
        Q (-1)) ∧
      ((¬ (z16 = 0)) →
        ∃ b22 : Nat, jfn N 1202 b3 = (b22 : Int) ∧
        jtg N b22 = 107 ∧
        ((0 : Int) ≤ a1 ∧ (a1 : Int) < (jln N b22 : Int)) ∧
        ∃ b26 : Nat, A b22 a1 = (b26 : Int) ∧
        jtg N b26 = 14 ∧
        Q (jfn N 3903 b26))) ∧
    ((a1 = 20) →
      ∃ b29 : Nat, jfn N 902 o = (b29 : Int) ∧
      jtg N b29 = 4 ∧
      ∃ (P32 : Int → Prop), wqX3_size b29 N F A P32 ∧
      ∀ z34, P32 z34 →
      Q z34)) ∧
  ((a1 = (-1)) →
    Q (F 903 o))
theorem vX2_tells {G : jG} {l : Launch} {d : Nat} {N : jSh} {F : jFl} {A : jAr} {o : Nat} {a1 : Int} {Q : Int → Prop} (hd : 3 ≤ d) (hW : jWg G N F A) (ht : jtg N o = 3) (ra1 : jR a1) (h : wqX2_tells o a1 N F A Q) : jCall G l d mX2_tells [vR (o : Int), vI a1] N F A (jpI N F A Q) := by
  unfold wqX2_tells at h
  refine jCall.of (by decide) rfl (ls := [vR (o : Int), vI a1]) (by simp only [jent_R, jent_I, jent_L, jent_nil]; exact Nat.le_of_ble_eq_true rfl) (by simp only [jloc, jent_R, jent_I, jent_L, jent_nil]; rfl) ?_
  refine j_iload_n dX2_tells_0 rfl ?_
  refine j_iconst dX2_tells_1 ?_
  obtain ⟨h1, h2⟩ := h
  refine j_icmp_ne 12 dX2_tells_2 rfl ra1 (by decide) (fun q1 => ?_) (fun q1 => ?_)
  · have h := h1 q1
    clear h1 h2
    refine j_iload_n dX2_tells_12 rfl ?_
    refine j_bipush dX2_tells_13 ?_
    obtain ⟨h1, h2⟩ := h
    refine j_icmp_ne 28 dX2_tells_15 rfl ra1 (by decide) (fun q2 => ?_) (fun q2 => ?_)
    · have h := h1 q2
      clear h1 h2
      refine j_iload_n dX2_tells_28 rfl ?_
      refine j_i2l dX2_tells_29 ra1 ?_
      refine j_lconst 0 rfl dX2_tells_30 ?_
      refine r_aload_n dX2_tells_31 rfl ?_
      refine r_gRF dX2_tells_32 flX2_18_3 rfl ht rfl ?_
      obtain ⟨b3, hz4, h⟩ := h
      obtain ⟨t5, h⟩ := h
      obtain ⟨P6, hp7, h⟩ := h
      refine r_invV (ci := 4) (As := []) (rest := [vL 0, vL a1]) dX2_tells_35 lkX2_78 hz4 t5 rfl rfl (vX3_size (d := 2) (Nat.le_of_ble_eq_true rfl) hW t5  hp7) rfl rfl (Nat.le_of_ble_eq_true rfl) (Nat.le_trans (Nat.le_of_ble_eq_true rfl) hd) (jkpI fun z8 p11 r12 => ?_)
      have h := h z8 p11
      refine j_iconst dX2_tells_38 ?_
      refine j_isub dX2_tells_39 ?_
      obtain ⟨r13, h⟩ := h
      refine j_i2l dX2_tells_40 r13 ?_
      obtain ⟨P14, hp15, h⟩ := h
      refine r_invSN (As := [vL a1, vL 0, vL (z8 - 1)]) (rest := []) dX2_tells_41 lkX2_99 (vX0_isIn (d := 2) (Nat.le_of_ble_eq_true rfl) hW (jR_L ra1) (by decide) (jR_L r13) hp15) rfl rfl (Nat.le_of_ble_eq_true rfl) (Nat.le_trans (Nat.le_of_ble_eq_true rfl) hd) (jkpB fun z16 p19 r20 => ?_)
      have h := h z16 p19
      obtain ⟨h1, h2⟩ := h
      refine j_if_eq 62 dX2_tells_44 rfl (jR_b r20) (fun q21 => ?_) (fun q21 => ?_)
      · have h := h1 q21
        clear h1 h2
        refine j_iconst dX2_tells_62 ?_
        exact j_iret dX2_tells_63 rfl ⟨_, rfl, rfl, rfl, rfl, h, (by decide)⟩
      · have h := h2 q21
        clear h1 h2
        refine r_aload_n dX2_tells_47 rfl ?_
        refine r_gRF dX2_tells_48 flX2_18_3 rfl ht rfl ?_
        refine r_gRF dX2_tells_51 flX2_28_4 hz4 t5 rfl ?_
        refine j_iload_n dX2_tells_54 rfl ?_
        obtain ⟨b22, hz23, h⟩ := h
        obtain ⟨t24, h⟩ := h
        obtain ⟨c25, h⟩ := h
        refine r_aald dX2_tells_55 hz23 t24 rfl rfl c25 ?_
        obtain ⟨b26, hz27, h⟩ := h
        obtain ⟨t28, h⟩ := h
        refine r_gIF dX2_tells_56 flX2_31_14 hz27 t28 rfl ?_
        refine j_goto 63 dX2_tells_59 rfl ?_
        exact j_iret dX2_tells_63 rfl ⟨_, rfl, rfl, rfl, rfl, h, (hW.ni rfl (by decide))⟩
    · have h := h2 (Classical.not_not.mp q2)
      clear h1 h2
      refine r_aload_n dX2_tells_18 rfl ?_
      refine r_gRF dX2_tells_19 flX2_18_3 rfl ht rfl ?_
      obtain ⟨b29, hz30, h⟩ := h
      obtain ⟨t31, h⟩ := h
      obtain ⟨P32, hp33, h⟩ := h
      refine r_invV (ci := 4) (As := []) (rest := []) dX2_tells_22 lkX2_78 hz30 t31 rfl rfl (vX3_size (d := 2) (Nat.le_of_ble_eq_true rfl) hW t31  hp33) rfl rfl (Nat.le_of_ble_eq_true rfl) (Nat.le_trans (Nat.le_of_ble_eq_true rfl) hd) (jkpI fun z34 p37 r38 => ?_)
      have h := h z34 p37
      refine j_goto 63 dX2_tells_25 rfl ?_
      exact j_iret dX2_tells_63 rfl ⟨_, rfl, rfl, rfl, rfl, h, r38⟩
  · have h := h2 (Classical.not_not.mp q1)
    clear h1 h2
    refine r_aload_n dX2_tells_5 rfl ?_
    refine r_gI dX2_tells_6 flX2_96_3 rfl ht rfl ?_
    refine j_goto 63 dX2_tells_9 rfl ?_
    exact j_iret dX2_tells_63 rfl ⟨_, rfl, rfl, rfl, rfl, h, (hW.fi rfl)⟩
/-- ChildSays$Row.beats()I -/
def wqX3_beats (o : Nat) (N : jSh) (F : jFl) (A : jAr) (Q : Int → Prop) : Prop :=
  ∃ (I4 : Int → Int → Prop) (m5 : Int → Int → Nat), I4 0 0 ∧ ∀ (v1 : Int) (v2 : Int), I4 v1 v2 →
    ∃ (P6 : Int → Prop), wqX3_size o N F A P6 ∧
    ∀ z8, P6 z8 →
    ((z8 ≤ v2) →
      Q v1) ∧
    ((¬ (z8 ≤ v2)) →
      ∃ b14 : Nat, jfn N 1202 o = (b14 : Int) ∧
      jtg N b14 = 107 ∧
      ((0 : Int) ≤ v2 ∧ (v2 : Int) < (jln N b14 : Int)) ∧
      ∃ b18 : Nat, A b14 v2 = (b18 : Int) ∧
      jtg N b18 = 14 ∧
      jR (v1 + (F 4200 b18)) ∧
      ∀ v22 : Int, v22 = v1 + (F 4200 b18) →
      jR (v2 + 1) ∧
      I4 v22 (v2 + 1) ∧ m5 v22 (v2 + 1) < m5 v1 v2)
theorem vX3_beats {G : jG} {l : Launch} {d : Nat} {N : jSh} {F : jFl} {A : jAr} {o : Nat} {Q : Int → Prop} (hd : 3 ≤ d) (hW : jWg G N F A) (ht : jtg N o = 4) (h : wqX3_beats o N F A Q) : jCall G l d mX3_beats [vR (o : Int)] N F A (jpI N F A Q) := by
  unfold wqX3_beats at h
  refine jCall.of (by decide) rfl (ls := [vR (o : Int), jD, jD]) (by simp only [jent_R, jent_I, jent_L, jent_nil]; exact Nat.le_of_ble_eq_true rfl) (by simp only [jloc, jent_R, jent_I, jent_L, jent_nil]; rfl) ?_
  refine j_iconst dX3_beats_0 ?_
  refine j_istore_n dX3_beats_1 (jokR rfl (Nat.le_of_ble_eq_true rfl)) ?_
  refine j_iconst dX3_beats_2 ?_
  refine j_istore_n dX3_beats_3 rfl ?_
  obtain ⟨I4, m5, h0, hs⟩ := h
  have lp : ∀ (n : Nat) (v1 : Int) (v2 : Int), m5 v1 v2 < n → jR v1 → jR v2 → I4 v1 v2 → J G l d mX3_beats 4 [vR (o : Int), vI v1, vI v2] [] N F A (jpI N F A Q) := by
    intro nI4
    induction nI4 with
    | zero =>
      intro v1 v2 hmu
      exact absurd hmu (Nat.not_lt_zero _)
    | succ nI4 ihI4 =>
      intro v1 v2 hmuI4 rv1 rv2 hI
      have h := hs v1 v2 hI
      refine j_iload_n dX3_beats_4 rfl ?_
      refine r_aload_n dX3_beats_5 rfl ?_
      obtain ⟨P6, hp7, h⟩ := h
      refine r_invV (ci := 4) (As := []) (rest := [vI v2]) dX3_beats_6 lkX3_24 rfl ht rfl rfl (vX3_size (d := 2) (Nat.le_of_ble_eq_true rfl) hW ht  hp7) rfl rfl (Nat.le_of_ble_eq_true rfl) (Nat.le_trans (Nat.le_of_ble_eq_true rfl) hd) (jkpI fun z8 p11 r12 => ?_)
      have h := h z8 p11
      obtain ⟨h1, h2⟩ := h
      refine j_icmp_ge 30 dX3_beats_9 rfl rv2 r12 (fun q13 => ?_) (fun q13 => ?_)
      · have h := h1 q13
        clear h1 h2
        refine j_iload_n dX3_beats_30 rfl ?_
        exact j_iret dX3_beats_31 rfl ⟨_, rfl, rfl, rfl, rfl, h, rv1⟩
      · have h := h2 q13
        clear h1 h2
        refine j_iload_n dX3_beats_12 rfl ?_
        refine r_aload_n dX3_beats_13 rfl ?_
        refine r_gRF dX3_beats_14 flX3_11_4 rfl ht rfl ?_
        refine j_iload_n dX3_beats_17 rfl ?_
        obtain ⟨b14, hz15, h⟩ := h
        obtain ⟨t16, h⟩ := h
        obtain ⟨c17, h⟩ := h
        refine r_aald dX3_beats_18 hz15 t16 rfl rfl c17 ?_
        obtain ⟨b18, hz19, h⟩ := h
        obtain ⟨t20, h⟩ := h
        refine r_gI dX3_beats_19 flX3_28_14 hz19 t20 rfl ?_
        refine j_iadd dX3_beats_22 ?_
        obtain ⟨r21, h⟩ := h
        obtain ⟨v22, ev22⟩ : ∃ x : Int, x = v1 + (F 4200 b18) := ⟨_, rfl⟩
        have h := h v22 ev22
        refine jnmI (e := ev22) ?_
        refine j_istore_n dX3_beats_23 (jokR rfl (Nat.le_of_ble_eq_true rfl)) ?_
        obtain ⟨r23, h⟩ := h
        refine j_iinc dX3_beats_24 rfl rfl ?_
        refine j_goto 4 dX3_beats_27 rfl ?_
        exact J.wk ((((jWk.nil).eq).eq).eq) (ihI4 _ _ (Nat.lt_of_lt_of_le h.2 (Nat.le_of_lt_succ hmuI4)) (ev22 ▸ r21) r23 h.1)
  exact J.wk ((((jWk.nil).eq).eq).eq) (lp _ _ _ (Nat.lt_succ_self _) (by decide) (by decide) h0)
/-- ChildSays$Row.has(LChildSays$Word;)Z -/
def wqX3_has (o : Nat) (a1 : Int) (N : jSh) (F : jFl) (A : jAr) (Q : Int → Prop) : Prop :=
  ∃ (I3 : Int → Prop) (m4 : Int → Nat), I3 0 ∧ ∀ (v1 : Int), I3 v1 →
    ∃ (P5 : Int → Prop), wqX3_size o N F A P5 ∧
    ∀ z7, P5 z7 →
    ((z7 ≤ v1) →
      Q 0) ∧
    ((¬ (z7 ≤ v1)) →
      ∃ b13 : Nat, jfn N 1202 o = (b13 : Int) ∧
      jtg N b13 = 107 ∧
      ((0 : Int) ≤ v1 ∧ (v1 : Int) < (jln N b13 : Int)) ∧
      ((¬ (A b13 v1 = a1 ∨ (A b13 v1 < 0 ∧ a1 < 0))) →
        jR (v1 + 1) ∧
        I3 (v1 + 1) ∧ m4 (v1 + 1) < m4 v1) ∧
      (((A b13 v1 = a1 ∨ (A b13 v1 < 0 ∧ a1 < 0))) →
        Q 1))
theorem vX3_has {G : jG} {l : Launch} {d : Nat} {N : jSh} {F : jFl} {A : jAr} {o : Nat} {a1 : Int} {Q : Int → Prop} (hd : 3 ≤ d) (hW : jWg G N F A) (ht : jtg N o = 4) (h : wqX3_has o a1 N F A Q) : jCall G l d mX3_has [vR (o : Int), vR a1] N F A (jpB N F A Q) := by
  unfold wqX3_has at h
  refine jCall.of (by decide) rfl (ls := [vR (o : Int), vR a1, jD]) (by simp only [jent_R, jent_I, jent_L, jent_nil]; exact Nat.le_of_ble_eq_true rfl) (by simp only [jloc, jent_R, jent_I, jent_L, jent_nil]; rfl) ?_
  refine j_iconst dX3_has_0 ?_
  refine j_istore_n dX3_has_1 (jokR rfl (Nat.le_of_ble_eq_true rfl)) ?_
  obtain ⟨I3, m4, h0, hs⟩ := h
  have lp : ∀ (n : Nat) (v1 : Int), m4 v1 < n → jR v1 → I3 v1 → J G l d mX3_has 2 [vR (o : Int), vR a1, vI v1] [] N F A (jpB N F A Q) := by
    intro nI3
    induction nI3 with
    | zero =>
      intro v1 hmu
      exact absurd hmu (Nat.not_lt_zero _)
    | succ nI3 ihI3 =>
      intro v1 hmuI3 rv1 hI
      have h := hs v1 hI
      refine j_iload_n dX3_has_2 rfl ?_
      refine r_aload_n dX3_has_3 rfl ?_
      obtain ⟨P5, hp6, h⟩ := h
      refine r_invV (ci := 4) (As := []) (rest := [vI v1]) dX3_has_4 lkX3_24 rfl ht rfl rfl (vX3_size (d := 2) (Nat.le_of_ble_eq_true rfl) hW ht  hp6) rfl rfl (Nat.le_of_ble_eq_true rfl) (Nat.le_trans (Nat.le_of_ble_eq_true rfl) hd) (jkpI fun z7 p10 r11 => ?_)
      have h := h z7 p10
      obtain ⟨h1, h2⟩ := h
      refine j_icmp_ge 28 dX3_has_7 rfl rv1 r11 (fun q12 => ?_) (fun q12 => ?_)
      · have h := h1 q12
        clear h1 h2
        refine j_iconst dX3_has_28 ?_
        exact j_zret dX3_has_29 rfl (nr_bool (by decide)) ⟨_, rfl, rfl, rfl, rfl, h, (by decide)⟩
      · have h := h2 q12
        clear h1 h2
        refine r_aload_n dX3_has_10 rfl ?_
        refine r_gRF dX3_has_11 flX3_11_4 rfl ht rfl ?_
        refine j_iload_n dX3_has_14 rfl ?_
        obtain ⟨b13, hz14, h⟩ := h
        obtain ⟨t15, h⟩ := h
        obtain ⟨c16, h⟩ := h
        refine r_aald dX3_has_15 hz14 t15 rfl rfl c16 ?_
        refine r_aload_n dX3_has_16 rfl ?_
        obtain ⟨h1, h2⟩ := h
        refine r_acmp_ne 22 dX3_has_17 rfl (fun q17 => ?_) (fun q17 => ?_)
        · have h := h1 q17
          clear h1 h2
          obtain ⟨r18, h⟩ := h
          refine j_iinc dX3_has_22 rfl (jokR rfl (Nat.le_of_ble_eq_true rfl)) ?_
          refine j_goto 2 dX3_has_25 rfl ?_
          exact J.wk ((((jWk.nil).eq).eq).eq) (ihI3 _ (Nat.lt_of_lt_of_le h.2 (Nat.le_of_lt_succ hmuI3)) r18 h.1)
        · have h := h2 q17
          clear h1 h2
          refine j_iconst dX3_has_20 ?_
          exact j_zret dX3_has_21 rfl (nr_bool (by decide)) ⟨_, rfl, rfl, rfl, rfl, h, (by decide)⟩
  exact J.wk ((((jWk.nil).eq).eq).eq) (lp _ _ (Nat.lt_succ_self _) (by decide) h0)
/-- ChildSays$Row.isAgainst(LChildSays$Row;)Z -/
def wqX3_isAgainst (o : Nat) (a1 : Int) (N : jSh) (F : jFl) (A : jAr) (Q : Int → Prop) : Prop :=
  ∃ (P1 : Int → Prop), wqX3_nevers o N F A P1 ∧
  ∀ z3, P1 z3 →
  (((0 : Int) ≤ z3 ∧ (z3 : Int) ≤ 2147483647) ∧ ((0 : Int) < 2 ∧ (2 : Int) ≤ 2147483647)) ∧
  ∃ b9 : Nat, a1 = (b9 : Int) ∧
  jtg N b9 = 4 ∧
  ∃ (P12 : Int → Prop), wqX3_nevers b9 N F A P12 ∧
  ∀ z14, P12 z14 →
  (((0 : Int) ≤ z14 ∧ (z14 : Int) ≤ 2147483647) ∧ ((0 : Int) < 2 ∧ (2 : Int) ≤ 2147483647)) ∧
  jR (z14 % 2) ∧
  jR (z3 % 2) ∧
  ((¬ (z3 % 2) = (z14 % 2)) →
    ∃ (P23 : Int → Prop), wqX3_plain o 0 N F A P23 ∧
    ∀ z25, P23 z25 →
    ∃ (P30 : Int → Prop), wqX3_plain b9 0 N F A P30 ∧
    ∀ z32, P30 z32 →
    ∃ (I40 : Int → Int → Prop) (m41 : Int → Int → Nat), I40 z25 z32 ∧ ∀ (v37 : Int) (v38 : Int), I40 v37 v38 →
      ∃ K44 : Prop, (
        K44  →
        ((¬ v37 = (F 1203 o)) →
          Q 0) ∧
        ((v37 = (F 1203 o)) →
          ∀ z49 : Int, z49 = (if ¬ v38 = (F 1203 b9) then (0 : Int) else 1) →
          Q z49)) ∧
      (((F 1203 o) ≤ v37) →
        K44 ) ∧
      ((¬ ((F 1203 o) ≤ v37)) →
        (((F 1203 b9) ≤ v38) →
          K44 ) ∧
        ((¬ ((F 1203 b9) ≤ v38)) →
          ∃ b52 : Nat, jfn N 1202 o = (b52 : Int) ∧
          jtg N b52 = 107 ∧
          ((0 : Int) ≤ v37 ∧ (v37 : Int) < (jln N b52 : Int)) ∧
          ∃ b56 : Nat, jfn N 1202 b9 = (b56 : Int) ∧
          jtg N b56 = 107 ∧
          ((0 : Int) ≤ v38 ∧ (v38 : Int) < (jln N b56 : Int)) ∧
          ((¬ (A b52 v37 = A b56 v38 ∨ (A b52 v37 < 0 ∧ A b56 v38 < 0))) →
            K44 ) ∧
          (((A b52 v37 = A b56 v38 ∨ (A b52 v37 < 0 ∧ A b56 v38 < 0))) →
            jR (v37 + 1) ∧
            ∃ (P62 : Int → Prop), wqX3_plain o (v37 + 1) N F A P62 ∧
            ∀ z64, P62 z64 →
            jR (v38 + 1) ∧
            ∃ (P70 : Int → Prop), wqX3_plain b9 (v38 + 1) N F A P70 ∧
            ∀ z72, P70 z72 →
            I40 z64 z72 ∧ m41 z64 z72 < m41 v37 v38)))) ∧
  (((z3 % 2) = (z14 % 2)) →
    Q 0)
theorem vX3_isAgainst {G : jG} {l : Launch} {d : Nat} {N : jSh} {F : jFl} {A : jAr} {o : Nat} {a1 : Int} {Q : Int → Prop} (hd : 3 ≤ d) (hW : jWg G N F A) (ht : jtg N o = 4) (h : wqX3_isAgainst o a1 N F A Q) : jCall G l d mX3_isAgainst [vR (o : Int), vR a1] N F A (jpB N F A Q) := by
  unfold wqX3_isAgainst at h
  refine jCall.of (by decide) rfl (ls := [vR (o : Int), vR a1, jD, jD]) (by simp only [jent_R, jent_I, jent_L, jent_nil]; exact Nat.le_of_ble_eq_true rfl) (by simp only [jloc, jent_R, jent_I, jent_L, jent_nil]; rfl) ?_
  refine r_aload_n dX3_isAgainst_0 rfl ?_
  obtain ⟨P1, hp2, h⟩ := h
  refine r_invV (ci := 4) (As := []) (rest := []) dX3_isAgainst_1 lkX3_35 rfl ht rfl rfl (vX3_nevers (d := 2) (Nat.le_of_ble_eq_true rfl) hW ht  hp2) rfl rfl (Nat.le_of_ble_eq_true rfl) (Nat.le_trans (Nat.le_of_ble_eq_true rfl) hd) (jkpI fun z3 p6 r7 => ?_)
  have h := h z3 p6
  refine j_iconst dX3_isAgainst_4 ?_
  obtain ⟨c8, h⟩ := h
  refine j_irem dX3_isAgainst_5 c8.1 c8.2 ?_
  refine r_aload_n dX3_isAgainst_6 rfl ?_
  obtain ⟨b9, hz10, h⟩ := h
  obtain ⟨t11, h⟩ := h
  obtain ⟨P12, hp13, h⟩ := h
  refine r_invV (ci := 4) (As := []) (rest := [vI (z3 % 2)]) dX3_isAgainst_7 lkX3_35 hz10 t11 rfl rfl (vX3_nevers (d := 2) (Nat.le_of_ble_eq_true rfl) hW t11  hp13) rfl rfl (Nat.le_of_ble_eq_true rfl) (Nat.le_trans (Nat.le_of_ble_eq_true rfl) hd) (jkpI fun z14 p17 r18 => ?_)
  have h := h z14 p17
  refine j_iconst dX3_isAgainst_10 ?_
  obtain ⟨c19, h⟩ := h
  refine j_irem dX3_isAgainst_11 c19.1 c19.2 ?_
  obtain ⟨r20, h⟩ := h
  obtain ⟨r21, h⟩ := h
  obtain ⟨h1, h2⟩ := h
  refine j_icmp_ne 17 dX3_isAgainst_12 rfl r21 r20 (fun q22 => ?_) (fun q22 => ?_)
  · have h := h1 q22
    clear h1 h2
    refine r_aload_n dX3_isAgainst_17 rfl ?_
    refine j_iconst dX3_isAgainst_18 ?_
    obtain ⟨P23, hp24, h⟩ := h
    refine r_invV (ci := 4) (As := [vI 0]) (rest := []) dX3_isAgainst_19 lkX3_38 rfl ht rfl rfl (vX3_plain (d := 2) (Nat.le_of_ble_eq_true rfl) hW ht (by decide) hp24) rfl rfl (Nat.le_of_ble_eq_true rfl) (Nat.le_trans (Nat.le_of_ble_eq_true rfl) hd) (jkpI fun z25 p28 r29 => ?_)
    have h := h z25 p28
    refine j_istore_n dX3_isAgainst_22 (jokR rfl (Nat.le_of_ble_eq_true rfl)) ?_
    refine r_aload_n dX3_isAgainst_23 rfl ?_
    refine j_iconst dX3_isAgainst_24 ?_
    obtain ⟨P30, hp31, h⟩ := h
    refine r_invV (ci := 4) (As := [vI 0]) (rest := []) dX3_isAgainst_25 lkX3_38 hz10 t11 rfl rfl (vX3_plain (d := 2) (Nat.le_of_ble_eq_true rfl) hW t11 (by decide) hp31) rfl rfl (Nat.le_of_ble_eq_true rfl) (Nat.le_trans (Nat.le_of_ble_eq_true rfl) hd) (jkpI fun z32 p35 r36 => ?_)
    have h := h z32 p35
    refine j_istore_n dX3_isAgainst_28 rfl ?_
    obtain ⟨I40, m41, h0, hs⟩ := h
    have lp : ∀ (n : Nat) (v37 : Int) (v38 : Int), m41 v37 v38 < n → jR v37 → jR v38 → I40 v37 v38 → J G l d mX3_isAgainst 29 [vR (o : Int), vR a1, vI v37, vI v38] [] N F A (jpB N F A Q) := by
      intro nI40
      induction nI40 with
      | zero =>
        intro v37 v38 hmu
        exact absurd hmu (Nat.not_lt_zero _)
      | succ nI40 ihI40 =>
        intro v37 v38 hmuI40 rv37 rv38 hI
        have h := hs v37 v38 hI
        refine j_iload_n dX3_isAgainst_29 rfl ?_
        refine r_aload_n dX3_isAgainst_30 rfl ?_
        refine r_gI dX3_isAgainst_31 flX3_17_4 rfl ht rfl ?_
        obtain ⟨K44, hK46, h⟩ := h
        have jn45 : K44  → J G l d mX3_isAgainst 79 [vR (o : Int), vR a1, vI v37, vI v38] [] N F A (jpB N F A Q) := by
          intro   h
          have h := hK46  h
          refine j_iload_n dX3_isAgainst_79 rfl ?_
          refine r_aload_n dX3_isAgainst_80 rfl ?_
          refine r_gI dX3_isAgainst_81 flX3_17_4 rfl ht rfl ?_
          obtain ⟨h1, h2⟩ := h
          refine j_icmp_ne 99 dX3_isAgainst_84 rfl rv37 (hW.fi rfl) (fun q47 => ?_) (fun q47 => ?_)
          · have h := h1 q47
            clear h1 h2
            refine j_iconst dX3_isAgainst_99 ?_
            exact j_zret dX3_isAgainst_100 rfl (nr_bool (by decide)) ⟨_, rfl, rfl, rfl, rfl, h, (by decide)⟩
          · have h := h2 (Classical.not_not.mp q47)
            clear h1 h2
            refine j_iload_n dX3_isAgainst_87 rfl ?_
            refine r_aload_n dX3_isAgainst_88 rfl ?_
            refine r_gI dX3_isAgainst_89 flX3_17_4 hz10 t11 rfl ?_
            have jn50 : ∀ z49 : Int, z49 = (if ¬ v38 = (F 1203 b9) then (0 : Int) else 1) → J G l d mX3_isAgainst 100 [vR (o : Int), vR a1, vI v37, vI v38] [vI z49] N F A (jpB N F A Q) := by
              intro z49 ez49
              have h := h z49 ez49
              exact j_zret dX3_isAgainst_100 rfl (nr_bool (ez49 ▸ jB_ite (by decide) (by decide))) ⟨_, rfl, rfl, rfl, rfl, h, (ez49 ▸ jB_ite (by decide) (by decide))⟩
            clear h
            refine j_icmp_ne 99 dX3_isAgainst_92 rfl rv38 (hW.fi rfl) (fun q48 => ?_) (fun q48 => ?_)
            · refine j_iconst dX3_isAgainst_99 ?_
              exact jn50 _ (if_pos q48).symm
            · refine j_iconst dX3_isAgainst_95 ?_
              refine j_goto 100 dX3_isAgainst_96 rfl ?_
              exact jn50 _ (if_neg q48).symm
        obtain ⟨h1, h2⟩ := h
        refine j_icmp_ge 79 dX3_isAgainst_34 rfl rv37 (hW.fi rfl) (fun q42 => ?_) (fun q42 => ?_)
        · have h := h1 q42
          clear h1 h2
          exact J.wk (((((jWk.nil).eq).eq).eq).eq) (jn45   h)
        · have h := h2 q42
          clear h1 h2
          refine j_iload_n dX3_isAgainst_37 rfl ?_
          refine r_aload_n dX3_isAgainst_38 rfl ?_
          refine r_gI dX3_isAgainst_39 flX3_17_4 hz10 t11 rfl ?_
          obtain ⟨h1, h2⟩ := h
          refine j_icmp_ge 79 dX3_isAgainst_42 rfl rv38 (hW.fi rfl) (fun q51 => ?_) (fun q51 => ?_)
          · have h := h1 q51
            clear h1 h2
            exact J.wk (((((jWk.nil).eq).eq).eq).eq) (jn45   h)
          · have h := h2 q51
            clear h1 h2
            refine r_aload_n dX3_isAgainst_45 rfl ?_
            refine r_gRF dX3_isAgainst_46 flX3_11_4 rfl ht rfl ?_
            refine j_iload_n dX3_isAgainst_49 rfl ?_
            obtain ⟨b52, hz53, h⟩ := h
            obtain ⟨t54, h⟩ := h
            obtain ⟨c55, h⟩ := h
            refine r_aald dX3_isAgainst_50 hz53 t54 rfl rfl c55 ?_
            refine r_aload_n dX3_isAgainst_51 rfl ?_
            refine r_gRF dX3_isAgainst_52 flX3_11_4 hz10 t11 rfl ?_
            refine j_iload_n dX3_isAgainst_55 rfl ?_
            obtain ⟨b56, hz57, h⟩ := h
            obtain ⟨t58, h⟩ := h
            obtain ⟨c59, h⟩ := h
            refine r_aald dX3_isAgainst_56 hz57 t58 rfl rfl c59 ?_
            obtain ⟨h1, h2⟩ := h
            refine r_acmp_ne 79 dX3_isAgainst_57 rfl (fun q60 => ?_) (fun q60 => ?_)
            · have h := h1 q60
              clear h1 h2
              exact J.wk (((((jWk.nil).eq).eq).eq).eq) (jn45   h)
            · have h := h2 q60
              clear h1 h2
              refine r_aload_n dX3_isAgainst_60 rfl ?_
              refine j_iload_n dX3_isAgainst_61 rfl ?_
              refine j_iconst dX3_isAgainst_62 ?_
              refine j_iadd dX3_isAgainst_63 ?_
              obtain ⟨r61, h⟩ := h
              obtain ⟨P62, hp63, h⟩ := h
              refine r_invV (ci := 4) (As := [vI (v37 + 1)]) (rest := []) dX3_isAgainst_64 lkX3_38 rfl ht rfl rfl (vX3_plain (d := 2) (Nat.le_of_ble_eq_true rfl) hW ht r61 hp63) rfl rfl (Nat.le_of_ble_eq_true rfl) (Nat.le_trans (Nat.le_of_ble_eq_true rfl) hd) (jkpI fun z64 p67 r68 => ?_)
              have h := h z64 p67
              refine j_istore_n dX3_isAgainst_67 (jokR rfl (Nat.le_of_ble_eq_true rfl)) ?_
              refine r_aload_n dX3_isAgainst_68 rfl ?_
              refine j_iload_n dX3_isAgainst_69 rfl ?_
              refine j_iconst dX3_isAgainst_70 ?_
              refine j_iadd dX3_isAgainst_71 ?_
              obtain ⟨r69, h⟩ := h
              obtain ⟨P70, hp71, h⟩ := h
              refine r_invV (ci := 4) (As := [vI (v38 + 1)]) (rest := []) dX3_isAgainst_72 lkX3_38 hz10 t11 rfl rfl (vX3_plain (d := 2) (Nat.le_of_ble_eq_true rfl) hW t11 r69 hp71) rfl rfl (Nat.le_of_ble_eq_true rfl) (Nat.le_trans (Nat.le_of_ble_eq_true rfl) hd) (jkpI fun z72 p75 r76 => ?_)
              have h := h z72 p75
              refine j_istore_n dX3_isAgainst_75 rfl ?_
              refine j_goto 29 dX3_isAgainst_76 rfl ?_
              exact J.wk (((((jWk.nil).eq).eq).eq).eq) (ihI40 _ _ (Nat.lt_of_lt_of_le h.2 (Nat.le_of_lt_succ hmuI40)) r68 r76 h.1)
    exact J.wk (((((jWk.nil).eq).eq).eq).eq) (lp _ _ _ (Nat.lt_succ_self _) r29 r36 h0)
  · have h := h2 (Classical.not_not.mp q22)
    clear h1 h2
    refine j_iconst dX3_isAgainst_15 ?_
    exact j_zret dX3_isAgainst_16 rfl (nr_bool (by decide)) ⟨_, rfl, rfl, rfl, rfl, h, (by decide)⟩
/-- ChildSays$Row.isLike(LChildSays$Row;)Z -/
def wqX3_isLike (o : Nat) (a1 : Int) (N : jSh) (F : jFl) (A : jAr) (Q : Int → Prop) : Prop :=
  ∃ b1 : Nat, a1 = (b1 : Int) ∧
  jtg N b1 = 4 ∧
  ((¬ (F 1203 o) = (F 1203 b1)) →
    Q 0) ∧
  (((F 1203 o) = (F 1203 b1)) →
    (((F 1206 o) = (F 1206 b1)) →
      ∃ (I8 : Int → Prop) (m9 : Int → Nat), I8 0 ∧ ∀ (v6 : Int), I8 v6 →
        ∃ (P10 : Int → Prop), wqX3_size o N F A P10 ∧
        ∀ z12, P10 z12 →
        ((z12 ≤ v6) →
          Q 1) ∧
        ((¬ (z12 ≤ v6)) →
          ∃ b18 : Nat, jfn N 1202 o = (b18 : Int) ∧
          jtg N b18 = 107 ∧
          ((0 : Int) ≤ v6 ∧ (v6 : Int) < (jln N b18 : Int)) ∧
          ∃ b22 : Nat, jfn N 1202 b1 = (b22 : Int) ∧
          jtg N b22 = 107 ∧
          ((0 : Int) ≤ v6 ∧ (v6 : Int) < (jln N b22 : Int)) ∧
          (((A b18 v6 = A b22 v6 ∨ (A b18 v6 < 0 ∧ A b22 v6 < 0))) →
            jR (v6 + 1) ∧
            I8 (v6 + 1) ∧ m9 (v6 + 1) < m9 v6) ∧
          ((¬ ((A b18 v6 = A b22 v6 ∨ (A b18 v6 < 0 ∧ A b22 v6 < 0)))) →
            Q 0))) ∧
    ((¬ ((F 1206 o) = (F 1206 b1))) →
      Q 0))
theorem vX3_isLike {G : jG} {l : Launch} {d : Nat} {N : jSh} {F : jFl} {A : jAr} {o : Nat} {a1 : Int} {Q : Int → Prop} (hd : 3 ≤ d) (hW : jWg G N F A) (ht : jtg N o = 4) (h : wqX3_isLike o a1 N F A Q) : jCall G l d mX3_isLike [vR (o : Int), vR a1] N F A (jpB N F A Q) := by
  unfold wqX3_isLike at h
  refine jCall.of (by decide) rfl (ls := [vR (o : Int), vR a1, jD]) (by simp only [jent_R, jent_I, jent_L, jent_nil]; exact Nat.le_of_ble_eq_true rfl) (by simp only [jloc, jent_R, jent_I, jent_L, jent_nil]; rfl) ?_
  refine r_aload_n dX3_isLike_0 rfl ?_
  refine r_gI dX3_isLike_1 flX3_17_4 rfl ht rfl ?_
  refine r_aload_n dX3_isLike_4 rfl ?_
  obtain ⟨b1, hz2, h⟩ := h
  obtain ⟨t3, h⟩ := h
  refine r_gI dX3_isLike_5 flX3_17_4 hz2 t3 rfl ?_
  obtain ⟨h1, h2⟩ := h
  refine j_icmp_ne 22 dX3_isLike_8 rfl (hW.fi rfl) (hW.fi rfl) (fun q4 => ?_) (fun q4 => ?_)
  · have h := h1 q4
    clear h1 h2
    refine j_iconst dX3_isLike_22 ?_
    exact j_zret dX3_isLike_23 rfl (nr_bool (by decide)) ⟨_, rfl, rfl, rfl, rfl, h, (by decide)⟩
  · have h := h2 (Classical.not_not.mp q4)
    clear h1 h2
    refine r_aload_n dX3_isLike_11 rfl ?_
    refine r_gI dX3_isLike_12 flX3_21_4 rfl ht rfl ?_
    refine r_aload_n dX3_isLike_15 rfl ?_
    refine r_gI dX3_isLike_16 flX3_21_4 hz2 t3 rfl ?_
    obtain ⟨h1, h2⟩ := h
    refine j_icmp_eq 24 dX3_isLike_19 rfl (hW.fi rfl) (hW.fi rfl) (fun q5 => ?_) (fun q5 => ?_)
    · have h := h1 q5
      clear h1 h2
      refine j_iconst dX3_isLike_24 ?_
      refine j_istore_n dX3_isLike_25 (jokR rfl (Nat.le_of_ble_eq_true rfl)) ?_
      obtain ⟨I8, m9, h0, hs⟩ := h
      have lp : ∀ (n : Nat) (v6 : Int), m9 v6 < n → jR v6 → I8 v6 → J G l d mX3_isLike 26 [vR (o : Int), vR a1, vI v6] [] N F A (jpB N F A Q) := by
        intro nI8
        induction nI8 with
        | zero =>
          intro v6 hmu
          exact absurd hmu (Nat.not_lt_zero _)
        | succ nI8 ihI8 =>
          intro v6 hmuI8 rv6 hI
          have h := hs v6 hI
          refine j_iload_n dX3_isLike_26 rfl ?_
          refine r_aload_n dX3_isLike_27 rfl ?_
          obtain ⟨P10, hp11, h⟩ := h
          refine r_invV (ci := 4) (As := []) (rest := [vI v6]) dX3_isLike_28 lkX3_24 rfl ht rfl rfl (vX3_size (d := 2) (Nat.le_of_ble_eq_true rfl) hW ht  hp11) rfl rfl (Nat.le_of_ble_eq_true rfl) (Nat.le_trans (Nat.le_of_ble_eq_true rfl) hd) (jkpI fun z12 p15 r16 => ?_)
          have h := h z12 p15
          obtain ⟨h1, h2⟩ := h
          refine j_icmp_ge 57 dX3_isLike_31 rfl rv6 r16 (fun q17 => ?_) (fun q17 => ?_)
          · have h := h1 q17
            clear h1 h2
            refine j_iconst dX3_isLike_57 ?_
            exact j_zret dX3_isLike_58 rfl (nr_bool (by decide)) ⟨_, rfl, rfl, rfl, rfl, h, (by decide)⟩
          · have h := h2 q17
            clear h1 h2
            refine r_aload_n dX3_isLike_34 rfl ?_
            refine r_gRF dX3_isLike_35 flX3_11_4 rfl ht rfl ?_
            refine j_iload_n dX3_isLike_38 rfl ?_
            obtain ⟨b18, hz19, h⟩ := h
            obtain ⟨t20, h⟩ := h
            obtain ⟨c21, h⟩ := h
            refine r_aald dX3_isLike_39 hz19 t20 rfl rfl c21 ?_
            refine r_aload_n dX3_isLike_40 rfl ?_
            refine r_gRF dX3_isLike_41 flX3_11_4 hz2 t3 rfl ?_
            refine j_iload_n dX3_isLike_44 rfl ?_
            obtain ⟨b22, hz23, h⟩ := h
            obtain ⟨t24, h⟩ := h
            obtain ⟨c25, h⟩ := h
            refine r_aald dX3_isLike_45 hz23 t24 rfl rfl c25 ?_
            obtain ⟨h1, h2⟩ := h
            refine r_acmp_eq 51 dX3_isLike_46 rfl (fun q26 => ?_) (fun q26 => ?_)
            · have h := h1 q26
              clear h1 h2
              obtain ⟨r27, h⟩ := h
              refine j_iinc dX3_isLike_51 rfl (jokR rfl (Nat.le_of_ble_eq_true rfl)) ?_
              refine j_goto 26 dX3_isLike_54 rfl ?_
              exact J.wk ((((jWk.nil).eq).eq).eq) (ihI8 _ (Nat.lt_of_lt_of_le h.2 (Nat.le_of_lt_succ hmuI8)) r27 h.1)
            · have h := h2 q26
              clear h1 h2
              refine j_iconst dX3_isLike_49 ?_
              exact j_zret dX3_isLike_50 rfl (nr_bool (by decide)) ⟨_, rfl, rfl, rfl, rfl, h, (by decide)⟩
      exact J.wk ((((jWk.nil).eq).eq).eq) (lp _ _ (Nat.lt_succ_self _) (by decide) h0)
    · have h := h2 q5
      clear h1 h2
      refine j_iconst dX3_isLike_22 ?_
      exact j_zret dX3_isLike_23 rfl (nr_bool (by decide)) ⟨_, rfl, rfl, rfl, rfl, h, (by decide)⟩
/-- ChildSays$Row.like(LChildSays$Row;)LChildSays$Row; -/
def wqX3_like (o : Nat) (a1 : Int) (N : jSh) (F : jFl) (A : jAr) (Q : Int → jFl → jAr → Prop) : Prop :=
  ∃ b1 : Nat, a1 = (b1 : Int) ∧
  jtg N b1 = 4 ∧
  jfn N 0 o = 1 ∧
  ∀ F6 : jFl, F6 = upF F 1203 o (F 1203 b1) →
  ∀ F8 : jFl, F8 = upF F6 1206 o (F6 1206 b1) →
  ∃ (I13 : Int → jAr → Prop) (m14 : Int → jAr → Nat), I13 0 A ∧ ∀ (v9 : Int) (A10 : jAr), I13 v9 A10 →
    ∃ (P15 : Int → Prop), wqX3_size o N F8 A10 P15 ∧
    ∀ z17, P15 z17 →
    ((z17 ≤ v9) →
      Q (o : Int) F8 A10) ∧
    ((¬ (z17 ≤ v9)) →
      ∃ b23 : Nat, jfn N 1202 b1 = (b23 : Int) ∧
      jtg N b23 = 107 ∧
      ((0 : Int) ≤ v9 ∧ (v9 : Int) < (jln N b23 : Int)) ∧
      ∃ b27 : Nat, jfn N 1202 o = (b27 : Int) ∧
      jtg N b27 = 107 ∧
      jfn N 0 b27 = 1 ∧
      ((0 : Int) ≤ v9 ∧ (v9 : Int) < (jln N b27 : Int)) ∧
      jast N "ChildSays$Word" (A10 b23 v9) ∧
      ∀ A32 : jAr, A32 = upA A10 b27 v9 (A10 b23 v9) →
      jR (v9 + 1) ∧
      I13 (v9 + 1) A32 ∧ m14 (v9 + 1) A32 < m14 v9 A10)
theorem vX3_like {G : jG} {l : Launch} {d : Nat} {N : jSh} {F : jFl} {A : jAr} {o : Nat} {a1 : Int} {Q : Int → jFl → jAr → Prop} (hd : 3 ≤ d) (hW : jWg G N F A) (ht : jtg N o = 4) (h : wqX3_like o a1 N F A Q) : jCall G l d mX3_like [vR (o : Int), vR a1] N F A (cmR G N Q) := by
  unfold wqX3_like at h
  refine jCall.of (by decide) rfl (ls := [vR (o : Int), vR a1, jD]) (by simp only [jent_R, jent_I, jent_L, jent_nil]; exact Nat.le_of_ble_eq_true rfl) (by simp only [jloc, jent_R, jent_I, jent_L, jent_nil]; rfl) ?_
  refine r_aload_n dX3_like_0 rfl ?_
  refine r_aload_n dX3_like_1 rfl ?_
  obtain ⟨b1, hz2, h⟩ := h
  obtain ⟨t3, h⟩ := h
  refine r_gI dX3_like_2 flX3_17_4 hz2 t3 rfl ?_
  obtain ⟨w4, h⟩ := h
  refine c_pI hW dX3_like_5 flX3_17_4 rfl ht w4 rfl (hW.fi rfl) fun F6 eF6 hW5 => ?_
  have h := h F6 eF6
  refine r_aload_n dX3_like_8 rfl ?_
  refine r_aload_n dX3_like_9 rfl ?_
  refine r_gI dX3_like_10 flX3_21_4 hz2 t3 rfl ?_
  refine c_pI hW5 dX3_like_13 flX3_21_4 rfl ht w4 rfl (hW5.fi rfl) fun F8 eF8 hW7 => ?_
  have h := h F8 eF8
  refine j_iconst dX3_like_16 ?_
  refine j_istore_n dX3_like_17 (jokR rfl (Nat.le_of_ble_eq_true rfl)) ?_
  obtain ⟨I13, m14, h0, hs⟩ := h
  have lp : ∀ (n : Nat) (v9 : Int) (A10 : jAr), m14 v9 A10 < n → jWg G N F8 A10 → jR v9 → I13 v9 A10 → J G l d mX3_like 18 [vR (o : Int), vR a1, vI v9] [] N F8 A10 (cmR G N Q) := by
    intro nI13
    induction nI13 with
    | zero =>
      intro v9 A10 hmu
      exact absurd hmu (Nat.not_lt_zero _)
    | succ nI13 ihI13 =>
      intro v9 A10 hmuI13 hW11 rv9 hI
      have h := hs v9 A10 hI
      refine j_iload_n dX3_like_18 rfl ?_
      refine r_aload_n dX3_like_19 rfl ?_
      obtain ⟨P15, hp16, h⟩ := h
      refine r_invV (ci := 4) (As := []) (rest := [vI v9]) dX3_like_20 lkX3_24 rfl ht rfl rfl (vX3_size (d := 2) (Nat.le_of_ble_eq_true rfl) hW11 ht  hp16) rfl rfl (Nat.le_of_ble_eq_true rfl) (Nat.le_trans (Nat.le_of_ble_eq_true rfl) hd) (jkpI fun z17 p20 r21 => ?_)
      have h := h z17 p20
      obtain ⟨h1, h2⟩ := h
      refine j_icmp_ge 44 dX3_like_23 rfl rv9 r21 (fun q22 => ?_) (fun q22 => ?_)
      · have h := h1 q22
        clear h1 h2
        refine r_aload_n dX3_like_44 rfl ?_
        exact r_aret dX3_like_45 rfl (Or.inl ⟨_, rfl⟩) ⟨_, rfl, rfl, hW11, h, trivial⟩
      · have h := h2 q22
        clear h1 h2
        refine r_aload_n dX3_like_26 rfl ?_
        refine r_gRF dX3_like_27 flX3_11_4 rfl ht rfl ?_
        refine j_iload_n dX3_like_30 rfl ?_
        refine r_aload_n dX3_like_31 rfl ?_
        refine r_gRF dX3_like_32 flX3_11_4 hz2 t3 rfl ?_
        refine j_iload_n dX3_like_35 rfl ?_
        obtain ⟨b23, hz24, h⟩ := h
        obtain ⟨t25, h⟩ := h
        obtain ⟨c26, h⟩ := h
        refine r_aald dX3_like_36 hz24 t25 rfl rfl c26 ?_
        obtain ⟨b27, hz28, h⟩ := h
        obtain ⟨t29, h⟩ := h
        obtain ⟨w30, h⟩ := h
        obtain ⟨c31, h⟩ := h
        obtain ⟨j34, h⟩ := h
        refine c_aast hW11 dX3_like_37 hz28 t29 rfl w30 c31 j34 rfl fun A32 eA32 hW33 => ?_
        have h := h A32 eA32
        obtain ⟨r35, h⟩ := h
        refine j_iinc dX3_like_38 rfl (jokR rfl (Nat.le_of_ble_eq_true rfl)) ?_
        refine j_goto 18 dX3_like_41 rfl ?_
        exact J.wk ((((jWk.nil).eq).eq).eq) (ihI13 _ _ (Nat.lt_of_lt_of_le h.2 (Nat.le_of_lt_succ hmuI13)) hW33 r35 h.1)
  exact J.wk ((((jWk.nil).eq).eq).eq) (lp _ _ _ (Nat.lt_succ_self _) hW7 (by decide) h0)
/-- ChildSays$Row.meaning()I -/
def wqX3_meaning (o : Nat) (N : jSh) (F : jFl) (A : jAr) (Q : Int → Prop) : Prop :=
  ∃ (I4 : Int → Int → Prop) (m5 : Int → Int → Nat), I4 0 0 ∧ ∀ (v1 : Int) (v2 : Int), I4 v1 v2 →
    (((F 1203 o) ≤ v2) →
      ∀ v7 : Int, v7 = F 1203 o →
      ∃ (I11 : Int → Int → Prop) (m12 : Int → Int → Nat), I11 0 v7 ∧ ∀ (v8 : Int) (v9 : Int), I11 v8 v9 →
        ∃ (P13 : Int → Prop), wqX3_size o N F A P13 ∧
        ∀ z15, P13 z15 →
        ((z15 ≤ v9) →
          ∃ (P21 : Int → Prop), wqX3_nevers o N F A P21 ∧
          ∀ z23, P21 z23 →
          (((0 : Int) ≤ z23 ∧ (z23 : Int) ≤ 2147483647) ∧ ((0 : Int) < 2 ∧ (2 : Int) ≤ 2147483647)) ∧
          jR (z23 % 2) ∧
          ((¬ (z23 % 2) = 1) →
            jR (v1 - v8) ∧
            Q (v1 - v8)) ∧
          (((z23 % 2) = 1) →
            jR ((-v1) - v8) ∧
            Q ((-v1) - v8))) ∧
        ((¬ (z15 ≤ v9)) →
          ∃ b33 : Nat, jfn N 1202 o = (b33 : Int) ∧
          jtg N b33 = 107 ∧
          ((0 : Int) ≤ v9 ∧ (v9 : Int) < (jln N b33 : Int)) ∧
          ∃ b37 : Nat, A b33 v9 = (b37 : Int) ∧
          jtg N b37 = 14 ∧
          jR (v8 + (F 4209 b37)) ∧
          ∀ v41 : Int, v41 = v8 + (F 4209 b37) →
          jR (v9 + 1) ∧
          I11 v41 (v9 + 1) ∧ m12 v41 (v9 + 1) < m12 v8 v9)) ∧
    ((¬ ((F 1203 o) ≤ v2)) →
      ∃ b43 : Nat, jfn N 1202 o = (b43 : Int) ∧
      jtg N b43 = 107 ∧
      ((0 : Int) ≤ v2 ∧ (v2 : Int) < (jln N b43 : Int)) ∧
      ∃ b47 : Nat, A b43 v2 = (b47 : Int) ∧
      jtg N b47 = 14 ∧
      jR (v1 + (F 4209 b47)) ∧
      ∀ v51 : Int, v51 = v1 + (F 4209 b47) →
      jR (v2 + 1) ∧
      I4 v51 (v2 + 1) ∧ m5 v51 (v2 + 1) < m5 v1 v2)
theorem vX3_meaning {G : jG} {l : Launch} {d : Nat} {N : jSh} {F : jFl} {A : jAr} {o : Nat} {Q : Int → Prop} (hd : 3 ≤ d) (hW : jWg G N F A) (ht : jtg N o = 4) (h : wqX3_meaning o N F A Q) : jCall G l d mX3_meaning [vR (o : Int)] N F A (jpI N F A Q) := by
  unfold wqX3_meaning at h
  refine jCall.of (by decide) rfl (ls := [vR (o : Int), jD, jD, jD]) (by simp only [jent_R, jent_I, jent_L, jent_nil]; exact Nat.le_of_ble_eq_true rfl) (by simp only [jloc, jent_R, jent_I, jent_L, jent_nil]; rfl) ?_
  refine j_iconst dX3_meaning_0 ?_
  refine j_istore_n dX3_meaning_1 (jokR rfl (Nat.le_of_ble_eq_true rfl)) ?_
  refine j_iconst dX3_meaning_2 ?_
  refine j_istore_n dX3_meaning_3 rfl ?_
  refine j_iconst dX3_meaning_4 ?_
  refine j_istore_n dX3_meaning_5 rfl ?_
  obtain ⟨I4, m5, h0, hs⟩ := h
  have lp : ∀ (n : Nat) (v1 : Int) (v2 : Int), m5 v1 v2 < n → jR v1 → jR v2 → I4 v1 v2 → J G l d mX3_meaning 6 [vR (o : Int), vI v1, vI 0, vI v2] [] N F A (jpI N F A Q) := by
    intro nI4
    induction nI4 with
    | zero =>
      intro v1 v2 hmu
      exact absurd hmu (Nat.not_lt_zero _)
    | succ nI4 ihI4 =>
      intro v1 v2 hmuI4 rv1 rv2 hI
      have h := hs v1 v2 hI
      refine j_iload_n dX3_meaning_6 rfl ?_
      refine r_aload_n dX3_meaning_7 rfl ?_
      refine r_gI dX3_meaning_8 flX3_17_4 rfl ht rfl ?_
      obtain ⟨h1, h2⟩ := h
      refine j_icmp_ge 32 dX3_meaning_11 rfl rv2 (hW.fi rfl) (fun q6 => ?_) (fun q6 => ?_)
      · have h := h1 q6
        clear h1 h2
        refine r_aload_n dX3_meaning_32 rfl ?_
        refine r_gI dX3_meaning_33 flX3_17_4 rfl ht rfl ?_
        obtain ⟨v7, ev7⟩ : ∃ x : Int, x = F 1203 o := ⟨_, rfl⟩
        have h := h v7 ev7
        refine jnmI (e := ev7) ?_
        refine j_istore_n dX3_meaning_36 rfl ?_
        obtain ⟨I11, m12, h0, hs⟩ := h
        have lp : ∀ (n : Nat) (v8 : Int) (v9 : Int), m12 v8 v9 < n → jR v8 → jR v9 → I11 v8 v9 → J G l d mX3_meaning 37 [vR (o : Int), vI v1, vI v8, vI v9] [] N F A (jpI N F A Q) := by
          intro nI11
          induction nI11 with
          | zero =>
            intro v8 v9 hmu
            exact absurd hmu (Nat.not_lt_zero _)
          | succ nI11 ihI11 =>
            intro v8 v9 hmuI11 rv8 rv9 hI
            have h := hs v8 v9 hI
            refine j_iload_n dX3_meaning_37 rfl ?_
            refine r_aload_n dX3_meaning_38 rfl ?_
            obtain ⟨P13, hp14, h⟩ := h
            refine r_invV (ci := 4) (As := []) (rest := [vI v9]) dX3_meaning_39 lkX3_24 rfl ht rfl rfl (vX3_size (d := 2) (Nat.le_of_ble_eq_true rfl) hW ht  hp14) rfl rfl (Nat.le_of_ble_eq_true rfl) (Nat.le_trans (Nat.le_of_ble_eq_true rfl) hd) (jkpI fun z15 p18 r19 => ?_)
            have h := h z15 p18
            obtain ⟨h1, h2⟩ := h
            refine j_icmp_ge 63 dX3_meaning_42 rfl rv9 r19 (fun q20 => ?_) (fun q20 => ?_)
            · have h := h1 q20
              clear h1 h2
              refine r_aload_n dX3_meaning_63 rfl ?_
              obtain ⟨P21, hp22, h⟩ := h
              refine r_invV (ci := 4) (As := []) (rest := []) dX3_meaning_64 lkX3_35 rfl ht rfl rfl (vX3_nevers (d := 2) (Nat.le_of_ble_eq_true rfl) hW ht  hp22) rfl rfl (Nat.le_of_ble_eq_true rfl) (Nat.le_trans (Nat.le_of_ble_eq_true rfl) hd) (jkpI fun z23 p26 r27 => ?_)
              have h := h z23 p26
              refine j_iconst dX3_meaning_67 ?_
              obtain ⟨c28, h⟩ := h
              refine j_irem dX3_meaning_68 c28.1 c28.2 ?_
              refine j_iconst dX3_meaning_69 ?_
              obtain ⟨r29, h⟩ := h
              obtain ⟨h1, h2⟩ := h
              refine j_icmp_ne 78 dX3_meaning_70 rfl r29 (by decide) (fun q30 => ?_) (fun q30 => ?_)
              · have h := h1 q30
                clear h1 h2
                refine j_iload_n dX3_meaning_78 rfl ?_
                refine j_iload_n dX3_meaning_79 rfl ?_
                refine j_isub dX3_meaning_80 ?_
                obtain ⟨r31, h⟩ := h
                exact j_iret dX3_meaning_81 rfl ⟨_, rfl, rfl, rfl, rfl, h, r31⟩
              · have h := h2 (Classical.not_not.mp q30)
                clear h1 h2
                refine j_iload_n dX3_meaning_73 rfl ?_
                refine j_ineg dX3_meaning_74 ?_
                refine j_goto 79 dX3_meaning_75 rfl ?_
                refine j_iload_n dX3_meaning_79 rfl ?_
                refine j_isub dX3_meaning_80 ?_
                obtain ⟨r32, h⟩ := h
                exact j_iret dX3_meaning_81 rfl ⟨_, rfl, rfl, rfl, rfl, h, r32⟩
            · have h := h2 q20
              clear h1 h2
              refine j_iload_n dX3_meaning_45 rfl ?_
              refine r_aload_n dX3_meaning_46 rfl ?_
              refine r_gRF dX3_meaning_47 flX3_11_4 rfl ht rfl ?_
              refine j_iload_n dX3_meaning_50 rfl ?_
              obtain ⟨b33, hz34, h⟩ := h
              obtain ⟨t35, h⟩ := h
              obtain ⟨c36, h⟩ := h
              refine r_aald dX3_meaning_51 hz34 t35 rfl rfl c36 ?_
              obtain ⟨b37, hz38, h⟩ := h
              obtain ⟨t39, h⟩ := h
              refine r_gI dX3_meaning_52 flX3_42_14 hz38 t39 rfl ?_
              refine j_iadd dX3_meaning_55 ?_
              obtain ⟨r40, h⟩ := h
              obtain ⟨v41, ev41⟩ : ∃ x : Int, x = v8 + (F 4209 b37) := ⟨_, rfl⟩
              have h := h v41 ev41
              refine jnmI (e := ev41) ?_
              refine j_istore_n dX3_meaning_56 rfl ?_
              obtain ⟨r42, h⟩ := h
              refine j_iinc dX3_meaning_57 rfl rfl ?_
              refine j_goto 37 dX3_meaning_60 rfl ?_
              exact J.wk (((((jWk.nil).eq).eq).eq).eq) (ihI11 _ _ (Nat.lt_of_lt_of_le h.2 (Nat.le_of_lt_succ hmuI11)) (ev41 ▸ r40) r42 h.1)
        exact J.wk (((((jWk.nil).eq).eq).eq).eq) (lp _ _ _ (Nat.lt_succ_self _) (by decide) (ev7 ▸ (hW.fi rfl)) h0)
      · have h := h2 q6
        clear h1 h2
        refine j_iload_n dX3_meaning_14 rfl ?_
        refine r_aload_n dX3_meaning_15 rfl ?_
        refine r_gRF dX3_meaning_16 flX3_11_4 rfl ht rfl ?_
        refine j_iload_n dX3_meaning_19 rfl ?_
        obtain ⟨b43, hz44, h⟩ := h
        obtain ⟨t45, h⟩ := h
        obtain ⟨c46, h⟩ := h
        refine r_aald dX3_meaning_20 hz44 t45 rfl rfl c46 ?_
        obtain ⟨b47, hz48, h⟩ := h
        obtain ⟨t49, h⟩ := h
        refine r_gI dX3_meaning_21 flX3_42_14 hz48 t49 rfl ?_
        refine j_iadd dX3_meaning_24 ?_
        obtain ⟨r50, h⟩ := h
        obtain ⟨v51, ev51⟩ : ∃ x : Int, x = v1 + (F 4209 b47) := ⟨_, rfl⟩
        have h := h v51 ev51
        refine jnmI (e := ev51) ?_
        refine j_istore_n dX3_meaning_25 (jokR rfl (Nat.le_of_ble_eq_true rfl)) ?_
        obtain ⟨r52, h⟩ := h
        refine j_iinc dX3_meaning_26 rfl rfl ?_
        refine j_goto 6 dX3_meaning_29 rfl ?_
        exact J.wk (((((jWk.nil).eq).eq).eq).eq) (ihI4 _ _ (Nat.lt_of_lt_of_le h.2 (Nat.le_of_lt_succ hmuI4)) (ev51 ▸ r50) r52 h.1)
  exact J.wk (((((jWk.nil).eq).eq).eq).eq) (lp _ _ _ (Nat.lt_succ_self _) (by decide) (by decide) h0)
/-- ChildSays$Sitting.kinds(I)I -/
def wqX4_kinds (o : Nat) (a1 : Int) (N : jSh) (F : jFl) (A : jAr) (Q : Int → Prop) : Prop :=
  ∃ (I4 : Int → Int → Prop) (m5 : Int → Int → Nat), I4 0 0 ∧ ∀ (v1 : Int) (v2 : Int), I4 v1 v2 →
    (((F 1506 o) ≤ v2) →
      Q v1) ∧
    ((¬ ((F 1506 o) ≤ v2)) →
      ∃ b7 : Nat, jfn N 1505 o = (b7 : Int) ∧
      jtg N b7 = 113 ∧
      ((0 : Int) ≤ v2 ∧ (v2 : Int) < (jln N b7 : Int)) ∧
      ∃ (P11 : Int → Prop), wqX4_of o (A b7 v2) N F A P11 ∧
      ∀ z13, P11 z13 →
      ∃ b18 : Nat, z13 = (b18 : Int) ∧
      jtg N b18 = 3 ∧
      ((¬ (F 903 b18) = a1) →
        jR (v2 + 1) ∧
        I4 v1 (v2 + 1) ∧ m5 v1 (v2 + 1) < m5 v1 v2) ∧
      (((F 903 b18) = a1) →
        jR (v1 + 1) ∧
        jR (v2 + 1) ∧
        I4 (v1 + 1) (v2 + 1) ∧ m5 (v1 + 1) (v2 + 1) < m5 v1 v2))
theorem vX4_kinds {G : jG} {l : Launch} {d : Nat} {N : jSh} {F : jFl} {A : jAr} {o : Nat} {a1 : Int} {Q : Int → Prop} (hd : 3 ≤ d) (hW : jWg G N F A) (ht : jtg N o = 5) (ra1 : jR a1) (h : wqX4_kinds o a1 N F A Q) : jCall G l d mX4_kinds [vR (o : Int), vI a1] N F A (jpI N F A Q) := by
  unfold wqX4_kinds at h
  refine jCall.of (by decide) rfl (ls := [vR (o : Int), vI a1, jD, jD]) (by simp only [jent_R, jent_I, jent_L, jent_nil]; exact Nat.le_of_ble_eq_true rfl) (by simp only [jloc, jent_R, jent_I, jent_L, jent_nil]; rfl) ?_
  refine j_iconst dX4_kinds_0 ?_
  refine j_istore_n dX4_kinds_1 rfl ?_
  refine j_iconst dX4_kinds_2 ?_
  refine j_istore_n dX4_kinds_3 rfl ?_
  obtain ⟨I4, m5, h0, hs⟩ := h
  have lp : ∀ (n : Nat) (v1 : Int) (v2 : Int), m5 v1 v2 < n → jR v1 → jR v2 → I4 v1 v2 → J G l d mX4_kinds 4 [vR (o : Int), vI a1, vI v1, vI v2] [] N F A (jpI N F A Q) := by
    intro nI4
    induction nI4 with
    | zero =>
      intro v1 v2 hmu
      exact absurd hmu (Nat.not_lt_zero _)
    | succ nI4 ihI4 =>
      intro v1 v2 hmuI4 rv1 rv2 hI
      have h := hs v1 v2 hI
      refine j_iload_n dX4_kinds_4 rfl ?_
      refine r_aload_n dX4_kinds_5 rfl ?_
      refine r_gI dX4_kinds_6 flX4_34_5 rfl ht rfl ?_
      obtain ⟨h1, h2⟩ := h
      refine j_icmp_ge 38 dX4_kinds_9 rfl rv2 (hW.fi rfl) (fun q6 => ?_) (fun q6 => ?_)
      · have h := h1 q6
        clear h1 h2
        refine j_iload_n dX4_kinds_38 rfl ?_
        exact j_iret dX4_kinds_39 rfl ⟨_, rfl, rfl, rfl, rfl, h, rv1⟩
      · have h := h2 q6
        clear h1 h2
        refine r_aload_n dX4_kinds_12 rfl ?_
        refine r_aload_n dX4_kinds_13 rfl ?_
        refine r_gRF dX4_kinds_14 flX4_23_5 rfl ht rfl ?_
        refine j_iload_n dX4_kinds_17 rfl ?_
        obtain ⟨b7, hz8, h⟩ := h
        obtain ⟨t9, h⟩ := h
        obtain ⟨c10, h⟩ := h
        refine r_aald dX4_kinds_18 hz8 t9 rfl rfl c10 ?_
        obtain ⟨P11, hp12, h⟩ := h
        refine r_invV (ci := 5) (As := [vR (A b7 v2)]) (rest := []) dX4_kinds_19 lkX4_70 rfl ht rfl rfl (vX4_of (d := 2) (Nat.le_of_ble_eq_true rfl) hW ht  hp12) rfl rfl (Nat.le_of_ble_eq_true rfl) (Nat.le_trans (Nat.le_of_ble_eq_true rfl) hd) (jkpR fun z13 p16 r17 => ?_)
        have h := h z13 p16
        obtain ⟨b18, hz19, h⟩ := h
        obtain ⟨t20, h⟩ := h
        refine r_gI dX4_kinds_22 flX4_84_3 hz19 t20 rfl ?_
        refine j_iload_n dX4_kinds_25 rfl ?_
        obtain ⟨h1, h2⟩ := h
        refine j_icmp_ne 32 dX4_kinds_26 rfl (hW.fi rfl) ra1 (fun q21 => ?_) (fun q21 => ?_)
        · have h := h1 q21
          clear h1 h2
          obtain ⟨r22, h⟩ := h
          refine j_iinc dX4_kinds_32 rfl rfl ?_
          refine j_goto 4 dX4_kinds_35 rfl ?_
          exact J.wk (((((jWk.nil).eq).eq).eq).eq) (ihI4 _ _ (Nat.lt_of_lt_of_le h.2 (Nat.le_of_lt_succ hmuI4)) rv1 r22 h.1)
        · have h := h2 (Classical.not_not.mp q21)
          clear h1 h2
          obtain ⟨r23, h⟩ := h
          refine j_iinc dX4_kinds_29 rfl rfl ?_
          obtain ⟨r24, h⟩ := h
          refine j_iinc dX4_kinds_32 rfl rfl ?_
          refine j_goto 4 dX4_kinds_35 rfl ?_
          exact J.wk (((((jWk.nil).eq).eq).eq).eq) (ihI4 _ _ (Nat.lt_of_lt_of_le h.2 (Nat.le_of_lt_succ hmuI4)) r23 r24 h.1)
  exact J.wk (((((jWk.nil).eq).eq).eq).eq) (lp _ _ _ (Nat.lt_succ_self _) (by decide) (by decide) h0)
/-- ChildSays$Round.<init>(LChildSays;)V -/
def wqX6_init (o : Nat) (a1 : Int) (N : jSh) (F : jFl) (A : jAr) (Q : jSh → jFl → jAr → Prop) : Prop :=
  jfn N 0 o = 1 ∧
  ∀ N3 : jSh, N3 = jpF N 2117 o a1 →
  ∀ (b5 : Nat) (N6 : jSh) (F7 : jFl), b5 = jnx N3 → N6 = jnew N3 4 0 3 1 → F7 = nwF N3 F →
  ∃ (P12 : jSh → jFl → jAr → Prop), wqX3_init b5 N6 F7 A P12 ∧
  ∀ N17 F15 A16, P12 N17 F15 A16 →
  ∀ N25 : jSh, N25 = jpF N17 2102 o (b5 : Int) →
  ∀ (b27 : Nat) (N28 : jSh) (F29 : jFl), b27 = jnx N25 → N28 = jnew N25 4 0 3 1 → F29 = nwF N25 F15 →
  ∃ (P34 : jSh → jFl → jAr → Prop), wqX3_init b27 N28 F29 A16 P34 ∧
  ∀ N39 F37 A38, P34 N39 F37 A38 →
  ∀ N47 : jSh, N47 = jpF N39 2105 o (b27 : Int) →
  Q N47 F37 A38
theorem vX6_init {G : jG} {l : Launch} {d : Nat} {N : jSh} {F : jFl} {A : jAr} {o : Nat} {a1 : Int} {Q : jSh → jFl → jAr → Prop} (hd : 3 ≤ d) (hW : jWg G N F A) (ht : jtg N o = 7) (h : wqX6_init o a1 N F A Q) : jCall G l d mX6_init [vR (o : Int), vR a1] N F A (cnV G N Q) := by
  unfold wqX6_init at h
  refine jCall.of (by decide) rfl (ls := [vR (o : Int), vR a1]) (by simp only [jent_R, jent_I, jent_L, jent_nil]; exact Nat.le_of_ble_eq_true rfl) (by simp only [jloc, jent_R, jent_I, jent_L, jent_nil]; rfl) ?_
  refine r_aload_n dX6_init_0 rfl ?_
  refine r_aload_n dX6_init_1 rfl ?_
  obtain ⟨w1, h⟩ := h
  refine c_pRF hW dX6_init_2 flX6_3_7 rfl ht w1 rfl (ty := .object "ChildSays") rfl (by intro c hc; cases hc; rfl) (by decide) (by decide +kernel) (Or.inl ⟨_, rfl⟩) fun N3 eN3 hT4 hW2 => ?_
  have h := h N3 eN3
  refine r_aload_n dX6_init_5 rfl ?_
  refine r_objInit dX6_init_6 q405 rfl (Nat.le_trans (Nat.le_of_ble_eq_true rfl) hd) (Nat.le_of_ble_eq_true rfl) ?_
  refine r_aload_n dX6_init_9 rfl ?_
  refine c_new (ci := 4) hW2 dX6_init_10 rfl q406 rfl rfl fun b5 N6 F7 eb5 eN6 eF7 t8 w9 hT10 hW11 => ?_
  have h := h b5 N6 F7 eb5 eN6 eF7
  refine j_dup dX6_init_13 (vR_cat _) ?_
  obtain ⟨P12, hp13, h⟩ := h
  refine r_invIN (As := []) (rest := [vR (b5 : Int), vR (o : Int)]) dX6_init_14 lkX6_17 rfl (vX3_init (d := 2) (Nat.le_of_ble_eq_true rfl) hW11 t8  hp13) rfl rfl (Nat.le_of_ble_eq_true rfl) (Nat.le_trans (Nat.le_of_ble_eq_true rfl) hd) (cknV fun N17 F15 A16 hW18 hT19 p20 => ?_)
  have h := h N17 F15 A16 p20
  have t22 : jtg N17 o = 7 := (hT19.tg hW11 (hT10.tg hW2 (hT4.tg hW ht)))
  have w23 : jfn N17 0 o = 1 := (hT19.ow hW11 (hT10.tg hW2 (hT4.tg hW ht)) (hT10.ow hW2 (hT4.tg hW ht) (hT4.ow hW ht w1)))
  refine c_pRF hW18 dX6_init_17 flX6_18_7 rfl t22 w23 rfl (ty := .object "ChildSays$Row") rfl (by intro c hc; cases hc; rfl) (by decide) (by decide +kernel) (Or.inl ⟨_, rfl⟩) fun N25 eN25 hT26 hW24 => ?_
  have h := h N25 eN25
  refine r_aload_n dX6_init_20 rfl ?_
  refine c_new (ci := 4) hW24 dX6_init_21 rfl q406 rfl rfl fun b27 N28 F29 eb27 eN28 eF29 t30 w31 hT32 hW33 => ?_
  have h := h b27 N28 F29 eb27 eN28 eF29
  refine j_dup dX6_init_24 (vR_cat _) ?_
  obtain ⟨P34, hp35, h⟩ := h
  refine r_invIN (As := []) (rest := [vR (b27 : Int), vR (o : Int)]) dX6_init_25 lkX6_17 rfl (vX3_init (d := 2) (Nat.le_of_ble_eq_true rfl) hW33 t30  hp35) rfl rfl (Nat.le_of_ble_eq_true rfl) (Nat.le_trans (Nat.le_of_ble_eq_true rfl) hd) (cknV fun N39 F37 A38 hW40 hT41 p42 => ?_)
  have h := h N39 F37 A38 p42
  have t44 : jtg N39 o = 7 := (hT41.tg hW33 (hT32.tg hW24 (hT26.tg hW18 t22)))
  have w45 : jfn N39 0 o = 1 := (hT41.ow hW33 (hT32.tg hW24 (hT26.tg hW18 (hT19.tg hW11 (hT10.tg hW2 (hT4.tg hW ht))))) (hT32.ow hW24 (hT26.tg hW18 (hT19.tg hW11 (hT10.tg hW2 (hT4.tg hW ht)))) (hT26.ow hW18 (hT19.tg hW11 (hT10.tg hW2 (hT4.tg hW ht))) w23)))
  refine c_pRF hW40 dX6_init_28 flX6_22_7 rfl t44 w45 rfl (ty := .object "ChildSays$Row") rfl (by intro c hc; cases hc; rfl) (by decide) (by decide +kernel) (Or.inl ⟨_, rfl⟩) fun N47 eN47 hT48 hW46 => ?_
  have h := h N47 eN47
  exact j_vret dX6_init_31 rfl ⟨rfl, hW46, ((((((hT4.trans hT10).trans hT19).trans hT26).trans hT32).trans hT41).trans hT48), h⟩
/-- ChildSays$Put.<init>(LChildSays;)V -/
def wqX7_init (o : Nat) (a1 : Int) (N : jSh) (F : jFl) (A : jAr) (Q : jSh → jFl → jAr → Prop) : Prop :=
  jfn N 0 o = 1 ∧
  ∀ N3 : jSh, N3 = jpF N 2420 o a1 →
  ∀ (b5 : Nat) (N6 : jSh) (F7 : jFl), b5 = jnx N3 → N6 = jnew N3 4 0 3 1 → F7 = nwF N3 F →
  ∃ (P12 : jSh → jFl → jAr → Prop), wqX3_init b5 N6 F7 A P12 ∧
  ∀ N17 F15 A16, P12 N17 F15 A16 →
  ∀ N25 : jSh, N25 = jpF N17 2402 o (b5 : Int) →
  ∀ (b27 : Nat) (N28 : jSh) (F29 : jFl) (A30 : jAr), b27 = jnx N25 → N28 = jnew N25 102 8 8 1 → F29 = nwF N25 F15 → A30 = nwA N25 102 A16 →
  ∀ N38 : jSh, N38 = jpF N28 2405 o (b27 : Int) →
  ∀ (b40 : Nat) (N41 : jSh) (F42 : jFl) (A43 : jAr), b40 = jnx N38 → N41 = jnew N38 102 8 8 1 → F42 = nwF N38 F29 → A43 = nwA N38 102 A30 →
  ∀ N51 : jSh, N51 = jpF N41 2408 o (b40 : Int) →
  Q N51 F42 A43
theorem vX7_init {G : jG} {l : Launch} {d : Nat} {N : jSh} {F : jFl} {A : jAr} {o : Nat} {a1 : Int} {Q : jSh → jFl → jAr → Prop} (hd : 3 ≤ d) (hW : jWg G N F A) (ht : jtg N o = 8) (h : wqX7_init o a1 N F A Q) : jCall G l d mX7_init [vR (o : Int), vR a1] N F A (cnV G N Q) := by
  unfold wqX7_init at h
  refine jCall.of (by decide) rfl (ls := [vR (o : Int), vR a1]) (by simp only [jent_R, jent_I, jent_L, jent_nil]; exact Nat.le_of_ble_eq_true rfl) (by simp only [jloc, jent_R, jent_I, jent_L, jent_nil]; rfl) ?_
  refine r_aload_n dX7_init_0 rfl ?_
  refine r_aload_n dX7_init_1 rfl ?_
  obtain ⟨w1, h⟩ := h
  refine c_pRF hW dX7_init_2 flX7_3_8 rfl ht w1 rfl (ty := .object "ChildSays") rfl (by intro c hc; cases hc; rfl) (by decide) (by decide +kernel) (Or.inl ⟨_, rfl⟩) fun N3 eN3 hT4 hW2 => ?_
  have h := h N3 eN3
  refine r_aload_n dX7_init_5 rfl ?_
  refine r_objInit dX7_init_6 q435 rfl (Nat.le_trans (Nat.le_of_ble_eq_true rfl) hd) (Nat.le_of_ble_eq_true rfl) ?_
  refine r_aload_n dX7_init_9 rfl ?_
  refine c_new (ci := 4) hW2 dX7_init_10 rfl q436 rfl rfl fun b5 N6 F7 eb5 eN6 eF7 t8 w9 hT10 hW11 => ?_
  have h := h b5 N6 F7 eb5 eN6 eF7
  refine j_dup dX7_init_13 (vR_cat _) ?_
  obtain ⟨P12, hp13, h⟩ := h
  refine r_invIN (As := []) (rest := [vR (b5 : Int), vR (o : Int)]) dX7_init_14 lkX7_17 rfl (vX3_init (d := 2) (Nat.le_of_ble_eq_true rfl) hW11 t8  hp13) rfl rfl (Nat.le_of_ble_eq_true rfl) (Nat.le_trans (Nat.le_of_ble_eq_true rfl) hd) (cknV fun N17 F15 A16 hW18 hT19 p20 => ?_)
  have h := h N17 F15 A16 p20
  have t22 : jtg N17 o = 8 := (hT19.tg hW11 (hT10.tg hW2 (hT4.tg hW ht)))
  have w23 : jfn N17 0 o = 1 := (hT19.ow hW11 (hT10.tg hW2 (hT4.tg hW ht)) (hT10.ow hW2 (hT4.tg hW ht) (hT4.ow hW ht w1)))
  refine c_pRF hW18 dX7_init_17 flX7_18_8 rfl t22 w23 rfl (ty := .object "ChildSays$Row") rfl (by intro c hc; cases hc; rfl) (by decide) (by decide +kernel) (Or.inl ⟨_, rfl⟩) fun N25 eN25 hT26 hW24 => ?_
  have h := h N25 eN25
  refine r_aload_n dX7_init_20 rfl ?_
  refine j_bipush dX7_init_21 ?_
  refine c_newa (t := 102) (n := 8) hW24 dX7_init_23 rfl rfl rfl (fun _ h => by cases h) q223 (by decide) rfl (Nat.le_of_ble_eq_true rfl) fun b27 N28 F29 A30 eb27 eN28 eF29 eA30 t31 w32 hT33 hW34 => ?_
  have h := h b27 N28 F29 A30 eb27 eN28 eF29 eA30
  have t35 : jtg N28 o = 8 := (hT33.tg hW24 (hT26.tg hW18 t22))
  have w36 : jfn N28 0 o = 1 := (hT33.ow hW24 (hT26.tg hW18 (hT19.tg hW11 (hT10.tg hW2 (hT4.tg hW ht)))) (hT26.ow hW18 (hT19.tg hW11 (hT10.tg hW2 (hT4.tg hW ht))) w23))
  refine c_pRF hW34 dX7_init_25 flX7_22_8 rfl t35 w36 rfl (ty := (.array .int)) rfl (by intro c hc; cases hc; rfl) (by decide) (by decide +kernel) (Or.inr ⟨_, rfl⟩) fun N38 eN38 hT39 hW37 => ?_
  have h := h N38 eN38
  refine r_aload_n dX7_init_28 rfl ?_
  refine j_bipush dX7_init_29 ?_
  refine c_newa (t := 102) (n := 8) hW37 dX7_init_31 rfl rfl rfl (fun _ h => by cases h) q223 (by decide) rfl (Nat.le_of_ble_eq_true rfl) fun b40 N41 F42 A43 eb40 eN41 eF42 eA43 t44 w45 hT46 hW47 => ?_
  have h := h b40 N41 F42 A43 eb40 eN41 eF42 eA43
  have t48 : jtg N41 o = 8 := (hT46.tg hW37 (hT39.tg hW34 t35))
  have w49 : jfn N41 0 o = 1 := (hT46.ow hW37 (hT39.tg hW34 (hT33.tg hW24 (hT26.tg hW18 (hT19.tg hW11 (hT10.tg hW2 (hT4.tg hW ht)))))) (hT39.ow hW34 (hT33.tg hW24 (hT26.tg hW18 (hT19.tg hW11 (hT10.tg hW2 (hT4.tg hW ht))))) w36))
  refine c_pRF hW47 dX7_init_33 flX7_26_8 rfl t48 w49 rfl (ty := (.array .int)) rfl (by intro c hc; cases hc; rfl) (by decide) (by decide +kernel) (Or.inr ⟨_, rfl⟩) fun N51 eN51 hT52 hW50 => ?_
  have h := h N51 eN51
  exact j_vret dX7_init_36 rfl ⟨rfl, hW50, (((((((hT4.trans hT10).trans hT19).trans hT26).trans hT33).trans hT39).trans hT46).trans hT52), h⟩
