set_option maxRecDepth 100000
set_option linter.unusedVariables false
/-! walks of the component and of JDK methods: printed by gen/walkc.py -/
/-- ChildSays$Put.swaps(II)V -/
def wqX7_swaps (o : Nat) (a1 : Int) (a2 : Int) (N : jSh) (F : jFl) (A : jAr) (Q : jFl → jAr → Prop) : Prop :=
  ∃ b1 : Nat, jfn N 2405 o = (b1 : Int) ∧
  jtg N b1 = 102 ∧
  ((0 : Int) ≤ a1 ∧ (a1 : Int) < (jln N b1 : Int)) ∧
  ∀ v5 : Int, v5 = A b1 a1 →
  ((0 : Int) ≤ a2 ∧ (a2 : Int) < (jln N b1 : Int)) ∧
  ∃ (P7 : jFl → jAr → Prop), wqX7_puts o a1 (A b1 a2) N F A P7 ∧
  ∀ F10 A11, P7 F10 A11 →
  ∃ (P16 : jFl → jAr → Prop), wqX7_puts o a2 v5 N F10 A11 P16 ∧
  ∀ F19 A20, P16 F19 A20 →
  Q F19 A20
theorem vX7_swaps {G : jG} {l : Launch} {d : Nat} {N : jSh} {F : jFl} {A : jAr} {o : Nat} {a1 a2 : Int} {Q : jFl → jAr → Prop} (hd : 3 ≤ d) (hW : jWg G N F A) (ht : jtg N o = 8) (ra1 : jR a1) (ra2 : jR a2) (h : wqX7_swaps o a1 a2 N F A Q) : jCall G l d mX7_swaps [vR (o : Int), vI a1, vI a2] N F A (cmV G N Q) := by
  unfold wqX7_swaps at h
  refine jCall.of (by decide) rfl (ls := [vR (o : Int), vI a1, vI a2, jD]) (by simp only [jent_R, jent_I, jent_L, jent_nil]; exact Nat.le_of_ble_eq_true rfl) (by simp only [jloc, jent_R, jent_I, jent_L, jent_nil]; rfl) ?_
  refine r_aload_n dX7_swaps_0 rfl ?_
  refine r_gRF dX7_swaps_1 flX7_22_8 rfl ht rfl ?_
  refine j_iload_n dX7_swaps_4 rfl ?_
  obtain ⟨b1, hz2, h⟩ := h
  obtain ⟨t3, h⟩ := h
  obtain ⟨c4, h⟩ := h
  refine r_iald dX7_swaps_5 hz2 t3 c4 ?_
  obtain ⟨v5, ev5⟩ : ∃ x : Int, x = A b1 a1 := ⟨_, rfl⟩
  have h := h v5 ev5
  refine jnmI (e := ev5) ?_
  refine j_istore_n dX7_swaps_6 rfl ?_
  refine r_aload_n dX7_swaps_7 rfl ?_
  refine j_iload_n dX7_swaps_8 rfl ?_
  refine r_aload_n dX7_swaps_9 rfl ?_
  refine r_gRF dX7_swaps_10 flX7_22_8 rfl ht rfl ?_
  refine j_iload_n dX7_swaps_13 rfl ?_
  obtain ⟨c6, h⟩ := h
  refine r_iald dX7_swaps_14 hz2 t3 c6 ?_
  obtain ⟨P7, hp8, h⟩ := h
  refine r_invV (ci := 8) (As := [vI a1, vI (A b1 a2)]) (rest := []) dX7_swaps_15 lkX7_66 rfl ht rfl rfl (vX7_puts (d := 2) (Nat.le_of_ble_eq_true rfl) hW ht ra1 (hW.ai t3 rfl) hp8) rfl rfl (Nat.le_of_ble_eq_true rfl) (Nat.le_trans (Nat.le_of_ble_eq_true rfl) hd) (ckmV fun F10 A11 hW12 p14 => ?_)
  have h := h F10 A11 p14
  refine r_aload_n dX7_swaps_18 rfl ?_
  refine j_iload_n dX7_swaps_19 rfl ?_
  refine j_iload_n dX7_swaps_20 rfl ?_
  obtain ⟨P16, hp17, h⟩ := h
  refine r_invV (ci := 8) (As := [vI a2, vI v5]) (rest := []) dX7_swaps_21 lkX7_66 rfl ht rfl rfl (vX7_puts (d := 2) (Nat.le_of_ble_eq_true rfl) hW12 ht ra2 (ev5 ▸ (hW.ai t3 rfl)) hp17) rfl rfl (Nat.le_of_ble_eq_true rfl) (Nat.le_trans (Nat.le_of_ble_eq_true rfl) hd) (ckmV fun F19 A20 hW21 p23 => ?_)
  have h := h F19 A20 p23
  exact j_vret dX7_swaps_24 rfl ⟨rfl, rfl, hW21, h⟩
/-- ChildSays$Put.tells(I)I -/
def wqX7_tells (o : Nat) (a1 : Int) (N : jSh) (F : jFl) (A : jAr) (Q : Int → Prop) : Prop :=
  ((¬ a1 = (-1)) →
    ∃ b2 : Nat, jfn N 2402 o = (b2 : Int) ∧
    jtg N b2 = 4 ∧
    jR ((F 1203 b2) - 1) ∧
    ∃ (P6 : Int → Prop), wqX0_isIn a1 0 ((F 1203 b2) - 1) N F A P6 ∧
    ∀ z8, P6 z8 →
    ((z8 = 0) →
      Q (-1)) ∧
    ((¬ (z8 = 0)) →
      ∃ b14 : Nat, jfn N 2408 o = (b14 : Int) ∧
      jtg N b14 = 102 ∧
      ((0 : Int) ≤ a1 ∧ (a1 : Int) < (jln N b14 : Int)) ∧
      Q (A b14 a1))) ∧
  ((a1 = (-1)) →
    Q (F 2412 o))
theorem vX7_tells {G : jG} {l : Launch} {d : Nat} {N : jSh} {F : jFl} {A : jAr} {o : Nat} {a1 : Int} {Q : Int → Prop} (hd : 3 ≤ d) (hW : jWg G N F A) (ht : jtg N o = 8) (ra1 : jR a1) (h : wqX7_tells o a1 N F A Q) : jCall G l d mX7_tells [vR (o : Int), vI a1] N F A (jpI N F A Q) := by
  unfold wqX7_tells at h
  refine jCall.of (by decide) rfl (ls := [vR (o : Int), vI a1]) (by simp only [jent_R, jent_I, jent_L, jent_nil]; exact Nat.le_of_ble_eq_true rfl) (by simp only [jloc, jent_R, jent_I, jent_L, jent_nil]; rfl) ?_
  refine j_iload_n dX7_tells_0 rfl ?_
  refine j_iconst dX7_tells_1 ?_
  obtain ⟨h1, h2⟩ := h
  refine j_icmp_ne 12 dX7_tells_2 rfl ra1 (by decide) (fun q1 => ?_) (fun q1 => ?_)
  · have h := h1 q1
    clear h1 h2
    refine j_iload_n dX7_tells_12 rfl ?_
    refine j_i2l dX7_tells_13 ra1 ?_
    refine j_lconst 0 rfl dX7_tells_14 ?_
    refine r_aload_n dX7_tells_15 rfl ?_
    refine r_gRF dX7_tells_16 flX7_18_8 rfl ht rfl ?_
    obtain ⟨b2, hz3, h⟩ := h
    obtain ⟨t4, h⟩ := h
    refine r_gI dX7_tells_19 flX7_47_4 hz3 t4 rfl ?_
    refine j_iconst dX7_tells_22 ?_
    refine j_isub dX7_tells_23 ?_
    obtain ⟨r5, h⟩ := h
    refine j_i2l dX7_tells_24 r5 ?_
    obtain ⟨P6, hp7, h⟩ := h
    refine r_invSN (As := [vL a1, vL 0, vL ((F 1203 b2) - 1)]) (rest := []) dX7_tells_25 lkX7_81 (vX0_isIn (d := 2) (Nat.le_of_ble_eq_true rfl) hW (jR_L ra1) (by decide) (jR_L r5) hp7) rfl rfl (Nat.le_of_ble_eq_true rfl) (Nat.le_trans (Nat.le_of_ble_eq_true rfl) hd) (jkpB fun z8 p11 r12 => ?_)
    have h := h z8 p11
    obtain ⟨h1, h2⟩ := h
    refine j_if_eq 40 dX7_tells_28 rfl (jR_b r12) (fun q13 => ?_) (fun q13 => ?_)
    · have h := h1 q13
      clear h1 h2
      refine j_iconst dX7_tells_40 ?_
      exact j_iret dX7_tells_41 rfl ⟨_, rfl, rfl, rfl, rfl, h, (by decide)⟩
    · have h := h2 q13
      clear h1 h2
      refine r_aload_n dX7_tells_31 rfl ?_
      refine r_gRF dX7_tells_32 flX7_26_8 rfl ht rfl ?_
      refine j_iload_n dX7_tells_35 rfl ?_
      obtain ⟨b14, hz15, h⟩ := h
      obtain ⟨t16, h⟩ := h
      obtain ⟨c17, h⟩ := h
      refine r_iald dX7_tells_36 hz15 t16 c17 ?_
      refine j_goto 41 dX7_tells_37 rfl ?_
      exact j_iret dX7_tells_41 rfl ⟨_, rfl, rfl, rfl, rfl, h, (hW.ai t16 rfl)⟩
  · have h := h2 (Classical.not_not.mp q1)
    clear h1 h2
    refine r_aload_n dX7_tells_5 rfl ?_
    refine r_gI dX7_tells_6 flX7_33_8 rfl ht rfl ?_
    refine j_goto 41 dX7_tells_9 rfl ?_
    exact j_iret dX7_tells_41 rfl ⟨_, rfl, rfl, rfl, rfl, h, (hW.fi rfl)⟩
/-- ChildSays$Order.tells(I)I -/
def wqX8_tells (o : Nat) (a1 : Int) (N : jSh) (F : jFl) (A : jAr) (Q : Int → Prop) : Prop :=
  ((¬ a1 = (-1)) →
    ∃ b2 : Nat, jfn N 2702 o = (b2 : Int) ∧
    jtg N b2 = 5 ∧
    jR ((F 1506 b2) - 1) ∧
    ∃ (P6 : Int → Prop), wqX0_isIn a1 0 ((F 1506 b2) - 1) N F A P6 ∧
    ∀ z8, P6 z8 →
    ((z8 = 0) →
      Q (-1)) ∧
    ((¬ (z8 = 0)) →
      ∃ b14 : Nat, jfn N 2705 o = (b14 : Int) ∧
      jtg N b14 = 113 ∧
      ((0 : Int) ≤ a1 ∧ (a1 : Int) < (jln N b14 : Int)) ∧
      ∃ b18 : Nat, A b14 a1 = (b18 : Int) ∧
      jtg N b18 = 17 ∧
      Q (jfn N 3903 b18))) ∧
  ((a1 = (-1)) →
    Q (F 2706 o))
theorem vX8_tells {G : jG} {l : Launch} {d : Nat} {N : jSh} {F : jFl} {A : jAr} {o : Nat} {a1 : Int} {Q : Int → Prop} (hd : 3 ≤ d) (hW : jWg G N F A) (ht : jtg N o = 9) (ra1 : jR a1) (h : wqX8_tells o a1 N F A Q) : jCall G l d mX8_tells [vR (o : Int), vI a1] N F A (jpI N F A Q) := by
  unfold wqX8_tells at h
  refine jCall.of (by decide) rfl (ls := [vR (o : Int), vI a1]) (by simp only [jent_R, jent_I, jent_L, jent_nil]; exact Nat.le_of_ble_eq_true rfl) (by simp only [jloc, jent_R, jent_I, jent_L, jent_nil]; rfl) ?_
  refine j_iload_n dX8_tells_0 rfl ?_
  refine j_iconst dX8_tells_1 ?_
  obtain ⟨h1, h2⟩ := h
  refine j_icmp_ne 12 dX8_tells_2 rfl ra1 (by decide) (fun q1 => ?_) (fun q1 => ?_)
  · have h := h1 q1
    clear h1 h2
    refine j_iload_n dX8_tells_12 rfl ?_
    refine j_i2l dX8_tells_13 ra1 ?_
    refine j_lconst 0 rfl dX8_tells_14 ?_
    refine r_aload_n dX8_tells_15 rfl ?_
    refine r_gRF dX8_tells_16 flX8_20_9 rfl ht rfl ?_
    obtain ⟨b2, hz3, h⟩ := h
    obtain ⟨t4, h⟩ := h
    refine r_gIN dX8_tells_19 flX8_38_5 hz3 t4 rfl ?_
    refine j_iconst dX8_tells_22 ?_
    refine j_isub dX8_tells_23 ?_
    obtain ⟨r5, h⟩ := h
    refine j_i2l dX8_tells_24 r5 ?_
    obtain ⟨P6, hp7, h⟩ := h
    refine r_invSN (As := [vL a1, vL 0, vL ((F 1506 b2) - 1)]) (rest := []) dX8_tells_25 lkX8_110 (vX0_isIn (d := 2) (Nat.le_of_ble_eq_true rfl) hW (jR_L ra1) (by decide) (jR_L r5) hp7) rfl rfl (Nat.le_of_ble_eq_true rfl) (Nat.le_trans (Nat.le_of_ble_eq_true rfl) hd) (jkpB fun z8 p11 r12 => ?_)
    have h := h z8 p11
    obtain ⟨h1, h2⟩ := h
    refine j_if_eq 43 dX8_tells_28 rfl (jR_b r12) (fun q13 => ?_) (fun q13 => ?_)
    · have h := h1 q13
      clear h1 h2
      refine j_iconst dX8_tells_43 ?_
      exact j_iret dX8_tells_44 rfl ⟨_, rfl, rfl, rfl, rfl, h, (by decide)⟩
    · have h := h2 q13
      clear h1 h2
      refine r_aload_n dX8_tells_31 rfl ?_
      refine r_gRF dX8_tells_32 flX8_26_9 rfl ht rfl ?_
      refine j_iload_n dX8_tells_35 rfl ?_
      obtain ⟨b14, hz15, h⟩ := h
      obtain ⟨t16, h⟩ := h
      obtain ⟨c17, h⟩ := h
      refine r_aald dX8_tells_36 hz15 t16 rfl rfl c17 ?_
      obtain ⟨b18, hz19, h⟩ := h
      obtain ⟨t20, h⟩ := h
      refine r_gIF dX8_tells_37 flX8_114_17 hz19 t20 rfl ?_
      refine j_goto 44 dX8_tells_40 rfl ?_
      exact j_iret dX8_tells_44 rfl ⟨_, rfl, rfl, rfl, rfl, h, (hW.ni rfl (by decide))⟩
  · have h := h2 (Classical.not_not.mp q1)
    clear h1 h2
    refine r_aload_n dX8_tells_5 rfl ?_
    refine r_gI dX8_tells_6 flX8_49_9 rfl ht rfl ?_
    refine j_goto 44 dX8_tells_9 rfl ?_
    exact j_iret dX8_tells_44 rfl ⟨_, rfl, rfl, rfl, rfl, h, (hW.fi rfl)⟩
/-- java/lang/StringLatin1.charAt([BI)C -/
def wqJ10_charAt (S : Nat → Nat) (a1 : Int) (a2 : Int) (N : jSh) (F : jFl) (A : jAr) (Q : Int → Prop) : Prop :=
  ∃ b1 : Nat, a1 = (b1 : Int) ∧
  jtg N b1 = 108 ∧
  jR (jln N b1 : Int) ∧
  ∃ (P5 : Prop), wqJ5_checkIndex S a2 (jln N b1 : Int) N F A P5 ∧
  (P5 →
  ((0 : Int) ≤ a2 ∧ (a2 : Int) < (jln N b1 : Int)) ∧
  (0 ≤ (A b1 a2) % 256 ∧ (A b1 a2) % 256 ≤ 65535) ∧
  Q ((A b1 a2) % 256))
theorem vJ10_charAt {G : jG} {l : Launch} {d : Nat} {N : jSh} {F : jFl} {A : jAr} {a1 a2 : Int} {Q : Int → Prop} (hd : 4 ≤ d) (hW : jWg G N F A) (ra2 : jR a2) (h : wqJ10_charAt (gS G) a1 a2 N F A Q) : jCall G l d mJ10_charAt [vR a1, vI a2] N F A (jpC N F A Q) := by
  unfold wqJ10_charAt at h
  refine jCall.of (by decide) rfl (ls := [vR a1, vI a2]) (by simp only [jent_R, jent_I, jent_L, jent_nil]; exact Nat.le_of_ble_eq_true rfl) (by simp only [jloc, jent_R, jent_I, jent_L, jent_nil]; rfl) ?_
  refine j_iload_n dJ10_charAt_0 rfl ?_
  refine r_aload_n dJ10_charAt_1 rfl ?_
  obtain ⟨b1, hz2, h⟩ := h
  obtain ⟨t3, h⟩ := h
  refine r_alen dJ10_charAt_2 hz2 t3 rfl ?_
  obtain ⟨r4, h⟩ := h
  obtain ⟨P5, hp6, h⟩ := h
  refine r_invS (As := [vI a2, vI (jln N b1 : Int)]) (rest := []) dJ10_charAt_3 lkJ10_9 (vJ5_checkIndex (d := 3) (Nat.le_of_ble_eq_true rfl) hW ra2 r4 hp6) rfl rfl (Nat.le_of_ble_eq_true rfl) (Nat.le_trans (Nat.le_of_ble_eq_true rfl) hd) (jkpV fun p10 => ?_)
  have h := h p10
  refine r_aload_n dJ10_charAt_6 rfl ?_
  refine j_iload_n dJ10_charAt_7 rfl ?_
  obtain ⟨c12, h⟩ := h
  refine r_bald dJ10_charAt_8 hz2 t3 c12 ?_
  refine j_sipush dJ10_charAt_9 ?_
  refine j_iand 8 (by decide) (by decide +kernel) dJ10_charAt_12 ?_
  rw [show ((2 ^ 8 : Nat) : Int) = 256 from rfl]
  obtain ⟨c13, h⟩ := h
  refine r_i2c dJ10_charAt_13 c13 ?_
  exact j_zret dJ10_charAt_14 rfl (nr_char c13) ⟨_, rfl, rfl, rfl, rfl, h, c13⟩
/-- java/lang/StringLatin1.fillNull([BII)V -/
def wqJ10_fillNull (a1 : Int) (a2 : Int) (a3 : Int) (N : jSh) (F : jFl) (A : jAr) (Q : jFl → jAr → Prop) : Prop :=
  ∃ (P1 : jFl → jAr → Prop), wqJ14_fill a1 a2 a3 0 N F A P1 ∧
  ∀ F4 A5, P1 F4 A5 →
  Q F4 A5
theorem vJ10_fillNull {G : jG} {l : Launch} {d : Nat} {N : jSh} {F : jFl} {A : jAr} {a1 a2 a3 : Int} {Q : jFl → jAr → Prop} (hd : 4 ≤ d) (hW : jWg G N F A) (ra2 : jR a2) (ra3 : jR a3) (h : wqJ10_fillNull a1 a2 a3 N F A Q) : jCall G l d mJ10_fillNull [vR a1, vI a2, vI a3] N F A (cmV G N Q) := by
  unfold wqJ10_fillNull at h
  refine jCall.of (by decide) rfl (ls := [vR a1, vI a2, vI a3]) (by simp only [jent_R, jent_I, jent_L, jent_nil]; exact Nat.le_of_ble_eq_true rfl) (by simp only [jloc, jent_R, jent_I, jent_L, jent_nil]; rfl) ?_
  refine r_aload_n dJ10_fillNull_0 rfl ?_
  refine j_iload_n dJ10_fillNull_1 rfl ?_
  refine j_iload_n dJ10_fillNull_2 rfl ?_
  refine j_iconst dJ10_fillNull_3 ?_
  obtain ⟨P1, hp2, h⟩ := h
  refine r_invS (As := [vR a1, vI a2, vI a3, vI 0]) (rest := []) dJ10_fillNull_4 lkJ10_236 (vJ14_fill (d := 3) (Nat.le_of_ble_eq_true rfl) hW ra2 ra3 (by decide) hp2) rfl rfl (Nat.le_of_ble_eq_true rfl) (Nat.le_trans (Nat.le_of_ble_eq_true rfl) hd) (ckmV fun F4 A5 hW6 p8 => ?_)
  have h := h F4 A5 p8
  exact j_vret dJ10_fillNull_7 rfl ⟨rfl, rfl, hW6, h⟩
/-- java/util/Arrays.copyOf([Ljava/lang/Object;I)[Ljava/lang/Object; -/
def wqJ14_copyOf (S : Nat → Nat) (a1 : Int) (a2 : Int) (N : jSh) (F : jFl) (A : jAr) (Q : Int → jSh → jFl → jAr → Prop) : Prop :=
  ∃ b1 : Nat, a1 = (b1 : Int) ∧
  jtg N b1 = 104 ∧
  jfn N 0 b1 = 1 ∧
  ∃ (P5 : Int → jSh → jFl → jAr → Prop), wqJ14_copyOf_2 S a1 a2 (S 20 : Int) N F A P5 ∧
  ∀ z7 N10 F8 A9, P5 z7 N10 F8 A9 →
  Q z7 N10 F8 A9
theorem vJ14_copyOf {G : jG} {l : Launch} {d : Nat} {N : jSh} {F : jFl} {A : jAr} {a1 a2 : Int} {Q : Int → jSh → jFl → jAr → Prop} (hd : 4 ≤ d) (hW : jWg G N F A) (ra2 : jR a2) (h : wqJ14_copyOf (gS G) a1 a2 N F A Q) : jCall G l d mJ14_copyOf [vR a1, vI a2] N F A (cnR G N Q) := by
  unfold wqJ14_copyOf at h
  refine jCall.of (by decide) rfl (ls := [vR a1, vI a2]) (by simp only [jent_R, jent_I, jent_L, jent_nil]; exact Nat.le_of_ble_eq_true rfl) (by simp only [jloc, jent_R, jent_I, jent_L, jent_nil]; rfl) ?_
  refine r_aload_n dJ14_copyOf_0 rfl ?_
  refine j_iload_n dJ14_copyOf_1 rfl ?_
  refine r_aload_n dJ14_copyOf_2 rfl ?_
  obtain ⟨b1, hz2, h⟩ := h
  obtain ⟨t3, h⟩ := h
  obtain ⟨w4, h⟩ := h
  refine r_getC dJ14_copyOf_3 q1012 hz2 t3 (hW.2.1 _ w4) (Nat.le_of_ble_eq_true rfl) (Nat.le_trans (Nat.le_of_ble_eq_true rfl) hd) ?_
  obtain ⟨P5, hp6, h⟩ := h
  refine r_invS (As := [vR a1, vI a2, vR (gS G 20 : Int)]) (rest := []) dJ14_copyOf_6 lkJ14_300 (vJ14_copyOf_2 (d := 3) (Nat.le_of_ble_eq_true rfl) hW ra2 hp6) rfl rfl (Nat.le_of_ble_eq_true rfl) (Nat.le_trans (Nat.le_of_ble_eq_true rfl) hd) (cknR fun z7 N10 F8 A9 hW11 hT12 p13 r14 => ?_)
  have h := h z7 N10 F8 A9 p13
  exact r_aret dJ14_copyOf_9 rfl (Or.inr ⟨_, rfl⟩) ⟨_, rfl, hW11, hT12, h, trivial⟩
/-- java/util/ArrayList.get(I)Ljava/lang/Object; -/
def wqJ2_get (o : Nat) (a1 : Int) (N : jSh) (F : jFl) (A : jAr) (Q : Int → Prop) : Prop :=
  ∃ (P1 : Int → Prop), wqJ11_checkIndex a1 (F 6003 o) N F A P1 ∧
  ∀ z3, P1 z3 →
  ∃ (P8 : Int → Prop), wqJ2_elementData o a1 N F A P8 ∧
  ∀ z10, P8 z10 →
  Q z10
theorem vJ2_get {G : jG} {l : Launch} {d : Nat} {N : jSh} {F : jFl} {A : jAr} {o : Nat} {a1 : Int} {Q : Int → Prop} (hd : 4 ≤ d) (hW : jWg G N F A) (ht : jtg N o = 20) (ra1 : jR a1) (h : wqJ2_get o a1 N F A Q) : jCall G l d mJ2_get [vR (o : Int), vI a1] N F A (jpR N F A Q) := by
  unfold wqJ2_get at h
  refine jCall.of (by decide) rfl (ls := [vR (o : Int), vI a1]) (by simp only [jent_R, jent_I, jent_L, jent_nil]; exact Nat.le_of_ble_eq_true rfl) (by simp only [jloc, jent_R, jent_I, jent_L, jent_nil]; rfl) ?_
  refine j_iload_n dJ2_get_0 rfl ?_
  refine r_aload_n dJ2_get_1 rfl ?_
  refine r_gI dJ2_get_2 flJ2_48_20 rfl ht rfl ?_
  obtain ⟨P1, hp2, h⟩ := h
  refine r_invS (As := [vI a1, vI (F 6003 o)]) (rest := []) dJ2_get_5 lkJ2_118 (vJ11_checkIndex (d := 3) (Nat.le_of_ble_eq_true rfl) hW ra1 (hW.fi rfl) hp2) rfl rfl (Nat.le_of_ble_eq_true rfl) (Nat.le_trans (Nat.le_of_ble_eq_true rfl) hd) (jkpI fun z3 p6 r7 => ?_)
  have h := h z3 p6
  refine j_pop dJ2_get_8 rfl ?_
  refine r_aload_n dJ2_get_9 rfl ?_
  refine j_iload_n dJ2_get_10 rfl ?_
  obtain ⟨P8, hp9, h⟩ := h
  refine r_invV (ci := 20) (As := [vI a1]) (rest := []) dJ2_get_11 lkJ2_123 rfl ht rfl rfl (vJ2_elementData (d := 2) (Nat.le_of_ble_eq_true rfl) hW ht ra1 hp9) rfl rfl (Nat.le_of_ble_eq_true rfl) (Nat.le_trans (Nat.le_of_ble_eq_true rfl) hd) (jkpR fun z10 p13 r14 => ?_)
  have h := h z10 p13
  exact r_aret dJ2_get_14 rfl (Or.inl ⟨_, rfl⟩) ⟨_, rfl, rfl, rfl, rfl, h, trivial⟩
/-- java/util/ArrayList.indexOf(Ljava/lang/Object;)I -/
def wqJ2_indexOf (o : Nat) (a1 : Int) (N : jSh) (F : jFl) (A : jAr) (Q : Int → Prop) : Prop :=
  ∃ (P1 : Int → Prop), wqJ2_indexOfRange o a1 0 (F 6003 o) N F A P1 ∧
  ∀ z3, P1 z3 →
  Q z3
theorem vJ2_indexOf {G : jG} {l : Launch} {d : Nat} {N : jSh} {F : jFl} {A : jAr} {o : Nat} {a1 : Int} {Q : Int → Prop} (hd : 4 ≤ d) (hW : jWg G N F A) (ht : jtg N o = 20) (h : wqJ2_indexOf o a1 N F A Q) : jCall G l d mJ2_indexOf [vR (o : Int), vR a1] N F A (jpI N F A Q) := by
  unfold wqJ2_indexOf at h
  refine jCall.of (by decide) rfl (ls := [vR (o : Int), vR a1]) (by simp only [jent_R, jent_I, jent_L, jent_nil]; exact Nat.le_of_ble_eq_true rfl) (by simp only [jloc, jent_R, jent_I, jent_L, jent_nil]; rfl) ?_
  refine r_aload_n dJ2_indexOf_0 rfl ?_
  refine r_aload_n dJ2_indexOf_1 rfl ?_
  refine j_iconst dJ2_indexOf_2 ?_
  refine r_aload_n dJ2_indexOf_3 rfl ?_
  refine r_gI dJ2_indexOf_4 flJ2_48_20 rfl ht rfl ?_
  obtain ⟨P1, hp2, h⟩ := h
  refine r_invV (ci := 20) (As := [vR a1, vI 0, vI (F 6003 o)]) (rest := []) dJ2_indexOf_7 lkJ2_89 rfl ht rfl rfl (vJ2_indexOfRange (d := 3) (Nat.le_of_ble_eq_true rfl) hW ht (by decide) (hW.fi rfl) hp2) rfl rfl (Nat.le_of_ble_eq_true rfl) (Nat.le_trans (Nat.le_of_ble_eq_true rfl) hd) (jkpI fun z3 p6 r7 => ?_)
  have h := h z3 p6
  exact j_iret dJ2_indexOf_10 rfl ⟨_, rfl, rfl, rfl, rfl, h, r7⟩
/-- java/util/ArrayList.<init>()V -/
def wqJ2_init (S : Nat → Nat) (o : Nat) (N : jSh) (F : jFl) (A : jAr) (Q : jFl → jAr → Prop) : Prop :=
  ∃ (P1 : jFl → jAr → Prop), wqJ1_init o N F A P1 ∧
  ∀ F4 A5, P1 F4 A5 →
  jfn N 0 o = 1 ∧
  ∀ F12 : jFl, F12 = upF F4 6002 o (S 19 : Int) →
  Q F12 A5
theorem vJ2_init {G : jG} {l : Launch} {d : Nat} {N : jSh} {F : jFl} {A : jAr} {o : Nat} {Q : jFl → jAr → Prop} (hd : 4 ≤ d) (hW : jWg G N F A) (ht : jtg N o = 20) (h : wqJ2_init (gS G) o N F A Q) : jCall G l d mJ2_init [vR (o : Int)] N F A (cmV G N Q) := by
  unfold wqJ2_init at h
  refine jCall.of (by decide) rfl (ls := [vR (o : Int)]) (by simp only [jent_R, jent_I, jent_L, jent_nil]; exact Nat.le_of_ble_eq_true rfl) (by simp only [jloc, jent_R, jent_I, jent_L, jent_nil]; rfl) ?_
  refine r_aload_n dJ2_init_0 rfl ?_
  obtain ⟨P1, hp2, h⟩ := h
  refine r_invI (As := []) (rest := []) dJ2_init_1 lkJ2_1 rfl (vJ1_init (d := 3) (Nat.le_of_ble_eq_true rfl) hW ht  hp2) rfl rfl (Nat.le_of_ble_eq_true rfl) (Nat.le_trans (Nat.le_of_ble_eq_true rfl) hd) (ckmV fun F4 A5 hW6 p8 => ?_)
  have h := h F4 A5 p8
  refine r_aload_n dJ2_init_4 rfl ?_
  refine r_gets (q := ("java/util/ArrayList", "DEFAULTCAPACITY_EMPTY_ELEMENTDATA", "[Ljava/lang/Object;", 19)) (v := vR (gS G 19 : Int)) dJ2_init_5 (List.mem_of_elem_eq_true (by decide +kernel)) q208 (vR_nat _).symm ?_
  obtain ⟨w10, h⟩ := h
  refine c_pR hW6 dJ2_init_8 flJ2_9_20 rfl ht w10 rfl (ty := (.array (.object "java/lang/Object"))) (by decide +kernel) (Or.inr ⟨_, rfl⟩) fun F12 eF12 hW11 => ?_
  have h := h F12 eF12
  exact j_vret dJ2_init_11 rfl ⟨rfl, rfl, hW11, h⟩
/-- java/util/ArrayList.remove(I)Ljava/lang/Object; -/
def wqJ2_remove (o : Nat) (a1 : Int) (N : jSh) (F : jFl) (A : jAr) (Q : Int → jFl → jAr → Prop) : Prop :=
  ∃ (P1 : Int → Prop), wqJ11_checkIndex a1 (F 6003 o) N F A P1 ∧
  ∀ z3, P1 z3 →
  ∀ v8 : Int, v8 = F 6002 o →
  ∃ b9 : Nat, v8 = (b9 : Int) ∧
  jtg N b9 = 104 ∧
  ((0 : Int) ≤ a1 ∧ (a1 : Int) < (jln N b9 : Int)) ∧
  ∀ v13 : Int, v13 = A b9 a1 →
  ∃ (P14 : jFl → jAr → Prop), wqJ2_fastRemove o v8 a1 N F A P14 ∧
  ∀ F17 A18, P14 F17 A18 →
  Q v13 F17 A18
theorem vJ2_remove {G : jG} {l : Launch} {d : Nat} {N : jSh} {F : jFl} {A : jAr} {o : Nat} {a1 : Int} {Q : Int → jFl → jAr → Prop} (hd : 4 ≤ d) (hW : jWg G N F A) (ht : jtg N o = 20) (ra1 : jR a1) (h : wqJ2_remove o a1 N F A Q) : jCall G l d mJ2_remove [vR (o : Int), vI a1] N F A (cmR G N Q) := by
  unfold wqJ2_remove at h
  refine jCall.of (by decide) rfl (ls := [vR (o : Int), vI a1, jD, jD]) (by simp only [jent_R, jent_I, jent_L, jent_nil]; exact Nat.le_of_ble_eq_true rfl) (by simp only [jloc, jent_R, jent_I, jent_L, jent_nil]; rfl) ?_
  refine j_iload_n dJ2_remove_0 rfl ?_
  refine r_aload_n dJ2_remove_1 rfl ?_
  refine r_gI dJ2_remove_2 flJ2_48_20 rfl ht rfl ?_
  obtain ⟨P1, hp2, h⟩ := h
  refine r_invS (As := [vI a1, vI (F 6003 o)]) (rest := []) dJ2_remove_5 lkJ2_118 (vJ11_checkIndex (d := 3) (Nat.le_of_ble_eq_true rfl) hW ra1 (hW.fi rfl) hp2) rfl rfl (Nat.le_of_ble_eq_true rfl) (Nat.le_trans (Nat.le_of_ble_eq_true rfl) hd) (jkpI fun z3 p6 r7 => ?_)
  have h := h z3 p6
  refine j_pop dJ2_remove_8 rfl ?_
  refine r_aload_n dJ2_remove_9 rfl ?_
  refine r_gR dJ2_remove_10 flJ2_9_20 rfl ht rfl ?_
  obtain ⟨v8, ev8⟩ : ∃ x : Int, x = F 6002 o := ⟨_, rfl⟩
  have h := h v8 ev8
  refine jnmR (e := ev8) ?_
  refine r_astore_n dJ2_remove_13 rfl ?_
  refine r_aload_n dJ2_remove_14 rfl ?_
  refine j_iload_n dJ2_remove_15 rfl ?_
  obtain ⟨b9, hz10, h⟩ := h
  obtain ⟨t11, h⟩ := h
  obtain ⟨c12, h⟩ := h
  refine r_aald dJ2_remove_16 hz10 t11 rfl rfl c12 ?_
  obtain ⟨v13, ev13⟩ : ∃ x : Int, x = A b9 a1 := ⟨_, rfl⟩
  have h := h v13 ev13
  refine jnmR (e := ev13) ?_
  refine r_astore_n dJ2_remove_17 (jokR rfl (Nat.le_of_ble_eq_true rfl)) ?_
  refine r_aload_n dJ2_remove_18 rfl ?_
  refine r_aload_n dJ2_remove_19 rfl ?_
  refine j_iload_n dJ2_remove_20 rfl ?_
  obtain ⟨P14, hp15, h⟩ := h
  refine r_invV (ci := 20) (As := [vR v8, vI a1]) (rest := []) dJ2_remove_21 lkJ2_144 rfl ht rfl rfl (vJ2_fastRemove (d := 2) (Nat.le_of_ble_eq_true rfl) hW ht ra1 hp15) rfl rfl (Nat.le_of_ble_eq_true rfl) (Nat.le_trans (Nat.le_of_ble_eq_true rfl) hd) (ckmV fun F17 A18 hW19 p21 => ?_)
  have h := h F17 A18 p21
  refine r_aload_n dJ2_remove_24 rfl ?_
  exact r_aret dJ2_remove_25 rfl (Or.inl ⟨_, rfl⟩) ⟨_, rfl, rfl, hW19, h, trivial⟩
/-- java/util/ArrayList.set(ILjava/lang/Object;)Ljava/lang/Object; -/
def wqJ2_set (o : Nat) (a1 : Int) (a2 : Int) (N : jSh) (F : jFl) (A : jAr) (Q : Int → jFl → jAr → Prop) : Prop :=
  ∃ (P1 : Int → Prop), wqJ11_checkIndex a1 (F 6003 o) N F A P1 ∧
  ∀ z3, P1 z3 →
  ∃ (P8 : Int → Prop), wqJ2_elementData o a1 N F A P8 ∧
  ∀ z10, P8 z10 →
  ∃ b15 : Nat, F 6002 o = (b15 : Int) ∧
  jtg N b15 = 104 ∧
  jfn N 0 b15 = 1 ∧
  ((0 : Int) ≤ a1 ∧ (a1 : Int) < (jln N b15 : Int)) ∧
  jast N "java/lang/Object" a2 ∧
  ∀ A20 : jAr, A20 = upA A b15 a1 a2 →
  Q z10 F A20
theorem vJ2_set {G : jG} {l : Launch} {d : Nat} {N : jSh} {F : jFl} {A : jAr} {o : Nat} {a1 a2 : Int} {Q : Int → jFl → jAr → Prop} (hd : 4 ≤ d) (hW : jWg G N F A) (ht : jtg N o = 20) (ra1 : jR a1) (h : wqJ2_set o a1 a2 N F A Q) : jCall G l d mJ2_set [vR (o : Int), vI a1, vR a2] N F A (cmR G N Q) := by
  unfold wqJ2_set at h
  refine jCall.of (by decide) rfl (ls := [vR (o : Int), vI a1, vR a2, jD]) (by simp only [jent_R, jent_I, jent_L, jent_nil]; exact Nat.le_of_ble_eq_true rfl) (by simp only [jloc, jent_R, jent_I, jent_L, jent_nil]; rfl) ?_
  refine j_iload_n dJ2_set_0 rfl ?_
  refine r_aload_n dJ2_set_1 rfl ?_
  refine r_gI dJ2_set_2 flJ2_48_20 rfl ht rfl ?_
  obtain ⟨P1, hp2, h⟩ := h
  refine r_invS (As := [vI a1, vI (F 6003 o)]) (rest := []) dJ2_set_5 lkJ2_118 (vJ11_checkIndex (d := 3) (Nat.le_of_ble_eq_true rfl) hW ra1 (hW.fi rfl) hp2) rfl rfl (Nat.le_of_ble_eq_true rfl) (Nat.le_trans (Nat.le_of_ble_eq_true rfl) hd) (jkpI fun z3 p6 r7 => ?_)
  have h := h z3 p6
  refine j_pop dJ2_set_8 rfl ?_
  refine r_aload_n dJ2_set_9 rfl ?_
  refine j_iload_n dJ2_set_10 rfl ?_
  obtain ⟨P8, hp9, h⟩ := h
  refine r_invV (ci := 20) (As := [vI a1]) (rest := []) dJ2_set_11 lkJ2_123 rfl ht rfl rfl (vJ2_elementData (d := 2) (Nat.le_of_ble_eq_true rfl) hW ht ra1 hp9) rfl rfl (Nat.le_of_ble_eq_true rfl) (Nat.le_trans (Nat.le_of_ble_eq_true rfl) hd) (jkpR fun z10 p13 r14 => ?_)
  have h := h z10 p13
  refine r_astore_n dJ2_set_14 (jokR rfl (Nat.le_of_ble_eq_true rfl)) ?_
  refine r_aload_n dJ2_set_15 rfl ?_
  refine r_gR dJ2_set_16 flJ2_9_20 rfl ht rfl ?_
  refine j_iload_n dJ2_set_19 rfl ?_
  refine r_aload_n dJ2_set_20 rfl ?_
  obtain ⟨b15, hz16, h⟩ := h
  obtain ⟨t17, h⟩ := h
  obtain ⟨w18, h⟩ := h
  obtain ⟨c19, h⟩ := h
  obtain ⟨j22, h⟩ := h
  refine c_aast hW dJ2_set_21 hz16 t17 rfl w18 c19 j22 rfl fun A20 eA20 hW21 => ?_
  have h := h A20 eA20
  refine r_aload_n dJ2_set_22 rfl ?_
  exact r_aret dJ2_set_23 rfl (Or.inl ⟨_, rfl⟩) ⟨_, rfl, rfl, hW21, h, trivial⟩
/-- java/lang/AbstractStringBuilder.charAt(I)C -/
def wqJ3_charAt (S : Nat → Nat) (o : Nat) (a1 : Int) (N : jSh) (F : jFl) (A : jAr) (Q : Int → Prop) : Prop :=
  ∀ v1 : Int, v1 = F 7203 o →
  ∀ v2 : Int, v2 = F 7202 o →
  ∃ b3 : Nat, v2 = (b3 : Int) ∧
  jtg N b3 = 108 ∧
  jR (jln N b3 : Int) ∧
  ((0 : Int) ≤ v1 ∧ (v1 : Int) < 32) ∧
  ∀ v8 : Int, v8 = (if F 7209 o ≤ (jln N b3 : Int) / 2 ^ v1.toNat then F 7209 o else (jln N b3 : Int) / 2 ^ v1.toNat) →
  ∃ (P9 : Prop), wqJ5_checkIndex S a1 v8 N F A P9 ∧
  (P9 →
  ((¬ v1 = 0) →
    ∃ (P17 : Int → Prop), wqJ6_getChar S v2 a1 N F A P17 ∧
    ∀ z19, P17 z19 →
    Q z19) ∧
  ((v1 = 0) →
    ((0 : Int) ≤ a1 ∧ (a1 : Int) < (jln N b3 : Int)) ∧
    (0 ≤ (A b3 a1) % 256 ∧ (A b3 a1) % 256 ≤ 65535) ∧
    Q ((A b3 a1) % 256)))
theorem vJ3_charAt {G : jG} {l : Launch} {d : Nat} {N : jSh} {F : jFl} {A : jAr} {o : Nat} {a1 : Int} {Q : Int → Prop} (hd : 4 ≤ d) (hW : jWg G N F A) (ht : jtg N o = 21) (ra1 : jR a1) (h : wqJ3_charAt (gS G) o a1 N F A Q) : jCall G l d mJ3_charAt [vR (o : Int), vI a1] N F A (jpC N F A Q) := by
  unfold wqJ3_charAt at h
  refine jCall.of (by decide) rfl (ls := [vR (o : Int), vI a1, jD, jD, jD]) (by simp only [jent_R, jent_I, jent_L, jent_nil]; exact Nat.le_of_ble_eq_true rfl) (by simp only [jloc, jent_R, jent_I, jent_L, jent_nil]; rfl) ?_
  refine r_aload_n dJ3_charAt_0 rfl ?_
  refine r_gI dJ3_charAt_1 flJ3_22_21 rfl ht rfl ?_
  obtain ⟨v1, ev1⟩ : ∃ x : Int, x = F 7203 o := ⟨_, rfl⟩
  have h := h v1 ev1
  refine jnmI (e := ev1) ?_
  refine j_istore_n dJ3_charAt_4 rfl ?_
  refine r_aload_n dJ3_charAt_5 rfl ?_
  refine r_gR dJ3_charAt_6 flJ3_15_21 rfl ht rfl ?_
  obtain ⟨v2, ev2⟩ : ∃ x : Int, x = F 7202 o := ⟨_, rfl⟩
  have h := h v2 ev2
  refine jnmR (e := ev2) ?_
  refine r_astore_n dJ3_charAt_9 rfl ?_
  refine r_aload_n dJ3_charAt_10 rfl ?_
  refine r_gI dJ3_charAt_11 flJ3_79_21 rfl ht rfl ?_
  refine r_aload_n dJ3_charAt_14 rfl ?_
  obtain ⟨b3, hz4, h⟩ := h
  obtain ⟨t5, h⟩ := h
  refine r_alen dJ3_charAt_15 hz4 t5 rfl ?_
  refine j_iload_n dJ3_charAt_16 rfl ?_
  obtain ⟨r6, h⟩ := h
  obtain ⟨c7, h⟩ := h
  refine j_ishr dJ3_charAt_17 r6 c7 ?_
  refine r_mmin dJ3_charAt_18 lkJ3_138 (hW.fi rfl) (jR_shr r6) (Nat.le_of_ble_eq_true rfl) (Nat.le_trans (Nat.le_of_ble_eq_true rfl) hd) ?_
  obtain ⟨v8, ev8⟩ : ∃ x : Int, x = (if F 7209 o ≤ (jln N b3 : Int) / 2 ^ v1.toNat then F 7209 o else (jln N b3 : Int) / 2 ^ v1.toNat) := ⟨_, rfl⟩
  have h := h v8 ev8
  refine jnmI (e := ev8) ?_
  refine j_istore dJ3_charAt_21 (jokR rfl (Nat.le_of_ble_eq_true rfl)) ?_
  refine j_iload_n dJ3_charAt_23 rfl ?_
  refine j_iload dJ3_charAt_24 rfl ?_
  obtain ⟨P9, hp10, h⟩ := h
  refine r_invS (As := [vI a1, vI v8]) (rest := []) dJ3_charAt_26 lkJ3_144 (vJ5_checkIndex (d := 3) (Nat.le_of_ble_eq_true rfl) hW ra1 (ev8 ▸ (jR_ite (hW.fi rfl) (jR_shr r6))) hp10) rfl rfl (Nat.le_of_ble_eq_true rfl) (Nat.le_trans (Nat.le_of_ble_eq_true rfl) hd) (jkpV fun p14 => ?_)
  have h := h p14
  refine j_iload_n dJ3_charAt_29 rfl ?_
  obtain ⟨h1, h2⟩ := h
  refine j_if_ne 42 dJ3_charAt_30 rfl (ev1 ▸ (hW.fi rfl)) (fun q16 => ?_) (fun q16 => ?_)
  · have h := h1 q16
    clear h1 h2
    refine r_aload_n dJ3_charAt_42 rfl ?_
    refine j_iload_n dJ3_charAt_43 rfl ?_
    obtain ⟨P17, hp18, h⟩ := h
    refine r_invS (As := [vR v2, vI a1]) (rest := []) dJ3_charAt_44 lkJ3_148 (vJ6_getChar (d := 3) (Nat.le_of_ble_eq_true rfl) hW ra1 hp18) rfl rfl (Nat.le_of_ble_eq_true rfl) (Nat.le_trans (Nat.le_of_ble_eq_true rfl) hd) (jkpC fun z19 p22 r23 => ?_)
    have h := h z19 p22
    exact j_zret dJ3_charAt_47 rfl (nr_char r23) ⟨_, rfl, rfl, rfl, rfl, h, r23⟩
  · have h := h2 (Classical.not_not.mp q16)
    clear h1 h2
    refine r_aload_n dJ3_charAt_33 rfl ?_
    refine j_iload_n dJ3_charAt_34 rfl ?_
    obtain ⟨c24, h⟩ := h
    refine r_bald dJ3_charAt_35 hz4 t5 c24 ?_
    refine j_sipush dJ3_charAt_36 ?_
    refine j_iand 8 (by decide) (by decide +kernel) dJ3_charAt_39 ?_
    rw [show ((2 ^ 8 : Nat) : Int) = 256 from rfl]
    obtain ⟨c25, h⟩ := h
    refine r_i2c dJ3_charAt_40 c25 ?_
    exact j_zret dJ3_charAt_41 rfl (nr_char c25) ⟨_, rfl, rfl, rfl, rfl, h, c25⟩
/-- java/lang/AbstractStringBuilder.<init>(I)V -/
def wqJ3_init (S : Nat → Nat) (o : Nat) (a1 : Int) (N : jSh) (F : jFl) (A : jAr) (Q : jSh → jFl → jAr → Prop) : Prop :=
  (((1 : Int) = 0) →
    ∃ (P2 : Int → jSh → jFl → jAr → Prop), wqJ6_newBytesFor S a1 N F A P2 ∧
    ∀ z4 N7 F5 A6, P2 z4 N7 F5 A6 →
    jfn N7 0 o = 1 ∧
    ∀ F15 : jFl, F15 = upF F5 7202 o z4 →
    ∀ F17 : jFl, F17 = upF F15 7203 o 1 →
    Q N7 F17 A6) ∧
  ((¬ ((1 : Int) = 0)) →
    ∃ n26 : Nat, a1 = (n26 : Int) ∧ n26 ≤ 1000000 ∧
    ∀ (b18 : Nat) (N19 : jSh) (F20 : jFl) (A21 : jAr), b18 = jnx N → N19 = jnew N 108 n26 n26 1 → F20 = nwF N F → A21 = nwA N 108 A →
    jfn N19 0 o = 1 ∧
    ∀ F32 : jFl, F32 = upF F20 7202 o (b18 : Int) →
    ∀ F34 : jFl, F34 = upF F32 7203 o 0 →
    Q N19 F34 A21)
theorem vJ3_init {G : jG} {l : Launch} {d : Nat} {N : jSh} {F : jFl} {A : jAr} {o : Nat} {a1 : Int} {Q : jSh → jFl → jAr → Prop} (hd : 4 ≤ d) (hW : jWg G N F A) (ht : jtg N o = 21) (ra1 : jR a1) (h : wqJ3_init (gS G) o a1 N F A Q) : jCall G l d mJ3_init [vR (o : Int), vI a1] N F A (cnV G N Q) := by
  unfold wqJ3_init at h
  refine jCall.of (by decide) rfl (ls := [vR (o : Int), vI a1]) (by simp only [jent_R, jent_I, jent_L, jent_nil]; exact Nat.le_of_ble_eq_true rfl) (by simp only [jloc, jent_R, jent_I, jent_L, jent_nil]; rfl) ?_
  refine r_aload_n dJ3_init_0 rfl ?_
  refine r_objInit dJ3_init_1 q497 rfl (Nat.le_trans (Nat.le_of_ble_eq_true rfl) hd) (Nat.le_of_ble_eq_true rfl) ?_
  refine r_gets (q := ("java/lang/String", "COMPACT_STRINGS", "Z", 1001)) (v := vI 1) dJ3_init_4 (List.mem_of_elem_eq_true (by decide +kernel)) q498 rfl ?_
  obtain ⟨h1, h2⟩ := h
  refine j_if_eq 25 dJ3_init_7 rfl (by decide) (fun q1 => ?_) (fun q1 => ?_)
  · have h := h1 q1
    clear h1 h2
    refine r_aload_n dJ3_init_25 rfl ?_
    refine j_iload_n dJ3_init_26 rfl ?_
    obtain ⟨P2, hp3, h⟩ := h
    refine r_invS (As := [vI a1]) (rest := [vR (o : Int)]) dJ3_init_27 lkJ3_26 (vJ6_newBytesFor (d := 3) (Nat.le_of_ble_eq_true rfl) hW ra1 hp3) rfl rfl (Nat.le_of_ble_eq_true rfl) (Nat.le_trans (Nat.le_of_ble_eq_true rfl) hd) (cknR fun z4 N7 F5 A6 hW8 hT9 p10 r11 => ?_)
    have h := h z4 N7 F5 A6 p10
    have t12 : jtg N7 o = 21 := (hT9.tg hW ht)
    obtain ⟨w13, h⟩ := h
    refine c_pR hW8 dJ3_init_30 flJ3_15_21 rfl t12 w13 rfl (ty := (.array .byte)) (by decide +kernel) (Or.inr ⟨_, rfl⟩) fun F15 eF15 hW14 => ?_
    have h := h F15 eF15
    refine r_aload_n dJ3_init_33 rfl ?_
    refine j_iconst dJ3_init_34 ?_
    refine c_pB hW14 dJ3_init_35 flJ3_22_21 rfl t12 w13 rfl (by decide) (by decide) fun F17 eF17 hW16 => ?_
    have h := h F17 eF17
    exact j_vret dJ3_init_38 rfl ⟨rfl, hW16, hT9, h⟩
  · have h := h2 q1
    clear h1 h2
    refine r_aload_n dJ3_init_10 rfl ?_
    refine j_iload_n dJ3_init_11 rfl ?_
    obtain ⟨n26, hn27, hl28, h⟩ := h
    refine c_newa (t := 108) (n := n26) hW dJ3_init_12 rfl rfl rfl (fun _ h => by cases h) q520 (by decide) hn27 hl28 fun b18 N19 F20 A21 eb18 eN19 eF20 eA21 t22 w23 hT24 hW25 => ?_
    have h := h b18 N19 F20 A21 eb18 eN19 eF20 eA21
    have t29 : jtg N19 o = 21 := (hT24.tg hW ht)
    obtain ⟨w30, h⟩ := h
    refine c_pR hW25 dJ3_init_14 flJ3_15_21 rfl t29 w30 rfl (ty := (.array .byte)) (by decide +kernel) (Or.inr ⟨_, rfl⟩) fun F32 eF32 hW31 => ?_
    have h := h F32 eF32
    refine r_aload_n dJ3_init_17 rfl ?_
    refine j_iconst dJ3_init_18 ?_
    refine c_pB hW31 dJ3_init_19 flJ3_22_21 rfl t29 w30 rfl (by decide) (by decide) fun F34 eF34 hW33 => ?_
    have h := h F34 eF34
    refine j_goto 38 dJ3_init_22 rfl ?_
    exact j_vret dJ3_init_38 rfl ⟨rfl, hW33, hT24, h⟩
/-- java/lang/AbstractStringBuilder.newCapacity(I)I -/
def wqJ3_newCapacity (S : Nat → Nat) (o : Nat) (a1 : Int) (N : jSh) (F : jFl) (A : jAr) (Q : Int → Prop) : Prop :=
  ∃ b1 : Nat, F 7202 o = (b1 : Int) ∧
  jtg N b1 = 108 ∧
  jR (jln N b1 : Int) ∧
  ∀ v5 : Int, v5 = (jln N b1 : Int) →
  ((0 : Int) ≤ F 7203 o ∧ (F 7203 o : Int) < 32) ∧
  jR (a1 * 2 ^ (F 7203 o).toNat) ∧
  ∀ v8 : Int, v8 = a1 * 2 ^ (F 7203 o).toNat →
  jR (v8 - v5) ∧
  ∀ v10 : Int, v10 = v8 - v5 →
  ((0 : Int) ≤ F 7203 o ∧ (F 7203 o : Int) < 32) ∧
  jR (v5 + (2 * 2 ^ (F 7203 o).toNat)) ∧
  ∃ (P13 : Int → Prop), wqJ12_newLength S v5 v10 (v5 + (2 * 2 ^ (F 7203 o).toNat)) N F A P13 ∧
  ∀ z15, P13 z15 →
  ((¬ z15 = 2147483647) →
    ((0 : Int) ≤ F 7203 o ∧ (F 7203 o : Int) < 32) ∧
    Q (z15 / 2 ^ (F 7203 o).toNat)) ∧
  ((z15 = 2147483647) →
    False)
theorem vJ3_newCapacity {G : jG} {l : Launch} {d : Nat} {N : jSh} {F : jFl} {A : jAr} {o : Nat} {a1 : Int} {Q : Int → Prop} (hd : 4 ≤ d) (hW : jWg G N F A) (ht : jtg N o = 21) (ra1 : jR a1) (h : wqJ3_newCapacity (gS G) o a1 N F A Q) : jCall G l d mJ3_newCapacity [vR (o : Int), vI a1] N F A (jpI N F A Q) := by
  unfold wqJ3_newCapacity at h
  refine jCall.of (by decide) rfl (ls := [vR (o : Int), vI a1, jD, jD, jD, jD]) (by simp only [jent_R, jent_I, jent_L, jent_nil]; exact Nat.le_of_ble_eq_true rfl) (by simp only [jloc, jent_R, jent_I, jent_L, jent_nil]; rfl) ?_
  refine r_aload_n dJ3_newCapacity_0 rfl ?_
  refine r_gR dJ3_newCapacity_1 flJ3_15_21 rfl ht rfl ?_
  obtain ⟨b1, hz2, h⟩ := h
  obtain ⟨t3, h⟩ := h
  refine r_alen dJ3_newCapacity_4 hz2 t3 rfl ?_
  obtain ⟨r4, h⟩ := h
  obtain ⟨v5, ev5⟩ : ∃ x : Int, x = (jln N b1 : Int) := ⟨_, rfl⟩
  have h := h v5 ev5
  refine jnmI (e := ev5) ?_
  refine j_istore_n dJ3_newCapacity_5 rfl ?_
  refine j_iload_n dJ3_newCapacity_6 rfl ?_
  refine r_aload_n dJ3_newCapacity_7 rfl ?_
  refine r_gI dJ3_newCapacity_8 flJ3_22_21 rfl ht rfl ?_
  obtain ⟨c6, h⟩ := h
  refine j_ishl dJ3_newCapacity_11 c6 ?_
  obtain ⟨r7, h⟩ := h
  obtain ⟨v8, ev8⟩ : ∃ x : Int, x = a1 * 2 ^ (F 7203 o).toNat := ⟨_, rfl⟩
  have h := h v8 ev8
  refine jnmI (e := ev8) ?_
  refine j_istore_n dJ3_newCapacity_12 rfl ?_
  refine j_iload_n dJ3_newCapacity_13 rfl ?_
  refine j_iload_n dJ3_newCapacity_14 rfl ?_
  refine j_isub dJ3_newCapacity_15 ?_
  obtain ⟨r9, h⟩ := h
  obtain ⟨v10, ev10⟩ : ∃ x : Int, x = v8 - v5 := ⟨_, rfl⟩
  have h := h v10 ev10
  refine jnmI (e := ev10) ?_
  refine j_istore dJ3_newCapacity_16 rfl ?_
  refine j_iload_n dJ3_newCapacity_18 rfl ?_
  refine j_iload dJ3_newCapacity_19 rfl ?_
  refine j_iload_n dJ3_newCapacity_21 rfl ?_
  refine j_iconst dJ3_newCapacity_22 ?_
  refine r_aload_n dJ3_newCapacity_23 rfl ?_
  refine r_gI dJ3_newCapacity_24 flJ3_22_21 rfl ht rfl ?_
  obtain ⟨c11, h⟩ := h
  refine j_ishl dJ3_newCapacity_27 c11 ?_
  refine j_iadd dJ3_newCapacity_28 ?_
  obtain ⟨r12, h⟩ := h
  obtain ⟨P13, hp14, h⟩ := h
  refine r_invS (As := [vI v5, vI v10, vI (v5 + (2 * 2 ^ (F 7203 o).toNat))]) (rest := []) dJ3_newCapacity_29 lkJ3_114 (vJ12_newLength (d := 3) (Nat.le_of_ble_eq_true rfl) hW (ev5 ▸ r4) (ev10 ▸ r9) r12 hp14) rfl rfl (Nat.le_of_ble_eq_true rfl) (Nat.le_trans (Nat.le_of_ble_eq_true rfl) hd) (jkpI fun z15 p18 r19 => ?_)
  have h := h z15 p18
  refine j_istore dJ3_newCapacity_32 rfl ?_
  refine j_iload dJ3_newCapacity_34 rfl ?_
  refine j_ldc (n := 2147483647) dJ3_newCapacity_36 q1818 ?_
  obtain ⟨h1, h2⟩ := h
  refine j_icmp_ne 51 dJ3_newCapacity_38 rfl r19 (by decide) (fun q20 => ?_) (fun q20 => ?_)
  · have h := h1 q20
    clear h1 h2
    refine j_iload dJ3_newCapacity_51 rfl ?_
    refine r_aload_n dJ3_newCapacity_53 rfl ?_
    refine r_gI dJ3_newCapacity_54 flJ3_22_21 rfl ht rfl ?_
    obtain ⟨c21, h⟩ := h
    refine j_ishr dJ3_newCapacity_57 r19 c21 ?_
    exact j_iret dJ3_newCapacity_58 rfl ⟨_, rfl, rfl, rfl, rfl, h, (jR_shr r19)⟩
  · have h := h2 (Classical.not_not.mp q20)
    clear h1 h2
    exact h.elim
/-- java/lang/String.rangeCheck([CII)Ljava/lang/Void; -/
def wqJ5_rangeCheck (S : Nat → Nat) (a1 : Int) (a2 : Int) (a3 : Int) (N : jSh) (F : jFl) (A : jAr) (Q : Int → Prop) : Prop :=
  ∃ b1 : Nat, a1 = (b1 : Int) ∧
  jtg N b1 = 111 ∧
  jR (jln N b1 : Int) ∧
  ∃ (P5 : Int → Prop), wqJ5_checkBoundsOffCount S a2 a3 (jln N b1 : Int) N F A P5 ∧
  ∀ z7, P5 z7 →
  Q (-1)
theorem vJ5_rangeCheck {G : jG} {l : Launch} {d : Nat} {N : jSh} {F : jFl} {A : jAr} {a1 a2 a3 : Int} {Q : Int → Prop} (hd : 4 ≤ d) (hW : jWg G N F A) (ra2 : jR a2) (ra3 : jR a3) (h : wqJ5_rangeCheck (gS G) a1 a2 a3 N F A Q) : jCall G l d mJ5_rangeCheck [vR a1, vI a2, vI a3] N F A (jpR N F A Q) := by
  unfold wqJ5_rangeCheck at h
  refine jCall.of (by decide) rfl (ls := [vR a1, vI a2, vI a3]) (by simp only [jent_R, jent_I, jent_L, jent_nil]; exact Nat.le_of_ble_eq_true rfl) (by simp only [jloc, jent_R, jent_I, jent_L, jent_nil]; rfl) ?_
  refine j_iload_n dJ5_rangeCheck_0 rfl ?_
  refine j_iload_n dJ5_rangeCheck_1 rfl ?_
  refine r_aload_n dJ5_rangeCheck_2 rfl ?_
  obtain ⟨b1, hz2, h⟩ := h
  obtain ⟨t3, h⟩ := h
  refine r_alen dJ5_rangeCheck_3 hz2 t3 rfl ?_
  obtain ⟨r4, h⟩ := h
  obtain ⟨P5, hp6, h⟩ := h
  refine r_invS (As := [vI a2, vI a3, vI (jln N b1 : Int)]) (rest := []) dJ5_rangeCheck_4 lkJ5_34 (vJ5_checkBoundsOffCount (d := 3) (Nat.le_of_ble_eq_true rfl) hW ra2 ra3 r4 hp6) rfl rfl (Nat.le_of_ble_eq_true rfl) (Nat.le_trans (Nat.le_of_ble_eq_true rfl) hd) (jkpI fun z7 p10 r11 => ?_)
  have h := h z7 p10
  refine j_pop dJ5_rangeCheck_7 rfl ?_
  refine r_null dJ5_rangeCheck_8 ?_
  exact r_aret dJ5_rangeCheck_9 rfl (Or.inl ⟨_, rfl⟩) ⟨_, rfl, rfl, rfl, rfl, h, trivial⟩
/-- java/lang/StringUTF16.checkBoundsOffCount(II[B)V -/
def wqJ6_checkBoundsOffCount (S : Nat → Nat) (a1 : Int) (a2 : Int) (a3 : Int) (N : jSh) (F : jFl) (A : jAr) (Q : Prop) : Prop :=
  ∃ (P1 : Int → Prop), wqJ6_length a3 N F A P1 ∧
  ∀ z3, P1 z3 →
  ∃ (P8 : Int → Prop), wqJ5_checkBoundsOffCount S a1 a2 z3 N F A P8 ∧
  ∀ z10, P8 z10 →
  Q
theorem vJ6_checkBoundsOffCount {G : jG} {l : Launch} {d : Nat} {N : jSh} {F : jFl} {A : jAr} {a1 a2 a3 : Int} {Q : Prop} (hd : 4 ≤ d) (hW : jWg G N F A) (ra1 : jR a1) (ra2 : jR a2) (h : wqJ6_checkBoundsOffCount (gS G) a1 a2 a3 N F A Q) : jCall G l d mJ6_checkBoundsOffCount [vI a1, vI a2, vR a3] N F A (jpV N F A Q) := by
  unfold wqJ6_checkBoundsOffCount at h
  refine jCall.of (by decide) rfl (ls := [vI a1, vI a2, vR a3]) (by simp only [jent_R, jent_I, jent_L, jent_nil]; exact Nat.le_of_ble_eq_true rfl) (by simp only [jloc, jent_R, jent_I, jent_L, jent_nil]; rfl) ?_
  refine j_iload_n dJ6_checkBoundsOffCount_0 rfl ?_
  refine j_iload_n dJ6_checkBoundsOffCount_1 rfl ?_
  refine r_aload_n dJ6_checkBoundsOffCount_2 rfl ?_
  obtain ⟨P1, hp2, h⟩ := h
  refine r_invS (As := [vR a3]) (rest := [vI a2, vI a1]) dJ6_checkBoundsOffCount_3 lkJ6_48 (vJ6_length (d := 2) (Nat.le_of_ble_eq_true rfl) hW  hp2) rfl rfl (Nat.le_of_ble_eq_true rfl) (Nat.le_trans (Nat.le_of_ble_eq_true rfl) hd) (jkpI fun z3 p6 r7 => ?_)
  have h := h z3 p6
  obtain ⟨P8, hp9, h⟩ := h
  refine r_invS (As := [vI a1, vI a2, vI z3]) (rest := []) dJ6_checkBoundsOffCount_6 lkJ6_419 (vJ5_checkBoundsOffCount (d := 3) (Nat.le_of_ble_eq_true rfl) hW ra1 ra2 r7 hp9) rfl rfl (Nat.le_of_ble_eq_true rfl) (Nat.le_trans (Nat.le_of_ble_eq_true rfl) hd) (jkpI fun z10 p13 r14 => ?_)
  have h := h z10 p13
  refine j_pop dJ6_checkBoundsOffCount_9 rfl ?_
  exact j_vret dJ6_checkBoundsOffCount_10 rfl ⟨rfl, rfl, rfl, rfl, h⟩
/-- java/lang/StringUTF16.checkIndex(I[B)V -/
def wqJ6_checkIndex (S : Nat → Nat) (a1 : Int) (a2 : Int) (N : jSh) (F : jFl) (A : jAr) (Q : Prop) : Prop :=
  ∃ (P1 : Int → Prop), wqJ6_length a2 N F A P1 ∧
  ∀ z3, P1 z3 →
  ∃ (P8 : Prop), wqJ5_checkIndex S a1 z3 N F A P8 ∧
  (P8 →
  Q)
theorem vJ6_checkIndex {G : jG} {l : Launch} {d : Nat} {N : jSh} {F : jFl} {A : jAr} {a1 a2 : Int} {Q : Prop} (hd : 4 ≤ d) (hW : jWg G N F A) (ra1 : jR a1) (h : wqJ6_checkIndex (gS G) a1 a2 N F A Q) : jCall G l d mJ6_checkIndex [vI a1, vR a2] N F A (jpV N F A Q) := by
  unfold wqJ6_checkIndex at h
  refine jCall.of (by decide) rfl (ls := [vI a1, vR a2]) (by simp only [jent_R, jent_I, jent_L, jent_nil]; exact Nat.le_of_ble_eq_true rfl) (by simp only [jloc, jent_R, jent_I, jent_L, jent_nil]; rfl) ?_
  refine j_iload_n dJ6_checkIndex_0 rfl ?_
  refine r_aload_n dJ6_checkIndex_1 rfl ?_
  obtain ⟨P1, hp2, h⟩ := h
  refine r_invS (As := [vR a2]) (rest := [vI a1]) dJ6_checkIndex_2 lkJ6_48 (vJ6_length (d := 2) (Nat.le_of_ble_eq_true rfl) hW  hp2) rfl rfl (Nat.le_of_ble_eq_true rfl) (Nat.le_trans (Nat.le_of_ble_eq_true rfl) hd) (jkpI fun z3 p6 r7 => ?_)
  have h := h z3 p6
  obtain ⟨P8, hp9, h⟩ := h
  refine r_invS (As := [vI a1, vI z3]) (rest := []) dJ6_checkIndex_5 lkJ6_414 (vJ5_checkIndex (d := 3) (Nat.le_of_ble_eq_true rfl) hW ra1 r7 hp9) rfl rfl (Nat.le_of_ble_eq_true rfl) (Nat.le_trans (Nat.le_of_ble_eq_true rfl) hd) (jkpV fun p13 => ?_)
  have h := h p13
  exact j_vret dJ6_checkIndex_8 rfl ⟨rfl, rfl, rfl, rfl, h⟩
/-- java/lang/StringUTF16.fillNull([BII)V -/
def wqJ6_fillNull (a1 : Int) (a2 : Int) (a3 : Int) (N : jSh) (F : jFl) (A : jAr) (Q : jFl → jAr → Prop) : Prop :=
  jR (a2 * 2 ^ 1) ∧
  jR (a3 * 2 ^ 1) ∧
  ∃ (P3 : jFl → jAr → Prop), wqJ14_fill a1 (a2 * 2 ^ 1) (a3 * 2 ^ 1) 0 N F A P3 ∧
  ∀ F6 A7, P3 F6 A7 →
  Q F6 A7
theorem vJ6_fillNull {G : jG} {l : Launch} {d : Nat} {N : jSh} {F : jFl} {A : jAr} {a1 a2 a3 : Int} {Q : jFl → jAr → Prop} (hd : 4 ≤ d) (hW : jWg G N F A) (ra2 : jR a2) (ra3 : jR a3) (h : wqJ6_fillNull a1 a2 a3 N F A Q) : jCall G l d mJ6_fillNull [vR a1, vI a2, vI a3] N F A (cmV G N Q) := by
  unfold wqJ6_fillNull at h
  refine jCall.of (by decide) rfl (ls := [vR a1, vI a2, vI a3]) (by simp only [jent_R, jent_I, jent_L, jent_nil]; exact Nat.le_of_ble_eq_true rfl) (by simp only [jloc, jent_R, jent_I, jent_L, jent_nil]; rfl) ?_
  refine r_aload_n dJ6_fillNull_0 rfl ?_
  refine j_iload_n dJ6_fillNull_1 rfl ?_
  refine j_iconst dJ6_fillNull_2 ?_
  refine j_ishl dJ6_fillNull_3 (by decide) ?_
  refine j_iload_n dJ6_fillNull_4 rfl ?_
  refine j_iconst dJ6_fillNull_5 ?_
  refine j_ishl dJ6_fillNull_6 (by decide) ?_
  refine j_iconst dJ6_fillNull_7 ?_
  obtain ⟨r1, h⟩ := h
  obtain ⟨r2, h⟩ := h
  obtain ⟨P3, hp4, h⟩ := h
  refine r_invS (As := [vR a1, vI (a2 * 2 ^ 1), vI (a3 * 2 ^ 1), vI 0]) (rest := []) dJ6_fillNull_8 lkJ6_380 (vJ14_fill (d := 3) (Nat.le_of_ble_eq_true rfl) hW r1 r2 (by decide) hp4) rfl rfl (Nat.le_of_ble_eq_true rfl) (Nat.le_trans (Nat.le_of_ble_eq_true rfl) hd) (ckmV fun F6 A7 hW8 p10 => ?_)
  have h := h F6 A7 p10
  exact j_vret dJ6_fillNull_11 rfl ⟨rfl, rfl, hW8, h⟩
/-- java/lang/StringUTF16.toBytes([CII)[B -/
def wqJ6_toBytes (S : Nat → Nat) (a1 : Int) (a2 : Int) (a3 : Int) (N : jSh) (F : jFl) (A : jAr) (Q : Int → jSh → jFl → jAr → Prop) : Prop :=
  ∃ (P1 : Int → jSh → jFl → jAr → Prop), wqJ6_newBytesFor S a3 N F A P1 ∧
  ∀ z3 N6 F4 A5, P1 z3 N6 F4 A5 →
  ∃ (I17 : Int → Int → jFl → jAr → Prop) (m18 : Int → Int → jFl → jAr → Nat), I17 a2 0 F4 A5 ∧ ∀ (v11 : Int) (v12 : Int) (F13 : jFl) (A14 : jAr), I17 v11 v12 F13 A14 →
    ((a3 ≤ v12) →
      Q z3 N6 F13 A14) ∧
    ((¬ (a3 ≤ v12)) →
      ∃ b20 : Nat, a1 = (b20 : Int) ∧
      jtg N6 b20 = 111 ∧
      ((0 : Int) ≤ v11 ∧ (v11 : Int) < (jln N6 b20 : Int)) ∧
      ∃ (P24 : jFl → jAr → Prop), wqJ6_putChar S z3 v12 (A14 b20 v11) N6 F13 A14 P24 ∧
      ∀ F27 A28, P24 F27 A28 →
      jR (v11 + 1) ∧
      jR (v12 + 1) ∧
      I17 (v11 + 1) (v12 + 1) F27 A28 ∧ m18 (v11 + 1) (v12 + 1) F27 A28 < m18 v11 v12 F13 A14)
theorem vJ6_toBytes {G : jG} {l : Launch} {d : Nat} {N : jSh} {F : jFl} {A : jAr} {a1 a2 a3 : Int} {Q : Int → jSh → jFl → jAr → Prop} (hd : 4 ≤ d) (hW : jWg G N F A) (ra2 : jR a2) (ra3 : jR a3) (h : wqJ6_toBytes (gS G) a1 a2 a3 N F A Q) : jCall G l d mJ6_toBytes [vR a1, vI a2, vI a3] N F A (cnR G N Q) := by
  unfold wqJ6_toBytes at h
  refine jCall.of (by decide) rfl (ls := [vR a1, vI a2, vI a3, jD, jD]) (by simp only [jent_R, jent_I, jent_L, jent_nil]; exact Nat.le_of_ble_eq_true rfl) (by simp only [jloc, jent_R, jent_I, jent_L, jent_nil]; rfl) ?_
  refine j_iload_n dJ6_toBytes_0 rfl ?_
  obtain ⟨P1, hp2, h⟩ := h
  refine r_invS (As := [vI a3]) (rest := []) dJ6_toBytes_1 lkJ6_107 (vJ6_newBytesFor (d := 3) (Nat.le_of_ble_eq_true rfl) hW ra3 hp2) rfl rfl (Nat.le_of_ble_eq_true rfl) (Nat.le_trans (Nat.le_of_ble_eq_true rfl) hd) (cknR fun z3 N6 F4 A5 hW7 hT8 p9 r10 => ?_)
  have h := h z3 N6 F4 A5 p9
  refine r_astore_n dJ6_toBytes_4 rfl ?_
  refine j_iconst dJ6_toBytes_5 ?_
  refine j_istore dJ6_toBytes_6 (jokR rfl (Nat.le_of_ble_eq_true rfl)) ?_
  obtain ⟨I17, m18, h0, hs⟩ := h
  have lp : ∀ (n : Nat) (v11 : Int) (v12 : Int) (F13 : jFl) (A14 : jAr), m18 v11 v12 F13 A14 < n → jWg G N6 F13 A14 → jR v11 → jR v12 → I17 v11 v12 F13 A14 → J G l d mJ6_toBytes 8 [vR a1, vI v11, vI a3, vR z3, vI v12] [] N6 F13 A14 (cnR G N Q) := by
    intro nI17
    induction nI17 with
    | zero =>
      intro v11 v12 F13 A14 hmu
      exact absurd hmu (Nat.not_lt_zero _)
    | succ nI17 ihI17 =>
      intro v11 v12 F13 A14 hmuI17 hW15 rv11 rv12 hI
      have h := hs v11 v12 F13 A14 hI
      refine j_iload dJ6_toBytes_8 rfl ?_
      refine j_iload_n dJ6_toBytes_10 rfl ?_
      obtain ⟨h1, h2⟩ := h
      refine j_icmp_ge 32 dJ6_toBytes_11 rfl rv12 ra3 (fun q19 => ?_) (fun q19 => ?_)
      · have h := h1 q19
        clear h1 h2
        refine r_aload_n dJ6_toBytes_32 rfl ?_
        exact r_aret dJ6_toBytes_33 rfl (Or.inr ⟨_, rfl⟩) ⟨_, rfl, hW15, hT8, h, trivial⟩
      · have h := h2 q19
        clear h1 h2
        refine r_aload_n dJ6_toBytes_14 rfl ?_
        refine j_iload dJ6_toBytes_15 rfl ?_
        refine r_aload_n dJ6_toBytes_17 rfl ?_
        refine j_iload_n dJ6_toBytes_18 rfl ?_
        obtain ⟨b20, hz21, h⟩ := h
        obtain ⟨t22, h⟩ := h
        obtain ⟨c23, h⟩ := h
        refine r_cald dJ6_toBytes_19 hz21 t22 c23 ?_
        obtain ⟨P24, hp25, h⟩ := h
        refine r_invS (As := [vR z3, vI v12, vI (A14 b20 v11)]) (rest := []) dJ6_toBytes_20 lkJ6_111 (vJ6_putChar (d := 3) (Nat.le_of_ble_eq_true rfl) hW15 rv12 (hW15.ai t22 rfl) hp25) rfl rfl (Nat.le_of_ble_eq_true rfl) (Nat.le_trans (Nat.le_of_ble_eq_true rfl) hd) (ckmV fun F27 A28 hW29 p31 => ?_)
        have h := h F27 A28 p31
        obtain ⟨r33, h⟩ := h
        refine j_iinc dJ6_toBytes_23 rfl (jokR rfl (Nat.le_of_ble_eq_true rfl)) ?_
        obtain ⟨r34, h⟩ := h
        refine j_iinc dJ6_toBytes_26 rfl (jokR rfl (Nat.le_of_ble_eq_true rfl)) ?_
        refine j_goto 8 dJ6_toBytes_29 rfl ?_
        exact J.wk ((((((jWk.nil).eq).eq).eq).eq).eq) (ihI17 _ _ _ _ (Nat.lt_of_lt_of_le h.2 (Nat.le_of_lt_succ hmuI17)) hW29 r33 r34 h.1)
  exact J.wk ((((((jWk.nil).eq).eq).eq).eq).eq) (lp _ _ _ _ _ (Nat.lt_succ_self _) hW7 ra2 (by decide) h0)
/-- ChildSays.end(I)Z -/
def wqX0_end (o : Nat) (a1 : Int) (N : jSh) (F : jFl) (A : jAr) (Q : Int → jFl → jAr → Prop) : Prop :=
  ((a1 < 0) →
    ∃ (P2 : Int → jFl → jAr → Prop), wqX0_refuses o 0 N F A P2 ∧
    ∀ z4 F5 A6, P2 z4 F5 A6 →
    Q z4 F5 A6) ∧
  ((¬ (a1 < 0)) →
    ((a1 ≤ (F 303 o)) →
      jfn N 0 o = 1 ∧
      ∀ F14 : jFl, F14 = upF F 303 o a1 →
      Q 1 F14 A) ∧
    ((¬ (a1 ≤ (F 303 o))) →
      ∃ (P15 : Int → jFl → jAr → Prop), wqX0_refuses o 0 N F A P15 ∧
      ∀ z17 F18 A19, P15 z17 F18 A19 →
      Q z17 F18 A19))
theorem vX0_end {G : jG} {l : Launch} {d : Nat} {N : jSh} {F : jFl} {A : jAr} {o : Nat} {a1 : Int} {Q : Int → jFl → jAr → Prop} (hd : 4 ≤ d) (hW : jWg G N F A) (ht : jtg N o = 1) (ra1 : jR a1) (h : wqX0_end o a1 N F A Q) : jCall G l d mX0_end [vR (o : Int), vI a1] N F A (cmB G N Q) := by
  unfold wqX0_end at h
  refine jCall.of (by decide) rfl (ls := [vR (o : Int), vI a1]) (by simp only [jent_R, jent_I, jent_L, jent_nil]; exact Nat.le_of_ble_eq_true rfl) (by simp only [jloc, jent_R, jent_I, jent_L, jent_nil]; rfl) ?_
  refine j_iload_n dX0_end_0 rfl ?_
  obtain ⟨h1, h2⟩ := h
  refine j_if_lt 12 dX0_end_1 rfl ra1 (fun q1 => ?_) (fun q1 => ?_)
  · have h := h1 q1
    clear h1 h2
    refine r_aload_n dX0_end_12 rfl ?_
    refine j_iconst dX0_end_13 ?_
    obtain ⟨P2, hp3, h⟩ := h
    refine r_invV (ci := 1) (As := [vI 0]) (rest := []) dX0_end_14 lkX0_118 rfl ht rfl rfl (vX0_refuses (d := 3) (Nat.le_of_ble_eq_true rfl) hW ht (by decide) hp3) rfl rfl (Nat.le_of_ble_eq_true rfl) (Nat.le_trans (Nat.le_of_ble_eq_true rfl) hd) (ckmB fun z4 F5 A6 hW7 p9 r10 => ?_)
    have h := h z4 F5 A6 p9
    exact j_zret dX0_end_17 rfl (nr_bool r10) ⟨_, rfl, rfl, hW7, h, r10⟩
  · have h := h2 q1
    clear h1 h2
    refine j_iload_n dX0_end_4 rfl ?_
    refine r_aload_n dX0_end_5 rfl ?_
    refine r_gI dX0_end_6 flX0_111_1 rfl ht rfl ?_
    obtain ⟨h1, h2⟩ := h
    refine j_icmp_le 18 dX0_end_9 rfl ra1 (hW.fi rfl) (fun q11 => ?_) (fun q11 => ?_)
    · have h := h1 q11
      clear h1 h2
      refine r_aload_n dX0_end_18 rfl ?_
      refine j_iload_n dX0_end_19 rfl ?_
      obtain ⟨w12, h⟩ := h
      refine c_pI hW dX0_end_20 flX0_111_1 rfl ht w12 rfl ra1 fun F14 eF14 hW13 => ?_
      have h := h F14 eF14
      refine j_iconst dX0_end_23 ?_
      exact j_zret dX0_end_24 rfl (nr_bool (by decide)) ⟨_, rfl, rfl, hW13, h, (by decide)⟩
    · have h := h2 q11
      clear h1 h2
      refine r_aload_n dX0_end_12 rfl ?_
      refine j_iconst dX0_end_13 ?_
      obtain ⟨P15, hp16, h⟩ := h
      refine r_invV (ci := 1) (As := [vI 0]) (rest := []) dX0_end_14 lkX0_118 rfl ht rfl rfl (vX0_refuses (d := 3) (Nat.le_of_ble_eq_true rfl) hW ht (by decide) hp16) rfl rfl (Nat.le_of_ble_eq_true rfl) (Nat.le_trans (Nat.le_of_ble_eq_true rfl) hd) (ckmB fun z17 F18 A19 hW20 p22 r23 => ?_)
      have h := h z17 F18 A19 p22
      exact j_zret dX0_end_17 rfl (nr_bool r23) ⟨_, rfl, rfl, hW20, h, r23⟩
/-- ChildSays.isOwn(Ljava/lang/String;)Z -/
def wqX0_isOwn (S : Nat → Nat) (a1 : Int) (N : jSh) (F : jFl) (A : jAr) (Q : Int → Prop) : Prop :=
  ∃ (I3 : Int → Prop) (m4 : Int → Nat), I3 0 ∧ ∀ (v1 : Int), I3 v1 →
    jtg N (S 0) = 119 ∧
    jR (jln N (S 0) : Int) ∧
    (((jln N (S 0) : Int) ≤ v1) →
      Q 0) ∧
    ((¬ ((jln N (S 0) : Int) ≤ v1)) →
      ((0 : Int) ≤ v1 ∧ (v1 : Int) < (jln N (S 0) : Int)) ∧
      ∃ b9 : Nat, A (S 0) v1 = (b9 : Int) ∧
      jtg N b9 = 22 ∧
      ∃ (P12 : Int → Prop), wqJ5_equals S b9 a1 N F A P12 ∧
      ∀ z14, P12 z14 →
      ((z14 = 0) →
        jR (v1 + 1) ∧
        I3 (v1 + 1) ∧ m4 (v1 + 1) < m4 v1) ∧
      ((¬ (z14 = 0)) →
        Q 1))
theorem vX0_isOwn {G : jG} {l : Launch} {d : Nat} {N : jSh} {F : jFl} {A : jAr} {a1 : Int} {Q : Int → Prop} (hd : 4 ≤ d) (hW : jWg G N F A) (h : wqX0_isOwn (gS G) a1 N F A Q) : jCall G l d mX0_isOwn [vR a1] N F A (jpB N F A Q) := by
  unfold wqX0_isOwn at h
  refine jCall.of (by decide) rfl (ls := [vR a1, jD]) (by simp only [jent_R, jent_I, jent_L, jent_nil]; exact Nat.le_of_ble_eq_true rfl) (by simp only [jloc, jent_R, jent_I, jent_L, jent_nil]; rfl) ?_
  refine j_iconst dX0_isOwn_0 ?_
  refine j_istore_n dX0_isOwn_1 (jokR rfl (Nat.le_of_ble_eq_true rfl)) ?_
  obtain ⟨I3, m4, h0, hs⟩ := h
  have lp : ∀ (n : Nat) (v1 : Int), m4 v1 < n → jR v1 → I3 v1 → J G l d mX0_isOwn 2 [vR a1, vI v1] [] N F A (jpB N F A Q) := by
    intro nI3
    induction nI3 with
    | zero =>
      intro v1 hmu
      exact absurd hmu (Nat.not_lt_zero _)
    | succ nI3 ihI3 =>
      intro v1 hmuI3 rv1 hI
      have h := hs v1 hI
      refine j_iload_n dX0_isOwn_2 rfl ?_
      refine r_gets (q := ("ChildSays", "OWN", "[Ljava/lang/String;", 0)) (v := vR (gS G 0 : Int)) dX0_isOwn_3 (List.mem_of_elem_eq_true (by decide +kernel)) q887 (vR_nat _).symm ?_
      obtain ⟨t5, h⟩ := h
      refine r_alen dX0_isOwn_6 rfl t5 rfl ?_
      obtain ⟨r6, h⟩ := h
      obtain ⟨h1, h2⟩ := h
      refine j_icmp_ge 30 dX0_isOwn_7 rfl rv1 r6 (fun q7 => ?_) (fun q7 => ?_)
      · have h := h1 q7
        clear h1 h2
        refine j_iconst dX0_isOwn_30 ?_
        exact j_zret dX0_isOwn_31 rfl (nr_bool (by decide)) ⟨_, rfl, rfl, rfl, rfl, h, (by decide)⟩
      · have h := h2 q7
        clear h1 h2
        refine r_gets (q := ("ChildSays", "OWN", "[Ljava/lang/String;", 0)) (v := vR (gS G 0 : Int)) dX0_isOwn_10 (List.mem_of_elem_eq_true (by decide +kernel)) q887 (vR_nat _).symm ?_
        refine j_iload_n dX0_isOwn_13 rfl ?_
        obtain ⟨c8, h⟩ := h
        refine r_aald dX0_isOwn_14 rfl t5 rfl rfl c8 ?_
        refine r_aload_n dX0_isOwn_15 rfl ?_
        obtain ⟨b9, hz10, h⟩ := h
        obtain ⟨t11, h⟩ := h
        obtain ⟨P12, hp13, h⟩ := h
        refine r_invV (ci := 22) (As := [vR a1]) (rest := []) dX0_isOwn_16 lkX0_101 hz10 t11 rfl rfl (vJ5_equals (d := 3) (Nat.le_of_ble_eq_true rfl) hW t11  hp13) rfl rfl (Nat.le_of_ble_eq_true rfl) (Nat.le_trans (Nat.le_of_ble_eq_true rfl) hd) (jkpB fun z14 p17 r18 => ?_)
        have h := h z14 p17
        obtain ⟨h1, h2⟩ := h
        refine j_if_eq 24 dX0_isOwn_19 rfl (jR_b r18) (fun q19 => ?_) (fun q19 => ?_)
        · have h := h1 q19
          clear h1 h2
          obtain ⟨r20, h⟩ := h
          refine j_iinc dX0_isOwn_24 rfl (jokR rfl (Nat.le_of_ble_eq_true rfl)) ?_
          refine j_goto 2 dX0_isOwn_27 rfl ?_
          exact J.wk (((jWk.nil).eq).eq) (ihI3 _ (Nat.lt_of_lt_of_le h.2 (Nat.le_of_lt_succ hmuI3)) r20 h.1)
        · have h := h2 q19
          clear h1 h2
          refine j_iconst dX0_isOwn_22 ?_
          exact j_zret dX0_isOwn_23 rfl (nr_bool (by decide)) ⟨_, rfl, rfl, rfl, rfl, h, (by decide)⟩
  exact J.wk (((jWk.nil).eq).eq) (lp _ _ (Nat.lt_succ_self _) (by decide) h0)
/-- ChildSays.lambda$against$1(LChildSays$Row;LChildSays$Row;)Z -/
def wqX0_lambda_against_1 (a1 : Int) (a2 : Int) (N : jSh) (F : jFl) (A : jAr) (Q : Int → Prop) : Prop :=
  ∃ b1 : Nat, a1 = (b1 : Int) ∧
  jtg N b1 = 4 ∧
  ∃ (P4 : Int → Prop), wqX3_isAgainst b1 a2 N F A P4 ∧
  ∀ z6, P4 z6 →
  Q z6
theorem vX0_lambda_against_1 {G : jG} {l : Launch} {d : Nat} {N : jSh} {F : jFl} {A : jAr} {a1 a2 : Int} {Q : Int → Prop} (hd : 4 ≤ d) (hW : jWg G N F A) (h : wqX0_lambda_against_1 a1 a2 N F A Q) : jCall G l d mX0_lambda_against_1 [vR a1, vR a2] N F A (jpB N F A Q) := by
  unfold wqX0_lambda_against_1 at h
  refine jCall.of (by decide) rfl (ls := [vR a1, vR a2]) (by simp only [jent_R, jent_I, jent_L, jent_nil]; exact Nat.le_of_ble_eq_true rfl) (by simp only [jloc, jent_R, jent_I, jent_L, jent_nil]; rfl) ?_
  refine r_aload_n dX0_lambda_against_1_0 rfl ?_
  refine r_aload_n dX0_lambda_against_1_1 rfl ?_
  obtain ⟨b1, hz2, h⟩ := h
  obtain ⟨t3, h⟩ := h
  obtain ⟨P4, hp5, h⟩ := h
  refine r_invV (ci := 4) (As := [vR a2]) (rest := []) dX0_lambda_against_1_2 lkX0_546 hz2 t3 rfl rfl (vX3_isAgainst (d := 3) (Nat.le_of_ble_eq_true rfl) hW t3  hp5) rfl rfl (Nat.le_of_ble_eq_true rfl) (Nat.le_trans (Nat.le_of_ble_eq_true rfl) hd) (jkpB fun z6 p9 r10 => ?_)
  have h := h z6 p9
  exact j_zret dX0_lambda_against_1_5 rfl (nr_bool r10) ⟨_, rfl, rfl, rfl, rfl, h, r10⟩
/-- ChildSays.seed(I)Z -/
def wqX0_seed (o : Nat) (a1 : Int) (N : jSh) (F : jFl) (A : jAr) (Q : Int → jFl → jAr → Prop) : Prop :=
  ((0 ≤ a1) →
    jfn N 0 o = 1 ∧
    ∀ F4 : jFl, F4 = upF F 319 o a1 →
    Q 1 F4 A) ∧
  ((¬ (0 ≤ a1)) →
    ∃ (P5 : Int → jFl → jAr → Prop), wqX0_refuses o 5 N F A P5 ∧
    ∀ z7 F8 A9, P5 z7 F8 A9 →
    Q z7 F8 A9)
theorem vX0_seed {G : jG} {l : Launch} {d : Nat} {N : jSh} {F : jFl} {A : jAr} {o : Nat} {a1 : Int} {Q : Int → jFl → jAr → Prop} (hd : 4 ≤ d) (hW : jWg G N F A) (ht : jtg N o = 1) (ra1 : jR a1) (h : wqX0_seed o a1 N F A Q) : jCall G l d mX0_seed [vR (o : Int), vI a1] N F A (cmB G N Q) := by
  unfold wqX0_seed at h
  refine jCall.of (by decide) rfl (ls := [vR (o : Int), vI a1]) (by simp only [jent_R, jent_I, jent_L, jent_nil]; exact Nat.le_of_ble_eq_true rfl) (by simp only [jloc, jent_R, jent_I, jent_L, jent_nil]; rfl) ?_
  refine j_iload_n dX0_seed_0 rfl ?_
  obtain ⟨h1, h2⟩ := h
  refine j_if_ge 10 dX0_seed_1 rfl ra1 (fun q1 => ?_) (fun q1 => ?_)
  · have h := h1 q1
    clear h1 h2
    refine r_aload_n dX0_seed_10 rfl ?_
    refine j_iload_n dX0_seed_11 rfl ?_
    refine j_i2l dX0_seed_12 ra1 ?_
    obtain ⟨w2, h⟩ := h
    refine c_pJ hW dX0_seed_13 flX0_28_1 rfl ht w2 rfl (jR_L ra1) fun F4 eF4 hW3 => ?_
    have h := h F4 eF4
    refine j_iconst dX0_seed_16 ?_
    exact j_zret dX0_seed_17 rfl (nr_bool (by decide)) ⟨_, rfl, rfl, hW3, h, (by decide)⟩
  · have h := h2 q1
    clear h1 h2
    refine r_aload_n dX0_seed_4 rfl ?_
    refine j_iconst dX0_seed_5 ?_
    obtain ⟨P5, hp6, h⟩ := h
    refine r_invV (ci := 1) (As := [vI 5]) (rest := []) dX0_seed_6 lkX0_118 rfl ht rfl rfl (vX0_refuses (d := 3) (Nat.le_of_ble_eq_true rfl) hW ht (by decide) hp6) rfl rfl (Nat.le_of_ble_eq_true rfl) (Nat.le_trans (Nat.le_of_ble_eq_true rfl) hd) (ckmB fun z7 F8 A9 hW10 p12 r13 => ?_)
    have h := h z7 F8 A9 p12
    exact j_zret dX0_seed_9 rfl (nr_bool r13) ⟨_, rfl, rfl, hW10, h, r13⟩
/-- ChildSays$Saying.of(LChildSays$Child;LChildSays$Row;ZI)LChildSays$Saying; -/
def wqX2_of_2 (o : Nat) (a1 : Int) (a2 : Int) (a3 : Int) (a4 : Int) (N : jSh) (F : jFl) (A : jAr) (Q : Int → jFl → jAr → Prop) : Prop :=
  ∃ b1 : Nat, jfn N 902 o = (b1 : Int) ∧
  jtg N b1 = 4 ∧
  ∃ (P4 : Int → jFl → jAr → Prop), wqX3_empty b1 N F A P4 ∧
  ∀ z6 F7 A8, P4 z6 F7 A8 →
  jfn N 0 o = 1 ∧
  ∀ F15 : jFl, F15 = upF F7 911 o (-1) →
  ∃ K19 : Int → Prop, (
    ∀ (v17 : Int), K19 v17 →
    ∀ F23 : jFl, F23 = upF F15 906 o v17 →
    ∃ b24 : Nat, a2 = (b24 : Int) ∧
    jtg N b24 = 4 ∧
    ∃ (P27 : Int → jFl → jAr → Prop), wqX2_says o a1 a2 0 (F23 1203 b24) N F23 A8 P27 ∧
    ∀ z29 F30 A31, P27 z29 F30 A31 →
    ((¬ z29 = 0) →
      jfn N 0 b1 = 1 ∧
      ∀ F39 : jFl, F39 = upF F30 1203 b1 (F30 1203 b24) →
      ((¬ (F39 1206 b24) = 0) →
        jR ((F39 906 o) - 1) ∧
        ∀ F43 : jFl, F43 = upF F39 906 o ((F39 906 o) - 1) →
        ∃ (P44 : Int → Prop), wqX3_size b24 N F43 A31 P44 ∧
        ∀ z46, P44 z46 →
        ∃ (P51 : Int → jFl → jAr → Prop), wqX2_says o a1 a2 (F43 1203 b24) z46 N F43 A31 P51 ∧
        ∀ z53 F54 A55, P51 z53 F54 A55 →
        ((¬ z53 = 0) →
          ∀ F62 : jFl, F62 = upF F54 1206 b1 (F54 1206 b24) →
          ∃ (P63 : Int → Prop), wqX3_isLike b1 a2 N F62 A55 P63 ∧
          ∀ z65, P63 z65 →
          ∀ z71 : Int, z71 = (if z65 = 0 then (1 : Int) else 0) →
          ∃ (P73 : Int → jFl → jAr → Prop), wqX2_is o z71 N F62 A55 P73 ∧
          ∀ z75 F76 A77, P73 z75 F76 A77 →
          Q z75 F76 A77) ∧
        ((z53 = 0) →
          ∃ (P82 : Int → jFl → jAr → Prop), wqX2_is o 2 N F54 A55 P82 ∧
          ∀ z84 F85 A86, P82 z84 F85 A86 →
          Q z84 F85 A86)) ∧
      (((F39 1206 b24) = 0) →
        ∃ (P91 : Int → Prop), wqX3_isLike b1 a2 N F39 A31 P91 ∧
        ∀ z93, P91 z93 →
        ∀ z99 : Int, z99 = (if z93 = 0 then (1 : Int) else 0) →
        ∃ (P101 : Int → jFl → jAr → Prop), wqX2_is o z99 N F39 A31 P101 ∧
        ∀ z103 F104 A105, P101 z103 F104 A105 →
        Q z103 F104 A105)) ∧
    ((z29 = 0) →
      ∃ (P110 : Int → jFl → jAr → Prop), wqX2_is o 3 N F30 A31 P110 ∧
      ∀ z112 F113 A114, P110 z112 F113 A114 →
      Q z112 F113 A114)) ∧
  ((a3 = 0) →
    K19 a4) ∧
  ((¬ (a3 = 0)) →
    ∃ b119 : Nat, jfn N 914 o = (b119 : Int) ∧
    jtg N b119 = 1 ∧
    ∃ b122 : Nat, F15 311 b119 = (b122 : Int) ∧
    jtg N b122 = 2 ∧
    jR (a4 + (F15 609 b122)) ∧
    K19 (a4 + (F15 609 b122)))
theorem vX2_of_2 {G : jG} {l : Launch} {d : Nat} {N : jSh} {F : jFl} {A : jAr} {o : Nat} {a1 a2 a3 a4 : Int} {Q : Int → jFl → jAr → Prop} (hd : 4 ≤ d) (hW : jWg G N F A) (ht : jtg N o = 3) (ba3 : a3 = 0 ∨ a3 = 1) (ra4 : jR a4) (h : wqX2_of_2 o a1 a2 a3 a4 N F A Q) : jCall G l d mX2_of_2 [vR (o : Int), vR a1, vR a2, vI a3, vI a4] N F A (cmR G N Q) := by
  unfold wqX2_of_2 at h
  refine jCall.of (by decide) rfl (ls := [vR (o : Int), vR a1, vR a2, vI a3, vI a4]) (by simp only [jent_R, jent_I, jent_L, jent_nil]; exact Nat.le_of_ble_eq_true rfl) (by simp only [jloc, jent_R, jent_I, jent_L, jent_nil]; rfl) ?_
  refine r_aload_n dX2_of_2_0 rfl ?_
  refine r_gRF dX2_of_2_1 flX2_18_3 rfl ht rfl ?_
  obtain ⟨b1, hz2, h⟩ := h
  obtain ⟨t3, h⟩ := h
  obtain ⟨P4, hp5, h⟩ := h
  refine r_invV (ci := 4) (As := []) (rest := []) dX2_of_2_4 lkX2_48 hz2 t3 rfl rfl (vX3_empty (d := 2) (Nat.le_of_ble_eq_true rfl) hW t3  hp5) rfl rfl (Nat.le_of_ble_eq_true rfl) (Nat.le_trans (Nat.le_of_ble_eq_true rfl) hd) (ckmR fun z6 F7 A8 hW9 p11 r12 => ?_)
  have h := h z6 F7 A8 p11
  refine j_pop dX2_of_2_7 (vR_cat _) ?_
  refine r_aload_n dX2_of_2_8 rfl ?_
  refine r_null dX2_of_2_9 ?_
  obtain ⟨w13, h⟩ := h
  refine c_pR hW9 dX2_of_2_10 flX2_40_3 rfl ht w13 rfl (ty := .object "ChildSays$Word") (by decide +kernel) (Or.inl ⟨_, rfl⟩) fun F15 eF15 hW14 => ?_
  have h := h F15 eF15
  refine r_aload_n dX2_of_2_13 rfl ?_
  refine j_iload_n dX2_of_2_14 rfl ?_
  obtain ⟨K19, hK21, h⟩ := h
  have jn20 : ∀ (v17 : Int), jR v17 → K19 v17 → J G l d mX2_of_2 36 [vR (o : Int), vR a1, vR a2, jD, jD] [vI v17, vR (o : Int)] N F15 A8 (cmR G N Q) := by
    intro v17 rv17 h
    have h := hK21 v17 h
    refine c_pI hW14 dX2_of_2_36 flX2_37_3 rfl ht w13 rfl rv17 fun F23 eF23 hW22 => ?_
    have h := h F23 eF23
    refine r_aload_n dX2_of_2_39 rfl ?_
    refine r_aload_n dX2_of_2_40 rfl ?_
    refine r_aload_n dX2_of_2_41 rfl ?_
    refine j_iconst dX2_of_2_42 ?_
    refine r_aload_n dX2_of_2_43 rfl ?_
    obtain ⟨b24, hz25, h⟩ := h
    obtain ⟨t26, h⟩ := h
    refine r_gI dX2_of_2_44 flX2_61_4 hz25 t26 rfl ?_
    obtain ⟨P27, hp28, h⟩ := h
    refine r_invV (ci := 3) (As := [vR a1, vR a2, vI 0, vI (F23 1203 b24)]) (rest := []) dX2_of_2_47 lkX2_64 rfl ht rfl rfl (vX2_says (d := 3) (Nat.le_of_ble_eq_true rfl) hW22 ht (by decide) (hW22.fi rfl) hp28) rfl rfl (Nat.le_of_ble_eq_true rfl) (Nat.le_trans (Nat.le_of_ble_eq_true rfl) hd) (ckmB fun z29 F30 A31 hW32 p34 r35 => ?_)
    have h := h z29 F30 A31 p34
    obtain ⟨h1, h2⟩ := h
    refine j_if_ne 59 dX2_of_2_50 rfl (jR_b r35) (fun q36 => ?_) (fun q36 => ?_)
    · have h := h1 q36
      clear h1 h2
      refine r_aload_n dX2_of_2_59 rfl ?_
      refine r_gRF dX2_of_2_60 flX2_18_3 rfl ht rfl ?_
      refine r_aload_n dX2_of_2_63 rfl ?_
      refine r_gI dX2_of_2_64 flX2_61_4 hz25 t26 rfl ?_
      obtain ⟨w37, h⟩ := h
      refine c_pI hW32 dX2_of_2_67 flX2_61_4 hz2 t3 w37 rfl (hW32.fi rfl) fun F39 eF39 hW38 => ?_
      have h := h F39 eF39
      refine r_aload_n dX2_of_2_70 rfl ?_
      refine r_gI dX2_of_2_71 flX2_71_4 hz25 t26 rfl ?_
      obtain ⟨h1, h2⟩ := h
      refine j_if_ne 98 dX2_of_2_74 rfl (hW38.fi rfl) (fun q40 => ?_) (fun q40 => ?_)
      · have h := h1 q40
        clear h1 h2
        refine r_aload_n dX2_of_2_98 rfl ?_
        refine j_dup dX2_of_2_99 (vR_cat _) ?_
        refine r_gI dX2_of_2_100 flX2_37_3 rfl ht rfl ?_
        refine j_iconst dX2_of_2_103 ?_
        refine j_isub dX2_of_2_104 ?_
        obtain ⟨r41, h⟩ := h
        refine c_pI hW38 dX2_of_2_105 flX2_37_3 rfl ht w13 rfl r41 fun F43 eF43 hW42 => ?_
        have h := h F43 eF43
        refine r_aload_n dX2_of_2_108 rfl ?_
        refine r_aload_n dX2_of_2_109 rfl ?_
        refine r_aload_n dX2_of_2_110 rfl ?_
        refine r_aload_n dX2_of_2_111 rfl ?_
        refine r_gI dX2_of_2_112 flX2_61_4 hz25 t26 rfl ?_
        refine r_aload_n dX2_of_2_115 rfl ?_
        obtain ⟨P44, hp45, h⟩ := h
        refine r_invV (ci := 4) (As := []) (rest := [vI (F43 1203 b24), vR a2, vR a1, vR (o : Int)]) dX2_of_2_116 lkX2_78 hz25 t26 rfl rfl (vX3_size (d := 2) (Nat.le_of_ble_eq_true rfl) hW42 t26  hp45) rfl rfl (Nat.le_of_ble_eq_true rfl) (Nat.le_trans (Nat.le_of_ble_eq_true rfl) hd) (jkpI fun z46 p49 r50 => ?_)
        have h := h z46 p49
        obtain ⟨P51, hp52, h⟩ := h
        refine r_invV (ci := 3) (As := [vR a1, vR a2, vI (F43 1203 b24), vI z46]) (rest := []) dX2_of_2_119 lkX2_64 rfl ht rfl rfl (vX2_says (d := 3) (Nat.le_of_ble_eq_true rfl) hW42 ht (hW42.fi rfl) r50 hp52) rfl rfl (Nat.le_of_ble_eq_true rfl) (Nat.le_trans (Nat.le_of_ble_eq_true rfl) hd) (ckmB fun z53 F54 A55 hW56 p58 r59 => ?_)
        have h := h z53 F54 A55 p58
        obtain ⟨h1, h2⟩ := h
        refine j_if_ne 131 dX2_of_2_122 rfl (jR_b r59) (fun q60 => ?_) (fun q60 => ?_)
        · have h := h1 q60
          clear h1 h2
          refine r_aload_n dX2_of_2_131 rfl ?_
          refine r_gRF dX2_of_2_132 flX2_18_3 rfl ht rfl ?_
          refine r_aload_n dX2_of_2_135 rfl ?_
          refine r_gI dX2_of_2_136 flX2_71_4 hz25 t26 rfl ?_
          refine c_pI hW56 dX2_of_2_139 flX2_71_4 hz2 t3 w37 rfl (hW56.fi rfl) fun F62 eF62 hW61 => ?_
          have h := h F62 eF62
          refine r_aload_n dX2_of_2_142 rfl ?_
          refine r_aload_n dX2_of_2_143 rfl ?_
          refine r_gRF dX2_of_2_144 flX2_18_3 rfl ht rfl ?_
          refine r_aload_n dX2_of_2_147 rfl ?_
          obtain ⟨P63, hp64, h⟩ := h
          refine r_invV (ci := 4) (As := [vR a2]) (rest := [vR (o : Int)]) dX2_of_2_148 lkX2_74 hz2 t3 rfl rfl (vX3_isLike (d := 3) (Nat.le_of_ble_eq_true rfl) hW61 t3  hp64) rfl rfl (Nat.le_of_ble_eq_true rfl) (Nat.le_trans (Nat.le_of_ble_eq_true rfl) hd) (jkpB fun z65 p68 r69 => ?_)
          have h := h z65 p68
          have jn72 : ∀ z71 : Int, z71 = (if z65 = 0 then (1 : Int) else 0) → J G l d mX2_of_2 159 [vR (o : Int), vR a1, vR a2, jD, jD] [vI z71, vR (o : Int)] N F62 A55 (cmR G N Q) := by
            intro z71 ez71
            have h := h z71 ez71
            obtain ⟨P73, hp74, h⟩ := h
            refine r_invV (ci := 3) (As := [vI z71]) (rest := []) dX2_of_2_159 lkX2_67 rfl ht rfl rfl (vX2_is (d := 2) (Nat.le_of_ble_eq_true rfl) hW61 ht (ez71 ▸ jR_ite (by decide) (by decide)) hp74) rfl rfl (Nat.le_of_ble_eq_true rfl) (Nat.le_trans (Nat.le_of_ble_eq_true rfl) hd) (ckmR fun z75 F76 A77 hW78 p80 r81 => ?_)
            have h := h z75 F76 A77 p80
            exact r_aret dX2_of_2_162 rfl (Or.inl ⟨_, rfl⟩) ⟨_, rfl, rfl, hW78, h, trivial⟩
          clear h
          refine j_if_eq 158 dX2_of_2_151 rfl (jR_b r69) (fun q70 => ?_) (fun q70 => ?_)
          · refine j_iconst dX2_of_2_158 ?_
            exact jn72 _ (if_pos q70).symm
          · refine j_iconst dX2_of_2_154 ?_
            refine j_goto 159 dX2_of_2_155 rfl ?_
            exact jn72 _ (if_neg q70).symm
        · have h := h2 (Classical.not_not.mp q60)
          clear h1 h2
          refine r_aload_n dX2_of_2_125 rfl ?_
          refine j_iconst dX2_of_2_126 ?_
          obtain ⟨P82, hp83, h⟩ := h
          refine r_invV (ci := 3) (As := [vI 2]) (rest := []) dX2_of_2_127 lkX2_67 rfl ht rfl rfl (vX2_is (d := 2) (Nat.le_of_ble_eq_true rfl) hW56 ht (by decide) hp83) rfl rfl (Nat.le_of_ble_eq_true rfl) (Nat.le_trans (Nat.le_of_ble_eq_true rfl) hd) (ckmR fun z84 F85 A86 hW87 p89 r90 => ?_)
          have h := h z84 F85 A86 p89
          exact r_aret dX2_of_2_130 rfl (Or.inl ⟨_, rfl⟩) ⟨_, rfl, rfl, hW87, h, trivial⟩
      · have h := h2 (Classical.not_not.mp q40)
        clear h1 h2
        refine r_aload_n dX2_of_2_77 rfl ?_
        refine r_aload_n dX2_of_2_78 rfl ?_
        refine r_gRF dX2_of_2_79 flX2_18_3 rfl ht rfl ?_
        refine r_aload_n dX2_of_2_82 rfl ?_
        obtain ⟨P91, hp92, h⟩ := h
        refine r_invV (ci := 4) (As := [vR a2]) (rest := [vR (o : Int)]) dX2_of_2_83 lkX2_74 hz2 t3 rfl rfl (vX3_isLike (d := 3) (Nat.le_of_ble_eq_true rfl) hW38 t3  hp92) rfl rfl (Nat.le_of_ble_eq_true rfl) (Nat.le_trans (Nat.le_of_ble_eq_true rfl) hd) (jkpB fun z93 p96 r97 => ?_)
        have h := h z93 p96
        have jn100 : ∀ z99 : Int, z99 = (if z93 = 0 then (1 : Int) else 0) → J G l d mX2_of_2 94 [vR (o : Int), vR a1, vR a2, jD, jD] [vI z99, vR (o : Int)] N F39 A31 (cmR G N Q) := by
          intro z99 ez99
          have h := h z99 ez99
          obtain ⟨P101, hp102, h⟩ := h
          refine r_invV (ci := 3) (As := [vI z99]) (rest := []) dX2_of_2_94 lkX2_67 rfl ht rfl rfl (vX2_is (d := 2) (Nat.le_of_ble_eq_true rfl) hW38 ht (ez99 ▸ jR_ite (by decide) (by decide)) hp102) rfl rfl (Nat.le_of_ble_eq_true rfl) (Nat.le_trans (Nat.le_of_ble_eq_true rfl) hd) (ckmR fun z103 F104 A105 hW106 p108 r109 => ?_)
          have h := h z103 F104 A105 p108
          exact r_aret dX2_of_2_97 rfl (Or.inl ⟨_, rfl⟩) ⟨_, rfl, rfl, hW106, h, trivial⟩
        clear h
        refine j_if_eq 93 dX2_of_2_86 rfl (jR_b r97) (fun q98 => ?_) (fun q98 => ?_)
        · refine j_iconst dX2_of_2_93 ?_
          exact jn100 _ (if_pos q98).symm
        · refine j_iconst dX2_of_2_89 ?_
          refine j_goto 94 dX2_of_2_90 rfl ?_
          exact jn100 _ (if_neg q98).symm
    · have h := h2 (Classical.not_not.mp q36)
      clear h1 h2
      refine r_aload_n dX2_of_2_53 rfl ?_
      refine j_iconst dX2_of_2_54 ?_
      obtain ⟨P110, hp111, h⟩ := h
      refine r_invV (ci := 3) (As := [vI 3]) (rest := []) dX2_of_2_55 lkX2_67 rfl ht rfl rfl (vX2_is (d := 2) (Nat.le_of_ble_eq_true rfl) hW32 ht (by decide) hp111) rfl rfl (Nat.le_of_ble_eq_true rfl) (Nat.le_trans (Nat.le_of_ble_eq_true rfl) hd) (ckmR fun z112 F113 A114 hW115 p117 r118 => ?_)
      have h := h z112 F113 A114 p117
      exact r_aret dX2_of_2_58 rfl (Or.inl ⟨_, rfl⟩) ⟨_, rfl, rfl, hW115, h, trivial⟩
  obtain ⟨h1, h2⟩ := h
  refine j_if_eq 34 dX2_of_2_15 rfl (jR_b ba3) (fun q16 => ?_) (fun q16 => ?_)
  · have h := h1 q16
    clear h1 h2
    refine j_iload dX2_of_2_34 rfl ?_
    exact J.wk ((((((jWk.nil).no).no).eq).eq).eq) (jn20 _ ra4 h)
  · have h := h2 q16
    clear h1 h2
    refine j_iload dX2_of_2_18 rfl ?_
    refine r_aload_n dX2_of_2_20 rfl ?_
    refine r_gRF dX2_of_2_21 flX2_3_3 rfl ht rfl ?_
    obtain ⟨b119, hz120, h⟩ := h
    obtain ⟨t121, h⟩ := h
    refine r_gRN dX2_of_2_24 flX2_52_1 hz120 t121 rfl ?_
    obtain ⟨b122, hz123, h⟩ := h
    obtain ⟨t124, h⟩ := h
    refine r_gI dX2_of_2_27 flX2_56_2 hz123 t124 rfl ?_
    refine j_iadd dX2_of_2_30 ?_
    refine j_goto 36 dX2_of_2_31 rfl ?_
    obtain ⟨r125, h⟩ := h
    exact J.wk ((((((jWk.nil).no).no).eq).eq).eq) (jn20 _ r125 h)
/-- ChildSays$Sitting.<init>(LChildSays;)V -/
def wqX4_init (o : Nat) (a1 : Int) (N : jSh) (F : jFl) (A : jAr) (Q : jSh → jFl → jAr → Prop) : Prop :=
  jfn N 0 o = 1 ∧
  ∀ N3 : jSh, N3 = jpF N 1511 o a1 →
  ∀ (b5 : Nat) (N6 : jSh) (F7 : jFl) (A8 : jAr), b5 = jnx N3 → N6 = jnew N3 110 12 12 1 → F7 = nwF N3 F → A8 = nwA N3 110 A →
  ∀ N16 : jSh, N16 = jpF N6 1502 o (b5 : Int) →
  ∀ (b18 : Nat) (N19 : jSh) (F20 : jFl) (A21 : jAr), b18 = jnx N16 → N19 = jnew N16 113 12 12 1 → F20 = nwF N16 F7 → A21 = nwA N16 113 A8 →
  ∀ N29 : jSh, N29 = jpF N19 1505 o (b18 : Int) →
  ∃ (I37 : Int → jSh → jFl → jAr → Prop) (m38 : Int → jSh → jFl → jAr → Nat), I37 0 N29 F20 A21 ∧ ∀ (v31 : Int) (N32 : jSh) (F33 : jFl) (A34 : jAr), I37 v31 N32 F33 A34 →
    ((12 ≤ v31) →
      Q N32 F33 A34) ∧
    ((¬ (12 ≤ v31)) →
      ∀ (b41 : Nat) (N42 : jSh) (F43 : jFl), b41 = jnx N32 → N42 = jnew N32 3 0 5 1 → F43 = nwF N32 F33 →
      ∃ (P48 : jSh → jFl → jAr → Prop), wqX2_init b41 a1 N42 F43 A34 P48 ∧
      ∀ N53 F51 A52, P48 N53 F51 A52 →
      ∃ b58 : Nat, jfn N32 1502 o = (b58 : Int) ∧
      jtg N53 b58 = 110 ∧
      jfn N53 0 b58 = 1 ∧
      ((0 : Int) ≤ v31 ∧ (v31 : Int) < (jln N53 b58 : Int)) ∧
      jast N53 "ChildSays$Saying" (b41 : Int) ∧
      ∀ A63 : jAr, A63 = upA A52 b58 v31 (b41 : Int) →
      jR (v31 + 1) ∧
      I37 (v31 + 1) N53 F51 A63 ∧ m38 (v31 + 1) N53 F51 A63 < m38 v31 N32 F33 A34)
theorem vX4_init {G : jG} {l : Launch} {d : Nat} {N : jSh} {F : jFl} {A : jAr} {o : Nat} {a1 : Int} {Q : jSh → jFl → jAr → Prop} (hd : 4 ≤ d) (hW : jWg G N F A) (ht : jtg N o = 5) (h : wqX4_init o a1 N F A Q) : jCall G l d mX4_init [vR (o : Int), vR a1] N F A (cnV G N Q) := by
  unfold wqX4_init at h
  refine jCall.of (by decide) rfl (ls := [vR (o : Int), vR a1, jD]) (by simp only [jent_R, jent_I, jent_L, jent_nil]; exact Nat.le_of_ble_eq_true rfl) (by simp only [jloc, jent_R, jent_I, jent_L, jent_nil]; rfl) ?_
  refine r_aload_n dX4_init_0 rfl ?_
  refine r_aload_n dX4_init_1 rfl ?_
  obtain ⟨w1, h⟩ := h
  refine c_pRF hW dX4_init_2 flX4_3_5 rfl ht w1 rfl (ty := .object "ChildSays") rfl (by intro c hc; cases hc; rfl) (by decide) (by decide +kernel) (Or.inl ⟨_, rfl⟩) fun N3 eN3 hT4 hW2 => ?_
  have h := h N3 eN3
  refine r_aload_n dX4_init_5 rfl ?_
  refine r_objInit dX4_init_6 q350 rfl (Nat.le_trans (Nat.le_of_ble_eq_true rfl) hd) (Nat.le_of_ble_eq_true rfl) ?_
  refine r_aload_n dX4_init_9 rfl ?_
  refine j_bipush dX4_init_10 ?_
  refine c_anew (t := 110) (n := 12) hW2 dX4_init_12 rfl rfl q351 (List.mem_of_elem_eq_true (by decide +kernel)) rfl (Nat.le_of_ble_eq_true rfl) fun b5 N6 F7 A8 eb5 eN6 eF7 eA8 t9 w10 hT11 hW12 => ?_
  have h := h b5 N6 F7 A8 eb5 eN6 eF7 eA8
  have t13 : jtg N6 o = 5 := (hT11.tg hW2 (hT4.tg hW ht))
  have w14 : jfn N6 0 o = 1 := (hT11.ow hW2 (hT4.tg hW ht) (hT4.ow hW ht w1))
  refine c_pRF hW12 dX4_init_15 flX4_17_5 rfl t13 w14 rfl (ty := (.array (.object "ChildSays$Saying"))) rfl (by intro c hc; cases hc; rfl) (by decide) (by decide +kernel) (Or.inr ⟨_, rfl⟩) fun N16 eN16 hT17 hW15 => ?_
  have h := h N16 eN16
  refine r_aload_n dX4_init_18 rfl ?_
  refine j_bipush dX4_init_19 ?_
  refine c_anew (t := 113) (n := 12) hW15 dX4_init_21 rfl rfl q353 (List.mem_of_elem_eq_true (by decide +kernel)) rfl (Nat.le_of_ble_eq_true rfl) fun b18 N19 F20 A21 eb18 eN19 eF20 eA21 t22 w23 hT24 hW25 => ?_
  have h := h b18 N19 F20 A21 eb18 eN19 eF20 eA21
  have t26 : jtg N19 o = 5 := (hT24.tg hW15 (hT17.tg hW12 t13))
  have w27 : jfn N19 0 o = 1 := (hT24.ow hW15 (hT17.tg hW12 (hT11.tg hW2 (hT4.tg hW ht))) (hT17.ow hW12 (hT11.tg hW2 (hT4.tg hW ht)) w14))
  refine c_pRF hW25 dX4_init_24 flX4_23_5 rfl t26 w27 rfl (ty := (.array (.object "ChildSays$Law"))) rfl (by intro c hc; cases hc; rfl) (by decide) (by decide +kernel) (Or.inr ⟨_, rfl⟩) fun N29 eN29 hT30 hW28 => ?_
  have h := h N29 eN29
  refine j_iconst dX4_init_27 ?_
  refine j_istore_n dX4_init_28 (jokR rfl (Nat.le_of_ble_eq_true rfl)) ?_
  obtain ⟨I37, m38, h0, hs⟩ := h
  have lp : ∀ (n : Nat) (v31 : Int) (N32 : jSh) (F33 : jFl) (A34 : jAr), m38 v31 N32 F33 A34 < n → jWg G N32 F33 A34 → jTx N29 N32 → jR v31 → I37 v31 N32 F33 A34 → J G l d mX4_init 29 [vR (o : Int), vR a1, vI v31] [] N32 F33 A34 (cnV G N Q) := by
    intro nI37
    induction nI37 with
    | zero =>
      intro v31 N32 F33 A34 hmu
      exact absurd hmu (Nat.not_lt_zero _)
    | succ nI37 ihI37 =>
      intro v31 N32 F33 A34 hmuI37 hW35 hT36 rv31 hI
      have h := hs v31 N32 F33 A34 hI
      refine j_iload_n dX4_init_29 rfl ?_
      refine j_bipush dX4_init_30 ?_
      obtain ⟨h1, h2⟩ := h
      refine j_icmp_ge 55 dX4_init_32 rfl rv31 (by decide) (fun q39 => ?_) (fun q39 => ?_)
      · have h := h1 q39
        clear h1 h2
        exact j_vret dX4_init_55 rfl ⟨rfl, hW35, (((((hT4.trans hT11).trans hT17).trans hT24).trans hT30).trans hT36), h⟩
      · have h := h2 q39
        clear h1 h2
        refine r_aload_n dX4_init_35 rfl ?_
        have t40 : jtg N32 o = 5 := (hT36.tg hW28 (hT30.tg hW25 t26))
        refine r_gRF dX4_init_36 flX4_17_5 rfl t40 rfl ?_
        refine j_iload_n dX4_init_39 rfl ?_
        refine c_new (ci := 3) hW35 dX4_init_40 rfl q351 rfl rfl fun b41 N42 F43 eb41 eN42 eF43 t44 w45 hT46 hW47 => ?_
        have h := h b41 N42 F43 eb41 eN42 eF43
        refine j_dup dX4_init_43 (vR_cat _) ?_
        refine r_aload_n dX4_init_44 rfl ?_
        obtain ⟨P48, hp49, h⟩ := h
        refine r_invIN (As := [vR a1]) (rest := [vR (b41 : Int), vI v31, vR (jfn N32 1502 o)]) dX4_init_45 lkX4_27 rfl (vX2_init (d := 3) (Nat.le_of_ble_eq_true rfl) hW47 t44  hp49) rfl rfl (Nat.le_of_ble_eq_true rfl) (Nat.le_trans (Nat.le_of_ble_eq_true rfl) hd) (cknV fun N53 F51 A52 hW54 hT55 p56 => ?_)
        have h := h N53 F51 A52 p56
        obtain ⟨b58, hz59, h⟩ := h
        obtain ⟨t60, h⟩ := h
        obtain ⟨w61, h⟩ := h
        obtain ⟨c62, h⟩ := h
        obtain ⟨j65, h⟩ := h
        refine c_aast hW54 dX4_init_48 hz59 t60 rfl w61 c62 j65 rfl fun A63 eA63 hW64 => ?_
        have h := h A63 eA63
        obtain ⟨r66, h⟩ := h
        refine j_iinc dX4_init_49 rfl (jokR rfl (Nat.le_of_ble_eq_true rfl)) ?_
        refine j_goto 29 dX4_init_52 rfl ?_
        exact J.wk ((((jWk.nil).eq).eq).eq) (ihI37 _ _ _ _ (Nat.lt_of_lt_of_le h.2 (Nat.le_of_lt_succ hmuI37)) hW64 ((hT36.trans hT46).trans hT55) r66 h.1)
  exact J.wk ((((jWk.nil).eq).eq).eq) (lp _ _ _ _ _ (Nat.lt_succ_self _) hW28 (jTx.refl _) (by decide) h0)
/-- ChildSays$Sitting.runs(LChildSays$Saying;I)V -/
def wqX4_runs (o : Nat) (a1 : Int) (a2 : Int) (N : jSh) (F : jFl) (A : jAr) (Q : jFl → jAr → Prop) : Prop :=
  ∃ (I3 : Int → Prop) (m4 : Int → Nat), I3 0 ∧ ∀ (v1 : Int), I3 v1 →
    ((a2 ≤ v1) →
      Q F A) ∧
    ((¬ (a2 ≤ v1)) →
      ∃ b6 : Nat, jfn N 1505 o = (b6 : Int) ∧
      jtg N b6 = 113 ∧
      ((0 : Int) ≤ v1 ∧ (v1 : Int) < (jln N b6 : Int)) ∧
      ∃ (P10 : Int → Prop), wqX4_of o (A b6 v1) N F A P10 ∧
      ∀ z12, P10 z12 →
      ∃ b17 : Nat, z12 = (b17 : Int) ∧
      jtg N b17 = 3 ∧
      (((F 903 b17) = 3) →
        jR (v1 + 1) ∧
        I3 (v1 + 1) ∧ m4 (v1 + 1) < m4 v1) ∧
      ((¬ ((F 903 b17) = 3)) →
        ∃ b22 : Nat, a1 = (b22 : Int) ∧
        jtg N b22 = 3 ∧
        ∃ b25 : Nat, jfn N 902 b17 = (b25 : Int) ∧
        jtg N b25 = 4 ∧
        ∃ (P28 : Int → Prop), wqX3_beginsLike b25 (jfn N 902 b22) N F A P28 ∧
        ∀ z30, P28 z30 →
        ((¬ z30 = 0) →
          ∃ b36 : Nat, jfn N 902 b22 = (b36 : Int) ∧
          jtg N b36 = 4 ∧
          ∃ (P39 : Int → jFl → jAr → Prop), wqX3_like b36 (jfn N 902 b17) N F A P39 ∧
          ∀ z41 F42 A43, P39 z41 F42 A43 →
          jfn N 0 b22 = 1 ∧
          ∀ F50 : jFl, F50 = upF F42 903 b22 4 →
          Q F50 A43) ∧
        ((z30 = 0) →
          jR (v1 + 1) ∧
          I3 (v1 + 1) ∧ m4 (v1 + 1) < m4 v1)))
theorem vX4_runs {G : jG} {l : Launch} {d : Nat} {N : jSh} {F : jFl} {A : jAr} {o : Nat} {a1 a2 : Int} {Q : jFl → jAr → Prop} (hd : 4 ≤ d) (hW : jWg G N F A) (ht : jtg N o = 5) (ra2 : jR a2) (h : wqX4_runs o a1 a2 N F A Q) : jCall G l d mX4_runs [vR (o : Int), vR a1, vI a2] N F A (cmV G N Q) := by
  unfold wqX4_runs at h
  refine jCall.of (by decide) rfl (ls := [vR (o : Int), vR a1, vI a2, jD, jD]) (by simp only [jent_R, jent_I, jent_L, jent_nil]; exact Nat.le_of_ble_eq_true rfl) (by simp only [jloc, jent_R, jent_I, jent_L, jent_nil]; rfl) ?_
  refine j_iconst dX4_runs_0 ?_
  refine j_istore_n dX4_runs_1 rfl ?_
  obtain ⟨I3, m4, h0, hs⟩ := h
  have lp : ∀ (n : Nat) (v1 : Int), m4 v1 < n → jR v1 → I3 v1 → J G l d mX4_runs 2 [vR (o : Int), vR a1, vI a2, vI v1, jD] [] N F A (cmV G N Q) := by
    intro nI3
    induction nI3 with
    | zero =>
      intro v1 hmu
      exact absurd hmu (Nat.not_lt_zero _)
    | succ nI3 ihI3 =>
      intro v1 hmuI3 rv1 hI
      have h := hs v1 hI
      refine j_iload_n dX4_runs_2 rfl ?_
      refine j_iload_n dX4_runs_3 rfl ?_
      obtain ⟨h1, h2⟩ := h
      refine j_icmp_ge 71 dX4_runs_4 rfl rv1 ra2 (fun q5 => ?_) (fun q5 => ?_)
      · have h := h1 q5
        clear h1 h2
        exact j_vret dX4_runs_71 rfl ⟨rfl, rfl, hW, h⟩
      · have h := h2 q5
        clear h1 h2
        refine r_aload_n dX4_runs_7 rfl ?_
        refine r_aload_n dX4_runs_8 rfl ?_
        refine r_gRF dX4_runs_9 flX4_23_5 rfl ht rfl ?_
        refine j_iload_n dX4_runs_12 rfl ?_
        obtain ⟨b6, hz7, h⟩ := h
        obtain ⟨t8, h⟩ := h
        obtain ⟨c9, h⟩ := h
        refine r_aald dX4_runs_13 hz7 t8 rfl rfl c9 ?_
        obtain ⟨P10, hp11, h⟩ := h
        refine r_invV (ci := 5) (As := [vR (A b6 v1)]) (rest := []) dX4_runs_14 lkX4_70 rfl ht rfl rfl (vX4_of (d := 2) (Nat.le_of_ble_eq_true rfl) hW ht  hp11) rfl rfl (Nat.le_of_ble_eq_true rfl) (Nat.le_trans (Nat.le_of_ble_eq_true rfl) hd) (jkpR fun z12 p15 r16 => ?_)
        have h := h z12 p15
        refine r_astore dX4_runs_17 rfl ?_
        refine r_aload dX4_runs_19 rfl ?_
        obtain ⟨b17, hz18, h⟩ := h
        obtain ⟨t19, h⟩ := h
        refine r_gI dX4_runs_21 flX4_84_3 hz18 t19 rfl ?_
        refine j_iconst dX4_runs_24 ?_
        obtain ⟨h1, h2⟩ := h
        refine j_icmp_eq 65 dX4_runs_25 rfl (hW.fi rfl) (by decide) (fun q20 => ?_) (fun q20 => ?_)
        · have h := h1 q20
          clear h1 h2
          obtain ⟨r21, h⟩ := h
          refine j_iinc dX4_runs_65 rfl rfl ?_
          refine j_goto 2 dX4_runs_68 rfl ?_
          exact J.wk ((((((jWk.nil).no).eq).eq).eq).eq) (ihI3 _ (Nat.lt_of_lt_of_le h.2 (Nat.le_of_lt_succ hmuI3)) r21 h.1)
        · have h := h2 q20
          clear h1 h2
          refine r_aload dX4_runs_28 rfl ?_
          refine r_gRF dX4_runs_30 flX4_91_3 hz18 t19 rfl ?_
          refine r_aload_n dX4_runs_33 rfl ?_
          obtain ⟨b22, hz23, h⟩ := h
          obtain ⟨t24, h⟩ := h
          refine r_gRF dX4_runs_34 flX4_91_3 hz23 t24 rfl ?_
          obtain ⟨b25, hz26, h⟩ := h
          obtain ⟨t27, h⟩ := h
          obtain ⟨P28, hp29, h⟩ := h
          refine r_invV (ci := 4) (As := [vR (jfn N 902 b22)]) (rest := []) dX4_runs_37 lkX4_92 hz26 t27 rfl rfl (vX3_beginsLike (d := 2) (Nat.le_of_ble_eq_true rfl) hW t27  hp29) rfl rfl (Nat.le_of_ble_eq_true rfl) (Nat.le_trans (Nat.le_of_ble_eq_true rfl) hd) (jkpB fun z30 p33 r34 => ?_)
          have h := h z30 p33
          obtain ⟨h1, h2⟩ := h
          refine j_if_ne 46 dX4_runs_40 rfl (jR_b r34) (fun q35 => ?_) (fun q35 => ?_)
          · have h := h1 q35
            clear h1 h2
            refine r_aload_n dX4_runs_46 rfl ?_
            refine r_gRF dX4_runs_47 flX4_91_3 hz23 t24 rfl ?_
            refine r_aload dX4_runs_50 rfl ?_
            refine r_gRF dX4_runs_52 flX4_91_3 hz18 t19 rfl ?_
            obtain ⟨b36, hz37, h⟩ := h
            obtain ⟨t38, h⟩ := h
            obtain ⟨P39, hp40, h⟩ := h
            refine r_invV (ci := 4) (As := [vR (jfn N 902 b17)]) (rest := []) dX4_runs_55 lkX4_96 hz37 t38 rfl rfl (vX3_like (d := 3) (Nat.le_of_ble_eq_true rfl) hW t38  hp40) rfl rfl (Nat.le_of_ble_eq_true rfl) (Nat.le_trans (Nat.le_of_ble_eq_true rfl) hd) (ckmR fun z41 F42 A43 hW44 p46 r47 => ?_)
            have h := h z41 F42 A43 p46
            refine j_pop dX4_runs_58 (vR_cat _) ?_
            refine r_aload_n dX4_runs_59 rfl ?_
            refine j_iconst dX4_runs_60 ?_
            obtain ⟨w48, h⟩ := h
            refine c_pI hW44 dX4_runs_61 flX4_84_3 hz23 t24 w48 rfl (by decide) fun F50 eF50 hW49 => ?_
            have h := h F50 eF50
            exact j_vret dX4_runs_64 rfl ⟨rfl, rfl, hW49, h⟩
          · have h := h2 (Classical.not_not.mp q35)
            clear h1 h2
            refine j_goto 65 dX4_runs_43 rfl ?_
            obtain ⟨r51, h⟩ := h
            refine j_iinc dX4_runs_65 rfl rfl ?_
            refine j_goto 2 dX4_runs_68 rfl ?_
            exact J.wk ((((((jWk.nil).no).eq).eq).eq).eq) (ihI3 _ (Nat.lt_of_lt_of_le h.2 (Nat.le_of_lt_succ hmuI3)) r51 h.1)
  exact J.wk ((((((jWk.nil).no).eq).eq).eq).eq) (lp _ _ (Nat.lt_succ_self _) (by decide) h0)
/-- ChildSays$Unlike.<init>(LChildSays;)V -/
def wqX5_init (o : Nat) (a1 : Int) (N : jSh) (F : jFl) (A : jAr) (Q : jSh → jFl → jAr → Prop) : Prop :=
  jfn N 0 o = 1 ∧
  ∀ N3 : jSh, N3 = jpF N 1814 o a1 →
  ∀ (b5 : Nat) (N6 : jSh) (F7 : jFl) (A8 : jAr), b5 = jnx N3 → N6 = jnew N3 110 10 10 1 → F7 = nwF N3 F → A8 = nwA N3 110 A →
  ∀ N16 : jSh, N16 = jpF N6 1802 o (b5 : Int) →
  ∀ (b18 : Nat) (N19 : jSh) (F20 : jFl) (A21 : jAr), b18 = jnx N16 → N19 = jnew N16 102 10 10 1 → F20 = nwF N16 F7 → A21 = nwA N16 102 A8 →
  ∀ N29 : jSh, N29 = jpF N19 1805 o (b18 : Int) →
  ∀ (b31 : Nat) (N32 : jSh) (F33 : jFl) (A34 : jAr), b31 = jnx N29 → N32 = jnew N29 102 10 10 1 → F33 = nwF N29 F20 → A34 = nwA N29 102 A21 →
  ∀ N42 : jSh, N42 = jpF N32 1808 o (b31 : Int) →
  ∃ (I50 : Int → jSh → jFl → jAr → Prop) (m51 : Int → jSh → jFl → jAr → Nat), I50 0 N42 F33 A34 ∧ ∀ (v44 : Int) (N45 : jSh) (F46 : jFl) (A47 : jAr), I50 v44 N45 F46 A47 →
    ((10 ≤ v44) →
      Q N45 F46 A47) ∧
    ((¬ (10 ≤ v44)) →
      ∀ (b54 : Nat) (N55 : jSh) (F56 : jFl), b54 = jnx N45 → N55 = jnew N45 3 0 5 1 → F56 = nwF N45 F46 →
      ∃ (P61 : jSh → jFl → jAr → Prop), wqX2_init b54 a1 N55 F56 A47 P61 ∧
      ∀ N66 F64 A65, P61 N66 F64 A65 →
      ∃ b71 : Nat, jfn N45 1802 o = (b71 : Int) ∧
      jtg N66 b71 = 110 ∧
      jfn N66 0 b71 = 1 ∧
      ((0 : Int) ≤ v44 ∧ (v44 : Int) < (jln N66 b71 : Int)) ∧
      jast N66 "ChildSays$Saying" (b54 : Int) ∧
      ∀ A76 : jAr, A76 = upA A65 b71 v44 (b54 : Int) →
      jR (v44 + 1) ∧
      I50 (v44 + 1) N66 F64 A76 ∧ m51 (v44 + 1) N66 F64 A76 < m51 v44 N45 F46 A47)
theorem vX5_init {G : jG} {l : Launch} {d : Nat} {N : jSh} {F : jFl} {A : jAr} {o : Nat} {a1 : Int} {Q : jSh → jFl → jAr → Prop} (hd : 4 ≤ d) (hW : jWg G N F A) (ht : jtg N o = 6) (h : wqX5_init o a1 N F A Q) : jCall G l d mX5_init [vR (o : Int), vR a1] N F A (cnV G N Q) := by
  unfold wqX5_init at h
  refine jCall.of (by decide) rfl (ls := [vR (o : Int), vR a1, jD]) (by simp only [jent_R, jent_I, jent_L, jent_nil]; exact Nat.le_of_ble_eq_true rfl) (by simp only [jloc, jent_R, jent_I, jent_L, jent_nil]; rfl) ?_
  refine r_aload_n dX5_init_0 rfl ?_
  refine r_aload_n dX5_init_1 rfl ?_
  obtain ⟨w1, h⟩ := h
  refine c_pRF hW dX5_init_2 flX5_3_6 rfl ht w1 rfl (ty := .object "ChildSays") rfl (by intro c hc; cases hc; rfl) (by decide) (by decide +kernel) (Or.inl ⟨_, rfl⟩) fun N3 eN3 hT4 hW2 => ?_
  have h := h N3 eN3
  refine r_aload_n dX5_init_5 rfl ?_
  refine r_objInit dX5_init_6 q378 rfl (Nat.le_trans (Nat.le_of_ble_eq_true rfl) hd) (Nat.le_of_ble_eq_true rfl) ?_
  refine r_aload_n dX5_init_9 rfl ?_
  refine j_bipush dX5_init_10 ?_
  refine c_anew (t := 110) (n := 10) hW2 dX5_init_12 rfl rfl q379 (List.mem_of_elem_eq_true (by decide +kernel)) rfl (Nat.le_of_ble_eq_true rfl) fun b5 N6 F7 A8 eb5 eN6 eF7 eA8 t9 w10 hT11 hW12 => ?_
  have h := h b5 N6 F7 A8 eb5 eN6 eF7 eA8
  have t13 : jtg N6 o = 6 := (hT11.tg hW2 (hT4.tg hW ht))
  have w14 : jfn N6 0 o = 1 := (hT11.ow hW2 (hT4.tg hW ht) (hT4.ow hW ht w1))
  refine c_pRF hW12 dX5_init_15 flX5_17_6 rfl t13 w14 rfl (ty := (.array (.object "ChildSays$Saying"))) rfl (by intro c hc; cases hc; rfl) (by decide) (by decide +kernel) (Or.inr ⟨_, rfl⟩) fun N16 eN16 hT17 hW15 => ?_
  have h := h N16 eN16
  refine r_aload_n dX5_init_18 rfl ?_
  refine j_bipush dX5_init_19 ?_
  refine c_newa (t := 102) (n := 10) hW15 dX5_init_21 rfl rfl rfl (fun _ h => by cases h) q223 (by decide) rfl (Nat.le_of_ble_eq_true rfl) fun b18 N19 F20 A21 eb18 eN19 eF20 eA21 t22 w23 hT24 hW25 => ?_
  have h := h b18 N19 F20 A21 eb18 eN19 eF20 eA21
  have t26 : jtg N19 o = 6 := (hT24.tg hW15 (hT17.tg hW12 t13))
  have w27 : jfn N19 0 o = 1 := (hT24.ow hW15 (hT17.tg hW12 (hT11.tg hW2 (hT4.tg hW ht))) (hT17.ow hW12 (hT11.tg hW2 (hT4.tg hW ht)) w14))
  refine c_pRF hW25 dX5_init_23 flX5_21_6 rfl t26 w27 rfl (ty := (.array .int)) rfl (by intro c hc; cases hc; rfl) (by decide) (by decide +kernel) (Or.inr ⟨_, rfl⟩) fun N29 eN29 hT30 hW28 => ?_
  have h := h N29 eN29
  refine r_aload_n dX5_init_26 rfl ?_
  refine j_bipush dX5_init_27 ?_
  refine c_newa (t := 102) (n := 10) hW28 dX5_init_29 rfl rfl rfl (fun _ h => by cases h) q223 (by decide) rfl (Nat.le_of_ble_eq_true rfl) fun b31 N32 F33 A34 eb31 eN32 eF33 eA34 t35 w36 hT37 hW38 => ?_
  have h := h b31 N32 F33 A34 eb31 eN32 eF33 eA34
  have t39 : jtg N32 o = 6 := (hT37.tg hW28 (hT30.tg hW25 t26))
  have w40 : jfn N32 0 o = 1 := (hT37.ow hW28 (hT30.tg hW25 (hT24.tg hW15 (hT17.tg hW12 (hT11.tg hW2 (hT4.tg hW ht))))) (hT30.ow hW25 (hT24.tg hW15 (hT17.tg hW12 (hT11.tg hW2 (hT4.tg hW ht)))) w27))
  refine c_pRF hW38 dX5_init_31 flX5_25_6 rfl t39 w40 rfl (ty := (.array .int)) rfl (by intro c hc; cases hc; rfl) (by decide) (by decide +kernel) (Or.inr ⟨_, rfl⟩) fun N42 eN42 hT43 hW41 => ?_
  have h := h N42 eN42
  refine j_iconst dX5_init_34 ?_
  refine j_istore_n dX5_init_35 (jokR rfl (Nat.le_of_ble_eq_true rfl)) ?_
  obtain ⟨I50, m51, h0, hs⟩ := h
  have lp : ∀ (n : Nat) (v44 : Int) (N45 : jSh) (F46 : jFl) (A47 : jAr), m51 v44 N45 F46 A47 < n → jWg G N45 F46 A47 → jTx N42 N45 → jR v44 → I50 v44 N45 F46 A47 → J G l d mX5_init 36 [vR (o : Int), vR a1, vI v44] [] N45 F46 A47 (cnV G N Q) := by
    intro nI50
    induction nI50 with
    | zero =>
      intro v44 N45 F46 A47 hmu
      exact absurd hmu (Nat.not_lt_zero _)
    | succ nI50 ihI50 =>
      intro v44 N45 F46 A47 hmuI50 hW48 hT49 rv44 hI
      have h := hs v44 N45 F46 A47 hI
      refine j_iload_n dX5_init_36 rfl ?_
      refine j_bipush dX5_init_37 ?_
      obtain ⟨h1, h2⟩ := h
      refine j_icmp_ge 62 dX5_init_39 rfl rv44 (by decide) (fun q52 => ?_) (fun q52 => ?_)
      · have h := h1 q52
        clear h1 h2
        exact j_vret dX5_init_62 rfl ⟨rfl, hW48, (((((((hT4.trans hT11).trans hT17).trans hT24).trans hT30).trans hT37).trans hT43).trans hT49), h⟩
      · have h := h2 q52
        clear h1 h2
        refine r_aload_n dX5_init_42 rfl ?_
        have t53 : jtg N45 o = 6 := (hT49.tg hW41 (hT43.tg hW38 t39))
        refine r_gRF dX5_init_43 flX5_17_6 rfl t53 rfl ?_
        refine j_iload_n dX5_init_46 rfl ?_
        refine c_new (ci := 3) hW48 dX5_init_47 rfl q379 rfl rfl fun b54 N55 F56 eb54 eN55 eF56 t57 w58 hT59 hW60 => ?_
        have h := h b54 N55 F56 eb54 eN55 eF56
        refine j_dup dX5_init_50 (vR_cat _) ?_
        refine r_aload_n dX5_init_51 rfl ?_
        obtain ⟨P61, hp62, h⟩ := h
        refine r_invIN (As := [vR a1]) (rest := [vR (b54 : Int), vI v44, vR (jfn N45 1802 o)]) dX5_init_52 lkX5_28 rfl (vX2_init (d := 3) (Nat.le_of_ble_eq_true rfl) hW60 t57  hp62) rfl rfl (Nat.le_of_ble_eq_true rfl) (Nat.le_trans (Nat.le_of_ble_eq_true rfl) hd) (cknV fun N66 F64 A65 hW67 hT68 p69 => ?_)
        have h := h N66 F64 A65 p69
        obtain ⟨b71, hz72, h⟩ := h
        obtain ⟨t73, h⟩ := h
        obtain ⟨w74, h⟩ := h
        obtain ⟨c75, h⟩ := h
        obtain ⟨j78, h⟩ := h
        refine c_aast hW67 dX5_init_55 hz72 t73 rfl w74 c75 j78 rfl fun A76 eA76 hW77 => ?_
        have h := h A76 eA76
        obtain ⟨r79, h⟩ := h
        refine j_iinc dX5_init_56 rfl (jokR rfl (Nat.le_of_ble_eq_true rfl)) ?_
        refine j_goto 36 dX5_init_59 rfl ?_
        exact J.wk ((((jWk.nil).eq).eq).eq) (ihI50 _ _ _ _ (Nat.lt_of_lt_of_le h.2 (Nat.le_of_lt_succ hmuI50)) hW77 ((hT49.trans hT59).trans hT68) r79 h.1)
  exact J.wk ((((jWk.nil).eq).eq).eq) (lp _ _ _ _ _ (Nat.lt_succ_self _) hW41 (jTx.refl _) (by decide) h0)
