set_option maxRecDepth 100000
set_option linter.unusedVariables false
/-! walks of the component and of JDK methods: printed by gen/walkc.py -/
/-- ChildSays.harm(I)I -/
def wqX0_harm (o : Nat) (a1 : Int) (N : jSh) (F : jFl) (A : jAr) (Q : Int → jFl → jAr → Prop) : Prop :=
  ∃ (P1 : Int → Prop), wqX0_childOf o a1 N F A P1 ∧
  ∀ z3, P1 z3 →
  ((¬ z3 < 0) →
    ∃ b9 : Nat, jfn N 329 o = (b9 : Int) ∧
    jtg N b9 = 5 ∧
    ∃ (P12 : Int → jFl → jAr → Prop), wqX4_inOrder b9 N F A P12 ∧
    ∀ z14 F15 A16, P12 z14 F15 A16 →
    ∃ b21 : Nat, z14 = (b21 : Int) ∧
    jtg N b21 = 5 ∧
    ∃ (P24 : Int → jFl → jAr → Prop), wqX4_saidBy b21 z3 N F15 A16 P24 ∧
    ∀ z26 F27 A28, P24 z26 F27 A28 →
    ∃ (I36 : Int → Int → Prop) (m37 : Int → Int → Nat), I36 0 0 ∧ ∀ (v33 : Int) (v34 : Int), I36 v33 v34 →
      (((F27 1506 b9) ≤ v34) →
        Q v33 F27 A28) ∧
      ((¬ ((F27 1506 b9) ≤ v34)) →
        ∃ b39 : Nat, jfn N 1505 b9 = (b39 : Int) ∧
        jtg N b39 = 113 ∧
        ((0 : Int) ≤ v34 ∧ (v34 : Int) < (jln N b39 : Int)) ∧
        ∃ b43 : Nat, A28 b39 v34 = (b43 : Int) ∧
        jtg N b43 = 17 ∧
        ∃ b46 : Nat, jfn N 5102 b43 = (b46 : Int) ∧
        jtg N b46 = 4 ∧
        ∃ (P49 : Int → Prop), wqX3_meaning b46 N F27 A28 P49 ∧
        ∀ z51, P49 z51 →
        ((0 : Int) ≤ v34 ∧ (v34 : Int) < (jln N b39 : Int)) ∧
        ∃ (P57 : Int → Prop), wqX4_of b9 (A28 b39 v34) N F27 A28 P57 ∧
        ∀ z59, P57 z59 →
        ∃ b64 : Nat, z59 = (b64 : Int) ∧
        jtg N b64 = 3 ∧
        ∃ b67 : Nat, jfn N 902 b64 = (b67 : Int) ∧
        jtg N b67 = 4 ∧
        ∃ (P70 : Int → Prop), wqX3_meaning b67 N F27 A28 P70 ∧
        ∀ z72, P70 z72 →
        jR (z51 - z72) ∧
        jR (v33 + (if z51 - z72 < 0 then -(z51 - z72) else z51 - z72)) ∧
        ∀ v79 : Int, v79 = v33 + (if z51 - z72 < 0 then -(z51 - z72) else z51 - z72) →
        jR (v34 + 1) ∧
        I36 v79 (v34 + 1) ∧ m37 v79 (v34 + 1) < m37 v33 v34)) ∧
  ((z3 < 0) →
    Q (-1) F A)
theorem vX0_harm {G : jG} {l : Launch} [jOff l] {d : Nat} {N : jSh} {F : jFl} {A : jAr} {o : Nat} {a1 : Int} {Q : Int → jFl → jAr → Prop} (hd : 7 ≤ d) (hW : jWg G N F A) (ht : jtg N o = 1) (ra1 : jR a1) (h : wqX0_harm o a1 N F A Q) : jCall G l d mX0_harm [vR (o : Int), vI a1] N F A (cmI G N Q) := by
  unfold wqX0_harm at h
  refine jCall.of (by decide) rfl (ls := [vR (o : Int), vI a1, jD, jD, jD]) (by simp only [jent_R, jent_I, jent_L, jent_nil]; exact Nat.le_of_ble_eq_true rfl) (by simp only [jloc, jent_R, jent_I, jent_L, jent_nil]; rfl) ?_
  refine r_aload_n dX0_harm_0 rfl ?_
  refine j_iload_n dX0_harm_1 rfl ?_
  obtain ⟨P1, hp2, h⟩ := h
  refine r_invV (ci := 1) (As := [vI a1]) (rest := []) dX0_harm_2 lkX0_273 rfl ht rfl rfl (vX0_childOf (d := 5) (Nat.le_of_ble_eq_true rfl) hW ht ra1 hp2) rfl rfl (Nat.le_of_ble_eq_true rfl) (Nat.le_trans (Nat.le_of_ble_eq_true rfl) hd) (jkpR fun z3 p6 r7 => ?_)
  have h := h z3 p6
  refine r_astore_n dX0_harm_5 rfl ?_
  refine r_aload_n dX0_harm_6 rfl ?_
  obtain ⟨h1, h2⟩ := h
  refine r_ifnonnull 12 dX0_harm_7 rfl (fun q8 => ?_) (fun q8 => ?_)
  · have h := h1 q8
    clear h1 h2
    refine r_aload_n dX0_harm_12 rfl ?_
    refine r_gRF dX0_harm_13 flX0_51_1 rfl ht rfl ?_
    obtain ⟨b9, hz10, h⟩ := h
    obtain ⟨t11, h⟩ := h
    obtain ⟨P12, hp13, h⟩ := h
    refine r_invV (ci := 5) (As := []) (rest := []) dX0_harm_16 lkX0_353 hz10 t11 rfl rfl (vX4_inOrder (d := 5) (Nat.le_of_ble_eq_true rfl) hW t11  hp13) rfl rfl (Nat.le_of_ble_eq_true rfl) (Nat.le_trans (Nat.le_of_ble_eq_true rfl) hd) (ckmR fun z14 F15 A16 hW17 p19 r20 => ?_)
    have h := h z14 F15 A16 p19
    refine r_aload_n dX0_harm_19 rfl ?_
    obtain ⟨b21, hz22, h⟩ := h
    obtain ⟨t23, h⟩ := h
    obtain ⟨P24, hp25, h⟩ := h
    refine r_invV (ci := 5) (As := [vR z3]) (rest := []) dX0_harm_20 lkX0_357 hz22 t23 rfl rfl (vX4_saidBy (d := 6) (Nat.le_of_ble_eq_true rfl) hW17 t23  hp25) rfl rfl (Nat.le_of_ble_eq_true rfl) (Nat.le_trans (Nat.le_of_ble_eq_true rfl) hd) (ckmR fun z26 F27 A28 hW29 p31 r32 => ?_)
    have h := h z26 F27 A28 p31
    refine j_pop dX0_harm_23 (vR_cat _) ?_
    refine j_iconst dX0_harm_24 ?_
    refine j_istore_n dX0_harm_25 (jokR rfl (Nat.le_of_ble_eq_true rfl)) ?_
    refine j_iconst dX0_harm_26 ?_
    refine j_istore dX0_harm_27 rfl ?_
    obtain ⟨I36, m37, h0, hs⟩ := h
    have lp : ∀ (n : Nat) (v33 : Int) (v34 : Int), m37 v33 v34 < n → jR v33 → jR v34 → I36 v33 v34 → J G l d mX0_harm 29 [vR (o : Int), jD, jD, vI v33, vI v34] [] N F27 A28 (cmI G N Q) := by
      intro nI36
      induction nI36 with
      | zero =>
        intro v33 v34 hmu
        exact absurd hmu (Nat.not_lt_zero _)
      | succ nI36 ihI36 =>
        intro v33 v34 hmuI36 rv33 rv34 hI
        have h := hs v33 v34 hI
        refine j_iload dX0_harm_29 rfl ?_
        refine r_aload_n dX0_harm_31 rfl ?_
        refine r_gRF dX0_harm_32 flX0_51_1 rfl ht rfl ?_
        refine r_gIN dX0_harm_35 flX0_387_5 hz10 t11 rfl ?_
        obtain ⟨h1, h2⟩ := h
        refine j_icmp_ge 93 dX0_harm_38 rfl rv34 (hW29.fi rfl) (fun q38 => ?_) (fun q38 => ?_)
        · have h := h1 q38
          clear h1 h2
          refine j_iload_n dX0_harm_93 rfl ?_
          exact j_iret dX0_harm_94 rfl ⟨_, rfl, rfl, hW29, h, rv33⟩
        · have h := h2 q38
          clear h1 h2
          refine j_iload_n dX0_harm_41 rfl ?_
          refine r_aload_n dX0_harm_42 rfl ?_
          refine r_gRF dX0_harm_43 flX0_51_1 rfl ht rfl ?_
          refine r_gRFN dX0_harm_46 flX0_390_5 hz10 t11 rfl ?_
          refine j_iload dX0_harm_49 rfl ?_
          obtain ⟨b39, hz40, h⟩ := h
          obtain ⟨t41, h⟩ := h
          obtain ⟨c42, h⟩ := h
          refine r_aald dX0_harm_51 hz40 t41 rfl rfl c42 ?_
          obtain ⟨b43, hz44, h⟩ := h
          obtain ⟨t45, h⟩ := h
          refine r_gRF dX0_harm_52 flX0_243_17 hz44 t45 rfl ?_
          obtain ⟨b46, hz47, h⟩ := h
          obtain ⟨t48, h⟩ := h
          obtain ⟨P49, hp50, h⟩ := h
          refine r_invV (ci := 4) (As := []) (rest := [vI v33]) dX0_harm_55 lkX0_507 hz47 t48 rfl rfl (vX3_meaning (d := 3) (Nat.le_of_ble_eq_true rfl) hW29 t48  hp50) rfl rfl (Nat.le_of_ble_eq_true rfl) (Nat.le_trans (Nat.le_of_ble_eq_true rfl) hd) (jkpI fun z51 p54 r55 => ?_)
          have h := h z51 p54
          refine r_aload_n dX0_harm_58 rfl ?_
          refine r_gRF dX0_harm_59 flX0_51_1 rfl ht rfl ?_
          refine r_aload_n dX0_harm_62 rfl ?_
          refine r_gRF dX0_harm_63 flX0_51_1 rfl ht rfl ?_
          refine r_gRFN dX0_harm_66 flX0_390_5 hz10 t11 rfl ?_
          refine j_iload dX0_harm_69 rfl ?_
          obtain ⟨c56, h⟩ := h
          refine r_aald dX0_harm_71 hz40 t41 rfl rfl c56 ?_
          obtain ⟨P57, hp58, h⟩ := h
          refine r_invV (ci := 5) (As := [vR (A28 b39 v34)]) (rest := [vI z51, vI v33]) dX0_harm_72 lkX0_361 hz10 t11 rfl rfl (vX4_of (d := 2) (Nat.le_of_ble_eq_true rfl) hW29 t11  hp58) rfl rfl (Nat.le_of_ble_eq_true rfl) (Nat.le_trans (Nat.le_of_ble_eq_true rfl) hd) (jkpR fun z59 p62 r63 => ?_)
          have h := h z59 p62
          obtain ⟨b64, hz65, h⟩ := h
          obtain ⟨t66, h⟩ := h
          refine r_gRF dX0_harm_75 flX0_369_3 hz65 t66 rfl ?_
          obtain ⟨b67, hz68, h⟩ := h
          obtain ⟨t69, h⟩ := h
          obtain ⟨P70, hp71, h⟩ := h
          refine r_invV (ci := 4) (As := []) (rest := [vI z51, vI v33]) dX0_harm_78 lkX0_507 hz68 t69 rfl rfl (vX3_meaning (d := 3) (Nat.le_of_ble_eq_true rfl) hW29 t69  hp71) rfl rfl (Nat.le_of_ble_eq_true rfl) (Nat.le_trans (Nat.le_of_ble_eq_true rfl) hd) (jkpI fun z72 p75 r76 => ?_)
          have h := h z72 p75
          refine j_isub dX0_harm_81 ?_
          obtain ⟨r77, h⟩ := h
          refine r_mabs dX0_harm_82 lkX0_510 r77 (Nat.le_of_ble_eq_true rfl) (Nat.le_trans (Nat.le_of_ble_eq_true rfl) hd) ?_
          refine j_iadd dX0_harm_85 ?_
          obtain ⟨r78, h⟩ := h
          obtain ⟨v79, ev79⟩ : ∃ x : Int, x = v33 + (if z51 - z72 < 0 then -(z51 - z72) else z51 - z72) := ⟨_, rfl⟩
          have h := h v79 ev79
          refine jnmI (e := ev79) ?_
          refine j_istore_n dX0_harm_86 rfl ?_
          obtain ⟨r80, h⟩ := h
          refine j_iinc dX0_harm_87 rfl rfl ?_
          refine j_goto 29 dX0_harm_90 rfl ?_
          exact J.wk ((((((jWk.nil).eq).eq).no).no).eq) (ihI36 _ _ (Nat.lt_of_lt_of_le h.2 (Nat.le_of_lt_succ hmuI36)) (ev79 ▸ r78) r80 h.1)
    exact J.wk ((((((jWk.nil).eq).eq).no).no).eq) (lp _ _ _ (Nat.lt_succ_self _) (by decide) (by decide) h0)
  · have h := h2 q8
    clear h1 h2
    refine j_iconst dX0_harm_10 ?_
    exact j_iret dX0_harm_11 rfl ⟨_, rfl, rfl, hW, h, (by decide)⟩
/-- ChildSays.letter(III)I -/
def wqX0_letter (S : Nat → Nat) (o : Nat) (a1 : Int) (a2 : Int) (a3 : Int) (N : jSh) (F : jFl) (A : jAr) (Q : Int → Prop) : Prop :=
  ∃ (P1 : Int → Prop), wqX0_isIn a1 0 3 N F A P1 ∧
  ∀ z3, P1 z3 →
  ((z3 = 0) →
    Q (-1)) ∧
  ((¬ (z3 = 0)) →
    ∃ (P9 : Int → Prop), wqX0_isIn a3 0 5 N F A P9 ∧
    ∀ z11, P9 z11 →
    ((z11 = 0) →
      Q (-1)) ∧
    ((¬ (z11 = 0)) →
      ∃ (P17 : Int → Prop), wqX0_names o a1 N F A P17 ∧
      ∀ z19, P17 z19 →
      ∃ b24 : Nat, z19 = (b24 : Int) ∧
      jtg N b24 = 20 ∧
      ∃ (P27 : Int → Prop), wqJ2_size b24 N F A P27 ∧
      ∀ z29, P27 z29 →
      jR (z29 - 1) ∧
      ∃ (P35 : Int → Prop), wqX0_isIn a2 0 (z29 - 1) N F A P35 ∧
      ∀ z37, P35 z37 →
      ((¬ z37 = 0) →
        ∃ (P43 : Int → Prop), wqX0_names o a1 N F A P43 ∧
        ∀ z45, P43 z45 →
        ∃ b50 : Nat, z45 = (b50 : Int) ∧
        jtg N b50 = 20 ∧
        ∃ (P53 : Int → Prop), wqJ2_get b50 a2 N F A P53 ∧
        ∀ z55, P53 z55 →
        jcst N "ChildSays$Named" z55 ∧
        ∃ b61 : Nat, z55 = (b61 : Int) ∧
        (jtg N b61 = 14 ∨ jtg N b61 = 15 ∨ jtg N b61 = 16 ∨ jtg N b61 = 17) ∧
        ∀ v64 : Int, v64 = jfn N 3902 b61 →
        ∃ b65 : Nat, v64 = (b65 : Int) ∧
        jtg N b65 = 22 ∧
        ∃ (P68 : Int → Prop), wqJ5_length S b65 N F A P68 ∧
        ∀ z70, P68 z70 →
        ((z70 ≤ a3) →
          Q 0) ∧
        ((¬ (z70 ≤ a3)) →
          ∃ (P76 : Int → Prop), wqJ5_charAt S b65 a3 N F A P76 ∧
          ∀ z78, P76 z78 →
          jR ((z78 - 97) + 1) ∧
          Q ((z78 - 97) + 1))) ∧
      ((z37 = 0) →
        Q (-1))))
theorem vX0_letter {G : jG} {l : Launch} [jOff l] {d : Nat} {N : jSh} {F : jFl} {A : jAr} {o : Nat} {a1 a2 a3 : Int} {Q : Int → Prop} (hd : 7 ≤ d) (hW : jWg G N F A) (ht : jtg N o = 1) (ra1 : jR a1) (ra2 : jR a2) (ra3 : jR a3) (h : wqX0_letter (gS G) o a1 a2 a3 N F A Q) : jCall G l d mX0_letter [vR (o : Int), vI a1, vI a2, vI a3] N F A (jpI N F A Q) := by
  unfold wqX0_letter at h
  refine jCall.of (by decide) rfl (ls := [vR (o : Int), vI a1, vI a2, vI a3, jD]) (by simp only [jent_R, jent_I, jent_L, jent_nil]; exact Nat.le_of_ble_eq_true rfl) (by simp only [jloc, jent_R, jent_I, jent_L, jent_nil]; rfl) ?_
  refine j_iload_n dX0_letter_0 rfl ?_
  refine j_i2l dX0_letter_1 ra1 ?_
  refine j_lconst 0 rfl dX0_letter_2 ?_
  refine j_ldc2 (n := 3) dX0_letter_3 q1281 ?_
  obtain ⟨P1, hp2, h⟩ := h
  refine r_invS (As := [vL a1, vL 0, vL 3]) (rest := []) dX0_letter_6 lkX0_124 (vX0_isIn (d := 2) (Nat.le_of_ble_eq_true rfl) hW (jR_L ra1) (by decide) (by decide) hp2) rfl rfl (Nat.le_of_ble_eq_true rfl) (Nat.le_trans (Nat.le_of_ble_eq_true rfl) hd) (jkpB fun z3 p6 r7 => ?_)
  have h := h z3 p6
  obtain ⟨h1, h2⟩ := h
  refine j_if_eq 44 dX0_letter_9 rfl (jR_b r7) (fun q8 => ?_) (fun q8 => ?_)
  · have h := h1 q8
    clear h1 h2
    refine j_iconst dX0_letter_44 ?_
    exact j_iret dX0_letter_45 rfl ⟨_, rfl, rfl, rfl, rfl, h, (by decide)⟩
  · have h := h2 q8
    clear h1 h2
    refine j_iload_n dX0_letter_12 rfl ?_
    refine j_i2l dX0_letter_13 ra3 ?_
    refine j_lconst 0 rfl dX0_letter_14 ?_
    refine j_ldc2 (n := 5) dX0_letter_15 q604 ?_
    obtain ⟨P9, hp10, h⟩ := h
    refine r_invS (As := [vL a3, vL 0, vL 5]) (rest := []) dX0_letter_18 lkX0_124 (vX0_isIn (d := 2) (Nat.le_of_ble_eq_true rfl) hW (jR_L ra3) (by decide) (by decide) hp10) rfl rfl (Nat.le_of_ble_eq_true rfl) (Nat.le_trans (Nat.le_of_ble_eq_true rfl) hd) (jkpB fun z11 p14 r15 => ?_)
    have h := h z11 p14
    obtain ⟨h1, h2⟩ := h
    refine j_if_eq 44 dX0_letter_21 rfl (jR_b r15) (fun q16 => ?_) (fun q16 => ?_)
    · have h := h1 q16
      clear h1 h2
      refine j_iconst dX0_letter_44 ?_
      exact j_iret dX0_letter_45 rfl ⟨_, rfl, rfl, rfl, rfl, h, (by decide)⟩
    · have h := h2 q16
      clear h1 h2
      refine j_iload_n dX0_letter_24 rfl ?_
      refine j_i2l dX0_letter_25 ra2 ?_
      refine j_lconst 0 rfl dX0_letter_26 ?_
      refine r_aload_n dX0_letter_27 rfl ?_
      refine j_iload_n dX0_letter_28 rfl ?_
      obtain ⟨P17, hp18, h⟩ := h
      refine r_invV (ci := 1) (As := [vI a1]) (rest := [vL 0, vL a2]) dX0_letter_29 lkX0_229 rfl ht rfl rfl (vX0_names (d := 2) (Nat.le_of_ble_eq_true rfl) hW ht ra1 hp18) rfl rfl (Nat.le_of_ble_eq_true rfl) (Nat.le_trans (Nat.le_of_ble_eq_true rfl) hd) (jkpR fun z19 p22 r23 => ?_)
      have h := h z19 p22
      obtain ⟨b24, hz25, h⟩ := h
      obtain ⟨t26, h⟩ := h
      obtain ⟨P27, hp28, h⟩ := h
      refine r_invV (ci := 20) (As := []) (rest := [vL 0, vL a2]) dX0_letter_32 lkX0_128 hz25 t26 rfl rfl (vJ2_size (d := 2) (Nat.le_of_ble_eq_true rfl) hW t26  hp28) rfl rfl (Nat.le_of_ble_eq_true rfl) (Nat.le_trans (Nat.le_of_ble_eq_true rfl) hd) (jkpI fun z29 p32 r33 => ?_)
      have h := h z29 p32
      refine j_iconst dX0_letter_35 ?_
      refine j_isub dX0_letter_36 ?_
      obtain ⟨r34, h⟩ := h
      refine j_i2l dX0_letter_37 r34 ?_
      obtain ⟨P35, hp36, h⟩ := h
      refine r_invS (As := [vL a2, vL 0, vL (z29 - 1)]) (rest := []) dX0_letter_38 lkX0_124 (vX0_isIn (d := 2) (Nat.le_of_ble_eq_true rfl) hW (jR_L ra2) (by decide) (jR_L r34) hp36) rfl rfl (Nat.le_of_ble_eq_true rfl) (Nat.le_trans (Nat.le_of_ble_eq_true rfl) hd) (jkpB fun z37 p40 r41 => ?_)
      have h := h z37 p40
      obtain ⟨h1, h2⟩ := h
      refine j_if_ne 46 dX0_letter_41 rfl (jR_b r41) (fun q42 => ?_) (fun q42 => ?_)
      · have h := h1 q42
        clear h1 h2
        refine r_aload_n dX0_letter_46 rfl ?_
        refine j_iload_n dX0_letter_47 rfl ?_
        obtain ⟨P43, hp44, h⟩ := h
        refine r_invV (ci := 1) (As := [vI a1]) (rest := []) dX0_letter_48 lkX0_229 rfl ht rfl rfl (vX0_names (d := 2) (Nat.le_of_ble_eq_true rfl) hW ht ra1 hp44) rfl rfl (Nat.le_of_ble_eq_true rfl) (Nat.le_trans (Nat.le_of_ble_eq_true rfl) hd) (jkpR fun z45 p48 r49 => ?_)
        have h := h z45 p48
        refine j_iload_n dX0_letter_51 rfl ?_
        obtain ⟨b50, hz51, h⟩ := h
        obtain ⟨t52, h⟩ := h
        obtain ⟨P53, hp54, h⟩ := h
        refine r_invV (ci := 20) (As := [vI a2]) (rest := []) dX0_letter_52 lkX0_132 hz51 t52 rfl rfl (vJ2_get (d := 4) (Nat.le_of_ble_eq_true rfl) hW t52 ra2 hp54) rfl rfl (Nat.le_of_ble_eq_true rfl) (Nat.le_trans (Nat.le_of_ble_eq_true rfl) hd) (jkpR fun z55 p58 r59 => ?_)
        have h := h z55 p58
        obtain ⟨j60, h⟩ := h
        refine r_chk dX0_letter_55 q914 j60 ?_
        obtain ⟨b61, hz62, h⟩ := h
        obtain ⟨t63, h⟩ := h
        refine r_named138 rfl dX0_letter_58 hz62 t63 ?_
        obtain ⟨v64, ev64⟩ : ∃ x : Int, x = jfn N 3902 b61 := ⟨_, rfl⟩
        have h := h v64 ev64
        refine jnmR (e := ev64) ?_
        refine r_astore dX0_letter_61 rfl ?_
        refine j_iload_n dX0_letter_63 rfl ?_
        refine r_aload dX0_letter_64 rfl ?_
        obtain ⟨b65, hz66, h⟩ := h
        obtain ⟨t67, h⟩ := h
        obtain ⟨P68, hp69, h⟩ := h
        refine r_invV (ci := 22) (As := []) (rest := [vI a3]) dX0_letter_66 lkX0_142 hz66 t67 rfl rfl (vJ5_length (d := 3) (Nat.le_of_ble_eq_true rfl) hW t67  hp69) rfl rfl (Nat.le_of_ble_eq_true rfl) (Nat.le_trans (Nat.le_of_ble_eq_true rfl) hd) (jkpI fun z70 p73 r74 => ?_)
        have h := h z70 p73
        obtain ⟨h1, h2⟩ := h
        refine j_icmp_ge 86 dX0_letter_69 rfl ra3 r74 (fun q75 => ?_) (fun q75 => ?_)
        · have h := h1 q75
          clear h1 h2
          refine j_iconst dX0_letter_86 ?_
          exact j_iret dX0_letter_87 rfl ⟨_, rfl, rfl, rfl, rfl, h, (by decide)⟩
        · have h := h2 q75
          clear h1 h2
          refine r_aload dX0_letter_72 rfl ?_
          refine j_iload_n dX0_letter_74 rfl ?_
          obtain ⟨P76, hp77, h⟩ := h
          refine r_invV (ci := 22) (As := [vI a3]) (rest := []) dX0_letter_75 lkX0_145 hz66 t67 rfl rfl (vJ5_charAt (d := 6) (Nat.le_of_ble_eq_true rfl) hW t67 ra3 hp77) rfl rfl (Nat.le_of_ble_eq_true rfl) (Nat.le_trans (Nat.le_of_ble_eq_true rfl) hd) (jkpC fun z78 p81 r82 => ?_)
          have h := h z78 p81
          refine j_bipush dX0_letter_78 ?_
          refine j_isub dX0_letter_80 ?_
          refine j_iconst dX0_letter_81 ?_
          refine j_iadd dX0_letter_82 ?_
          refine j_goto 87 dX0_letter_83 rfl ?_
          obtain ⟨r83, h⟩ := h
          exact j_iret dX0_letter_87 rfl ⟨_, rfl, rfl, rfl, rfl, h, r83⟩
      · have h := h2 (Classical.not_not.mp q42)
        clear h1 h2
        refine j_iconst dX0_letter_44 ?_
        exact j_iret dX0_letter_45 rfl ⟨_, rfl, rfl, rfl, rfl, h, (by decide)⟩
/-- ChildSays.needs(II)I -/
def wqX0_needs (o : Nat) (a1 : Int) (a2 : Int) (N : jSh) (F : jFl) (A : jAr) (Q : Int → jFl → jAr → Prop) : Prop :=
  ∃ (P1 : Int → Prop), wqX0_childOf o a2 N F A P1 ∧
  ∀ z3, P1 z3 →
  ∃ (P8 : Int → Prop), wqX0_standingOf o a1 N F A P8 ∧
  ∀ z10, P8 z10 →
  ((z3 < 0) →
    Q (-1) F A) ∧
  ((¬ (z3 < 0)) →
    ((¬ z10 < 0) →
      ∃ (I22 : Int → jFl → jAr → Prop) (m23 : Int → jFl → jAr → Nat), I22 1 F A ∧ ∀ (v17 : Int) (F18 : jFl) (A19 : jAr), I22 v17 F18 A19 →
        ((60 < v17) →
          Q (-1) F18 A19) ∧
        ((¬ (60 < v17)) →
          ∃ b25 : Nat, z10 = (b25 : Int) ∧
          jtg N b25 = 17 ∧
          ∃ b28 : Nat, jfn N 326 o = (b28 : Int) ∧
          jtg N b28 = 3 ∧
          (F18 5103 b25 = 0 ∨ F18 5103 b25 = 1) ∧
          ∃ (P32 : Int → jFl → jAr → Prop), wqX2_of_2 b28 z3 (jfn N 5102 b25) (F18 5103 b25) v17 N F18 A19 P32 ∧
          ∀ z34 F35 A36, P32 z34 F35 A36 →
          ∃ b41 : Nat, z34 = (b41 : Int) ∧
          jtg N b41 = 3 ∧
          ((¬ (F35 903 b41) = 0) →
            jR (v17 + 1) ∧
            I22 (v17 + 1) F35 A36 ∧ m23 (v17 + 1) F35 A36 < m23 v17 F18 A19) ∧
          (((F35 903 b41) = 0) →
            Q v17 F35 A36))) ∧
    ((z10 < 0) →
      Q (-1) F A))
theorem vX0_needs {G : jG} {l : Launch} [jOff l] {d : Nat} {N : jSh} {F : jFl} {A : jAr} {o : Nat} {a1 a2 : Int} {Q : Int → jFl → jAr → Prop} (hd : 7 ≤ d) (hW : jWg G N F A) (ht : jtg N o = 1) (ra1 : jR a1) (ra2 : jR a2) (h : wqX0_needs o a1 a2 N F A Q) : jCall G l d mX0_needs [vR (o : Int), vI a1, vI a2] N F A (cmI G N Q) := by
  unfold wqX0_needs at h
  refine jCall.of (by decide) rfl (ls := [vR (o : Int), vI a1, vI a2, jD, jD, jD]) (by simp only [jent_R, jent_I, jent_L, jent_nil]; exact Nat.le_of_ble_eq_true rfl) (by simp only [jloc, jent_R, jent_I, jent_L, jent_nil]; rfl) ?_
  refine r_aload_n dX0_needs_0 rfl ?_
  refine j_iload_n dX0_needs_1 rfl ?_
  obtain ⟨P1, hp2, h⟩ := h
  refine r_invV (ci := 1) (As := [vI a2]) (rest := []) dX0_needs_2 lkX0_273 rfl ht rfl rfl (vX0_childOf (d := 5) (Nat.le_of_ble_eq_true rfl) hW ht ra2 hp2) rfl rfl (Nat.le_of_ble_eq_true rfl) (Nat.le_trans (Nat.le_of_ble_eq_true rfl) hd) (jkpR fun z3 p6 r7 => ?_)
  have h := h z3 p6
  refine r_astore_n dX0_needs_5 rfl ?_
  refine r_aload_n dX0_needs_6 rfl ?_
  refine j_iload_n dX0_needs_7 rfl ?_
  obtain ⟨P8, hp9, h⟩ := h
  refine r_invV (ci := 1) (As := [vI a1]) (rest := []) dX0_needs_8 lkX0_347 rfl ht rfl rfl (vX0_standingOf (d := 6) (Nat.le_of_ble_eq_true rfl) hW ht ra1 hp9) rfl rfl (Nat.le_of_ble_eq_true rfl) (Nat.le_trans (Nat.le_of_ble_eq_true rfl) hd) (jkpR fun z10 p13 r14 => ?_)
  have h := h z10 p13
  refine r_astore dX0_needs_11 (jokR rfl (Nat.le_of_ble_eq_true rfl)) ?_
  refine r_aload_n dX0_needs_13 rfl ?_
  obtain ⟨h1, h2⟩ := h
  refine r_ifnull 22 dX0_needs_14 rfl (fun q15 => ?_) (fun q15 => ?_)
  · have h := h1 q15
    clear h1 h2
    refine j_iconst dX0_needs_22 ?_
    exact j_iret dX0_needs_23 rfl ⟨_, rfl, rfl, hW, h, (by decide)⟩
  · have h := h2 q15
    clear h1 h2
    refine r_aload dX0_needs_17 rfl ?_
    obtain ⟨h1, h2⟩ := h
    refine r_ifnonnull 24 dX0_needs_19 rfl (fun q16 => ?_) (fun q16 => ?_)
    · have h := h1 q16
      clear h1 h2
      refine j_iconst dX0_needs_24 ?_
      refine j_istore dX0_needs_25 (jokR rfl (Nat.le_of_ble_eq_true rfl)) ?_
      obtain ⟨I22, m23, h0, hs⟩ := h
      have lp : ∀ (n : Nat) (v17 : Int) (F18 : jFl) (A19 : jAr), m23 v17 F18 A19 < n → jWg G N F18 A19 → jR v17 → I22 v17 F18 A19 → J G l d mX0_needs 27 [vR (o : Int), jD, jD, vR z3, vR z10, vI v17] [] N F18 A19 (cmI G N Q) := by
        intro nI22
        induction nI22 with
        | zero =>
          intro v17 F18 A19 hmu
          exact absurd hmu (Nat.not_lt_zero _)
        | succ nI22 ihI22 =>
          intro v17 F18 A19 hmuI22 hW20 rv17 hI
          have h := hs v17 F18 A19 hI
          refine j_iload dX0_needs_27 rfl ?_
          refine j_bipush dX0_needs_29 ?_
          obtain ⟨h1, h2⟩ := h
          refine j_icmp_gt 69 dX0_needs_31 rfl rv17 (by decide) (fun q24 => ?_) (fun q24 => ?_)
          · have h := h1 q24
            clear h1 h2
            refine j_iconst dX0_needs_69 ?_
            exact j_iret dX0_needs_70 rfl ⟨_, rfl, rfl, hW20, h, (by decide)⟩
          · have h := h2 q24
            clear h1 h2
            refine r_aload_n dX0_needs_34 rfl ?_
            refine r_gRF dX0_needs_35 flX0_44_1 rfl ht rfl ?_
            refine r_aload_n dX0_needs_38 rfl ?_
            refine r_aload dX0_needs_39 rfl ?_
            obtain ⟨b25, hz26, h⟩ := h
            obtain ⟨t27, h⟩ := h
            refine r_gRF dX0_needs_41 flX0_243_17 hz26 t27 rfl ?_
            refine r_aload dX0_needs_44 rfl ?_
            refine r_gI dX0_needs_46 flX0_302_17 hz26 t27 rfl ?_
            refine j_iload dX0_needs_49 rfl ?_
            obtain ⟨b28, hz29, h⟩ := h
            obtain ⟨t30, h⟩ := h
            obtain ⟨b31, h⟩ := h
            obtain ⟨P32, hp33, h⟩ := h
            refine r_invV (ci := 3) (As := [vR z3, vR (jfn N 5102 b25), vI (F18 5103 b25), vI v17]) (rest := []) dX0_needs_51 lkX0_344 hz29 t30 rfl rfl (vX2_of_2 (d := 4) (Nat.le_of_ble_eq_true rfl) hW20 t30 b31 rv17 hp33) rfl rfl (Nat.le_of_ble_eq_true rfl) (Nat.le_trans (Nat.le_of_ble_eq_true rfl) hd) (ckmR fun z34 F35 A36 hW37 p39 r40 => ?_)
            have h := h z34 F35 A36 p39
            obtain ⟨b41, hz42, h⟩ := h
            obtain ⟨t43, h⟩ := h
            refine r_gI dX0_needs_54 flX0_343_3 hz42 t43 rfl ?_
            obtain ⟨h1, h2⟩ := h
            refine j_if_ne 63 dX0_needs_57 rfl (hW37.fi rfl) (fun q44 => ?_) (fun q44 => ?_)
            · have h := h1 q44
              clear h1 h2
              obtain ⟨r45, h⟩ := h
              refine j_iinc dX0_needs_63 rfl (jokR rfl (Nat.le_of_ble_eq_true rfl)) ?_
              refine j_goto 27 dX0_needs_66 rfl ?_
              exact J.wk (((((((jWk.nil).eq).eq).eq).no).no).eq) (ihI22 _ _ _ (Nat.lt_of_lt_of_le h.2 (Nat.le_of_lt_succ hmuI22)) hW37 r45 h.1)
            · have h := h2 (Classical.not_not.mp q44)
              clear h1 h2
              refine j_iload dX0_needs_60 rfl ?_
              exact j_iret dX0_needs_62 rfl ⟨_, rfl, rfl, hW37, h, rv17⟩
      exact J.wk (((((((jWk.nil).eq).eq).eq).no).no).eq) (lp _ _ _ _ (Nat.lt_succ_self _) hW (by decide) h0)
    · have h := h2 q16
      clear h1 h2
      refine j_iconst dX0_needs_22 ?_
      exact j_iret dX0_needs_23 rfl ⟨_, rfl, rfl, hW, h, (by decide)⟩
/-- ChildSays.odds(I)I -/
def wqX0_odds (o : Nat) (a1 : Int) (N : jSh) (F : jFl) (A : jAr) (Q : Int → jFl → jAr → Prop) : Prop :=
  ∃ (P1 : Int → Prop), wqX0_standingOf o a1 N F A P1 ∧
  ∀ z3, P1 z3 →
  ((z3 < 0) →
    Q (-1) F A) ∧
  ((¬ (z3 < 0)) →
    ∃ b9 : Nat, F 311 o = (b9 : Int) ∧
    jtg N b9 = 2 ∧
    ∃ b12 : Nat, jfn N 623 b9 = (b12 : Int) ∧
    jtg N b12 = 20 ∧
    ∃ (P15 : Int → Prop), wqJ2_isEmpty b12 N F A P15 ∧
    ∀ z17, P15 z17 →
    ((z17 = 0) →
      ∃ b23 : Nat, z3 = (b23 : Int) ∧
      jtg N b23 = 17 ∧
      (F 5103 b23 = 0 ∨ F 5103 b23 = 1) ∧
      ∃ (P27 : Int → jFl → jAr → Prop), wqX0_byMany o (jfn N 5102 b23) (F 5103 b23) N F A P27 ∧
      ∀ z29 F30 A31, P27 z29 F30 A31 →
      ∃ b36 : Nat, F30 311 o = (b36 : Int) ∧
      jtg N b36 = 2 ∧
      ∃ b39 : Nat, jfn N 623 b36 = (b39 : Int) ∧
      jtg N b39 = 20 ∧
      ∃ (P42 : Int → Prop), wqJ2_size b39 N F30 A31 P42 ∧
      ∀ z44, P42 z44 →
      (((0 : Int) ≤ 1000 * z29 ∧ (1000 * z29 : Int) ≤ 2147483647) ∧ ((0 : Int) < z44 ∧ (z44 : Int) ≤ 2147483647)) ∧
      jR ((1000 * z29) / z44) ∧
      Q ((1000 * z29) / z44) F30 A31) ∧
    ((¬ (z17 = 0)) →
      Q (-1) F A))
theorem vX0_odds {G : jG} {l : Launch} [jOff l] {d : Nat} {N : jSh} {F : jFl} {A : jAr} {o : Nat} {a1 : Int} {Q : Int → jFl → jAr → Prop} (hd : 7 ≤ d) (hW : jWg G N F A) (ht : jtg N o = 1) (ra1 : jR a1) (h : wqX0_odds o a1 N F A Q) : jCall G l d mX0_odds [vR (o : Int), vI a1] N F A (cmI G N Q) := by
  unfold wqX0_odds at h
  refine jCall.of (by decide) rfl (ls := [vR (o : Int), vI a1, jD]) (by simp only [jent_R, jent_I, jent_L, jent_nil]; exact Nat.le_of_ble_eq_true rfl) (by simp only [jloc, jent_R, jent_I, jent_L, jent_nil]; rfl) ?_
  refine r_aload_n dX0_odds_0 rfl ?_
  refine j_iload_n dX0_odds_1 rfl ?_
  obtain ⟨P1, hp2, h⟩ := h
  refine r_invV (ci := 1) (As := [vI a1]) (rest := []) dX0_odds_2 lkX0_347 rfl ht rfl rfl (vX0_standingOf (d := 6) (Nat.le_of_ble_eq_true rfl) hW ht ra1 hp2) rfl rfl (Nat.le_of_ble_eq_true rfl) (Nat.le_trans (Nat.le_of_ble_eq_true rfl) hd) (jkpR fun z3 p6 r7 => ?_)
  have h := h z3 p6
  refine r_astore_n dX0_odds_5 rfl ?_
  refine r_aload_n dX0_odds_6 rfl ?_
  obtain ⟨h1, h2⟩ := h
  refine r_ifnull 23 dX0_odds_7 rfl (fun q8 => ?_) (fun q8 => ?_)
  · have h := h1 q8
    clear h1 h2
    refine j_iconst dX0_odds_23 ?_
    refine j_goto 54 dX0_odds_24 rfl ?_
    exact j_iret dX0_odds_54 rfl ⟨_, rfl, rfl, hW, h, (by decide)⟩
  · have h := h2 q8
    clear h1 h2
    refine r_aload_n dX0_odds_10 rfl ?_
    refine r_gR dX0_odds_11 flX0_20_1 rfl ht rfl ?_
    obtain ⟨b9, hz10, h⟩ := h
    obtain ⟨t11, h⟩ := h
    refine r_gRF dX0_odds_14 flX0_203_2 hz10 t11 rfl ?_
    obtain ⟨b12, hz13, h⟩ := h
    obtain ⟨t14, h⟩ := h
    obtain ⟨P15, hp16, h⟩ := h
    refine r_invV (ci := 20) (As := []) (rest := []) dX0_odds_17 lkX0_190 hz13 t14 rfl rfl (vJ2_isEmpty (d := 2) (Nat.le_of_ble_eq_true rfl) hW t14  hp16) rfl rfl (Nat.le_of_ble_eq_true rfl) (Nat.le_trans (Nat.le_of_ble_eq_true rfl) hd) (jkpB fun z17 p20 r21 => ?_)
    have h := h z17 p20
    obtain ⟨h1, h2⟩ := h
    refine j_if_eq 27 dX0_odds_20 rfl (jR_b r21) (fun q22 => ?_) (fun q22 => ?_)
    · have h := h1 q22
      clear h1 h2
      refine j_sipush dX0_odds_27 ?_
      refine r_aload_n dX0_odds_30 rfl ?_
      refine r_aload_n dX0_odds_31 rfl ?_
      obtain ⟨b23, hz24, h⟩ := h
      obtain ⟨t25, h⟩ := h
      refine r_gRF dX0_odds_32 flX0_243_17 hz24 t25 rfl ?_
      refine r_aload_n dX0_odds_35 rfl ?_
      refine r_gI dX0_odds_36 flX0_302_17 hz24 t25 rfl ?_
      obtain ⟨b26, h⟩ := h
      obtain ⟨P27, hp28, h⟩ := h
      refine r_invV (ci := 1) (As := [vR (jfn N 5102 b23), vI (F 5103 b23)]) (rest := [vI 1000]) dX0_odds_39 lkX0_314 rfl ht rfl rfl (vX0_byMany (d := 5) (Nat.le_of_ble_eq_true rfl) hW ht b26 hp28) rfl rfl (Nat.le_of_ble_eq_true rfl) (Nat.le_trans (Nat.le_of_ble_eq_true rfl) hd) (ckmI fun z29 F30 A31 hW32 p34 r35 => ?_)
      have h := h z29 F30 A31 p34
      refine j_imul dX0_odds_42 ?_
      refine r_aload_n dX0_odds_43 rfl ?_
      refine r_gR dX0_odds_44 flX0_20_1 rfl ht rfl ?_
      obtain ⟨b36, hz37, h⟩ := h
      obtain ⟨t38, h⟩ := h
      refine r_gRF dX0_odds_47 flX0_203_2 hz37 t38 rfl ?_
      obtain ⟨b39, hz40, h⟩ := h
      obtain ⟨t41, h⟩ := h
      obtain ⟨P42, hp43, h⟩ := h
      refine r_invV (ci := 20) (As := []) (rest := [vI (1000 * z29)]) dX0_odds_50 lkX0_128 hz40 t41 rfl rfl (vJ2_size (d := 2) (Nat.le_of_ble_eq_true rfl) hW32 t41  hp43) rfl rfl (Nat.le_of_ble_eq_true rfl) (Nat.le_trans (Nat.le_of_ble_eq_true rfl) hd) (jkpI fun z44 p47 r48 => ?_)
      have h := h z44 p47
      obtain ⟨c49, h⟩ := h
      refine j_idiv dX0_odds_53 c49.1 c49.2 ?_
      obtain ⟨r50, h⟩ := h
      exact j_iret dX0_odds_54 rfl ⟨_, rfl, rfl, hW32, h, r50⟩
    · have h := h2 q22
      clear h1 h2
      refine j_iconst dX0_odds_23 ?_
      refine j_goto 54 dX0_odds_24 rfl ?_
      exact j_iret dX0_odds_54 rfl ⟨_, rfl, rfl, hW, h, (by decide)⟩
/-- ChildSays.says(III)I -/
def wqX0_says (o : Nat) (a1 : Int) (a2 : Int) (a3 : Int) (N : jSh) (F : jFl) (A : jAr) (Q : Int → jFl → jAr → Prop) : Prop :=
  ∃ (P1 : Int → Prop), wqX0_childOf o a1 N F A P1 ∧
  ∀ z3, P1 z3 →
  ∃ (P8 : Int → Prop), wqX0_standingOf o a2 N F A P8 ∧
  ∀ z10, P8 z10 →
  ((z3 < 0) →
    Q (-1) F A) ∧
  ((¬ (z3 < 0)) →
    ((¬ z10 < 0) →
      ∃ b17 : Nat, jfn N 326 o = (b17 : Int) ∧
      jtg N b17 = 3 ∧
      ∃ (P20 : Int → jFl → jAr → Prop), wqX2_of b17 z3 z10 N F A P20 ∧
      ∀ z22 F23 A24, P20 z22 F23 A24 →
      ∃ b29 : Nat, z22 = (b29 : Int) ∧
      jtg N b29 = 3 ∧
      ∃ (P32 : Int → Prop), wqX2_tells b29 a3 N F23 A24 P32 ∧
      ∀ z34, P32 z34 →
      Q z34 F23 A24) ∧
    ((z10 < 0) →
      Q (-1) F A))
theorem vX0_says {G : jG} {l : Launch} [jOff l] {d : Nat} {N : jSh} {F : jFl} {A : jAr} {o : Nat} {a1 a2 a3 : Int} {Q : Int → jFl → jAr → Prop} (hd : 7 ≤ d) (hW : jWg G N F A) (ht : jtg N o = 1) (ra1 : jR a1) (ra2 : jR a2) (ra3 : jR a3) (h : wqX0_says o a1 a2 a3 N F A Q) : jCall G l d mX0_says [vR (o : Int), vI a1, vI a2, vI a3] N F A (cmI G N Q) := by
  unfold wqX0_says at h
  refine jCall.of (by decide) rfl (ls := [vR (o : Int), vI a1, vI a2, vI a3, jD, jD]) (by simp only [jent_R, jent_I, jent_L, jent_nil]; exact Nat.le_of_ble_eq_true rfl) (by simp only [jloc, jent_R, jent_I, jent_L, jent_nil]; rfl) ?_
  refine r_aload_n dX0_says_0 rfl ?_
  refine j_iload_n dX0_says_1 rfl ?_
  obtain ⟨P1, hp2, h⟩ := h
  refine r_invV (ci := 1) (As := [vI a1]) (rest := []) dX0_says_2 lkX0_273 rfl ht rfl rfl (vX0_childOf (d := 5) (Nat.le_of_ble_eq_true rfl) hW ht ra1 hp2) rfl rfl (Nat.le_of_ble_eq_true rfl) (Nat.le_trans (Nat.le_of_ble_eq_true rfl) hd) (jkpR fun z3 p6 r7 => ?_)
  have h := h z3 p6
  refine r_astore dX0_says_5 rfl ?_
  refine r_aload_n dX0_says_7 rfl ?_
  refine j_iload_n dX0_says_8 rfl ?_
  obtain ⟨P8, hp9, h⟩ := h
  refine r_invV (ci := 1) (As := [vI a2]) (rest := []) dX0_says_9 lkX0_347 rfl ht rfl rfl (vX0_standingOf (d := 6) (Nat.le_of_ble_eq_true rfl) hW ht ra2 hp9) rfl rfl (Nat.le_of_ble_eq_true rfl) (Nat.le_trans (Nat.le_of_ble_eq_true rfl) hd) (jkpR fun z10 p13 r14 => ?_)
  have h := h z10 p13
  refine r_astore dX0_says_12 (jokR rfl (Nat.le_of_ble_eq_true rfl)) ?_
  refine r_aload dX0_says_14 rfl ?_
  obtain ⟨h1, h2⟩ := h
  refine r_ifnull 24 dX0_says_16 rfl (fun q15 => ?_) (fun q15 => ?_)
  · have h := h1 q15
    clear h1 h2
    refine j_iconst dX0_says_24 ?_
    refine j_goto 43 dX0_says_25 rfl ?_
    exact j_iret dX0_says_43 rfl ⟨_, rfl, rfl, hW, h, (by decide)⟩
  · have h := h2 q15
    clear h1 h2
    refine r_aload dX0_says_19 rfl ?_
    obtain ⟨h1, h2⟩ := h
    refine r_ifnonnull 28 dX0_says_21 rfl (fun q16 => ?_) (fun q16 => ?_)
    · have h := h1 q16
      clear h1 h2
      refine r_aload_n dX0_says_28 rfl ?_
      refine r_gRF dX0_says_29 flX0_44_1 rfl ht rfl ?_
      refine r_aload dX0_says_32 rfl ?_
      refine r_aload dX0_says_34 rfl ?_
      obtain ⟨b17, hz18, h⟩ := h
      obtain ⟨t19, h⟩ := h
      obtain ⟨P20, hp21, h⟩ := h
      refine r_invV (ci := 3) (As := [vR z3, vR z10]) (rest := []) dX0_says_36 lkX0_339 hz18 t19 rfl rfl (vX2_of (d := 5) (Nat.le_of_ble_eq_true rfl) hW t19  hp21) rfl rfl (Nat.le_of_ble_eq_true rfl) (Nat.le_trans (Nat.le_of_ble_eq_true rfl) hd) (ckmR fun z22 F23 A24 hW25 p27 r28 => ?_)
      have h := h z22 F23 A24 p27
      refine j_iload_n dX0_says_39 rfl ?_
      obtain ⟨b29, hz30, h⟩ := h
      obtain ⟨t31, h⟩ := h
      obtain ⟨P32, hp33, h⟩ := h
      refine r_invV (ci := 3) (As := [vI a3]) (rest := []) dX0_says_40 lkX0_350 hz30 t31 rfl rfl (vX2_tells (d := 3) (Nat.le_of_ble_eq_true rfl) hW25 t31 ra3 hp33) rfl rfl (Nat.le_of_ble_eq_true rfl) (Nat.le_trans (Nat.le_of_ble_eq_true rfl) hd) (jkpI fun z34 p37 r38 => ?_)
      have h := h z34 p37
      exact j_iret dX0_says_43 rfl ⟨_, rfl, rfl, hW25, h, r38⟩
    · have h := h2 q16
      clear h1 h2
      refine j_iconst dX0_says_24 ?_
      refine j_goto 43 dX0_says_25 rfl ?_
      exact j_iret dX0_says_43 rfl ⟨_, rfl, rfl, hW, h, (by decide)⟩
/-- ChildSays.sits(III)I -/
def wqX0_sits (o : Nat) (a1 : Int) (a2 : Int) (a3 : Int) (N : jSh) (F : jFl) (A : jAr) (Q : Int → jFl → jAr → Prop) : Prop :=
  ∃ (P1 : Int → Prop), wqX0_childOf o a1 N F A P1 ∧
  ∀ z3, P1 z3 →
  ∃ (P8 : Int → Prop), wqX0_standingOf o a2 N F A P8 ∧
  ∀ z10, P8 z10 →
  ((z3 < 0) →
    Q (-1) F A) ∧
  ((¬ (z3 < 0)) →
    ((¬ z10 < 0) →
      ∃ b17 : Nat, jfn N 329 o = (b17 : Int) ∧
      jtg N b17 = 5 ∧
      ∃ (P20 : Int → jFl → jAr → Prop), wqX4_inOrder b17 N F A P20 ∧
      ∀ z22 F23 A24, P20 z22 F23 A24 →
      ∃ b29 : Nat, z22 = (b29 : Int) ∧
      jtg N b29 = 5 ∧
      ∃ (P32 : Int → jFl → jAr → Prop), wqX4_saidBy b29 z3 N F23 A24 P32 ∧
      ∀ z34 F35 A36, P32 z34 F35 A36 →
      ∃ b41 : Nat, z34 = (b41 : Int) ∧
      jtg N b41 = 5 ∧
      ∃ (P44 : Int → Prop), wqX4_of b41 z10 N F35 A36 P44 ∧
      ∀ z46, P44 z46 →
      ∃ b51 : Nat, z46 = (b51 : Int) ∧
      jtg N b51 = 3 ∧
      ∃ (P54 : Int → Prop), wqX2_tells b51 a3 N F35 A36 P54 ∧
      ∀ z56, P54 z56 →
      Q z56 F35 A36) ∧
    ((z10 < 0) →
      Q (-1) F A))
theorem vX0_sits {G : jG} {l : Launch} [jOff l] {d : Nat} {N : jSh} {F : jFl} {A : jAr} {o : Nat} {a1 a2 a3 : Int} {Q : Int → jFl → jAr → Prop} (hd : 7 ≤ d) (hW : jWg G N F A) (ht : jtg N o = 1) (ra1 : jR a1) (ra2 : jR a2) (ra3 : jR a3) (h : wqX0_sits o a1 a2 a3 N F A Q) : jCall G l d mX0_sits [vR (o : Int), vI a1, vI a2, vI a3] N F A (cmI G N Q) := by
  unfold wqX0_sits at h
  refine jCall.of (by decide) rfl (ls := [vR (o : Int), vI a1, vI a2, vI a3, jD, jD]) (by simp only [jent_R, jent_I, jent_L, jent_nil]; exact Nat.le_of_ble_eq_true rfl) (by simp only [jloc, jent_R, jent_I, jent_L, jent_nil]; rfl) ?_
  refine r_aload_n dX0_sits_0 rfl ?_
  refine j_iload_n dX0_sits_1 rfl ?_
  obtain ⟨P1, hp2, h⟩ := h
  refine r_invV (ci := 1) (As := [vI a1]) (rest := []) dX0_sits_2 lkX0_273 rfl ht rfl rfl (vX0_childOf (d := 5) (Nat.le_of_ble_eq_true rfl) hW ht ra1 hp2) rfl rfl (Nat.le_of_ble_eq_true rfl) (Nat.le_trans (Nat.le_of_ble_eq_true rfl) hd) (jkpR fun z3 p6 r7 => ?_)
  have h := h z3 p6
  refine r_astore dX0_sits_5 rfl ?_
  refine r_aload_n dX0_sits_7 rfl ?_
  refine j_iload_n dX0_sits_8 rfl ?_
  obtain ⟨P8, hp9, h⟩ := h
  refine r_invV (ci := 1) (As := [vI a2]) (rest := []) dX0_sits_9 lkX0_347 rfl ht rfl rfl (vX0_standingOf (d := 6) (Nat.le_of_ble_eq_true rfl) hW ht ra2 hp9) rfl rfl (Nat.le_of_ble_eq_true rfl) (Nat.le_trans (Nat.le_of_ble_eq_true rfl) hd) (jkpR fun z10 p13 r14 => ?_)
  have h := h z10 p13
  refine r_astore dX0_sits_12 (jokR rfl (Nat.le_of_ble_eq_true rfl)) ?_
  refine r_aload dX0_sits_14 rfl ?_
  obtain ⟨h1, h2⟩ := h
  refine r_ifnull 24 dX0_sits_16 rfl (fun q15 => ?_) (fun q15 => ?_)
  · have h := h1 q15
    clear h1 h2
    refine j_iconst dX0_sits_24 ?_
    refine j_goto 49 dX0_sits_25 rfl ?_
    exact j_iret dX0_sits_49 rfl ⟨_, rfl, rfl, hW, h, (by decide)⟩
  · have h := h2 q15
    clear h1 h2
    refine r_aload dX0_sits_19 rfl ?_
    obtain ⟨h1, h2⟩ := h
    refine r_ifnonnull 28 dX0_sits_21 rfl (fun q16 => ?_) (fun q16 => ?_)
    · have h := h1 q16
      clear h1 h2
      refine r_aload_n dX0_sits_28 rfl ?_
      refine r_gRF dX0_sits_29 flX0_51_1 rfl ht rfl ?_
      obtain ⟨b17, hz18, h⟩ := h
      obtain ⟨t19, h⟩ := h
      obtain ⟨P20, hp21, h⟩ := h
      refine r_invV (ci := 5) (As := []) (rest := []) dX0_sits_32 lkX0_353 hz18 t19 rfl rfl (vX4_inOrder (d := 5) (Nat.le_of_ble_eq_true rfl) hW t19  hp21) rfl rfl (Nat.le_of_ble_eq_true rfl) (Nat.le_trans (Nat.le_of_ble_eq_true rfl) hd) (ckmR fun z22 F23 A24 hW25 p27 r28 => ?_)
      have h := h z22 F23 A24 p27
      refine r_aload dX0_sits_35 rfl ?_
      obtain ⟨b29, hz30, h⟩ := h
      obtain ⟨t31, h⟩ := h
      obtain ⟨P32, hp33, h⟩ := h
      refine r_invV (ci := 5) (As := [vR z3]) (rest := []) dX0_sits_37 lkX0_357 hz30 t31 rfl rfl (vX4_saidBy (d := 6) (Nat.le_of_ble_eq_true rfl) hW25 t31  hp33) rfl rfl (Nat.le_of_ble_eq_true rfl) (Nat.le_trans (Nat.le_of_ble_eq_true rfl) hd) (ckmR fun z34 F35 A36 hW37 p39 r40 => ?_)
      have h := h z34 F35 A36 p39
      refine r_aload dX0_sits_40 rfl ?_
      obtain ⟨b41, hz42, h⟩ := h
      obtain ⟨t43, h⟩ := h
      obtain ⟨P44, hp45, h⟩ := h
      refine r_invV (ci := 5) (As := [vR z10]) (rest := []) dX0_sits_42 lkX0_361 hz42 t43 rfl rfl (vX4_of (d := 2) (Nat.le_of_ble_eq_true rfl) hW37 t43  hp45) rfl rfl (Nat.le_of_ble_eq_true rfl) (Nat.le_trans (Nat.le_of_ble_eq_true rfl) hd) (jkpR fun z46 p49 r50 => ?_)
      have h := h z46 p49
      refine j_iload_n dX0_sits_45 rfl ?_
      obtain ⟨b51, hz52, h⟩ := h
      obtain ⟨t53, h⟩ := h
      obtain ⟨P54, hp55, h⟩ := h
      refine r_invV (ci := 3) (As := [vI a3]) (rest := []) dX0_sits_46 lkX0_350 hz52 t53 rfl rfl (vX2_tells (d := 3) (Nat.le_of_ble_eq_true rfl) hW37 t53 ra3 hp55) rfl rfl (Nat.le_of_ble_eq_true rfl) (Nat.le_trans (Nat.le_of_ble_eq_true rfl) hd) (jkpI fun z56 p59 r60 => ?_)
      have h := h z56 p59
      exact j_iret dX0_sits_49 rfl ⟨_, rfl, rfl, hW37, h, r60⟩
    · have h := h2 q16
      clear h1 h2
      refine j_iconst dX0_sits_24 ?_
      refine j_goto 49 dX0_sits_25 rfl ?_
      exact j_iret dX0_sits_49 rfl ⟨_, rfl, rfl, hW, h, (by decide)⟩
/-- ChildSays.sitting(II)I -/
def wqX0_sitting (S : Nat → Nat) (o : Nat) (a1 : Int) (a2 : Int) (N : jSh) (F : jFl) (A : jAr) (Q : Int → jFl → jAr → Prop) : Prop :=
  ∃ (P1 : Int → Prop), wqX0_childOf o a1 N F A P1 ∧
  ∀ z3, P1 z3 →
  ((z3 < 0) →
    Q (-1) F A) ∧
  ((¬ (z3 < 0)) →
    ∃ (P9 : Int → Prop), wqX0_isIn a2 0 4 N F A P9 ∧
    ∀ z11, P9 z11 →
    ((¬ z11 = 0) →
      ∃ b17 : Nat, jfn N 329 o = (b17 : Int) ∧
      jtg N b17 = 5 ∧
      ∃ (P20 : Int → jFl → jAr → Prop), wqX4_inOrder b17 N F A P20 ∧
      ∀ z22 F23 A24, P20 z22 F23 A24 →
      ∃ b29 : Nat, z22 = (b29 : Int) ∧
      jtg N b29 = 5 ∧
      ∃ (P32 : Int → jFl → jAr → Prop), wqX4_saidBy b29 z3 N F23 A24 P32 ∧
      ∀ z34 F35 A36, P32 z34 F35 A36 →
      ∃ b41 : Nat, z34 = (b41 : Int) ∧
      jtg N b41 = 5 ∧
      ∃ (P44 : Int → Prop), wqX4_kinds b41 a2 N F35 A36 P44 ∧
      ∀ z46, P44 z46 →
      Q z46 F35 A36) ∧
    ((z11 = 0) →
      Q (-1) F A))
theorem vX0_sitting {G : jG} {l : Launch} [jOff l] {d : Nat} {N : jSh} {F : jFl} {A : jAr} {o : Nat} {a1 a2 : Int} {Q : Int → jFl → jAr → Prop} (hd : 7 ≤ d) (hW : jWg G N F A) (ht : jtg N o = 1) (ra1 : jR a1) (ra2 : jR a2) (h : wqX0_sitting (gS G) o a1 a2 N F A Q) : jCall G l d mX0_sitting [vR (o : Int), vI a1, vI a2] N F A (cmI G N Q) := by
  unfold wqX0_sitting at h
  refine jCall.of (by decide) rfl (ls := [vR (o : Int), vI a1, vI a2, jD]) (by simp only [jent_R, jent_I, jent_L, jent_nil]; exact Nat.le_of_ble_eq_true rfl) (by simp only [jloc, jent_R, jent_I, jent_L, jent_nil]; rfl) ?_
  refine r_aload_n dX0_sitting_0 rfl ?_
  refine j_iload_n dX0_sitting_1 rfl ?_
  obtain ⟨P1, hp2, h⟩ := h
  refine r_invV (ci := 1) (As := [vI a1]) (rest := []) dX0_sitting_2 lkX0_273 rfl ht rfl rfl (vX0_childOf (d := 5) (Nat.le_of_ble_eq_true rfl) hW ht ra1 hp2) rfl rfl (Nat.le_of_ble_eq_true rfl) (Nat.le_trans (Nat.le_of_ble_eq_true rfl) hd) (jkpR fun z3 p6 r7 => ?_)
  have h := h z3 p6
  refine r_astore_n dX0_sitting_5 rfl ?_
  refine r_aload_n dX0_sitting_6 rfl ?_
  obtain ⟨h1, h2⟩ := h
  refine r_ifnull 22 dX0_sitting_7 rfl (fun q8 => ?_) (fun q8 => ?_)
  · have h := h1 q8
    clear h1 h2
    refine j_iconst dX0_sitting_22 ?_
    refine j_goto 41 dX0_sitting_23 rfl ?_
    exact j_iret dX0_sitting_41 rfl ⟨_, rfl, rfl, hW, h, (by decide)⟩
  · have h := h2 q8
    clear h1 h2
    refine j_iload_n dX0_sitting_10 rfl ?_
    refine j_i2l dX0_sitting_11 ra2 ?_
    refine j_lconst 0 rfl dX0_sitting_12 ?_
    refine j_ldc2 (n := 4) dX0_sitting_13 q1467 ?_
    obtain ⟨P9, hp10, h⟩ := h
    refine r_invS (As := [vL a2, vL 0, vL 4]) (rest := []) dX0_sitting_16 lkX0_124 (vX0_isIn (d := 2) (Nat.le_of_ble_eq_true rfl) hW (jR_L ra2) (by decide) (by decide) hp10) rfl rfl (Nat.le_of_ble_eq_true rfl) (Nat.le_trans (Nat.le_of_ble_eq_true rfl) hd) (jkpB fun z11 p14 r15 => ?_)
    have h := h z11 p14
    obtain ⟨h1, h2⟩ := h
    refine j_if_ne 26 dX0_sitting_19 rfl (jR_b r15) (fun q16 => ?_) (fun q16 => ?_)
    · have h := h1 q16
      clear h1 h2
      refine r_aload_n dX0_sitting_26 rfl ?_
      refine r_gRF dX0_sitting_27 flX0_51_1 rfl ht rfl ?_
      obtain ⟨b17, hz18, h⟩ := h
      obtain ⟨t19, h⟩ := h
      obtain ⟨P20, hp21, h⟩ := h
      refine r_invV (ci := 5) (As := []) (rest := []) dX0_sitting_30 lkX0_353 hz18 t19 rfl rfl (vX4_inOrder (d := 5) (Nat.le_of_ble_eq_true rfl) hW t19  hp21) rfl rfl (Nat.le_of_ble_eq_true rfl) (Nat.le_trans (Nat.le_of_ble_eq_true rfl) hd) (ckmR fun z22 F23 A24 hW25 p27 r28 => ?_)
      have h := h z22 F23 A24 p27
      refine r_aload_n dX0_sitting_33 rfl ?_
      obtain ⟨b29, hz30, h⟩ := h
      obtain ⟨t31, h⟩ := h
      obtain ⟨P32, hp33, h⟩ := h
      refine r_invV (ci := 5) (As := [vR z3]) (rest := []) dX0_sitting_34 lkX0_357 hz30 t31 rfl rfl (vX4_saidBy (d := 6) (Nat.le_of_ble_eq_true rfl) hW25 t31  hp33) rfl rfl (Nat.le_of_ble_eq_true rfl) (Nat.le_trans (Nat.le_of_ble_eq_true rfl) hd) (ckmR fun z34 F35 A36 hW37 p39 r40 => ?_)
      have h := h z34 F35 A36 p39
      refine j_iload_n dX0_sitting_37 rfl ?_
      obtain ⟨b41, hz42, h⟩ := h
      obtain ⟨t43, h⟩ := h
      obtain ⟨P44, hp45, h⟩ := h
      refine r_invV (ci := 5) (As := [vI a2]) (rest := []) dX0_sitting_38 lkX0_366 hz42 t43 rfl rfl (vX4_kinds (d := 3) (Nat.le_of_ble_eq_true rfl) hW37 t43 ra2 hp45) rfl rfl (Nat.le_of_ble_eq_true rfl) (Nat.le_trans (Nat.le_of_ble_eq_true rfl) hd) (jkpI fun z46 p49 r50 => ?_)
      have h := h z46 p49
      exact j_iret dX0_sitting_41 rfl ⟨_, rfl, rfl, hW37, h, r50⟩
    · have h := h2 (Classical.not_not.mp q16)
      clear h1 h2
      refine j_iconst dX0_sitting_22 ?_
      refine j_goto 41 dX0_sitting_23 rfl ?_
      exact j_iret dX0_sitting_41 rfl ⟨_, rfl, rfl, hW, h, (by decide)⟩
/-- ChildSays$Round.of(LChildSays$Child;LChildSays$Law;)LChildSays$Round; -/
def wqX6_of (o : Nat) (a1 : Int) (a2 : Int) (N : jSh) (F : jFl) (A : jAr) (Q : Int → jFl → jAr → Prop) : Prop :=
  ∃ b1 : Nat, a2 = (b1 : Int) ∧
  jtg N b1 = 17 ∧
  ∃ b4 : Nat, jfn N 2102 o = (b4 : Int) ∧
  jtg N b4 = 4 ∧
  ∃ (P7 : Int → jFl → jAr → Prop), wqX3_like b4 (jfn N 5102 b1) N F A P7 ∧
  ∀ z9 F10 A11, P7 z9 F10 A11 →
  ∃ b16 : Nat, jfn N 2105 o = (b16 : Int) ∧
  jtg N b16 = 4 ∧
  ∃ (P19 : Int → jFl → jAr → Prop), wqX3_like b16 (jfn N 5102 b1) N F10 A11 P19 ∧
  ∀ z21 F22 A23, P19 z21 F22 A23 →
  jfn N 0 o = 1 ∧
  ∀ F30 : jFl, F30 = upF F22 2106 o 0 →
  ∀ F32 : jFl, F32 = upF F30 2112 o 0 →
  ∃ (I38 : Int → jFl → jAr → Prop) (m39 : Int → jFl → jAr → Nat), I38 1 F32 A23 ∧ ∀ (v33 : Int) (F34 : jFl) (A35 : jAr), I38 v33 F34 A35 →
    (((F34 2112 o) = 0) →
      ∃ K47 : Int → jFl → jAr → Prop, (
        ∀ (v42 : Int) (F43 : jFl) (A44 : jAr), K47 v42 F43 A44 →
        jR ((F43 2106 o) + 1) ∧
        ∀ F52 : jFl, F52 = upF F43 2106 o ((F43 2106 o) + 1) →
        jR ((F52 2112 o) + 1) ∧
        ∀ F55 : jFl, F55 = upF F52 2112 o ((F52 2112 o) + 1) →
        ∃ (P56 : Int → jFl → jAr → Prop), wqX6_next o (jfn N 2105 o) a1 a2 N F55 A44 P56 ∧
        ∀ z58 F59 A60, P56 z58 F59 A60 →
        ((¬ z58 = 0) →
          I38 v42 F59 A60 ∧ m39 v42 F59 A60 < m39 v33 F34 A35) ∧
        ((z58 = 0) →
          ∃ (P66 : Int → jFl → jAr → Prop), wqX6_lost o N F59 A60 P66 ∧
          ∀ z68 F69 A70, P66 z68 F69 A70 →
          Q z68 F69 A70)) ∧
      ((¬ (F34 2112 o) = v33) →
        K47 v33 F34 A35) ∧
      (((F34 2112 o) = v33) →
        ∃ (P75 : Int → jFl → jAr → Prop), wqX3_like b4 (jfn N 2105 o) N F34 A35 P75 ∧
        ∀ z77 F78 A79, P75 z77 F78 A79 →
        jR (v33 * 2) ∧
        ∀ v85 : Int, v85 = v33 * 2 →
        ∀ F87 : jFl, F87 = upF F78 2112 o 0 →
        K47 v85 F87 A79)) ∧
    ((¬ ((F34 2112 o) = 0)) →
      ∃ (P88 : Int → Prop), wqX3_isLike b4 (jfn N 2105 o) N F34 A35 P88 ∧
      ∀ z90, P88 z90 →
      ((¬ z90 = 0) →
        ∃ (P96 : Int → jFl → jAr → Prop), wqX6_meets o a1 a2 N F34 A35 P96 ∧
        ∀ z98 F99 A100, P96 z98 F99 A100 →
        Q z98 F99 A100) ∧
      ((z90 = 0) →
        ((¬ (F34 2112 o) = v33) →
          jR ((F34 2106 o) + 1) ∧
          ∀ F108 : jFl, F108 = upF F34 2106 o ((F34 2106 o) + 1) →
          jR ((F108 2112 o) + 1) ∧
          ∀ F111 : jFl, F111 = upF F108 2112 o ((F108 2112 o) + 1) →
          ∃ (P112 : Int → jFl → jAr → Prop), wqX6_next o (jfn N 2105 o) a1 a2 N F111 A35 P112 ∧
          ∀ z114 F115 A116, P112 z114 F115 A116 →
          ((¬ z114 = 0) →
            I38 v33 F115 A116 ∧ m39 v33 F115 A116 < m39 v33 F34 A35) ∧
          ((z114 = 0) →
            ∃ (P122 : Int → jFl → jAr → Prop), wqX6_lost o N F115 A116 P122 ∧
            ∀ z124 F125 A126, P122 z124 F125 A126 →
            Q z124 F125 A126)) ∧
        (((F34 2112 o) = v33) →
          ∃ (P131 : Int → jFl → jAr → Prop), wqX3_like b4 (jfn N 2105 o) N F34 A35 P131 ∧
          ∀ z133 F134 A135, P131 z133 F134 A135 →
          jR (v33 * 2) ∧
          ∀ v141 : Int, v141 = v33 * 2 →
          ∀ F143 : jFl, F143 = upF F134 2112 o 0 →
          jR ((F143 2106 o) + 1) ∧
          ∀ F146 : jFl, F146 = upF F143 2106 o ((F143 2106 o) + 1) →
          jR ((F146 2112 o) + 1) ∧
          ∀ F149 : jFl, F149 = upF F146 2112 o ((F146 2112 o) + 1) →
          ∃ (P150 : Int → jFl → jAr → Prop), wqX6_next o (jfn N 2105 o) a1 a2 N F149 A135 P150 ∧
          ∀ z152 F153 A154, P150 z152 F153 A154 →
          ((¬ z152 = 0) →
            I38 v141 F153 A154 ∧ m39 v141 F153 A154 < m39 v33 F34 A35) ∧
          ((z152 = 0) →
            ∃ (P160 : Int → jFl → jAr → Prop), wqX6_lost o N F153 A154 P160 ∧
            ∀ z162 F163 A164, P160 z162 F163 A164 →
            Q z162 F163 A164))))
theorem vX6_of {G : jG} {l : Launch} [jOff l] {d : Nat} {N : jSh} {F : jFl} {A : jAr} {o : Nat} {a1 a2 : Int} {Q : Int → jFl → jAr → Prop} (hd : 7 ≤ d) (hW : jWg G N F A) (ht : jtg N o = 7) (h : wqX6_of o a1 a2 N F A Q) : jCall G l d mX6_of [vR (o : Int), vR a1, vR a2] N F A (cmR G N Q) := by
  unfold wqX6_of at h
  refine jCall.of (by decide) rfl (ls := [vR (o : Int), vR a1, vR a2, jD]) (by simp only [jent_R, jent_I, jent_L, jent_nil]; exact Nat.le_of_ble_eq_true rfl) (by simp only [jloc, jent_R, jent_I, jent_L, jent_nil]; rfl) ?_
  refine r_aload_n dX6_of_0 rfl ?_
  refine r_gRF dX6_of_1 flX6_18_7 rfl ht rfl ?_
  refine r_aload_n dX6_of_4 rfl ?_
  obtain ⟨b1, hz2, h⟩ := h
  obtain ⟨t3, h⟩ := h
  refine r_gRF dX6_of_5 flX6_58_17 hz2 t3 rfl ?_
  obtain ⟨b4, hz5, h⟩ := h
  obtain ⟨t6, h⟩ := h
  obtain ⟨P7, hp8, h⟩ := h
  refine r_invV (ci := 4) (As := [vR (jfn N 5102 b1)]) (rest := []) dX6_of_8 lkX6_50 hz5 t6 rfl rfl (vX3_like (d := 3) (Nat.le_of_ble_eq_true rfl) hW t6  hp8) rfl rfl (Nat.le_of_ble_eq_true rfl) (Nat.le_trans (Nat.le_of_ble_eq_true rfl) hd) (ckmR fun z9 F10 A11 hW12 p14 r15 => ?_)
  have h := h z9 F10 A11 p14
  refine j_pop dX6_of_11 (vR_cat _) ?_
  refine r_aload_n dX6_of_12 rfl ?_
  refine r_gRF dX6_of_13 flX6_22_7 rfl ht rfl ?_
  refine r_aload_n dX6_of_16 rfl ?_
  refine r_gRF dX6_of_17 flX6_58_17 hz2 t3 rfl ?_
  obtain ⟨b16, hz17, h⟩ := h
  obtain ⟨t18, h⟩ := h
  obtain ⟨P19, hp20, h⟩ := h
  refine r_invV (ci := 4) (As := [vR (jfn N 5102 b1)]) (rest := []) dX6_of_20 lkX6_50 hz17 t18 rfl rfl (vX3_like (d := 3) (Nat.le_of_ble_eq_true rfl) hW12 t18  hp20) rfl rfl (Nat.le_of_ble_eq_true rfl) (Nat.le_trans (Nat.le_of_ble_eq_true rfl) hd) (ckmR fun z21 F22 A23 hW24 p26 r27 => ?_)
  have h := h z21 F22 A23 p26
  refine j_pop dX6_of_23 (vR_cat _) ?_
  refine r_aload_n dX6_of_24 rfl ?_
  refine j_iconst dX6_of_25 ?_
  obtain ⟨w28, h⟩ := h
  refine c_pI hW24 dX6_of_26 flX6_59_7 rfl ht w28 rfl (by decide) fun F30 eF30 hW29 => ?_
  have h := h F30 eF30
  refine r_aload_n dX6_of_29 rfl ?_
  refine j_iconst dX6_of_30 ?_
  refine c_pI hW29 dX6_of_31 flX6_62_7 rfl ht w28 rfl (by decide) fun F32 eF32 hW31 => ?_
  have h := h F32 eF32
  refine j_iconst dX6_of_34 ?_
  refine j_istore_n dX6_of_35 (jokR rfl (Nat.le_of_ble_eq_true rfl)) ?_
  obtain ⟨I38, m39, h0, hs⟩ := h
  have lp : ∀ (n : Nat) (v33 : Int) (F34 : jFl) (A35 : jAr), m39 v33 F34 A35 < n → jWg G N F34 A35 → jR v33 → I38 v33 F34 A35 → J G l d mX6_of 36 [vR (o : Int), vR a1, vR a2, vI v33] [] N F34 A35 (cmR G N Q) := by
    intro nI38
    induction nI38 with
    | zero =>
      intro v33 F34 A35 hmu
      exact absurd hmu (Nat.not_lt_zero _)
    | succ nI38 ihI38 =>
      intro v33 F34 A35 hmuI38 hW36 rv33 hI
      have h := hs v33 F34 A35 hI
      refine r_aload_n dX6_of_36 rfl ?_
      refine r_gI dX6_of_37 flX6_62_7 rfl ht rfl ?_
      obtain ⟨h1, h2⟩ := h
      refine j_if_eq 57 dX6_of_40 rfl (hW36.fi rfl) (fun q40 => ?_) (fun q40 => ?_)
      · have h := h1 q40
        clear h1 h2
        refine r_aload_n dX6_of_57 rfl ?_
        refine r_gI dX6_of_58 flX6_62_7 rfl ht rfl ?_
        refine j_iload_n dX6_of_61 rfl ?_
        obtain ⟨K47, hK49, h⟩ := h
        have jn48 : ∀ (v42 : Int) (F43 : jFl) (A44 : jAr), jWg G N F43 A44 → jR v42 → K47 v42 F43 A44 → J G l d mX6_of 86 [vR (o : Int), vR a1, vR a2, vI v42] [] N F43 A44 (cmR G N Q) := by
          intro v42 F43 A44 hW45 rv42 h
          have h := hK49 v42 F43 A44 h
          refine r_aload_n dX6_of_86 rfl ?_
          refine j_dup dX6_of_87 (vR_cat _) ?_
          refine r_gI dX6_of_88 flX6_59_7 rfl ht rfl ?_
          refine j_iconst dX6_of_91 ?_
          refine j_iadd dX6_of_92 ?_
          obtain ⟨r50, h⟩ := h
          refine c_pI hW45 dX6_of_93 flX6_59_7 rfl ht w28 rfl r50 fun F52 eF52 hW51 => ?_
          have h := h F52 eF52
          refine r_aload_n dX6_of_96 rfl ?_
          refine j_dup dX6_of_97 (vR_cat _) ?_
          refine r_gI dX6_of_98 flX6_62_7 rfl ht rfl ?_
          refine j_iconst dX6_of_101 ?_
          refine j_iadd dX6_of_102 ?_
          obtain ⟨r53, h⟩ := h
          refine c_pI hW51 dX6_of_103 flX6_62_7 rfl ht w28 rfl r53 fun F55 eF55 hW54 => ?_
          have h := h F55 eF55
          refine r_aload_n dX6_of_106 rfl ?_
          refine r_aload_n dX6_of_107 rfl ?_
          refine r_gRF dX6_of_108 flX6_22_7 rfl ht rfl ?_
          refine r_aload_n dX6_of_111 rfl ?_
          refine r_aload_n dX6_of_112 rfl ?_
          obtain ⟨P56, hp57, h⟩ := h
          refine r_invV (ci := 7) (As := [vR (jfn N 2105 o), vR a1, vR a2]) (rest := []) dX6_of_113 lkX6_69 rfl ht rfl rfl (vX6_next (d := 5) (Nat.le_of_ble_eq_true rfl) hW54 ht  hp57) rfl rfl (Nat.le_of_ble_eq_true rfl) (Nat.le_trans (Nat.le_of_ble_eq_true rfl) hd) (ckmB fun z58 F59 A60 hW61 p63 r64 => ?_)
          have h := h z58 F59 A60 p63
          obtain ⟨h1, h2⟩ := h
          refine j_if_ne 36 dX6_of_116 rfl (jR_b r64) (fun q65 => ?_) (fun q65 => ?_)
          · have h := h1 q65
            clear h1 h2
            exact J.wk (((((jWk.nil).eq).eq).eq).eq) (ihI38 _ _ _ (Nat.lt_of_lt_of_le h.2 (Nat.le_of_lt_succ hmuI38)) hW61 rv42 h.1)
          · have h := h2 (Classical.not_not.mp q65)
            clear h1 h2
            refine r_aload_n dX6_of_119 rfl ?_
            obtain ⟨P66, hp67, h⟩ := h
            refine r_invV (ci := 7) (As := []) (rest := []) dX6_of_120 lkX6_73 rfl ht rfl rfl (vX6_lost (d := 2) (Nat.le_of_ble_eq_true rfl) hW61 ht  hp67) rfl rfl (Nat.le_of_ble_eq_true rfl) (Nat.le_trans (Nat.le_of_ble_eq_true rfl) hd) (ckmR fun z68 F69 A70 hW71 p73 r74 => ?_)
            have h := h z68 F69 A70 p73
            exact r_aret dX6_of_123 rfl (Or.inl ⟨_, rfl⟩) ⟨_, rfl, rfl, hW71, h, trivial⟩
        obtain ⟨h1, h2⟩ := h
        refine j_icmp_ne 86 dX6_of_62 rfl (hW36.fi rfl) rv33 (fun q41 => ?_) (fun q41 => ?_)
        · have h := h1 q41
          clear h1 h2
          exact J.wk (((((jWk.nil).eq).eq).eq).eq) (jn48 _ _ _ hW36 rv33 h)
        · have h := h2 (Classical.not_not.mp q41)
          clear h1 h2
          refine r_aload_n dX6_of_65 rfl ?_
          refine r_gRF dX6_of_66 flX6_18_7 rfl ht rfl ?_
          refine r_aload_n dX6_of_69 rfl ?_
          refine r_gRF dX6_of_70 flX6_22_7 rfl ht rfl ?_
          obtain ⟨P75, hp76, h⟩ := h
          refine r_invV (ci := 4) (As := [vR (jfn N 2105 o)]) (rest := []) dX6_of_73 lkX6_50 hz5 t6 rfl rfl (vX3_like (d := 3) (Nat.le_of_ble_eq_true rfl) hW36 t6  hp76) rfl rfl (Nat.le_of_ble_eq_true rfl) (Nat.le_trans (Nat.le_of_ble_eq_true rfl) hd) (ckmR fun z77 F78 A79 hW80 p82 r83 => ?_)
          have h := h z77 F78 A79 p82
          refine j_pop dX6_of_76 (vR_cat _) ?_
          refine j_iload_n dX6_of_77 rfl ?_
          refine j_iconst dX6_of_78 ?_
          refine j_imul dX6_of_79 ?_
          obtain ⟨r84, h⟩ := h
          obtain ⟨v85, ev85⟩ : ∃ x : Int, x = v33 * 2 := ⟨_, rfl⟩
          have h := h v85 ev85
          refine jnmI (e := ev85) ?_
          refine j_istore_n dX6_of_80 (jokR rfl (Nat.le_of_ble_eq_true rfl)) ?_
          refine r_aload_n dX6_of_81 rfl ?_
          refine j_iconst dX6_of_82 ?_
          refine c_pI hW80 dX6_of_83 flX6_62_7 rfl ht w28 rfl (by decide) fun F87 eF87 hW86 => ?_
          have h := h F87 eF87
          exact J.wk (((((jWk.nil).eq).eq).eq).eq) (jn48 _ _ _ hW86 (ev85 ▸ r84) h)
      · have h := h2 q40
        clear h1 h2
        refine r_aload_n dX6_of_43 rfl ?_
        refine r_gRF dX6_of_44 flX6_18_7 rfl ht rfl ?_
        refine r_aload_n dX6_of_47 rfl ?_
        refine r_gRF dX6_of_48 flX6_22_7 rfl ht rfl ?_
        obtain ⟨P88, hp89, h⟩ := h
        refine r_invV (ci := 4) (As := [vR (jfn N 2105 o)]) (rest := []) dX6_of_51 lkX6_65 hz5 t6 rfl rfl (vX3_isLike (d := 3) (Nat.le_of_ble_eq_true rfl) hW36 t6  hp89) rfl rfl (Nat.le_of_ble_eq_true rfl) (Nat.le_trans (Nat.le_of_ble_eq_true rfl) hd) (jkpB fun z90 p93 r94 => ?_)
        have h := h z90 p93
        obtain ⟨h1, h2⟩ := h
        refine j_if_ne 124 dX6_of_54 rfl (jR_b r94) (fun q95 => ?_) (fun q95 => ?_)
        · have h := h1 q95
          clear h1 h2
          refine r_aload_n dX6_of_124 rfl ?_
          refine r_aload_n dX6_of_125 rfl ?_
          refine r_aload_n dX6_of_126 rfl ?_
          obtain ⟨P96, hp97, h⟩ := h
          refine r_invV (ci := 7) (As := [vR a1, vR a2]) (rest := []) dX6_of_127 lkX6_77 rfl ht rfl rfl (vX6_meets (d := 6) (Nat.le_of_ble_eq_true rfl) hW36 ht  hp97) rfl rfl (Nat.le_of_ble_eq_true rfl) (Nat.le_trans (Nat.le_of_ble_eq_true rfl) hd) (ckmR fun z98 F99 A100 hW101 p103 r104 => ?_)
          have h := h z98 F99 A100 p103
          exact r_aret dX6_of_130 rfl (Or.inl ⟨_, rfl⟩) ⟨_, rfl, rfl, hW101, h, trivial⟩
        · have h := h2 (Classical.not_not.mp q95)
          clear h1 h2
          refine r_aload_n dX6_of_57 rfl ?_
          refine r_gI dX6_of_58 flX6_62_7 rfl ht rfl ?_
          refine j_iload_n dX6_of_61 rfl ?_
          obtain ⟨h1, h2⟩ := h
          refine j_icmp_ne 86 dX6_of_62 rfl (hW36.fi rfl) rv33 (fun q105 => ?_) (fun q105 => ?_)
          · have h := h1 q105
            clear h1 h2
            refine r_aload_n dX6_of_86 rfl ?_
            refine j_dup dX6_of_87 (vR_cat _) ?_
            refine r_gI dX6_of_88 flX6_59_7 rfl ht rfl ?_
            refine j_iconst dX6_of_91 ?_
            refine j_iadd dX6_of_92 ?_
            obtain ⟨r106, h⟩ := h
            refine c_pI hW36 dX6_of_93 flX6_59_7 rfl ht w28 rfl r106 fun F108 eF108 hW107 => ?_
            have h := h F108 eF108
            refine r_aload_n dX6_of_96 rfl ?_
            refine j_dup dX6_of_97 (vR_cat _) ?_
            refine r_gI dX6_of_98 flX6_62_7 rfl ht rfl ?_
            refine j_iconst dX6_of_101 ?_
            refine j_iadd dX6_of_102 ?_
            obtain ⟨r109, h⟩ := h
            refine c_pI hW107 dX6_of_103 flX6_62_7 rfl ht w28 rfl r109 fun F111 eF111 hW110 => ?_
            have h := h F111 eF111
            refine r_aload_n dX6_of_106 rfl ?_
            refine r_aload_n dX6_of_107 rfl ?_
            refine r_gRF dX6_of_108 flX6_22_7 rfl ht rfl ?_
            refine r_aload_n dX6_of_111 rfl ?_
            refine r_aload_n dX6_of_112 rfl ?_
            obtain ⟨P112, hp113, h⟩ := h
            refine r_invV (ci := 7) (As := [vR (jfn N 2105 o), vR a1, vR a2]) (rest := []) dX6_of_113 lkX6_69 rfl ht rfl rfl (vX6_next (d := 5) (Nat.le_of_ble_eq_true rfl) hW110 ht  hp113) rfl rfl (Nat.le_of_ble_eq_true rfl) (Nat.le_trans (Nat.le_of_ble_eq_true rfl) hd) (ckmB fun z114 F115 A116 hW117 p119 r120 => ?_)
            have h := h z114 F115 A116 p119
            obtain ⟨h1, h2⟩ := h
            refine j_if_ne 36 dX6_of_116 rfl (jR_b r120) (fun q121 => ?_) (fun q121 => ?_)
            · have h := h1 q121
              clear h1 h2
              exact J.wk (((((jWk.nil).eq).eq).eq).eq) (ihI38 _ _ _ (Nat.lt_of_lt_of_le h.2 (Nat.le_of_lt_succ hmuI38)) hW117 rv33 h.1)
            · have h := h2 (Classical.not_not.mp q121)
              clear h1 h2
              refine r_aload_n dX6_of_119 rfl ?_
              obtain ⟨P122, hp123, h⟩ := h
              refine r_invV (ci := 7) (As := []) (rest := []) dX6_of_120 lkX6_73 rfl ht rfl rfl (vX6_lost (d := 2) (Nat.le_of_ble_eq_true rfl) hW117 ht  hp123) rfl rfl (Nat.le_of_ble_eq_true rfl) (Nat.le_trans (Nat.le_of_ble_eq_true rfl) hd) (ckmR fun z124 F125 A126 hW127 p129 r130 => ?_)
              have h := h z124 F125 A126 p129
              exact r_aret dX6_of_123 rfl (Or.inl ⟨_, rfl⟩) ⟨_, rfl, rfl, hW127, h, trivial⟩
          · have h := h2 (Classical.not_not.mp q105)
            clear h1 h2
            refine r_aload_n dX6_of_65 rfl ?_
            refine r_gRF dX6_of_66 flX6_18_7 rfl ht rfl ?_
            refine r_aload_n dX6_of_69 rfl ?_
            refine r_gRF dX6_of_70 flX6_22_7 rfl ht rfl ?_
            obtain ⟨P131, hp132, h⟩ := h
            refine r_invV (ci := 4) (As := [vR (jfn N 2105 o)]) (rest := []) dX6_of_73 lkX6_50 hz5 t6 rfl rfl (vX3_like (d := 3) (Nat.le_of_ble_eq_true rfl) hW36 t6  hp132) rfl rfl (Nat.le_of_ble_eq_true rfl) (Nat.le_trans (Nat.le_of_ble_eq_true rfl) hd) (ckmR fun z133 F134 A135 hW136 p138 r139 => ?_)
            have h := h z133 F134 A135 p138
            refine j_pop dX6_of_76 (vR_cat _) ?_
            refine j_iload_n dX6_of_77 rfl ?_
            refine j_iconst dX6_of_78 ?_
            refine j_imul dX6_of_79 ?_
            obtain ⟨r140, h⟩ := h
            obtain ⟨v141, ev141⟩ : ∃ x : Int, x = v33 * 2 := ⟨_, rfl⟩
            have h := h v141 ev141
            refine jnmI (e := ev141) ?_
            refine j_istore_n dX6_of_80 (jokR rfl (Nat.le_of_ble_eq_true rfl)) ?_
            refine r_aload_n dX6_of_81 rfl ?_
            refine j_iconst dX6_of_82 ?_
            refine c_pI hW136 dX6_of_83 flX6_62_7 rfl ht w28 rfl (by decide) fun F143 eF143 hW142 => ?_
            have h := h F143 eF143
            refine r_aload_n dX6_of_86 rfl ?_
            refine j_dup dX6_of_87 (vR_cat _) ?_
            refine r_gI dX6_of_88 flX6_59_7 rfl ht rfl ?_
            refine j_iconst dX6_of_91 ?_
            refine j_iadd dX6_of_92 ?_
            obtain ⟨r144, h⟩ := h
            refine c_pI hW142 dX6_of_93 flX6_59_7 rfl ht w28 rfl r144 fun F146 eF146 hW145 => ?_
            have h := h F146 eF146
            refine r_aload_n dX6_of_96 rfl ?_
            refine j_dup dX6_of_97 (vR_cat _) ?_
            refine r_gI dX6_of_98 flX6_62_7 rfl ht rfl ?_
            refine j_iconst dX6_of_101 ?_
            refine j_iadd dX6_of_102 ?_
            obtain ⟨r147, h⟩ := h
            refine c_pI hW145 dX6_of_103 flX6_62_7 rfl ht w28 rfl r147 fun F149 eF149 hW148 => ?_
            have h := h F149 eF149
            refine r_aload_n dX6_of_106 rfl ?_
            refine r_aload_n dX6_of_107 rfl ?_
            refine r_gRF dX6_of_108 flX6_22_7 rfl ht rfl ?_
            refine r_aload_n dX6_of_111 rfl ?_
            refine r_aload_n dX6_of_112 rfl ?_
            obtain ⟨P150, hp151, h⟩ := h
            refine r_invV (ci := 7) (As := [vR (jfn N 2105 o), vR a1, vR a2]) (rest := []) dX6_of_113 lkX6_69 rfl ht rfl rfl (vX6_next (d := 5) (Nat.le_of_ble_eq_true rfl) hW148 ht  hp151) rfl rfl (Nat.le_of_ble_eq_true rfl) (Nat.le_trans (Nat.le_of_ble_eq_true rfl) hd) (ckmB fun z152 F153 A154 hW155 p157 r158 => ?_)
            have h := h z152 F153 A154 p157
            obtain ⟨h1, h2⟩ := h
            refine j_if_ne 36 dX6_of_116 rfl (jR_b r158) (fun q159 => ?_) (fun q159 => ?_)
            · have h := h1 q159
              clear h1 h2
              exact J.wk (((((jWk.nil).eq).eq).eq).eq) (ihI38 _ _ _ (Nat.lt_of_lt_of_le h.2 (Nat.le_of_lt_succ hmuI38)) hW155 (ev141 ▸ r140) h.1)
            · have h := h2 (Classical.not_not.mp q159)
              clear h1 h2
              refine r_aload_n dX6_of_119 rfl ?_
              obtain ⟨P160, hp161, h⟩ := h
              refine r_invV (ci := 7) (As := []) (rest := []) dX6_of_120 lkX6_73 rfl ht rfl rfl (vX6_lost (d := 2) (Nat.le_of_ble_eq_true rfl) hW155 ht  hp161) rfl rfl (Nat.le_of_ble_eq_true rfl) (Nat.le_trans (Nat.le_of_ble_eq_true rfl) hd) (ckmR fun z162 F163 A164 hW165 p167 r168 => ?_)
              have h := h z162 F163 A164 p167
              exact r_aret dX6_of_123 rfl (Or.inl ⟨_, rfl⟩) ⟨_, rfl, rfl, hW165, h, trivial⟩
  exact J.wk (((((jWk.nil).eq).eq).eq).eq) (lp _ _ _ _ (Nat.lt_succ_self _) hW31 (by decide) h0)
/-- ChildSays$Put.isBetter()Z -/
def wqX7_isBetter (o : Nat) (N : jSh) (F : jFl) (A : jAr) (Q : Int → jFl → jAr → Prop) : Prop :=
  ∀ v1 : Int, v1 = F 2412 o →
  ∃ (I10 : Int → Int → Int → Int → jFl → jAr → Prop) (m11 : Int → Int → Int → Int → jFl → jAr → Nat), I10 (-1) (-1) v1 0 F A ∧ ∀ (v2 : Int) (v3 : Int) (v4 : Int) (v5 : Int) (F6 : jFl) (A7 : jAr), I10 v2 v3 v4 v5 F6 A7 →
    ∃ b12 : Nat, jfn N 2402 o = (b12 : Int) ∧
    jtg N b12 = 4 ∧
    (((F6 1203 b12) ≤ v5) →
      ((¬ v2 = (-1)) →
        ∃ (P17 : jFl → jAr → Prop), wqX7_swaps o v2 v3 N F6 A7 P17 ∧
        ∀ F20 A21, P17 F20 A21 →
        jfn N 0 o = 1 ∧
        ∀ F28 : jFl, F28 = upF F20 2412 o v4 →
        Q 1 F28 A21) ∧
      ((v2 = (-1)) →
        Q 0 F6 A7)) ∧
    ((¬ ((F6 1203 b12) ≤ v5)) →
      jR (v5 + 1) ∧
      ∀ v30 : Int, v30 = v5 + 1 →
      ∃ (I39 : Int → Int → Int → Int → jFl → jAr → Prop) (m40 : Int → Int → Int → Int → jFl → jAr → Nat), I39 v2 v3 v4 v30 F6 A7 ∧ ∀ (v31 : Int) (v32 : Int) (v33 : Int) (v34 : Int) (F35 : jFl) (A36 : jAr), I39 v31 v32 v33 v34 F35 A36 →
        (((F35 1203 b12) ≤ v34) →
          jR (v5 + 1) ∧
          I10 v31 v32 v33 (v5 + 1) F35 A36 ∧ m11 v31 v32 v33 (v5 + 1) F35 A36 < m11 v2 v3 v4 v5 F6 A7) ∧
        ((¬ ((F35 1203 b12) ≤ v34)) →
          ∃ (P43 : jFl → jAr → Prop), wqX7_swaps o v5 v34 N F35 A36 P43 ∧
          ∀ F46 A47, P43 F46 A47 →
          ∃ (P52 : Int → jFl → jAr → Prop), wqX7_many o N F46 A47 P52 ∧
          ∀ z54 F55 A56, P52 z54 F55 A56 →
          ∃ (P61 : jFl → jAr → Prop), wqX7_swaps o v5 v34 N F55 A56 P61 ∧
          ∀ F64 A65, P61 F64 A65 →
          ((v33 < z54) →
            jR (v34 + 1) ∧
            I39 v5 v34 z54 (v34 + 1) F64 A65 ∧ m40 v5 v34 z54 (v34 + 1) F64 A65 < m40 v31 v32 v33 v34 F35 A36) ∧
          ((¬ (v33 < z54)) →
            jR (v34 + 1) ∧
            I39 v31 v32 v33 (v34 + 1) F64 A65 ∧ m40 v31 v32 v33 (v34 + 1) F64 A65 < m40 v31 v32 v33 v34 F35 A36)))
theorem vX7_isBetter {G : jG} {l : Launch} [jOff l] {d : Nat} {N : jSh} {F : jFl} {A : jAr} {o : Nat} {Q : Int → jFl → jAr → Prop} (hd : 7 ≤ d) (hW : jWg G N F A) (ht : jtg N o = 8) (h : wqX7_isBetter o N F A Q) : jCall G l d mX7_isBetter [vR (o : Int)] N F A (cmB G N Q) := by
  unfold wqX7_isBetter at h
  refine jCall.of (by decide) rfl (ls := [vR (o : Int), jD, jD, jD, jD, jD, jD]) (by simp only [jent_R, jent_I, jent_L, jent_nil]; exact Nat.le_of_ble_eq_true rfl) (by simp only [jloc, jent_R, jent_I, jent_L, jent_nil]; rfl) ?_
  refine j_iconst dX7_isBetter_0 ?_
  refine j_istore_n dX7_isBetter_1 (jokR rfl (Nat.le_of_ble_eq_true rfl)) ?_
  refine j_iconst dX7_isBetter_2 ?_
  refine j_istore_n dX7_isBetter_3 rfl ?_
  refine r_aload_n dX7_isBetter_4 rfl ?_
  refine r_gI dX7_isBetter_5 flX7_33_8 rfl ht rfl ?_
  obtain ⟨v1, ev1⟩ : ∃ x : Int, x = F 2412 o := ⟨_, rfl⟩
  have h := h v1 ev1
  refine jnmI (e := ev1) ?_
  refine j_istore_n dX7_isBetter_8 rfl ?_
  refine j_iconst dX7_isBetter_9 ?_
  refine j_istore dX7_isBetter_10 rfl ?_
  obtain ⟨I10, m11, h0, hs⟩ := h
  have lp : ∀ (n : Nat) (v2 : Int) (v3 : Int) (v4 : Int) (v5 : Int) (F6 : jFl) (A7 : jAr), m11 v2 v3 v4 v5 F6 A7 < n → jWg G N F6 A7 → jR v2 → jR v3 → jR v4 → jR v5 → I10 v2 v3 v4 v5 F6 A7 → J G l d mX7_isBetter 12 [vR (o : Int), vI v2, vI v3, vI v4, vI v5, jD, jD] [] N F6 A7 (cmB G N Q) := by
    intro nI10
    induction nI10 with
    | zero =>
      intro v2 v3 v4 v5 F6 A7 hmu
      exact absurd hmu (Nat.not_lt_zero _)
    | succ nI10 ihI10 =>
      intro v2 v3 v4 v5 F6 A7 hmuI10 hW8 rv2 rv3 rv4 rv5 hI
      have h := hs v2 v3 v4 v5 F6 A7 hI
      refine j_iload dX7_isBetter_12 rfl ?_
      refine r_aload_n dX7_isBetter_14 rfl ?_
      refine r_gRF dX7_isBetter_15 flX7_18_8 rfl ht rfl ?_
      obtain ⟨b12, hz13, h⟩ := h
      obtain ⟨t14, h⟩ := h
      refine r_gI dX7_isBetter_18 flX7_47_4 hz13 t14 rfl ?_
      obtain ⟨h1, h2⟩ := h
      refine j_icmp_ge 94 dX7_isBetter_21 rfl rv5 (hW8.fi rfl) (fun q15 => ?_) (fun q15 => ?_)
      · have h := h1 q15
        clear h1 h2
        refine j_iload_n dX7_isBetter_94 rfl ?_
        refine j_iconst dX7_isBetter_95 ?_
        obtain ⟨h1, h2⟩ := h
        refine j_icmp_ne 101 dX7_isBetter_96 rfl rv2 (by decide) (fun q16 => ?_) (fun q16 => ?_)
        · have h := h1 q16
          clear h1 h2
          refine r_aload_n dX7_isBetter_101 rfl ?_
          refine j_iload_n dX7_isBetter_102 rfl ?_
          refine j_iload_n dX7_isBetter_103 rfl ?_
          obtain ⟨P17, hp18, h⟩ := h
          refine r_invV (ci := 8) (As := [vI v2, vI v3]) (rest := []) dX7_isBetter_104 lkX7_74 rfl ht rfl rfl (vX7_swaps (d := 3) (Nat.le_of_ble_eq_true rfl) hW8 ht rv2 rv3 hp18) rfl rfl (Nat.le_of_ble_eq_true rfl) (Nat.le_trans (Nat.le_of_ble_eq_true rfl) hd) (ckmV fun F20 A21 hW22 p24 => ?_)
          have h := h F20 A21 p24
          refine r_aload_n dX7_isBetter_107 rfl ?_
          refine j_iload_n dX7_isBetter_108 rfl ?_
          obtain ⟨w26, h⟩ := h
          refine c_pI hW22 dX7_isBetter_109 flX7_33_8 rfl ht w26 rfl rv4 fun F28 eF28 hW27 => ?_
          have h := h F28 eF28
          refine j_iconst dX7_isBetter_112 ?_
          exact j_zret dX7_isBetter_113 rfl (nr_bool (by decide)) ⟨_, rfl, rfl, hW27, h, (by decide)⟩
        · have h := h2 (Classical.not_not.mp q16)
          clear h1 h2
          refine j_iconst dX7_isBetter_99 ?_
          exact j_zret dX7_isBetter_100 rfl (nr_bool (by decide)) ⟨_, rfl, rfl, hW8, h, (by decide)⟩
      · have h := h2 q15
        clear h1 h2
        refine j_iload dX7_isBetter_24 rfl ?_
        refine j_iconst dX7_isBetter_26 ?_
        refine j_iadd dX7_isBetter_27 ?_
        obtain ⟨r29, h⟩ := h
        obtain ⟨v30, ev30⟩ : ∃ x : Int, x = v5 + 1 := ⟨_, rfl⟩
        have h := h v30 ev30
        refine jnmI (e := ev30) ?_
        refine j_istore dX7_isBetter_28 rfl ?_
        obtain ⟨I39, m40, h0, hs⟩ := h
        have lp : ∀ (n : Nat) (v31 : Int) (v32 : Int) (v33 : Int) (v34 : Int) (F35 : jFl) (A36 : jAr), m40 v31 v32 v33 v34 F35 A36 < n → jWg G N F35 A36 → jR v31 → jR v32 → jR v33 → jR v34 → I39 v31 v32 v33 v34 F35 A36 → J G l d mX7_isBetter 30 [vR (o : Int), vI v31, vI v32, vI v33, vI v5, vI v34, jD] [] N F35 A36 (cmB G N Q) := by
          intro nI39
          induction nI39 with
          | zero =>
            intro v31 v32 v33 v34 F35 A36 hmu
            exact absurd hmu (Nat.not_lt_zero _)
          | succ nI39 ihI39 =>
            intro v31 v32 v33 v34 F35 A36 hmuI39 hW37 rv31 rv32 rv33 rv34 hI
            have h := hs v31 v32 v33 v34 F35 A36 hI
            refine j_iload dX7_isBetter_30 rfl ?_
            refine r_aload_n dX7_isBetter_32 rfl ?_
            refine r_gRF dX7_isBetter_33 flX7_18_8 rfl ht rfl ?_
            refine r_gI dX7_isBetter_36 flX7_47_4 hz13 t14 rfl ?_
            obtain ⟨h1, h2⟩ := h
            refine j_icmp_ge 88 dX7_isBetter_39 rfl rv34 (hW37.fi rfl) (fun q41 => ?_) (fun q41 => ?_)
            · have h := h1 q41
              clear h1 h2
              obtain ⟨r42, h⟩ := h
              refine j_iinc dX7_isBetter_88 rfl rfl ?_
              refine j_goto 12 dX7_isBetter_91 rfl ?_
              exact J.wk ((((((((jWk.nil).no).no).eq).eq).eq).eq).eq) (ihI10 _ _ _ _ _ _ (Nat.lt_of_lt_of_le h.2 (Nat.le_of_lt_succ hmuI10)) hW37 rv31 rv32 rv33 r42 h.1)
            · have h := h2 q41
              clear h1 h2
              refine r_aload_n dX7_isBetter_42 rfl ?_
              refine j_iload dX7_isBetter_43 rfl ?_
              refine j_iload dX7_isBetter_45 rfl ?_
              obtain ⟨P43, hp44, h⟩ := h
              refine r_invV (ci := 8) (As := [vI v5, vI v34]) (rest := []) dX7_isBetter_47 lkX7_74 rfl ht rfl rfl (vX7_swaps (d := 3) (Nat.le_of_ble_eq_true rfl) hW37 ht rv5 rv34 hp44) rfl rfl (Nat.le_of_ble_eq_true rfl) (Nat.le_trans (Nat.le_of_ble_eq_true rfl) hd) (ckmV fun F46 A47 hW48 p50 => ?_)
              have h := h F46 A47 p50
              refine r_aload_n dX7_isBetter_50 rfl ?_
              obtain ⟨P52, hp53, h⟩ := h
              refine r_invV (ci := 8) (As := []) (rest := []) dX7_isBetter_51 lkX7_62 rfl ht rfl rfl (vX7_many (d := 6) (Nat.le_of_ble_eq_true rfl) hW48 ht  hp53) rfl rfl (Nat.le_of_ble_eq_true rfl) (Nat.le_trans (Nat.le_of_ble_eq_true rfl) hd) (ckmI fun z54 F55 A56 hW57 p59 r60 => ?_)
              have h := h z54 F55 A56 p59
              refine j_istore dX7_isBetter_54 rfl ?_
              refine r_aload_n dX7_isBetter_56 rfl ?_
              refine j_iload dX7_isBetter_57 rfl ?_
              refine j_iload dX7_isBetter_59 rfl ?_
              obtain ⟨P61, hp62, h⟩ := h
              refine r_invV (ci := 8) (As := [vI v5, vI v34]) (rest := []) dX7_isBetter_61 lkX7_74 rfl ht rfl rfl (vX7_swaps (d := 3) (Nat.le_of_ble_eq_true rfl) hW57 ht rv5 rv34 hp62) rfl rfl (Nat.le_of_ble_eq_true rfl) (Nat.le_trans (Nat.le_of_ble_eq_true rfl) hd) (ckmV fun F64 A65 hW66 p68 => ?_)
              have h := h F64 A65 p68
              refine j_iload dX7_isBetter_64 rfl ?_
              refine j_iload_n dX7_isBetter_66 rfl ?_
              obtain ⟨h1, h2⟩ := h
              refine j_icmp_gt 73 dX7_isBetter_67 rfl r60 rv33 (fun q70 => ?_) (fun q70 => ?_)
              · have h := h1 q70
                clear h1 h2
                refine j_iload dX7_isBetter_73 rfl ?_
                refine j_istore_n dX7_isBetter_75 rfl ?_
                refine j_iload dX7_isBetter_76 rfl ?_
                refine j_istore_n dX7_isBetter_78 (jokR rfl (Nat.le_of_ble_eq_true rfl)) ?_
                refine j_iload dX7_isBetter_79 rfl ?_
                refine j_istore_n dX7_isBetter_81 rfl ?_
                obtain ⟨r71, h⟩ := h
                refine j_iinc dX7_isBetter_82 rfl rfl ?_
                refine j_goto 30 dX7_isBetter_85 rfl ?_
                exact J.wk ((((((((jWk.nil).no).eq).eq).eq).eq).eq).eq) (ihI39 _ _ _ _ _ _ (Nat.lt_of_lt_of_le h.2 (Nat.le_of_lt_succ hmuI39)) hW66 rv5 rv34 r60 r71 h.1)
              · have h := h2 q70
                clear h1 h2
                refine j_goto 82 dX7_isBetter_70 rfl ?_
                obtain ⟨r72, h⟩ := h
                refine j_iinc dX7_isBetter_82 rfl rfl ?_
                refine j_goto 30 dX7_isBetter_85 rfl ?_
                exact J.wk ((((((((jWk.nil).no).eq).eq).eq).eq).eq).eq) (ihI39 _ _ _ _ _ _ (Nat.lt_of_lt_of_le h.2 (Nat.le_of_lt_succ hmuI39)) hW66 rv31 rv32 rv33 r72 h.1)
        exact J.wk ((((((((jWk.nil).no).eq).eq).eq).eq).eq).eq) (lp _ _ _ _ _ _ _ (Nat.lt_succ_self _) hW8 rv2 rv3 rv4 (ev30 ▸ r29) h0)
  exact J.wk ((((((((jWk.nil).no).no).eq).eq).eq).eq).eq) (lp _ _ _ _ _ _ _ (Nat.lt_succ_self _) hW (by decide) (by decide) (ev1 ▸ (hW.fi rfl)) (by decide) h0)
/-- ChildSays$Put.search(II)LChildSays$Put; -/
def wqX7_search : Nat → Nat → Int → Int → jSh → jFl → jAr → (Int → jFl → jAr → Prop) → Prop
  | 0, _, _, _, _, _, _, _ => False
  | n + 1, o, a1, a2, N, F, A, Q =>
  ∃ b1 : Nat, jfn N 2402 o = (b1 : Int) ∧
  jtg N b1 = 4 ∧
  ((¬ a1 = (F 1203 b1)) →
    ∃ (I10 : Int → jFl → jAr → Prop) (m11 : Int → jFl → jAr → Nat), I10 0 F A ∧ ∀ (v5 : Int) (F6 : jFl) (A7 : jAr), I10 v5 F6 A7 →
      (((F6 1203 b1) ≤ v5) →
        Q (o : Int) F6 A7) ∧
      ((¬ ((F6 1203 b1) ≤ v5)) →
        ((0 : Int) ≤ v5 ∧ (v5 : Int) < 32) ∧
        ((¬ ((a2 / 2 ^ v5.toNat) % 2) = 1) →
          ∃ (P15 : jFl → jAr → Prop), wqX7_puts o a1 v5 N F6 A7 P15 ∧
          ∀ F18 A19, P15 F18 A19 →
          ((0 : Int) ≤ v5 ∧ (v5 : Int) < 32) ∧
          (((0 : Int) ≤ a2 ∧ (a2 : Int) ≤ 2147483647) ∧ ((0 : Int) ≤ 1 * 2 ^ v5.toNat ∧ (1 * 2 ^ v5.toNat : Int) ≤ 2147483647)) ∧
          jR (a1 + 1) ∧
          jR (jor a2 (1 * 2 ^ v5.toNat)) ∧
          ∃ (P28 : Int → jFl → jAr → Prop), wqX7_search n o (a1 + 1) (jor a2 (1 * 2 ^ v5.toNat)) N F18 A19 P28 ∧
          ∀ z30 F31 A32, P28 z30 F31 A32 →
          jR (v5 + 1) ∧
          I10 (v5 + 1) F31 A32 ∧ m11 (v5 + 1) F31 A32 < m11 v5 F6 A7) ∧
        ((((a2 / 2 ^ v5.toNat) % 2) = 1) →
          jR (v5 + 1) ∧
          I10 (v5 + 1) F6 A7 ∧ m11 (v5 + 1) F6 A7 < m11 v5 F6 A7))) ∧
  ((a1 = (F 1203 b1)) →
    ∃ (P39 : Int → jFl → jAr → Prop), wqX7_many o N F A P39 ∧
    ∀ z41 F42 A43, P39 z41 F42 A43 →
    (((F42 2412 o) < z41) →
      jfn N 0 o = 1 ∧
      ∀ F51 : jFl, F51 = upF F42 2412 o z41 →
      ∃ (I56 : Int → jAr → Prop) (m57 : Int → jAr → Nat), I56 0 A43 ∧ ∀ (v52 : Int) (A53 : jAr), I56 v52 A53 →
        ((a1 ≤ v52) →
          Q (o : Int) F51 A53) ∧
        ((¬ (a1 ≤ v52)) →
          ∃ b59 : Nat, jfn N 2405 o = (b59 : Int) ∧
          jtg N b59 = 102 ∧
          ((0 : Int) ≤ v52 ∧ (v52 : Int) < (jln N b59 : Int)) ∧
          ∃ b63 : Nat, jfn N 2408 o = (b63 : Int) ∧
          jtg N b63 = 102 ∧
          jfn N 0 b63 = 1 ∧
          ((0 : Int) ≤ v52 ∧ (v52 : Int) < (jln N b63 : Int)) ∧
          ∀ A68 : jAr, A68 = upA A53 b63 v52 (A53 b59 v52) →
          jR (v52 + 1) ∧
          I56 (v52 + 1) A68 ∧ m57 (v52 + 1) A68 < m57 v52 A53)) ∧
    ((¬ ((F42 2412 o) < z41)) →
      Q (o : Int) F42 A43))
theorem vX7_search {G : jG} {l : Launch} [jOff l] : ∀ (n : Nat) {d : Nat} {N : jSh} {F : jFl} {A : jAr} {o : Nat} {a1 a2 : Int} {Q : Int → jFl → jAr → Prop}, 7 + n ≤ d → jWg G N F A → jtg N o = 8 → jR a1 → jR a2 → wqX7_search n o a1 a2 N F A Q → jCall G l d mX7_search [vR (o : Int), vI a1, vI a2] N F A (cmR G N Q) := by
  intro n
  induction n with
  | zero => intros; rename_i h; exact absurd h (by unfold wqX7_search; exact id)
  | succ n ihn =>
    intro d N F A o a1 a2 Q hd hW ht ra1 ra2 h
    unfold wqX7_search at h
    refine jCall.of (by decide) rfl (ls := [vR (o : Int), vI a1, vI a2, jD, jD]) (by simp only [jent_R, jent_I, jent_L, jent_nil]; exact Nat.le_of_ble_eq_true rfl) (by simp only [jloc, jent_R, jent_I, jent_L, jent_nil]; rfl) ?_
    refine j_iload_n dX7_search_0 rfl ?_
    refine r_aload_n dX7_search_1 rfl ?_
    refine r_gRF dX7_search_2 flX7_18_8 rfl ht rfl ?_
    obtain ⟨b1, hz2, h⟩ := h
    obtain ⟨t3, h⟩ := h
    refine r_gI dX7_search_5 flX7_47_4 hz2 t3 rfl ?_
    obtain ⟨h1, h2⟩ := h
    refine j_icmp_ne 62 dX7_search_8 rfl ra1 (hW.fi rfl) (fun q4 => ?_) (fun q4 => ?_)
    · have h := h1 q4
      clear h1 h2
      refine j_iconst dX7_search_62 ?_
      refine j_istore_n dX7_search_63 rfl ?_
      obtain ⟨I10, m11, h0, hs⟩ := h
      have lp : ∀ (n : Nat) (v5 : Int) (F6 : jFl) (A7 : jAr), m11 v5 F6 A7 < n → jWg G N F6 A7 → jR v5 → I10 v5 F6 A7 → J G l d mX7_search 64 [vR (o : Int), vI a1, vI a2, vI v5, jD] [] N F6 A7 (cmR G N Q) := by
        intro nI10
        induction nI10 with
        | zero =>
          intro v5 F6 A7 hmu
          exact absurd hmu (Nat.not_lt_zero _)
        | succ nI10 ihI10 =>
          intro v5 F6 A7 hmuI10 hW8 rv5 hI
          have h := hs v5 F6 A7 hI
          refine j_iload_n dX7_search_64 rfl ?_
          refine r_aload_n dX7_search_65 rfl ?_
          refine r_gRF dX7_search_66 flX7_18_8 rfl ht rfl ?_
          refine r_gI dX7_search_69 flX7_47_4 hz2 t3 rfl ?_
          obtain ⟨h1, h2⟩ := h
          refine j_icmp_ge 112 dX7_search_72 rfl rv5 (hW8.fi rfl) (fun q12 => ?_) (fun q12 => ?_)
          · have h := h1 q12
            clear h1 h2
            refine r_aload_n dX7_search_112 rfl ?_
            exact r_aret dX7_search_113 rfl (Or.inl ⟨_, rfl⟩) ⟨_, rfl, rfl, hW8, h, trivial⟩
          · have h := h2 q12
            clear h1 h2
            refine j_iload_n dX7_search_75 rfl ?_
            refine j_iload_n dX7_search_76 rfl ?_
            obtain ⟨c13, h⟩ := h
            refine j_ishr dX7_search_77 ra2 c13 ?_
            refine j_iconst dX7_search_78 ?_
            refine j_iand 1 (by decide) (by decide +kernel) dX7_search_79 ?_
            rw [show ((2 ^ 1 : Nat) : Int) = 2 from rfl]
            refine j_iconst dX7_search_80 ?_
            obtain ⟨h1, h2⟩ := h
            refine j_icmp_ne 87 dX7_search_81 rfl (jR_mod (x := a2 / 2 ^ v5.toNat) (m := 2) (by decide)) (by decide) (fun q14 => ?_) (fun q14 => ?_)
            · have h := h1 q14
              clear h1 h2
              refine r_aload_n dX7_search_87 rfl ?_
              refine j_iload_n dX7_search_88 rfl ?_
              refine j_iload_n dX7_search_89 rfl ?_
              obtain ⟨P15, hp16, h⟩ := h
              refine r_invV (ci := 8) (As := [vI a1, vI v5]) (rest := []) dX7_search_90 lkX7_66 rfl ht rfl rfl (vX7_puts (d := 2) (Nat.le_of_ble_eq_true rfl) hW8 ht ra1 rv5 hp16) rfl rfl (Nat.le_of_ble_eq_true rfl) (by omega) (ckmV fun F18 A19 hW20 p22 => ?_)
              have h := h F18 A19 p22
              refine r_aload_n dX7_search_93 rfl ?_
              refine j_iload_n dX7_search_94 rfl ?_
              refine j_iconst dX7_search_95 ?_
              refine j_iadd dX7_search_96 ?_
              refine j_iload_n dX7_search_97 rfl ?_
              refine j_iconst dX7_search_98 ?_
              refine j_iload_n dX7_search_99 rfl ?_
              obtain ⟨c24, h⟩ := h
              refine j_ishl dX7_search_100 c24 ?_
              obtain ⟨c25, h⟩ := h
              refine j_ior dX7_search_101 c25.1 c25.2 ?_
              obtain ⟨r26, h⟩ := h
              obtain ⟨r27, h⟩ := h
              obtain ⟨P28, hp29, h⟩ := h
              refine r_invV (ci := 8) (As := [vI (a1 + 1), vI (jor a2 (1 * 2 ^ v5.toNat))]) (rest := []) dX7_search_102 lkX7_70 rfl ht rfl rfl (ihn (d := 7 + n) (Nat.le_refl _) hW20 ht r26 r27 hp29) rfl rfl (Nat.le_of_ble_eq_true rfl) hd (ckmR fun z30 F31 A32 hW33 p35 r36 => ?_)
              have h := h z30 F31 A32 p35
              refine j_pop dX7_search_105 (vR_cat _) ?_
              obtain ⟨r37, h⟩ := h
              refine j_iinc dX7_search_106 rfl rfl ?_
              refine j_goto 64 dX7_search_109 rfl ?_
              exact J.wk ((((((jWk.nil).no).eq).eq).eq).eq) (ihI10 _ _ _ (Nat.lt_of_lt_of_le h.2 (Nat.le_of_lt_succ hmuI10)) hW33 r37 h.1)
            · have h := h2 (Classical.not_not.mp q14)
              clear h1 h2
              refine j_goto 106 dX7_search_84 rfl ?_
              obtain ⟨r38, h⟩ := h
              refine j_iinc dX7_search_106 rfl rfl ?_
              refine j_goto 64 dX7_search_109 rfl ?_
              exact J.wk ((((((jWk.nil).no).eq).eq).eq).eq) (ihI10 _ _ _ (Nat.lt_of_lt_of_le h.2 (Nat.le_of_lt_succ hmuI10)) hW8 r38 h.1)
      exact J.wk ((((((jWk.nil).no).eq).eq).eq).eq) (lp _ _ _ _ (Nat.lt_succ_self _) hW (by decide) h0)
    · have h := h2 (Classical.not_not.mp q4)
      clear h1 h2
      refine r_aload_n dX7_search_11 rfl ?_
      obtain ⟨P39, hp40, h⟩ := h
      refine r_invV (ci := 8) (As := []) (rest := []) dX7_search_12 lkX7_62 rfl ht rfl rfl (vX7_many (d := 6) (Nat.le_of_ble_eq_true rfl) hW ht  hp40) rfl rfl (Nat.le_of_ble_eq_true rfl) (by omega) (ckmI fun z41 F42 A43 hW44 p46 r47 => ?_)
      have h := h z41 F42 A43 p46
      refine j_istore_n dX7_search_15 rfl ?_
      refine j_iload_n dX7_search_16 rfl ?_
      refine r_aload_n dX7_search_17 rfl ?_
      refine r_gI dX7_search_18 flX7_33_8 rfl ht rfl ?_
      obtain ⟨h1, h2⟩ := h
      refine j_icmp_gt 26 dX7_search_21 rfl r47 (hW44.fi rfl) (fun q48 => ?_) (fun q48 => ?_)
      · have h := h1 q48
        clear h1 h2
        refine r_aload_n dX7_search_26 rfl ?_
        refine j_iload_n dX7_search_27 rfl ?_
        obtain ⟨w49, h⟩ := h
        refine c_pI hW44 dX7_search_28 flX7_33_8 rfl ht w49 rfl r47 fun F51 eF51 hW50 => ?_
        have h := h F51 eF51
        refine j_iconst dX7_search_31 ?_
        refine j_istore dX7_search_32 rfl ?_
        obtain ⟨I56, m57, h0, hs⟩ := h
        have lp : ∀ (n : Nat) (v52 : Int) (A53 : jAr), m57 v52 A53 < n → jWg G N F51 A53 → jR v52 → I56 v52 A53 → J G l d mX7_search 34 [vR (o : Int), vI a1, jD, jD, vI v52] [] N F51 A53 (cmR G N Q) := by
          intro nI56
          induction nI56 with
          | zero =>
            intro v52 A53 hmu
            exact absurd hmu (Nat.not_lt_zero _)
          | succ nI56 ihI56 =>
            intro v52 A53 hmuI56 hW54 rv52 hI
            have h := hs v52 A53 hI
            refine j_iload dX7_search_34 rfl ?_
            refine j_iload_n dX7_search_36 rfl ?_
            obtain ⟨h1, h2⟩ := h
            refine j_icmp_ge 60 dX7_search_37 rfl rv52 ra1 (fun q58 => ?_) (fun q58 => ?_)
            · have h := h1 q58
              clear h1 h2
              refine r_aload_n dX7_search_60 rfl ?_
              exact r_aret dX7_search_61 rfl (Or.inl ⟨_, rfl⟩) ⟨_, rfl, rfl, hW54, h, trivial⟩
            · have h := h2 q58
              clear h1 h2
              refine r_aload_n dX7_search_40 rfl ?_
              refine r_gRF dX7_search_41 flX7_26_8 rfl ht rfl ?_
              refine j_iload dX7_search_44 rfl ?_
              refine r_aload_n dX7_search_46 rfl ?_
              refine r_gRF dX7_search_47 flX7_22_8 rfl ht rfl ?_
              refine j_iload dX7_search_50 rfl ?_
              obtain ⟨b59, hz60, h⟩ := h
              obtain ⟨t61, h⟩ := h
              obtain ⟨c62, h⟩ := h
              refine r_iald dX7_search_52 hz60 t61 c62 ?_
              obtain ⟨b63, hz64, h⟩ := h
              obtain ⟨t65, h⟩ := h
              obtain ⟨w66, h⟩ := h
              obtain ⟨c67, h⟩ := h
              refine c_iast hW54 dX7_search_53 hz64 t65 w66 c67 (hW54.ai t61 rfl) fun A68 eA68 hW69 => ?_
              have h := h A68 eA68
              obtain ⟨r70, h⟩ := h
              refine j_iinc dX7_search_54 rfl rfl ?_
              refine j_goto 34 dX7_search_57 rfl ?_
              exact J.wk ((((((jWk.nil).eq).no).no).eq).eq) (ihI56 _ _ (Nat.lt_of_lt_of_le h.2 (Nat.le_of_lt_succ hmuI56)) hW69 r70 h.1)
        exact J.wk ((((((jWk.nil).eq).no).no).eq).eq) (lp _ _ _ (Nat.lt_succ_self _) hW50 (by decide) h0)
      · have h := h2 q48
        clear h1 h2
        refine r_aload_n dX7_search_24 rfl ?_
        exact r_aret dX7_search_25 rfl (Or.inl ⟨_, rfl⟩) ⟨_, rfl, rfl, hW44, h, trivial⟩
/-- ChildSays$Order.whole(LChildSays$Child;)I -/
def wqX8_whole (o : Nat) (a1 : Int) (N : jSh) (F : jFl) (A : jAr) (Q : Int → jFl → jAr → Prop) : Prop :=
  ∃ b1 : Nat, jfn N 2702 o = (b1 : Int) ∧
  jtg N b1 = 5 ∧
  ∃ (P4 : Int → jFl → jAr → Prop), wqX4_saidBy b1 a1 N F A P4 ∧
  ∀ z6 F7 A8, P4 z6 F7 A8 →
  ∃ b13 : Nat, z6 = (b13 : Int) ∧
  jtg N b13 = 5 ∧
  ∃ (P16 : Int → Prop), wqX4_kinds b13 0 N F7 A8 P16 ∧
  ∀ z18, P16 z18 →
  Q z18 F7 A8
theorem vX8_whole {G : jG} {l : Launch} [jOff l] {d : Nat} {N : jSh} {F : jFl} {A : jAr} {o : Nat} {a1 : Int} {Q : Int → jFl → jAr → Prop} (hd : 7 ≤ d) (hW : jWg G N F A) (ht : jtg N o = 9) (h : wqX8_whole o a1 N F A Q) : jCall G l d mX8_whole [vR (o : Int), vR a1] N F A (cmI G N Q) := by
  unfold wqX8_whole at h
  refine jCall.of (by decide) rfl (ls := [vR (o : Int), vR a1]) (by simp only [jent_R, jent_I, jent_L, jent_nil]; exact Nat.le_of_ble_eq_true rfl) (by simp only [jloc, jent_R, jent_I, jent_L, jent_nil]; rfl) ?_
  refine r_aload_n dX8_whole_0 rfl ?_
  refine r_gRF dX8_whole_1 flX8_20_9 rfl ht rfl ?_
  refine r_aload_n dX8_whole_4 rfl ?_
  obtain ⟨b1, hz2, h⟩ := h
  obtain ⟨t3, h⟩ := h
  obtain ⟨P4, hp5, h⟩ := h
  refine r_invV (ci := 5) (As := [vR a1]) (rest := []) dX8_whole_5 lkX8_30 hz2 t3 rfl rfl (vX4_saidBy (d := 6) (Nat.le_of_ble_eq_true rfl) hW t3  hp5) rfl rfl (Nat.le_of_ble_eq_true rfl) (Nat.le_trans (Nat.le_of_ble_eq_true rfl) hd) (ckmR fun z6 F7 A8 hW9 p11 r12 => ?_)
  have h := h z6 F7 A8 p11
  refine j_iconst dX8_whole_8 ?_
  obtain ⟨b13, hz14, h⟩ := h
  obtain ⟨t15, h⟩ := h
  obtain ⟨P16, hp17, h⟩ := h
  refine r_invV (ci := 5) (As := [vI 0]) (rest := []) dX8_whole_9 lkX8_34 hz14 t15 rfl rfl (vX4_kinds (d := 3) (Nat.le_of_ble_eq_true rfl) hW9 t15 (by decide) hp17) rfl rfl (Nat.le_of_ble_eq_true rfl) (Nat.le_trans (Nat.le_of_ble_eq_true rfl) hd) (jkpI fun z18 p21 r22 => ?_)
  have h := h z18 p21
  exact j_iret dX8_whole_12 rfl ⟨_, rfl, rfl, hW9, h, r22⟩
