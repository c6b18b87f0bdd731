set_option maxRecDepth 100000
set_option linter.unusedVariables false
/-! walks of ChildSaysModel: printed by gen/walk.py -/
/-- alike(II)I -/
def wpX9_alike (o : Nat) (a1 : Int) (a2 : Int) (F : jFl) (A : jAr) (Q : Int → Prop) : Prop :=
  ∃ P1 : Int → Prop, wpX9_isWordOf o a1 F A P1 ∧ ∀ z3, P1 z3 →
  ((z3 = 0) →
    Q (-1)) ∧
  (¬ (z3 = 0) →
    ∃ P7 : Int → Prop, wpX9_isWordOf o a2 F A P7 ∧ ∀ z9, P7 z9 →
    ((z9 = 0) →
      Q (-1)) ∧
    (¬ (z9 = 0) →
      ∃ P13 : Int → Prop, wpX9_likes o a1 a2 F A P13 ∧ ∀ z15, P13 z15 →
      Q z15))
theorem wX9_alike {G : jG} {l : Launch} {d : Nat} {N : jSh} {o : Nat} {F : jFl} {A : jAr} {a1 a2 : Int} {Q : Int → Prop} (hd : 2 ≤ d) (hM : mShape G N o) (hW : jWf N F A) (ra1 : jR a1) (ra2 : jR a2) (h : wpX9_alike o a1 a2 F A Q) : jCall G l d mX9_alike [.ref o, vI a1, vI a2] N F A (jpI N F A Q) := by
  refine jCall.of (ls := [.ref o, vI a1, vI a2]) (by decide) rfl (Nat.le_of_ble_eq_true rfl) rfl ?_
  unfold wpX9_alike at h
  refine j_aload_n dX9_alike_0 rfl ?_
  refine j_iload_n dX9_alike_1 rfl ?_
  obtain ⟨P1, hp2, h⟩ := h
  refine j_invV (As := [vI a1]) (rest := []) dX9_alike_2 lkX9_409 hM.1 rfl rfl (wX9_isWordOf (d := 1) (Nat.le_of_ble_eq_true rfl) hM hW ra1 hp2) rfl rfl (Nat.le_of_ble_eq_true rfl) (Nat.le_trans (Nat.le_of_ble_eq_true rfl) hd) (jkpB fun z3 p4 r5 => ?_)
  have h := h z3 p4
  obtain ⟨h1, h2⟩ := h
  refine j_if_eq 25 dX9_alike_5 rfl (jR_b r5) (fun q6 => ?_) (fun q6 => ?_)
  · have h := h1 q6
    clear h1 h2
    refine j_iconst dX9_alike_25 ?_
    exact j_iret dX9_alike_26 rfl ⟨_, rfl, rfl, rfl, rfl, h, (by decide)⟩
  · have h := h2 q6
    clear h1 h2
    refine j_aload_n dX9_alike_8 rfl ?_
    refine j_iload_n dX9_alike_9 rfl ?_
    obtain ⟨P7, hp8, h⟩ := h
    refine j_invV (As := [vI a2]) (rest := []) dX9_alike_10 lkX9_409 hM.1 rfl rfl (wX9_isWordOf (d := 1) (Nat.le_of_ble_eq_true rfl) hM hW ra2 hp8) rfl rfl (Nat.le_of_ble_eq_true rfl) (Nat.le_trans (Nat.le_of_ble_eq_true rfl) hd) (jkpB fun z9 p10 r11 => ?_)
    have h := h z9 p10
    obtain ⟨h1, h2⟩ := h
    refine j_if_eq 25 dX9_alike_13 rfl (jR_b r11) (fun q12 => ?_) (fun q12 => ?_)
    · have h := h1 q12
      clear h1 h2
      refine j_iconst dX9_alike_25 ?_
      exact j_iret dX9_alike_26 rfl ⟨_, rfl, rfl, rfl, rfl, h, (by decide)⟩
    · have h := h2 q12
      clear h1 h2
      refine j_aload_n dX9_alike_16 rfl ?_
      refine j_iload_n dX9_alike_17 rfl ?_
      refine j_iload_n dX9_alike_18 rfl ?_
      obtain ⟨P13, hp14, h⟩ := h
      refine j_invV (As := [vI a1, vI a2]) (rest := []) dX9_alike_19 lkX9_412 hM.1 rfl rfl (wX9_likes (d := 1) (Nat.le_of_ble_eq_true rfl) hM hW ra1 ra2 hp14) rfl rfl (Nat.le_of_ble_eq_true rfl) (Nat.le_trans (Nat.le_of_ble_eq_true rfl) hd) (jkpI fun z15 p16 r17 => ?_)
      have h := h z15 p16
      refine j_goto 26 dX9_alike_22 rfl ?_
      exact j_iret dX9_alike_26 rfl ⟨_, rfl, rfl, rfl, rfl, h, r17⟩
/-- keeps()V -/
def wpX9_keeps (o : Nat) (F : jFl) (A : jAr) (Q : jFl → jAr → Prop) : Prop :=
  ∃ K4 : jFl → Prop, (
    ∀ (F2 : jFl), K4 F2 →
    ∃ P7 : Int → Prop, wpX9_ring o (F2 3156 o) F2 A P7 ∧ ∀ z9, P7 z9 →
    ∃ P12 : jFl → jAr → Prop, wpX9_copies o z9 0 F2 A P12 ∧ ∀ F15 A16, P12 F15 A16 →
    jR ((F15 3156 o) + 1) ∧
    ∀ F21 : jFl, F21 = upF F15 3156 o ((F15 3156 o) + 1) →
    Q F21 A16) ∧
  ((¬ (F 3156 o) = 20) →
    K4 F) ∧
  (¬ (¬ (F 3156 o) = 20) →
    (((0 : Int) ≤ (F 3153 o) + 1 ∧ ((F 3153 o) + 1 : Int) ≤ 2147483647) ∧ ((0 : Int) < 20 ∧ (20 : Int) ≤ 2147483647)) ∧
    jR (((F 3153 o) + 1) % 20) ∧
    ∀ F25 : jFl, F25 = upF F 3153 o (((F 3153 o) + 1) % 20) →
    jR ((F25 3156 o) - 1) ∧
    ∀ F28 : jFl, F28 = upF F25 3156 o ((F25 3156 o) - 1) →
    K4 F28)
theorem wX9_keeps {G : jG} {l : Launch} {d : Nat} {N : jSh} {o : Nat} {F : jFl} {A : jAr} {Q : jFl → jAr → Prop} (hd : 2 ≤ d) (hM : mShape G N o) (hW : jWf N F A) (h : wpX9_keeps o F A Q) : jCall G l d mX9_keeps [.ref o] N F A (jmV N Q) := by
  refine jCall.of (ls := [.ref o]) (by decide) rfl (Nat.le_of_ble_eq_true rfl) rfl ?_
  unfold wpX9_keeps at h
  refine j_aload_n dX9_keeps_0 rfl ?_
  refine j_getI dX9_keeps_1 flX9_169_10 hM.1 rfl ?_
  refine j_bipush dX9_keeps_4 ?_
  obtain ⟨K4, hK6, h⟩ := h
  have jn5 : ∀ (F2 : jFl), jWf N F2 A → K4 F2 → J G l d mX9_keeps 32 [.ref o] [] N F2 A (jmV N Q) := by
    intro F2 hW3  h
    have h := hK6 F2 h
    refine j_aload_n dX9_keeps_32 rfl ?_
    refine j_aload_n dX9_keeps_33 rfl ?_
    refine j_aload_n dX9_keeps_34 rfl ?_
    refine j_getI dX9_keeps_35 flX9_169_10 hM.1 rfl ?_
    obtain ⟨P7, hp8, h⟩ := h
    refine j_invV (As := [vI (F2 3156 o)]) (rest := [.ref o]) dX9_keeps_38 lkX9_403 hM.1 rfl rfl (wX9_ring (d := 1) (Nat.le_of_ble_eq_true rfl) hM hW3 (hW3.fi rfl) hp8) rfl rfl (Nat.le_of_ble_eq_true rfl) (Nat.le_trans (Nat.le_of_ble_eq_true rfl) hd) (jkpI fun z9 p10 r11 => ?_)
    have h := h z9 p10
    refine j_iconst dX9_keeps_41 ?_
    obtain ⟨P12, hp13, h⟩ := h
    refine j_invV (As := [vI z9, vI 0]) (rest := []) dX9_keeps_42 lkX9_406 hM.1 rfl rfl (wX9_copies (d := 1) (Nat.le_of_ble_eq_true rfl) hM hW3 r11 (by decide) hp13) rfl rfl (Nat.le_of_ble_eq_true rfl) (Nat.le_trans (Nat.le_of_ble_eq_true rfl) hd) (jkmV fun F15 A16 hW17 p18 => ?_)
    have h := h F15 A16 p18
    refine j_aload_n dX9_keeps_45 rfl ?_
    refine j_dup dX9_keeps_46 rfl ?_
    refine j_getI dX9_keeps_47 flX9_169_10 hM.1 rfl ?_
    refine j_iconst dX9_keeps_50 ?_
    refine j_iadd dX9_keeps_51 ?_
    obtain ⟨r20, h⟩ := h
    refine j_putI dX9_keeps_52 flX9_169_10 hM.1 hM.2.1 rfl ?_
    obtain ⟨F21, eF21⟩ : ∃ x : jFl, x = upF F15 3156 o ((F15 3156 o) + 1) := ⟨_, rfl⟩
    have hW22 : jWf N F21 A16 := eF21 ▸ jWf_F (f := 3156) (a := o) (z := (F15 3156 o) + 1) hW17 (jRk_0 rfl r20)
    refine jnmF (e := eF21) ?_
    have h := h F21 eF21
    exact j_vret dX9_keeps_55 rfl ⟨rfl, rfl, hW22, h⟩
  obtain ⟨h1, h2⟩ := h
  refine j_icmp_ne 32 dX9_keeps_6 rfl (hW.fi rfl) (by decide) (fun q1 => ?_) (fun q1 => ?_)
  · have h := h1 q1
    clear h1 h2
    exact J.wk ((jWk.nil).eq) (jn5 _ hW  h)
  · have h := h2 q1
    clear h1 h2
    refine j_aload_n dX9_keeps_9 rfl ?_
    refine j_aload_n dX9_keeps_10 rfl ?_
    refine j_getI dX9_keeps_11 flX9_166_10 hM.1 rfl ?_
    refine j_iconst dX9_keeps_14 ?_
    refine j_iadd dX9_keeps_15 ?_
    refine j_bipush dX9_keeps_16 ?_
    obtain ⟨c23, h⟩ := h
    refine j_irem dX9_keeps_18 c23.1 c23.2 ?_
    obtain ⟨r24, h⟩ := h
    refine j_putI dX9_keeps_19 flX9_166_10 hM.1 hM.2.1 rfl ?_
    obtain ⟨F25, eF25⟩ : ∃ x : jFl, x = upF F 3153 o (((F 3153 o) + 1) % 20) := ⟨_, rfl⟩
    have hW26 : jWf N F25 A := eF25 ▸ jWf_F (f := 3153) (a := o) (z := ((F 3153 o) + 1) % 20) hW (jRk_0 rfl r24)
    refine jnmF (e := eF25) ?_
    have h := h F25 eF25
    refine j_aload_n dX9_keeps_22 rfl ?_
    refine j_dup dX9_keeps_23 rfl ?_
    refine j_getI dX9_keeps_24 flX9_169_10 hM.1 rfl ?_
    refine j_iconst dX9_keeps_27 ?_
    refine j_isub dX9_keeps_28 ?_
    obtain ⟨r27, h⟩ := h
    refine j_putI dX9_keeps_29 flX9_169_10 hM.1 hM.2.1 rfl ?_
    obtain ⟨F28, eF28⟩ : ∃ x : jFl, x = upF F25 3156 o ((F25 3156 o) - 1) := ⟨_, rfl⟩
    have hW29 : jWf N F28 A := eF28 ▸ jWf_F (f := 3156) (a := o) (z := (F25 3156 o) - 1) hW26 (jRk_0 rfl r27)
    refine jnmF (e := eF28) ?_
    have h := h F28 eF28
    exact J.wk ((jWk.nil).eq) (jn5 _ hW29  h)
/-- seatsOf(I)V -/
def wpX9_seatsOf (o : Nat) (a1 : Int) (F : jFl) (A : jAr) (Q : jFl → jAr → Prop) : Prop :=
  ∀ F1 : jFl, F1 = upF F 3192 o 0 →
  ∃ (I7 : Int → jFl → jAr → Prop) (m8 : Int → jFl → jAr → Nat), I7 0 F1 A ∧ ∀ (v3 : Int) (F4 : jFl) (A5 : jAr), I7 v3 F4 A5 →
    (0 ≤ F4 3039 o ∧ F4 3039 o < 2) ∧
    (((A5 (o + 17) (F4 3039 o)) ≤ v3) →
      Q F4 A5) ∧
    (¬ ((A5 (o + 17) (F4 3039 o)) ≤ v3) →
      (0 ≤ (12 * a1) + v3 ∧ (12 * a1) + v3 < 264) ∧
      ∀ v12 : Int, v12 = A5 (o + 29) ((12 * a1) + v3) →
      ∃ P13 : Int → Prop, wpX9_stands o a1 v12 F4 A5 P13 ∧ ∀ z15, P13 z15 →
      ((¬ z15 = 0) →
        (0 ≤ F4 3192 o ∧ F4 3192 o < 12) ∧
        ∀ A20 : jAr, A20 = upA A5 (o + 38) (F4 3192 o) v12 →
        jR ((F4 3192 o) + 1) ∧
        ∀ F23 : jFl, F23 = upF F4 3192 o ((F4 3192 o) + 1) →
        jR (v3 + 1) ∧
        I7 (v3 + 1) F23 A20 ∧ m8 (v3 + 1) F23 A20 < m8 v3 F4 A5) ∧
      (¬ (¬ z15 = 0) →
        jR (v3 + 1) ∧
        I7 (v3 + 1) F4 A5 ∧ m8 (v3 + 1) F4 A5 < m8 v3 F4 A5))
theorem wX9_seatsOf {G : jG} {l : Launch} {d : Nat} {N : jSh} {o : Nat} {F : jFl} {A : jAr} {a1 : Int} {Q : jFl → jAr → Prop} (hd : 2 ≤ d) (hM : mShape G N o) (hW : jWf N F A) (ra1 : jR a1) (h : wpX9_seatsOf o a1 F A Q) : jCall G l d mX9_seatsOf [.ref o, vI a1] N F A (jmV N Q) := by
  refine jCall.of (ls := [.ref o, vI a1, jD, jD]) (by decide) rfl (Nat.le_of_ble_eq_true rfl) rfl ?_
  unfold wpX9_seatsOf at h
  refine j_aload_n dX9_seatsOf_0 rfl ?_
  refine j_iconst dX9_seatsOf_1 ?_
  refine j_putI dX9_seatsOf_2 flX9_206_10 hM.1 hM.2.1 rfl ?_
  obtain ⟨F1, eF1⟩ : ∃ x : jFl, x = upF F 3192 o 0 := ⟨_, rfl⟩
  have hW2 : jWf N F1 A := eF1 ▸ jWf_F (f := 3192) (a := o) (z := 0) hW (jRk_0 rfl (by decide))
  refine jnmF (e := eF1) ?_
  have h := h F1 eF1
  refine j_iconst dX9_seatsOf_5 ?_
  refine j_istore_n dX9_seatsOf_6 rfl ?_
  obtain ⟨I7, m8, h0, hs⟩ := h
  have lp : ∀ (n : Nat) (v3 : Int) (F4 : jFl) (A5 : jAr), m8 v3 F4 A5 < n → jWf N F4 A5 → jR v3 → I7 v3 F4 A5 → J G l d mX9_seatsOf 7 [.ref o, vI a1, vI v3, jD] [] N F4 A5 (jmV N Q) := by
    intro nI7
    induction nI7 with
    | zero =>
      intro v3 F4 A5 hmu
      exact absurd hmu (Nat.not_lt_zero _)
    | succ nI7 ihI7 =>
      intro v3 F4 A5 hmuI7 hW6 rv3 hI
      have h := hs v3 F4 A5 hI
      refine j_iload_n dX9_seatsOf_7 rfl ?_
      refine j_aload_n dX9_seatsOf_8 rfl ?_
      refine j_getFR dX9_seatsOf_9 flX9_100_10 hM.1 rfl (mf_laws hM) ?_
      refine j_aload_n dX9_seatsOf_12 rfl ?_
      refine j_getI dX9_seatsOf_13 flX9_51_10 hM.1 rfl ?_
      obtain ⟨c9, h⟩ := h
      refine j_iald (n := 2) dX9_seatsOf_16 (mt_laws hM) (ml_laws hM) c9 ?_
      obtain ⟨h1, h2⟩ := h
      refine j_icmp_ge 70 dX9_seatsOf_17 rfl rv3 (hW6.ai (mt_laws hM) rfl) (fun q10 => ?_) (fun q10 => ?_)
      · have h := h1 q10
        clear h1 h2
        exact j_vret dX9_seatsOf_70 rfl ⟨rfl, rfl, hW6, h⟩
      · have h := h2 q10
        clear h1 h2
        refine j_aload_n dX9_seatsOf_20 rfl ?_
        refine j_getFR dX9_seatsOf_21 flX9_145_10 hM.1 rfl (mf_orderOf hM) ?_
        refine j_bipush dX9_seatsOf_24 ?_
        refine j_iload_n dX9_seatsOf_26 rfl ?_
        refine j_imul dX9_seatsOf_27 ?_
        refine j_iload_n dX9_seatsOf_28 rfl ?_
        refine j_iadd dX9_seatsOf_29 ?_
        obtain ⟨c11, h⟩ := h
        refine j_iald (n := 264) dX9_seatsOf_30 (mt_orderOf hM) (ml_orderOf hM) c11 ?_
        obtain ⟨v12, ev12⟩ : ∃ x : Int, x = A5 (o + 29) ((12 * a1) + v3) := ⟨_, rfl⟩
        have h := h v12 ev12
        refine jnmI (e := ev12) ?_
        refine j_istore_n dX9_seatsOf_31 rfl ?_
        refine j_aload_n dX9_seatsOf_32 rfl ?_
        refine j_iload_n dX9_seatsOf_33 rfl ?_
        refine j_iload_n dX9_seatsOf_34 rfl ?_
        obtain ⟨P13, hp14, h⟩ := h
        refine j_invV (As := [vI a1, vI v12]) (rest := []) dX9_seatsOf_35 lkX9_399 hM.1 rfl rfl (wX9_stands (d := 1) (Nat.le_of_ble_eq_true rfl) hM hW6 ra1 (ev12 ▸ (hW6.ai (mt_orderOf hM) rfl)) hp14) rfl rfl (Nat.le_of_ble_eq_true rfl) (Nat.le_trans (Nat.le_of_ble_eq_true rfl) hd) (jkpB fun z15 p16 r17 => ?_)
        have h := h z15 p16
        obtain ⟨h1, h2⟩ := h
        refine j_if_ne 44 dX9_seatsOf_38 rfl (jR_b r17) (fun q18 => ?_) (fun q18 => ?_)
        · have h := h1 q18
          clear h1 h2
          refine j_aload_n dX9_seatsOf_44 rfl ?_
          refine j_getFR dX9_seatsOf_45 flX9_203_10 hM.1 rfl (mf_seat hM) ?_
          refine j_aload_n dX9_seatsOf_48 rfl ?_
          refine j_getI dX9_seatsOf_49 flX9_206_10 hM.1 rfl ?_
          refine j_iload_n dX9_seatsOf_52 rfl ?_
          obtain ⟨c19, h⟩ := h
          refine j_iast (n := 12) dX9_seatsOf_53 (mt_seat hM) (Nat.le_trans hM.2.1 (Nat.le_add_right _ _)) (ml_seat hM) c19 ?_
          obtain ⟨A20, eA20⟩ : ∃ x : jAr, x = upA A5 (o + 38) (F4 3192 o) v12 := ⟨_, rfl⟩
          have hW21 : jWf N F4 A20 := eA20 ▸ jWf_A (i := F4 3192 o) (z := v12) hW6 (mt_seat hM) (jRk_0 rfl (ev12 ▸ (hW6.ai (mt_orderOf hM) rfl)))
          refine jnmA (e := eA20) ?_
          have h := h A20 eA20
          refine j_aload_n dX9_seatsOf_54 rfl ?_
          refine j_dup dX9_seatsOf_55 rfl ?_
          refine j_getI dX9_seatsOf_56 flX9_206_10 hM.1 rfl ?_
          refine j_iconst dX9_seatsOf_59 ?_
          refine j_iadd dX9_seatsOf_60 ?_
          obtain ⟨r22, h⟩ := h
          refine j_putI dX9_seatsOf_61 flX9_206_10 hM.1 hM.2.1 rfl ?_
          obtain ⟨F23, eF23⟩ : ∃ x : jFl, x = upF F4 3192 o ((F4 3192 o) + 1) := ⟨_, rfl⟩
          have hW24 : jWf N F23 A20 := eF23 ▸ jWf_F (f := 3192) (a := o) (z := (F4 3192 o) + 1) hW21 (jRk_0 rfl r22)
          refine jnmF (e := eF23) ?_
          have h := h F23 eF23
          obtain ⟨r25, h⟩ := h
          refine j_iinc dX9_seatsOf_64 rfl rfl ?_
          refine j_goto 7 dX9_seatsOf_67 rfl ?_
          exact J.wk (((((jWk.nil).no).eq).eq).eq) (ihI7 _ _ _ (Nat.lt_of_lt_of_le h.2 (Nat.le_of_lt_succ hmuI7)) hW24 r25 h.1)
        · have h := h2 q18
          clear h1 h2
          refine j_goto 64 dX9_seatsOf_41 rfl ?_
          obtain ⟨r26, h⟩ := h
          refine j_iinc dX9_seatsOf_64 rfl rfl ?_
          refine j_goto 7 dX9_seatsOf_67 rfl ?_
          exact J.wk (((((jWk.nil).no).eq).eq).eq) (ihI7 _ _ _ (Nat.lt_of_lt_of_le h.2 (Nat.le_of_lt_succ hmuI7)) hW6 r26 h.1)
  exact J.wk (((((jWk.nil).no).eq).eq).eq) (lp _ _ _ _ (Nat.lt_succ_self _) hW2 (by decide) h0)
/-- saidBy(II)I -/
def wpX9_saidBy (o : Nat) (a1 : Int) (a2 : Int) (F : jFl) (A : jAr) (Q : Int → Prop) : Prop :=
  ∃ P1 : Int → Prop, wpX9_heardBy o a1 a2 F A P1 ∧ ∀ z3, P1 z3 →
  ∃ P6 : Int → Prop, wpX9_knows o a1 z3 F A P6 ∧ ∀ z8, P6 z8 →
  ((z8 = 0) →
    (0 ≤ F 3039 o ∧ F 3039 o < 2) ∧
    jR ((A (o + 24) (F 3039 o)) - 1) ∧
    ∀ v14 : Int, v14 = (A (o + 24) (F 3039 o)) - 1 →
    ∃ (I18 : Int → Int → Int → Prop) (m19 : Int → Int → Int → Nat), I18 z3 v14 0 ∧ ∀ (v15 : Int) (v16 : Int) (v17 : Int), I18 v15 v16 v17 →
      (0 ≤ F 3039 o ∧ F 3039 o < 2) ∧
      (((A (o + 2) (F 3039 o)) ≤ v17) →
        Q v15) ∧
      (¬ ((A (o + 2) (F 3039 o)) ≤ v17) →
        ∃ P22 : Int → Prop, wpX9_knows o a1 v17 F A P22 ∧ ∀ z24, P22 z24 →
        ((z24 = 0) →
          jR (v17 + 1) ∧
          I18 v15 v16 (v17 + 1) ∧ m19 v15 v16 (v17 + 1) < m19 v15 v16 v17) ∧
        (¬ (z24 = 0) →
          ∃ P29 : Int → Prop, wpX9_likes o v17 z3 F A P29 ∧ ∀ z31, P29 z31 →
          ((v16 < z31) →
            ∃ P35 : Int → Prop, wpX9_likes o v17 z3 F A P35 ∧ ∀ z37, P35 z37 →
            jR (v17 + 1) ∧
            I18 v17 z37 (v17 + 1) ∧ m19 v17 z37 (v17 + 1) < m19 v15 v16 v17) ∧
          (¬ (v16 < z31) →
            jR (v17 + 1) ∧
            I18 v15 v16 (v17 + 1) ∧ m19 v15 v16 (v17 + 1) < m19 v15 v16 v17)))) ∧
  (¬ (z8 = 0) →
    Q z3)
theorem wX9_saidBy {G : jG} {l : Launch} {d : Nat} {N : jSh} {o : Nat} {F : jFl} {A : jAr} {a1 a2 : Int} {Q : Int → Prop} (hd : 2 ≤ d) (hM : mShape G N o) (hW : jWf N F A) (ra1 : jR a1) (ra2 : jR a2) (h : wpX9_saidBy o a1 a2 F A Q) : jCall G l d mX9_saidBy [.ref o, vI a1, vI a2] N F A (jpI N F A Q) := by
  refine jCall.of (ls := [.ref o, vI a1, vI a2, jD, jD, jD, jD]) (by decide) rfl (Nat.le_of_ble_eq_true rfl) rfl ?_
  unfold wpX9_saidBy at h
  refine j_aload_n dX9_saidBy_0 rfl ?_
  refine j_iload_n dX9_saidBy_1 rfl ?_
  refine j_iload_n dX9_saidBy_2 rfl ?_
  obtain ⟨P1, hp2, h⟩ := h
  refine j_invV (As := [vI a1, vI a2]) (rest := []) dX9_saidBy_3 lkX9_415 hM.1 rfl rfl (wX9_heardBy (d := 1) (Nat.le_of_ble_eq_true rfl) hM hW ra1 ra2 hp2) rfl rfl (Nat.le_of_ble_eq_true rfl) (Nat.le_trans (Nat.le_of_ble_eq_true rfl) hd) (jkpI fun z3 p4 r5 => ?_)
  have h := h z3 p4
  refine j_istore_n dX9_saidBy_6 rfl ?_
  refine j_aload_n dX9_saidBy_7 rfl ?_
  refine j_iload_n dX9_saidBy_8 rfl ?_
  refine j_iload_n dX9_saidBy_9 rfl ?_
  obtain ⟨P6, hp7, h⟩ := h
  refine j_invV (As := [vI a1, vI z3]) (rest := []) dX9_saidBy_10 lkX9_418 hM.1 rfl rfl (wX9_knows (d := 1) (Nat.le_of_ble_eq_true rfl) hM hW ra1 r5 hp7) rfl rfl (Nat.le_of_ble_eq_true rfl) (Nat.le_trans (Nat.le_of_ble_eq_true rfl) hd) (jkpB fun z8 p9 r10 => ?_)
  have h := h z8 p9
  obtain ⟨h1, h2⟩ := h
  refine j_if_eq 18 dX9_saidBy_13 rfl (jR_b r10) (fun q11 => ?_) (fun q11 => ?_)
  · have h := h1 q11
    clear h1 h2
    refine j_iload_n dX9_saidBy_18 rfl ?_
    refine j_istore dX9_saidBy_19 rfl ?_
    refine j_aload_n dX9_saidBy_21 rfl ?_
    refine j_getFR dX9_saidBy_22 flX9_121_10 hM.1 rfl (mf_mend hM) ?_
    refine j_aload_n dX9_saidBy_25 rfl ?_
    refine j_getI dX9_saidBy_26 flX9_51_10 hM.1 rfl ?_
    obtain ⟨c12, h⟩ := h
    refine j_iald (n := 2) dX9_saidBy_29 (mt_mend hM) (ml_mend hM) c12 ?_
    refine j_iconst dX9_saidBy_30 ?_
    refine j_isub dX9_saidBy_31 ?_
    obtain ⟨r13, h⟩ := h
    obtain ⟨v14, ev14⟩ : ∃ x : Int, x = (A (o + 24) (F 3039 o)) - 1 := ⟨_, rfl⟩
    have h := h v14 ev14
    refine jnmI (e := ev14) ?_
    refine j_istore dX9_saidBy_32 rfl ?_
    refine j_iconst dX9_saidBy_34 ?_
    refine j_istore dX9_saidBy_35 rfl ?_
    obtain ⟨I18, m19, h0, hs⟩ := h
    have lp : ∀ (n : Nat) (v15 : Int) (v16 : Int) (v17 : Int), m19 v15 v16 v17 < n → jR v15 → jR v16 → jR v17 → I18 v15 v16 v17 → J G l d mX9_saidBy 37 [.ref o, vI a1, jD, vI z3, vI v15, vI v16, vI v17] [] N F A (jpI N F A Q) := by
      intro nI18
      induction nI18 with
      | zero =>
        intro v15 v16 v17 hmu
        exact absurd hmu (Nat.not_lt_zero _)
      | succ nI18 ihI18 =>
        intro v15 v16 v17 hmuI18 rv15 rv16 rv17 hI
        have h := hs v15 v16 v17 hI
        refine j_iload dX9_saidBy_37 rfl ?_
        refine j_aload_n dX9_saidBy_39 rfl ?_
        refine j_getFR dX9_saidBy_40 flX9_54_10 hM.1 rfl (mf_words hM) ?_
        refine j_aload_n dX9_saidBy_43 rfl ?_
        refine j_getI dX9_saidBy_44 flX9_51_10 hM.1 rfl ?_
        obtain ⟨c20, h⟩ := h
        refine j_iald (n := 2) dX9_saidBy_47 (mt_words hM) (ml_words hM) c20 ?_
        obtain ⟨h1, h2⟩ := h
        refine j_icmp_ge 95 dX9_saidBy_48 rfl rv17 (hW.ai (mt_words hM) rfl) (fun q21 => ?_) (fun q21 => ?_)
        · have h := h1 q21
          clear h1 h2
          refine j_iload dX9_saidBy_95 rfl ?_
          exact j_iret dX9_saidBy_97 rfl ⟨_, rfl, rfl, rfl, rfl, h, rv15⟩
        · have h := h2 q21
          clear h1 h2
          refine j_aload_n dX9_saidBy_51 rfl ?_
          refine j_iload_n dX9_saidBy_52 rfl ?_
          refine j_iload dX9_saidBy_53 rfl ?_
          obtain ⟨P22, hp23, h⟩ := h
          refine j_invV (As := [vI a1, vI v17]) (rest := []) dX9_saidBy_55 lkX9_418 hM.1 rfl rfl (wX9_knows (d := 1) (Nat.le_of_ble_eq_true rfl) hM hW ra1 rv17 hp23) rfl rfl (Nat.le_of_ble_eq_true rfl) (Nat.le_trans (Nat.le_of_ble_eq_true rfl) hd) (jkpB fun z24 p25 r26 => ?_)
          have h := h z24 p25
          obtain ⟨h1, h2⟩ := h
          refine j_if_eq 89 dX9_saidBy_58 rfl (jR_b r26) (fun q27 => ?_) (fun q27 => ?_)
          · have h := h1 q27
            clear h1 h2
            obtain ⟨r28, h⟩ := h
            refine j_iinc dX9_saidBy_89 rfl rfl ?_
            refine j_goto 37 dX9_saidBy_92 rfl ?_
            exact J.wk ((((((((jWk.nil).eq).eq).eq).eq).no).eq).eq) (ihI18 _ _ _ (Nat.lt_of_lt_of_le h.2 (Nat.le_of_lt_succ hmuI18)) rv15 rv16 r28 h.1)
          · have h := h2 q27
            clear h1 h2
            refine j_aload_n dX9_saidBy_61 rfl ?_
            refine j_iload dX9_saidBy_62 rfl ?_
            refine j_iload_n dX9_saidBy_64 rfl ?_
            obtain ⟨P29, hp30, h⟩ := h
            refine j_invV (As := [vI v17, vI z3]) (rest := []) dX9_saidBy_65 lkX9_412 hM.1 rfl rfl (wX9_likes (d := 1) (Nat.le_of_ble_eq_true rfl) hM hW rv17 r5 hp30) rfl rfl (Nat.le_of_ble_eq_true rfl) (Nat.le_trans (Nat.le_of_ble_eq_true rfl) hd) (jkpI fun z31 p32 r33 => ?_)
            have h := h z31 p32
            refine j_iload dX9_saidBy_68 rfl ?_
            obtain ⟨h1, h2⟩ := h
            refine j_icmp_gt 76 dX9_saidBy_70 rfl r33 rv16 (fun q34 => ?_) (fun q34 => ?_)
            · have h := h1 q34
              clear h1 h2
              refine j_iload dX9_saidBy_76 rfl ?_
              refine j_istore dX9_saidBy_78 rfl ?_
              refine j_aload_n dX9_saidBy_80 rfl ?_
              refine j_iload dX9_saidBy_81 rfl ?_
              refine j_iload_n dX9_saidBy_83 rfl ?_
              obtain ⟨P35, hp36, h⟩ := h
              refine j_invV (As := [vI v17, vI z3]) (rest := []) dX9_saidBy_84 lkX9_412 hM.1 rfl rfl (wX9_likes (d := 1) (Nat.le_of_ble_eq_true rfl) hM hW rv17 r5 hp36) rfl rfl (Nat.le_of_ble_eq_true rfl) (Nat.le_trans (Nat.le_of_ble_eq_true rfl) hd) (jkpI fun z37 p38 r39 => ?_)
              have h := h z37 p38
              refine j_istore dX9_saidBy_87 rfl ?_
              obtain ⟨r40, h⟩ := h
              refine j_iinc dX9_saidBy_89 rfl rfl ?_
              refine j_goto 37 dX9_saidBy_92 rfl ?_
              exact J.wk ((((((((jWk.nil).eq).eq).eq).eq).no).eq).eq) (ihI18 _ _ _ (Nat.lt_of_lt_of_le h.2 (Nat.le_of_lt_succ hmuI18)) rv17 r39 r40 h.1)
            · have h := h2 q34
              clear h1 h2
              refine j_goto 89 dX9_saidBy_73 rfl ?_
              obtain ⟨r41, h⟩ := h
              refine j_iinc dX9_saidBy_89 rfl rfl ?_
              refine j_goto 37 dX9_saidBy_92 rfl ?_
              exact J.wk ((((((((jWk.nil).eq).eq).eq).eq).no).eq).eq) (ihI18 _ _ _ (Nat.lt_of_lt_of_le h.2 (Nat.le_of_lt_succ hmuI18)) rv15 rv16 r41 h.1)
    exact J.wk ((((((((jWk.nil).eq).eq).eq).eq).no).eq).eq) (lp _ _ _ _ (Nat.lt_succ_self _) r5 (ev14 ▸ r13) (by decide) h0)
  · have h := h2 q11
    clear h1 h2
    refine j_iload_n dX9_saidBy_16 rfl ?_
    exact j_iret dX9_saidBy_17 rfl ⟨_, rfl, rfl, rfl, rfl, h, r5⟩
/-- becomesSaid(IIII)V -/
def wpX9_becomesSaid (o : Nat) (a1 : Int) (a2 : Int) (a3 : Int) (a4 : Int) (F : jFl) (A : jAr) (Q : jFl → jAr → Prop) : Prop :=
  jR ((12 * a1) + a2) ∧
  ∀ v2 : Int, v2 = (12 * a1) + a2 →
  (0 ≤ v2 ∧ v2 < 264) ∧
  ∃ K6 : Int → Prop, (
    ∀ (v5 : Int), K6 v5 →
    ∃ (I11 : Int → Int → Prop) (m12 : Int → Int → Nat), I11 v5 0 ∧ ∀ (v9 : Int) (v10 : Int), I11 v9 v10 →
      jR ((F 3177 o) + (F 3180 o)) ∧
      ∃ K15 : Prop, (
        K15 →
        ((v9 = 0) →
          (0 ≤ v2 ∧ v2 < 264) ∧
          ∀ A20 : jAr, A20 = upA A (o + 30) v2 (F 3177 o) →
          (0 ≤ v2 ∧ v2 < 264) ∧
          ∀ A23 : jAr, A23 = upA A20 (o + 31) v2 (F 3180 o) →
          ∃ (I28 : Int → jAr → Prop) (m29 : Int → jAr → Nat), I28 0 A23 ∧ ∀ (v25 : Int) (A26 : jAr), I28 v25 A26 →
            jR ((F 3177 o) + (F 3180 o)) ∧
            ((((F 3177 o) + (F 3180 o)) ≤ v25) →
              ∃ P32 : jFl → jAr → Prop, wpX9_notes o a1 a2 a3 a4 F A26 P32 ∧ ∀ F35 A36, P32 F35 A36 →
              Q F35 A36) ∧
            (¬ (((F 3177 o) + (F 3180 o)) ≤ v25) →
              (0 ≤ v25 ∧ v25 < 12) ∧
              (0 ≤ (12 * v2) + v25 ∧ (12 * v2) + v25 < 3168) ∧
              ∀ A42 : jAr, A42 = upA A26 (o + 33) ((12 * v2) + v25) (A26 (o + 37) v25) →
              jR (v25 + 1) ∧
              I28 (v25 + 1) A42 ∧ m29 (v25 + 1) A42 < m29 v25 A26)) ∧
        (¬ (v9 = 0) →
          Q F A)) ∧
      ((((F 3177 o) + (F 3180 o)) ≤ v10) →
        K15 ) ∧
      (¬ (((F 3177 o) + (F 3180 o)) ≤ v10) →
        ((v9 = 0) →
          K15 ) ∧
        (¬ (v9 = 0) →
          (0 ≤ (12 * v2) + v10 ∧ (12 * v2) + v10 < 3168) ∧
          (0 ≤ v10 ∧ v10 < 12) ∧
          ∀ z49 : Int, z49 = (if ¬ (A (o + 33) ((12 * v2) + v10)) = (A (o + 37) v10) then 0 else 1) →
          jR (v10 + 1) ∧
          I11 z49 (v10 + 1) ∧ m12 z49 (v10 + 1) < m12 v9 v10))) ∧
  ((¬ (A (o + 30) v2) = (F 3177 o)) →
    K6 0) ∧
  (¬ (¬ (A (o + 30) v2) = (F 3177 o)) →
    (0 ≤ v2 ∧ v2 < 264) ∧
    ∀ z54 : Int, z54 = (if ¬ (A (o + 31) v2) = (F 3180 o) then 0 else 1) →
    K6 z54)
theorem wX9_becomesSaid {G : jG} {l : Launch} {d : Nat} {N : jSh} {o : Nat} {F : jFl} {A : jAr} {a1 a2 a3 a4 : Int} {Q : jFl → jAr → Prop} (hd : 2 ≤ d) (hM : mShape G N o) (hW : jWf N F A) (ra1 : jR a1) (ra2 : jR a2) (ra3 : jR a3) (ra4 : jR a4) (h : wpX9_becomesSaid o a1 a2 a3 a4 F A Q) : jCall G l d mX9_becomesSaid [.ref o, vI a1, vI a2, vI a3, vI a4] N F A (jmV N Q) := by
  refine jCall.of (ls := [.ref o, vI a1, vI a2, vI a3, vI a4, jD, jD, jD]) (by decide) rfl (Nat.le_of_ble_eq_true rfl) rfl ?_
  unfold wpX9_becomesSaid at h
  refine j_bipush dX9_becomesSaid_0 ?_
  refine j_iload_n dX9_becomesSaid_2 rfl ?_
  refine j_imul dX9_becomesSaid_3 ?_
  refine j_iload_n dX9_becomesSaid_4 rfl ?_
  refine j_iadd dX9_becomesSaid_5 ?_
  obtain ⟨r1, h⟩ := h
  obtain ⟨v2, ev2⟩ : ∃ x : Int, x = (12 * a1) + a2 := ⟨_, rfl⟩
  have h := h v2 ev2
  refine jnmI (e := ev2) ?_
  refine j_istore dX9_becomesSaid_6 rfl ?_
  refine j_aload_n dX9_becomesSaid_8 rfl ?_
  refine j_getFR dX9_becomesSaid_9 flX9_148_10 hM.1 rfl (mf_main hM) ?_
  refine j_iload dX9_becomesSaid_12 rfl ?_
  obtain ⟨c3, h⟩ := h
  refine j_iald (n := 264) dX9_becomesSaid_14 (mt_main hM) (ml_main hM) c3 ?_
  refine j_aload_n dX9_becomesSaid_15 rfl ?_
  refine j_getI dX9_becomesSaid_16 flX9_191_10 hM.1 rfl ?_
  obtain ⟨K6, hK8, h⟩ := h
  have jn7 : ∀ (v5 : Int), jR v5 → K6 v5 → J G l d mX9_becomesSaid 41 [.ref o, vI a1, vI a2, vI a3, vI a4, vI v2, jD, jD] [vI v5] N F A (jmV N Q) := by
    intro v5 rv5 h
    have h := hK8 v5 h
    refine j_istore dX9_becomesSaid_41 rfl ?_
    refine j_iconst dX9_becomesSaid_43 ?_
    refine j_istore dX9_becomesSaid_44 rfl ?_
    obtain ⟨I11, m12, h0, hs⟩ := h
    have lp : ∀ (n : Nat) (v9 : Int) (v10 : Int), m12 v9 v10 < n → jR v9 → jR v10 → I11 v9 v10 → J G l d mX9_becomesSaid 46 [.ref o, vI a1, vI a2, vI a3, vI a4, vI v2, vI v9, vI v10] [] N F A (jmV N Q) := by
      intro nI11
      induction nI11 with
      | zero =>
        intro v9 v10 hmu
        exact absurd hmu (Nat.not_lt_zero _)
      | succ nI11 ihI11 =>
        intro v9 v10 hmuI11 rv9 rv10 hI
        have h := hs v9 v10 hI
        refine j_iload dX9_becomesSaid_46 rfl ?_
        refine j_aload_n dX9_becomesSaid_48 rfl ?_
        refine j_getI dX9_becomesSaid_49 flX9_191_10 hM.1 rfl ?_
        refine j_aload_n dX9_becomesSaid_52 rfl ?_
        refine j_getI dX9_becomesSaid_53 flX9_194_10 hM.1 rfl ?_
        refine j_iadd dX9_becomesSaid_56 ?_
        obtain ⟨r13, h⟩ := h
        obtain ⟨K15, hK17, h⟩ := h
        have jn16 : K15  → J G l d mX9_becomesSaid 101 [.ref o, vI a1, vI a2, vI a3, vI a4, vI v2, vI v9, jD] [] N F A (jmV N Q) := by
          intro   h
          have h := hK17  h
          refine j_iload dX9_becomesSaid_101 rfl ?_
          obtain ⟨h1, h2⟩ := h
          refine j_if_eq 107 dX9_becomesSaid_103 rfl rv9 (fun q18 => ?_) (fun q18 => ?_)
          · have h := h1 q18
            clear h1 h2
            refine j_aload_n dX9_becomesSaid_107 rfl ?_
            refine j_getFR dX9_becomesSaid_108 flX9_148_10 hM.1 rfl (mf_main hM) ?_
            refine j_iload dX9_becomesSaid_111 rfl ?_
            refine j_aload_n dX9_becomesSaid_113 rfl ?_
            refine j_getI dX9_becomesSaid_114 flX9_191_10 hM.1 rfl ?_
            obtain ⟨c19, h⟩ := h
            refine j_iast (n := 264) dX9_becomesSaid_117 (mt_main hM) (Nat.le_trans hM.2.1 (Nat.le_add_right _ _)) (ml_main hM) c19 ?_
            obtain ⟨A20, eA20⟩ : ∃ x : jAr, x = upA A (o + 30) v2 (F 3177 o) := ⟨_, rfl⟩
            have hW21 : jWf N F A20 := eA20 ▸ jWf_A (i := v2) (z := F 3177 o) hW (mt_main hM) (jRk_0 rfl (hW.fi rfl))
            refine jnmA (e := eA20) ?_
            have h := h A20 eA20
            refine j_aload_n dX9_becomesSaid_118 rfl ?_
            refine j_getFR dX9_becomesSaid_119 flX9_151_10 hM.1 rfl (mf_except hM) ?_
            refine j_iload dX9_becomesSaid_122 rfl ?_
            refine j_aload_n dX9_becomesSaid_124 rfl ?_
            refine j_getI dX9_becomesSaid_125 flX9_194_10 hM.1 rfl ?_
            obtain ⟨c22, h⟩ := h
            refine j_iast (n := 264) dX9_becomesSaid_128 (mt_except hM) (Nat.le_trans hM.2.1 (Nat.le_add_right _ _)) (ml_except hM) c22 ?_
            obtain ⟨A23, eA23⟩ : ∃ x : jAr, x = upA A20 (o + 31) v2 (F 3180 o) := ⟨_, rfl⟩
            have hW24 : jWf N F A23 := eA23 ▸ jWf_A (i := v2) (z := F 3180 o) hW21 (mt_except hM) (jRk_0 rfl (hW21.fi rfl))
            refine jnmA (e := eA23) ?_
            have h := h A23 eA23
            refine j_iconst dX9_becomesSaid_129 ?_
            refine j_istore dX9_becomesSaid_130 rfl ?_
            obtain ⟨I28, m29, h0, hs⟩ := h
            have lp : ∀ (n : Nat) (v25 : Int) (A26 : jAr), m29 v25 A26 < n → jWf N F A26 → jR v25 → I28 v25 A26 → J G l d mX9_becomesSaid 132 [.ref o, vI a1, vI a2, vI a3, vI a4, vI v2, jD, vI v25] [] N F A26 (jmV N Q) := by
              intro nI28
              induction nI28 with
              | zero =>
                intro v25 A26 hmu
                exact absurd hmu (Nat.not_lt_zero _)
              | succ nI28 ihI28 =>
                intro v25 A26 hmuI28 hW27 rv25 hI
                have h := hs v25 A26 hI
                refine j_iload dX9_becomesSaid_132 rfl ?_
                refine j_aload_n dX9_becomesSaid_134 rfl ?_
                refine j_getI dX9_becomesSaid_135 flX9_191_10 hM.1 rfl ?_
                refine j_aload_n dX9_becomesSaid_138 rfl ?_
                refine j_getI dX9_becomesSaid_139 flX9_194_10 hM.1 rfl ?_
                refine j_iadd dX9_becomesSaid_142 ?_
                obtain ⟨r30, h⟩ := h
                obtain ⟨h1, h2⟩ := h
                refine j_icmp_ge 172 dX9_becomesSaid_143 rfl rv25 r30 (fun q31 => ?_) (fun q31 => ?_)
                · have h := h1 q31
                  clear h1 h2
                  refine j_aload_n dX9_becomesSaid_172 rfl ?_
                  refine j_iload_n dX9_becomesSaid_173 rfl ?_
                  refine j_iload_n dX9_becomesSaid_174 rfl ?_
                  refine j_iload_n dX9_becomesSaid_175 rfl ?_
                  refine j_iload dX9_becomesSaid_176 rfl ?_
                  obtain ⟨P32, hp33, h⟩ := h
                  refine j_invV (As := [vI a1, vI a2, vI a3, vI a4]) (rest := []) dX9_becomesSaid_178 lkX9_450 hM.1 rfl rfl (wX9_notes (d := 1) (Nat.le_of_ble_eq_true rfl) hM hW27 ra1 ra2 ra3 ra4 hp33) rfl rfl (Nat.le_of_ble_eq_true rfl) (Nat.le_trans (Nat.le_of_ble_eq_true rfl) hd) (jkmV fun F35 A36 hW37 p38 => ?_)
                  have h := h F35 A36 p38
                  exact j_vret dX9_becomesSaid_181 rfl ⟨rfl, rfl, hW37, h⟩
                · have h := h2 q31
                  clear h1 h2
                  refine j_aload_n dX9_becomesSaid_146 rfl ?_
                  refine j_getFR dX9_becomesSaid_147 flX9_157_10 hM.1 rfl (mf_rows hM) ?_
                  refine j_bipush dX9_becomesSaid_150 ?_
                  refine j_iload dX9_becomesSaid_152 rfl ?_
                  refine j_imul dX9_becomesSaid_154 ?_
                  refine j_iload dX9_becomesSaid_155 rfl ?_
                  refine j_iadd dX9_becomesSaid_157 ?_
                  refine j_aload_n dX9_becomesSaid_158 rfl ?_
                  refine j_getFR dX9_becomesSaid_159 flX9_188_10 hM.1 rfl (mf_said hM) ?_
                  refine j_iload dX9_becomesSaid_162 rfl ?_
                  obtain ⟨c40, h⟩ := h
                  refine j_iald (n := 12) dX9_becomesSaid_164 (mt_said hM) (ml_said hM) c40 ?_
                  obtain ⟨c41, h⟩ := h
                  refine j_iast (n := 3168) dX9_becomesSaid_165 (mt_rows hM) (Nat.le_trans hM.2.1 (Nat.le_add_right _ _)) (ml_rows hM) c41 ?_
                  obtain ⟨A42, eA42⟩ : ∃ x : jAr, x = upA A26 (o + 33) ((12 * v2) + v25) (A26 (o + 37) v25) := ⟨_, rfl⟩
                  have hW43 : jWf N F A42 := eA42 ▸ jWf_A (i := (12 * v2) + v25) (z := A26 (o + 37) v25) hW27 (mt_rows hM) (jRk_0 rfl (hW27.ai (mt_said hM) rfl))
                  refine jnmA (e := eA42) ?_
                  have h := h A42 eA42
                  obtain ⟨r44, h⟩ := h
                  refine j_iinc dX9_becomesSaid_166 rfl rfl ?_
                  refine j_goto 132 dX9_becomesSaid_169 rfl ?_
                  exact J.wk (((((((((jWk.nil).eq).no).eq).eq).eq).eq).eq).eq) (ihI28 _ _ (Nat.lt_of_lt_of_le h.2 (Nat.le_of_lt_succ hmuI28)) hW43 r44 h.1)
            exact J.wk (((((((((jWk.nil).eq).no).eq).eq).eq).eq).eq).eq) (lp _ _ _ (Nat.lt_succ_self _) hW24 (by decide) h0)
          · have h := h2 q18
            clear h1 h2
            exact j_vret dX9_becomesSaid_106 rfl ⟨rfl, rfl, hW, h⟩
        obtain ⟨h1, h2⟩ := h
        refine j_icmp_ge 101 dX9_becomesSaid_57 rfl rv10 r13 (fun q14 => ?_) (fun q14 => ?_)
        · have h := h1 q14
          clear h1 h2
          exact J.wk (((((((((jWk.nil).no).eq).eq).eq).eq).eq).eq).eq) (jn16   h)
        · have h := h2 q14
          clear h1 h2
          refine j_iload dX9_becomesSaid_60 rfl ?_
          obtain ⟨h1, h2⟩ := h
          refine j_if_eq 101 dX9_becomesSaid_62 rfl rv9 (fun q45 => ?_) (fun q45 => ?_)
          · have h := h1 q45
            clear h1 h2
            exact J.wk (((((((((jWk.nil).no).eq).eq).eq).eq).eq).eq).eq) (jn16   h)
          · have h := h2 q45
            clear h1 h2
            refine j_aload_n dX9_becomesSaid_65 rfl ?_
            refine j_getFR dX9_becomesSaid_66 flX9_157_10 hM.1 rfl (mf_rows hM) ?_
            refine j_bipush dX9_becomesSaid_69 ?_
            refine j_iload dX9_becomesSaid_71 rfl ?_
            refine j_imul dX9_becomesSaid_73 ?_
            refine j_iload dX9_becomesSaid_74 rfl ?_
            refine j_iadd dX9_becomesSaid_76 ?_
            obtain ⟨c46, h⟩ := h
            refine j_iald (n := 3168) dX9_becomesSaid_77 (mt_rows hM) (ml_rows hM) c46 ?_
            refine j_aload_n dX9_becomesSaid_78 rfl ?_
            refine j_getFR dX9_becomesSaid_79 flX9_188_10 hM.1 rfl (mf_said hM) ?_
            refine j_iload dX9_becomesSaid_82 rfl ?_
            obtain ⟨c47, h⟩ := h
            refine j_iald (n := 12) dX9_becomesSaid_84 (mt_said hM) (ml_said hM) c47 ?_
            have jn50 : ∀ z49 : Int, z49 = (if ¬ (A (o + 33) ((12 * v2) + v10)) = (A (o + 37) v10) then 0 else 1) → J G l d mX9_becomesSaid 93 [.ref o, vI a1, vI a2, vI a3, vI a4, vI v2, vI v9, vI v10] [vI z49] N F A (jmV N Q) := by
              intro z49 ez49
              have h := h z49 ez49
              refine j_istore dX9_becomesSaid_93 rfl ?_
              obtain ⟨r51, h⟩ := h
              refine j_iinc dX9_becomesSaid_95 rfl rfl ?_
              refine j_goto 46 dX9_becomesSaid_98 rfl ?_
              exact J.wk (((((((((jWk.nil).eq).eq).eq).eq).eq).eq).eq).eq) (ihI11 _ _ (Nat.lt_of_lt_of_le h.2 (Nat.le_of_lt_succ hmuI11)) (ez49 ▸ (jR_ite (by decide) (by decide))) r51 h.1)
            clear h
            refine j_icmp_ne 92 dX9_becomesSaid_85 rfl (hW.ai (mt_rows hM) rfl) (hW.ai (mt_said hM) rfl) (fun q48 => ?_) (fun q48 => ?_)
            · refine j_iconst dX9_becomesSaid_92 ?_
              exact jn50 _ ((if_pos q48).symm)
            · refine j_iconst dX9_becomesSaid_88 ?_
              refine j_goto 93 dX9_becomesSaid_89 rfl ?_
              exact jn50 _ ((if_neg q48).symm)
    exact J.wk (((((((((jWk.nil).eq).eq).eq).eq).eq).eq).eq).eq) (lp _ _ _ (Nat.lt_succ_self _) rv5 (by decide) h0)
  obtain ⟨h1, h2⟩ := h
  refine j_icmp_ne 40 dX9_becomesSaid_19 rfl (hW.ai (mt_main hM) rfl) (hW.fi rfl) (fun q4 => ?_) (fun q4 => ?_)
  · have h := h1 q4
    clear h1 h2
    refine j_iconst dX9_becomesSaid_40 ?_
    exact J.wk (((((((((jWk.nil).no).no).eq).eq).eq).eq).eq).eq) (jn7 _ (by decide) h)
  · have h := h2 q4
    clear h1 h2
    refine j_aload_n dX9_becomesSaid_22 rfl ?_
    refine j_getFR dX9_becomesSaid_23 flX9_151_10 hM.1 rfl (mf_except hM) ?_
    refine j_iload dX9_becomesSaid_26 rfl ?_
    obtain ⟨c52, h⟩ := h
    refine j_iald (n := 264) dX9_becomesSaid_28 (mt_except hM) (ml_except hM) c52 ?_
    refine j_aload_n dX9_becomesSaid_29 rfl ?_
    refine j_getI dX9_becomesSaid_30 flX9_194_10 hM.1 rfl ?_
    have jn55 : ∀ z54 : Int, z54 = (if ¬ (A (o + 31) v2) = (F 3180 o) then 0 else 1) → J G l d mX9_becomesSaid 41 [.ref o, vI a1, vI a2, vI a3, vI a4, vI v2, jD, jD] [vI z54] N F A (jmV N Q) := by
      intro z54 ez54
      have h := h z54 ez54
      exact J.wk (((((((((jWk.nil).no).no).eq).eq).eq).eq).eq).eq) (jn7 _ (ez54 ▸ (jR_ite (by decide) (by decide))) h)
    clear h
    refine j_icmp_ne 40 dX9_becomesSaid_33 rfl (hW.ai (mt_except hM) rfl) (hW.fi rfl) (fun q53 => ?_) (fun q53 => ?_)
    · refine j_iconst dX9_becomesSaid_40 ?_
      exact jn55 _ ((if_pos q53).symm)
    · refine j_iconst dX9_becomesSaid_36 ?_
      refine j_goto 41 dX9_becomesSaid_37 rfl ?_
      exact jn55 _ ((if_neg q53).symm)
/-- standing(I)I -/
def wpX9_standing (o : Nat) (a1 : Int) (F : jFl) (A : jAr) (Q : Int → Prop) : Prop :=
  ∃ (I3 : Int → Int → Prop) (m4 : Int → Int → Nat), I3 0 0 ∧ ∀ (v1 : Int) (v2 : Int), I3 v1 v2 →
    (0 ≤ F 3039 o ∧ F 3039 o < 2) ∧
    (((A (o + 17) (F 3039 o)) ≤ v2) →
      Q v1) ∧
    (¬ ((A (o + 17) (F 3039 o)) ≤ v2) →
      ∃ P7 : Int → Prop, wpX9_stands o a1 v2 F A P7 ∧ ∀ z9, P7 z9 →
      ∀ z13 : Int, z13 = (if z9 = 0 then 0 else 1) →
      jR (v1 + z13) ∧
      ∀ v16 : Int, v16 = v1 + z13 →
      jR (v2 + 1) ∧
      I3 v16 (v2 + 1) ∧ m4 v16 (v2 + 1) < m4 v1 v2)
theorem wX9_standing {G : jG} {l : Launch} {d : Nat} {N : jSh} {o : Nat} {F : jFl} {A : jAr} {a1 : Int} {Q : Int → Prop} (hd : 2 ≤ d) (hM : mShape G N o) (hW : jWf N F A) (ra1 : jR a1) (h : wpX9_standing o a1 F A Q) : jCall G l d mX9_standing [.ref o, vI a1] N F A (jpI N F A Q) := by
  refine jCall.of (ls := [.ref o, vI a1, jD, jD]) (by decide) rfl (Nat.le_of_ble_eq_true rfl) rfl ?_
  unfold wpX9_standing at h
  refine j_iconst dX9_standing_0 ?_
  refine j_istore_n dX9_standing_1 rfl ?_
  refine j_iconst dX9_standing_2 ?_
  refine j_istore_n dX9_standing_3 rfl ?_
  obtain ⟨I3, m4, h0, hs⟩ := h
  have lp : ∀ (n : Nat) (v1 : Int) (v2 : Int), m4 v1 v2 < n → jR v1 → jR v2 → I3 v1 v2 → J G l d mX9_standing 4 [.ref o, vI a1, vI v1, vI v2] [] N F A (jpI N F A Q) := by
    intro nI3
    induction nI3 with
    | zero =>
      intro v1 v2 hmu
      exact absurd hmu (Nat.not_lt_zero _)
    | succ nI3 ihI3 =>
      intro v1 v2 hmuI3 rv1 rv2 hI
      have h := hs v1 v2 hI
      refine j_iload_n dX9_standing_4 rfl ?_
      refine j_aload_n dX9_standing_5 rfl ?_
      refine j_getFR dX9_standing_6 flX9_100_10 hM.1 rfl (mf_laws hM) ?_
      refine j_aload_n dX9_standing_9 rfl ?_
      refine j_getI dX9_standing_10 flX9_51_10 hM.1 rfl ?_
      obtain ⟨c5, h⟩ := h
      refine j_iald (n := 2) dX9_standing_13 (mt_laws hM) (ml_laws hM) c5 ?_
      obtain ⟨h1, h2⟩ := h
      refine j_icmp_ge 40 dX9_standing_14 rfl rv2 (hW.ai (mt_laws hM) rfl) (fun q6 => ?_) (fun q6 => ?_)
      · have h := h1 q6
        clear h1 h2
        refine j_iload_n dX9_standing_40 rfl ?_
        exact j_iret dX9_standing_41 rfl ⟨_, rfl, rfl, rfl, rfl, h, rv1⟩
      · have h := h2 q6
        clear h1 h2
        refine j_iload_n dX9_standing_17 rfl ?_
        refine j_aload_n dX9_standing_18 rfl ?_
        refine j_iload_n dX9_standing_19 rfl ?_
        refine j_iload_n dX9_standing_20 rfl ?_
        obtain ⟨P7, hp8, h⟩ := h
        refine j_invV (As := [vI a1, vI v2]) (rest := [vI v1]) dX9_standing_21 lkX9_399 hM.1 rfl rfl (wX9_stands (d := 1) (Nat.le_of_ble_eq_true rfl) hM hW ra1 rv2 hp8) rfl rfl (Nat.le_of_ble_eq_true rfl) (Nat.le_trans (Nat.le_of_ble_eq_true rfl) hd) (jkpB fun z9 p10 r11 => ?_)
        have h := h z9 p10
        have jn14 : ∀ z13 : Int, z13 = (if z9 = 0 then 0 else 1) → J G l d mX9_standing 32 [.ref o, vI a1, vI v1, vI v2] [vI z13, vI v1] N F A (jpI N F A Q) := by
          intro z13 ez13
          have h := h z13 ez13
          refine j_iadd dX9_standing_32 ?_
          obtain ⟨r15, h⟩ := h
          obtain ⟨v16, ev16⟩ : ∃ x : Int, x = v1 + z13 := ⟨_, rfl⟩
          have h := h v16 ev16
          refine jnmI (e := ev16) ?_
          refine j_istore_n dX9_standing_33 rfl ?_
          obtain ⟨r17, h⟩ := h
          refine j_iinc dX9_standing_34 rfl rfl ?_
          refine j_goto 4 dX9_standing_37 rfl ?_
          exact J.wk (((((jWk.nil).eq).eq).eq).eq) (ihI3 _ _ (Nat.lt_of_lt_of_le h.2 (Nat.le_of_lt_succ hmuI3)) (ev16 ▸ r15) r17 h.1)
        clear h
        refine j_if_eq 31 dX9_standing_24 rfl (jR_b r11) (fun q12 => ?_) (fun q12 => ?_)
        · refine j_iconst dX9_standing_31 ?_
          exact jn14 _ ((if_pos q12).symm)
        · refine j_iconst dX9_standing_27 ?_
          refine j_goto 32 dX9_standing_28 rfl ?_
          exact jn14 _ ((if_neg q12).symm)
  exact J.wk (((((jWk.nil).eq).eq).eq).eq) (lp _ _ _ (Nat.lt_succ_self _) (by decide) (by decide) h0)
/-- lex()V -/
def wpX9_lex (o : Nat) (F : jFl) (A : jAr) (Q : jFl → jAr → Prop) : Prop :=
  (((F 3036 o) = (-1)) →
    Q F A) ∧
  (¬ ((F 3036 o) = (-1)) →
    ∃ P2 : jFl → jAr → Prop, wpX9_blame o 1 (F 3036 o) F A P2 ∧ ∀ F5 A6, P2 F5 A6 →
    Q F5 A6)
theorem wX9_lex {G : jG} {l : Launch} {d : Nat} {N : jSh} {o : Nat} {F : jFl} {A : jAr} {Q : jFl → jAr → Prop} (hd : 2 ≤ d) (hM : mShape G N o) (hW : jWf N F A) (h : wpX9_lex o F A Q) : jCall G l d mX9_lex [.ref o] N F A (jmV N Q) := by
  refine jCall.of (ls := [.ref o]) (by decide) rfl (Nat.le_of_ble_eq_true rfl) rfl ?_
  unfold wpX9_lex at h
  refine j_aload_n dX9_lex_0 rfl ?_
  refine j_getI dX9_lex_1 flX9_48_10 hM.1 rfl ?_
  refine j_iconst dX9_lex_4 ?_
  obtain ⟨h1, h2⟩ := h
  refine j_icmp_eq 17 dX9_lex_5 rfl (hW.fi rfl) (by decide) (fun q1 => ?_) (fun q1 => ?_)
  · have h := h1 q1
    clear h1 h2
    exact j_vret dX9_lex_17 rfl ⟨rfl, rfl, hW, h⟩
  · have h := h2 q1
    clear h1 h2
    refine j_aload_n dX9_lex_8 rfl ?_
    refine j_iconst dX9_lex_9 ?_
    refine j_aload_n dX9_lex_10 rfl ?_
    refine j_getI dX9_lex_11 flX9_48_10 hM.1 rfl ?_
    obtain ⟨P2, hp3, h⟩ := h
    refine j_invV (As := [vI 1, vI (F 3036 o)]) (rest := []) dX9_lex_14 lkX9_262 hM.1 rfl rfl (wX9_blame (d := 1) (Nat.le_of_ble_eq_true rfl) hM hW (by decide) (hW.fi rfl) hp3) rfl rfl (Nat.le_of_ble_eq_true rfl) (Nat.le_trans (Nat.le_of_ble_eq_true rfl) hd) (jkmV fun F5 A6 hW7 p8 => ?_)
    have h := h F5 A6 p8
    exact j_vret dX9_lex_17 rfl ⟨rfl, rfl, hW7, h⟩
/-- named(IJ)I -/
def wpX9_named (o : Nat) (a1 : Int) (a2 : Int) (F : jFl) (A : jAr) (Q : Int → Prop) : Prop :=
  ∃ (I2 : Int → Prop) (m3 : Int → Nat), I2 0 ∧ ∀ (v1 : Int), I2 v1 →
    ∃ P4 : Int → Prop, wpX9_manyOf o (F 3114 o) a1 F A P4 ∧ ∀ z6, P4 z6 →
    ((z6 ≤ v1) →
      Q (-1)) ∧
    (¬ (z6 ≤ v1) →
      ∃ P10 : Int → Prop, wpX9_nameOf o (F 3114 o) a1 v1 F A P10 ∧ ∀ z12, P10 z12 →
      ((¬ (jcmp z12 a2) = 0) →
        jR (v1 + 1) ∧
        I2 (v1 + 1) ∧ m3 (v1 + 1) < m3 v1) ∧
      (¬ (¬ (jcmp z12 a2) = 0) →
        Q v1))
theorem wX9_named {G : jG} {l : Launch} {d : Nat} {N : jSh} {o : Nat} {F : jFl} {A : jAr} {a1 a2 : Int} {Q : Int → Prop} (hd : 2 ≤ d) (hM : mShape G N o) (hW : jWf N F A) (ra1 : jR a1) (ra2 : jRL a2) (h : wpX9_named o a1 a2 F A Q) : jCall G l d mX9_named [.ref o, vI a1, vL a2] N F A (jpI N F A Q) := by
  refine jCall.of (ls := [.ref o, vI a1, vL a2, jD, jD]) (by decide) rfl (Nat.le_of_ble_eq_true rfl) rfl ?_
  unfold wpX9_named at h
  refine j_iconst dX9_named_0 ?_
  refine j_istore dX9_named_1 rfl ?_
  obtain ⟨I2, m3, h0, hs⟩ := h
  have lp : ∀ (n : Nat) (v1 : Int), m3 v1 < n → jR v1 → I2 v1 → J G l d mX9_named 3 [.ref o, vI a1, vL a2, jD, vI v1] [] N F A (jpI N F A Q) := by
    intro nI2
    induction nI2 with
    | zero =>
      intro v1 hmu
      exact absurd hmu (Nat.not_lt_zero _)
    | succ nI2 ihI2 =>
      intro v1 hmuI2 rv1 hI
      have h := hs v1 hI
      refine j_iload dX9_named_3 rfl ?_
      refine j_aload_n dX9_named_5 rfl ?_
      refine j_aload_n dX9_named_6 rfl ?_
      refine j_getI dX9_named_7 flX9_127_10 hM.1 rfl ?_
      refine j_iload_n dX9_named_10 rfl ?_
      obtain ⟨P4, hp5, h⟩ := h
      refine j_invV (As := [vI (F 3114 o), vI a1]) (rest := [vI v1]) dX9_named_11 lkX9_316 hM.1 rfl rfl (wX9_manyOf (d := 1) (Nat.le_of_ble_eq_true rfl) hM hW (hW.fi rfl) ra1 hp5) rfl rfl (Nat.le_of_ble_eq_true rfl) (Nat.le_trans (Nat.le_of_ble_eq_true rfl) hd) (jkpI fun z6 p7 r8 => ?_)
      have h := h z6 p7
      obtain ⟨h1, h2⟩ := h
      refine j_icmp_ge 42 dX9_named_14 rfl rv1 r8 (fun q9 => ?_) (fun q9 => ?_)
      · have h := h1 q9
        clear h1 h2
        refine j_iconst dX9_named_42 ?_
        exact j_iret dX9_named_43 rfl ⟨_, rfl, rfl, rfl, rfl, h, (by decide)⟩
      · have h := h2 q9
        clear h1 h2
        refine j_aload_n dX9_named_17 rfl ?_
        refine j_aload_n dX9_named_18 rfl ?_
        refine j_getI dX9_named_19 flX9_127_10 hM.1 rfl ?_
        refine j_iload_n dX9_named_22 rfl ?_
        refine j_iload dX9_named_23 rfl ?_
        obtain ⟨P10, hp11, h⟩ := h
        refine j_invV (As := [vI (F 3114 o), vI a1, vI v1]) (rest := []) dX9_named_25 lkX9_320 hM.1 rfl rfl (wX9_nameOf (d := 1) (Nat.le_of_ble_eq_true rfl) hM hW (hW.fi rfl) ra1 rv1 hp11) rfl rfl (Nat.le_of_ble_eq_true rfl) (Nat.le_trans (Nat.le_of_ble_eq_true rfl) hd) (jkpL fun z12 p13 r14 => ?_)
        have h := h z12 p13
        refine j_lload_n dX9_named_28 rfl ?_
        refine j_lcmp dX9_named_29 r14 ra2 ?_
        obtain ⟨h1, h2⟩ := h
        refine j_if_ne 36 dX9_named_30 rfl jcmp_R (fun q15 => ?_) (fun q15 => ?_)
        · have h := h1 q15
          clear h1 h2
          obtain ⟨r16, h⟩ := h
          refine j_iinc dX9_named_36 rfl rfl ?_
          refine j_goto 3 dX9_named_39 rfl ?_
          exact J.wk ((((((jWk.nil).eq).no).eq).eq).eq) (ihI2 _ (Nat.lt_of_lt_of_le h.2 (Nat.le_of_lt_succ hmuI2)) r16 h.1)
        · have h := h2 q15
          clear h1 h2
          refine j_iload dX9_named_33 rfl ?_
          exact j_iret dX9_named_35 rfl ⟨_, rfl, rfl, rfl, rfl, h, rv1⟩
  exact J.wk ((((((jWk.nil).eq).no).eq).eq).eq) (lp _ _ (Nat.lt_succ_self _) (by decide) h0)
/-- isStanding(I)Z -/
def wpX9_isStanding (o : Nat) (a1 : Int) (F : jFl) (A : jAr) (Q : Int → Prop) : Prop :=
  ∃ P1 : Int → Prop, wpX9_isLaw o a1 F A P1 ∧ ∀ z3, P1 z3 →
  ((z3 = 0) →
    Q 0) ∧
  (¬ (z3 = 0) →
    ∃ P7 : Int → Prop, wpX9_stands o 0 a1 F A P7 ∧ ∀ z9, P7 z9 →
    ∀ z13 : Int, z13 = (if z9 = 0 then 0 else 1) →
    Q z13)
theorem wX9_isStanding {G : jG} {l : Launch} {d : Nat} {N : jSh} {o : Nat} {F : jFl} {A : jAr} {a1 : Int} {Q : Int → Prop} (hd : 2 ≤ d) (hM : mShape G N o) (hW : jWf N F A) (ra1 : jR a1) (h : wpX9_isStanding o a1 F A Q) : jCall G l d mX9_isStanding [.ref o, vI a1] N F A (jpB N F A Q) := by
  refine jCall.of (ls := [.ref o, vI a1]) (by decide) rfl (Nat.le_of_ble_eq_true rfl) rfl ?_
  unfold wpX9_isStanding at h
  refine j_aload_n dX9_isStanding_0 rfl ?_
  refine j_iload_n dX9_isStanding_1 rfl ?_
  obtain ⟨P1, hp2, h⟩ := h
  refine j_invV (As := [vI a1]) (rest := []) dX9_isStanding_2 lkX9_396 hM.1 rfl rfl (wX9_isLaw (d := 1) (Nat.le_of_ble_eq_true rfl) hM hW ra1 hp2) rfl rfl (Nat.le_of_ble_eq_true rfl) (Nat.le_trans (Nat.le_of_ble_eq_true rfl) hd) (jkpB fun z3 p4 r5 => ?_)
  have h := h z3 p4
  obtain ⟨h1, h2⟩ := h
  refine j_if_eq 21 dX9_isStanding_5 rfl (jR_b r5) (fun q6 => ?_) (fun q6 => ?_)
  · have h := h1 q6
    clear h1 h2
    refine j_iconst dX9_isStanding_21 ?_
    exact j_zret dX9_isStanding_22 rfl (nr_bool (by decide)) ⟨_, rfl, rfl, rfl, rfl, h, (by decide)⟩
  · have h := h2 q6
    clear h1 h2
    refine j_aload_n dX9_isStanding_8 rfl ?_
    refine j_iconst dX9_isStanding_9 ?_
    refine j_iload_n dX9_isStanding_10 rfl ?_
    obtain ⟨P7, hp8, h⟩ := h
    refine j_invV (As := [vI 0, vI a1]) (rest := []) dX9_isStanding_11 lkX9_399 hM.1 rfl rfl (wX9_stands (d := 1) (Nat.le_of_ble_eq_true rfl) hM hW (by decide) ra1 hp8) rfl rfl (Nat.le_of_ble_eq_true rfl) (Nat.le_trans (Nat.le_of_ble_eq_true rfl) hd) (jkpB fun z9 p10 r11 => ?_)
    have h := h z9 p10
    have jn14 : ∀ z13 : Int, z13 = (if z9 = 0 then 0 else 1) → J G l d mX9_isStanding 22 [.ref o, vI a1] [vI z13] N F A (jpB N F A Q) := by
      intro z13 ez13
      have h := h z13 ez13
      exact j_zret dX9_isStanding_22 rfl (nr_bool (ez13 ▸ (jB_ite (by decide) (by decide)))) ⟨_, rfl, rfl, rfl, rfl, h, (ez13 ▸ (jB_ite (by decide) (by decide)))⟩
    clear h
    refine j_if_eq 21 dX9_isStanding_14 rfl (jR_b r11) (fun q12 => ?_) (fun q12 => ?_)
    · refine j_iconst dX9_isStanding_21 ?_
      exact jn14 _ ((if_pos q12).symm)
    · refine j_iconst dX9_isStanding_17 ?_
      refine j_goto 22 dX9_isStanding_18 rfl ?_
      exact jn14 _ ((if_neg q12).symm)
/-- recalled(I)I -/
def wpX9_recalled (o : Nat) (a1 : Int) (F : jFl) (A : jAr) (Q : Int → Prop) : Prop :=
  ∃ (I2 : Int → Prop) (m3 : Int → Nat), I2 0 ∧ ∀ (v1 : Int), I2 v1 →
    ((a1 ≤ v1) →
      Q (-1)) ∧
    (¬ (a1 ≤ v1) →
      ∃ P5 : Int → Prop, wpX9_isRemembered o v1 F A P5 ∧ ∀ z7, P5 z7 →
      ((z7 = 0) →
        jR (v1 + 1) ∧
        I2 (v1 + 1) ∧ m3 (v1 + 1) < m3 v1) ∧
      (¬ (z7 = 0) →
        Q v1))
theorem wX9_recalled {G : jG} {l : Launch} {d : Nat} {N : jSh} {o : Nat} {F : jFl} {A : jAr} {a1 : Int} {Q : Int → Prop} (hd : 2 ≤ d) (hM : mShape G N o) (hW : jWf N F A) (ra1 : jR a1) (h : wpX9_recalled o a1 F A Q) : jCall G l d mX9_recalled [.ref o, vI a1] N F A (jpI N F A Q) := by
  refine jCall.of (ls := [.ref o, vI a1, jD]) (by decide) rfl (Nat.le_of_ble_eq_true rfl) rfl ?_
  unfold wpX9_recalled at h
  refine j_iconst dX9_recalled_0 ?_
  refine j_istore_n dX9_recalled_1 rfl ?_
  obtain ⟨I2, m3, h0, hs⟩ := h
  have lp : ∀ (n : Nat) (v1 : Int), m3 v1 < n → jR v1 → I2 v1 → J G l d mX9_recalled 2 [.ref o, vI a1, vI v1] [] N F A (jpI N F A Q) := by
    intro nI2
    induction nI2 with
    | zero =>
      intro v1 hmu
      exact absurd hmu (Nat.not_lt_zero _)
    | succ nI2 ihI2 =>
      intro v1 hmuI2 rv1 hI
      have h := hs v1 hI
      refine j_iload_n dX9_recalled_2 rfl ?_
      refine j_iload_n dX9_recalled_3 rfl ?_
      obtain ⟨h1, h2⟩ := h
      refine j_icmp_ge 23 dX9_recalled_4 rfl rv1 ra1 (fun q4 => ?_) (fun q4 => ?_)
      · have h := h1 q4
        clear h1 h2
        refine j_iconst dX9_recalled_23 ?_
        exact j_iret dX9_recalled_24 rfl ⟨_, rfl, rfl, rfl, rfl, h, (by decide)⟩
      · have h := h2 q4
        clear h1 h2
        refine j_aload_n dX9_recalled_7 rfl ?_
        refine j_iload_n dX9_recalled_8 rfl ?_
        obtain ⟨P5, hp6, h⟩ := h
        refine j_invV (As := [vI v1]) (rest := []) dX9_recalled_9 lkX9_491 hM.1 rfl rfl (wX9_isRemembered (d := 1) (Nat.le_of_ble_eq_true rfl) hM hW rv1 hp6) rfl rfl (Nat.le_of_ble_eq_true rfl) (Nat.le_trans (Nat.le_of_ble_eq_true rfl) hd) (jkpB fun z7 p8 r9 => ?_)
        have h := h z7 p8
        obtain ⟨h1, h2⟩ := h
        refine j_if_eq 17 dX9_recalled_12 rfl (jR_b r9) (fun q10 => ?_) (fun q10 => ?_)
        · have h := h1 q10
          clear h1 h2
          obtain ⟨r11, h⟩ := h
          refine j_iinc dX9_recalled_17 rfl rfl ?_
          refine j_goto 2 dX9_recalled_20 rfl ?_
          exact J.wk ((((jWk.nil).eq).eq).eq) (ihI2 _ (Nat.lt_of_lt_of_le h.2 (Nat.le_of_lt_succ hmuI2)) r11 h.1)
        · have h := h2 q10
          clear h1 h2
          refine j_iload_n dX9_recalled_15 rfl ?_
          exact j_iret dX9_recalled_16 rfl ⟨_, rfl, rfl, rfl, rfl, h, rv1⟩
  exact J.wk ((((jWk.nil).eq).eq).eq) (lp _ _ (Nat.lt_succ_self _) (by decide) h0)
/-- nextPerm()Z -/
def wpX9_nextPerm (o : Nat) (F : jFl) (A : jAr) (Q : Int → jFl → jAr → Prop) : Prop :=
  jR ((F 3222 o) - 2) ∧
  ∀ v2 : Int, v2 = (F 3222 o) - 2 →
  ∃ (I4 : Int → Prop) (m5 : Int → Nat), I4 v2 ∧ ∀ (v3 : Int), I4 v3 →
    ∃ K7 : Prop, (
      K7 →
      ((0 ≤ v3) →
        jR ((F 3222 o) - 1) ∧
        ∀ v12 : Int, v12 = (F 3222 o) - 1 →
        ∃ (I14 : Int → Prop) (m15 : Int → Nat), I14 v12 ∧ ∀ (v13 : Int), I14 v13 →
          (0 ≤ v13 ∧ v13 < 12) ∧
          (0 ≤ v3 ∧ v3 < 12) ∧
          (((A (o + 46) v3) ≤ (A (o + 46) v13)) →
            ∃ P19 : jFl → jAr → Prop, wpX9_changes o v3 v13 F A P19 ∧ ∀ F22 A23, P19 F22 A23 →
            jR (v3 + 1) ∧
            ∀ v28 : Int, v28 = v3 + 1 →
            jR ((F22 3222 o) - 1) ∧
            ∀ v30 : Int, v30 = (F22 3222 o) - 1 →
            ∃ (I36 : Int → Int → jFl → jAr → Prop) (m37 : Int → Int → jFl → jAr → Nat), I36 v28 v30 F22 A23 ∧ ∀ (v31 : Int) (v32 : Int) (F33 : jFl) (A34 : jAr), I36 v31 v32 F33 A34 →
              ((v32 ≤ v31) →
                Q 1 F33 A34) ∧
              (¬ (v32 ≤ v31) →
                ∃ P39 : jFl → jAr → Prop, wpX9_changes o v31 v32 F33 A34 P39 ∧ ∀ F42 A43, P39 F42 A43 →
                jR (v31 + 1) ∧
                jR (v32 + (-1)) ∧
                I36 (v31 + 1) (v32 + (-1)) F42 A43 ∧ m37 (v31 + 1) (v32 + (-1)) F42 A43 < m37 v31 v32 F33 A34)) ∧
          (¬ ((A (o + 46) v3) ≤ (A (o + 46) v13)) →
            jR (v13 + (-1)) ∧
            I14 (v13 + (-1)) ∧ m15 (v13 + (-1)) < m15 v13)) ∧
      (¬ (0 ≤ v3) →
        Q 0 F A)) ∧
    ((v3 < 0) →
      K7 ) ∧
    (¬ (v3 < 0) →
      (0 ≤ v3 ∧ v3 < 12) ∧
      (0 ≤ v3 + 1 ∧ v3 + 1 < 12) ∧
      (((A (o + 46) v3) ≤ (A (o + 46) (v3 + 1))) →
        K7 ) ∧
      (¬ ((A (o + 46) v3) ≤ (A (o + 46) (v3 + 1))) →
        jR (v3 + (-1)) ∧
        I4 (v3 + (-1)) ∧ m5 (v3 + (-1)) < m5 v3))
theorem wX9_nextPerm {G : jG} {l : Launch} {d : Nat} {N : jSh} {o : Nat} {F : jFl} {A : jAr} {Q : Int → jFl → jAr → Prop} (hd : 2 ≤ d) (hM : mShape G N o) (hW : jWf N F A) (h : wpX9_nextPerm o F A Q) : jCall G l d mX9_nextPerm [.ref o] N F A (jmB N Q) := by
  refine jCall.of (ls := [.ref o, jD, jD, jD, jD]) (by decide) rfl (Nat.le_of_ble_eq_true rfl) rfl ?_
  unfold wpX9_nextPerm at h
  refine j_aload_n dX9_nextPerm_0 rfl ?_
  refine j_getI dX9_nextPerm_1 flX9_236_10 hM.1 rfl ?_
  refine j_iconst dX9_nextPerm_4 ?_
  refine j_isub dX9_nextPerm_5 ?_
  obtain ⟨r1, h⟩ := h
  obtain ⟨v2, ev2⟩ : ∃ x : Int, x = (F 3222 o) - 2 := ⟨_, rfl⟩
  have h := h v2 ev2
  refine jnmI (e := ev2) ?_
  refine j_istore_n dX9_nextPerm_6 rfl ?_
  obtain ⟨I4, m5, h0, hs⟩ := h
  have lp : ∀ (n : Nat) (v3 : Int), m5 v3 < n → jR v3 → I4 v3 → J G l d mX9_nextPerm 7 [.ref o, vI v3, jD, jD, jD] [] N F A (jmB N Q) := by
    intro nI4
    induction nI4 with
    | zero =>
      intro v3 hmu
      exact absurd hmu (Nat.not_lt_zero _)
    | succ nI4 ihI4 =>
      intro v3 hmuI4 rv3 hI
      have h := hs v3 hI
      refine j_iload_n dX9_nextPerm_7 rfl ?_
      obtain ⟨K7, hK9, h⟩ := h
      have jn8 : K7  → J G l d mX9_nextPerm 34 [.ref o, vI v3, jD, jD, jD] [] N F A (jmB N Q) := by
        intro   h
        have h := hK9  h
        refine j_iload_n dX9_nextPerm_34 rfl ?_
        obtain ⟨h1, h2⟩ := h
        refine j_if_ge 40 dX9_nextPerm_35 rfl rv3 (fun q10 => ?_) (fun q10 => ?_)
        · have h := h1 q10
          clear h1 h2
          refine j_aload_n dX9_nextPerm_40 rfl ?_
          refine j_getI dX9_nextPerm_41 flX9_236_10 hM.1 rfl ?_
          refine j_iconst dX9_nextPerm_44 ?_
          refine j_isub dX9_nextPerm_45 ?_
          obtain ⟨r11, h⟩ := h
          obtain ⟨v12, ev12⟩ : ∃ x : Int, x = (F 3222 o) - 1 := ⟨_, rfl⟩
          have h := h v12 ev12
          refine jnmI (e := ev12) ?_
          refine j_istore_n dX9_nextPerm_46 rfl ?_
          obtain ⟨I14, m15, h0, hs⟩ := h
          have lp : ∀ (n : Nat) (v13 : Int), m15 v13 < n → jR v13 → I14 v13 → J G l d mX9_nextPerm 47 [.ref o, vI v3, vI v13, jD, jD] [] N F A (jmB N Q) := by
            intro nI14
            induction nI14 with
            | zero =>
              intro v13 hmu
              exact absurd hmu (Nat.not_lt_zero _)
            | succ nI14 ihI14 =>
              intro v13 hmuI14 rv13 hI
              have h := hs v13 hI
              refine j_aload_n dX9_nextPerm_47 rfl ?_
              refine j_getFR dX9_nextPerm_48 flX9_230_10 hM.1 rfl (mf_perm hM) ?_
              refine j_iload_n dX9_nextPerm_51 rfl ?_
              obtain ⟨c16, h⟩ := h
              refine j_iald (n := 12) dX9_nextPerm_52 (mt_perm hM) (ml_perm hM) c16 ?_
              refine j_aload_n dX9_nextPerm_53 rfl ?_
              refine j_getFR dX9_nextPerm_54 flX9_230_10 hM.1 rfl (mf_perm hM) ?_
              refine j_iload_n dX9_nextPerm_57 rfl ?_
              obtain ⟨c17, h⟩ := h
              refine j_iald (n := 12) dX9_nextPerm_58 (mt_perm hM) (ml_perm hM) c17 ?_
              obtain ⟨h1, h2⟩ := h
              refine j_icmp_ge 68 dX9_nextPerm_59 rfl (hW.ai (mt_perm hM) rfl) (hW.ai (mt_perm hM) rfl) (fun q18 => ?_) (fun q18 => ?_)
              · have h := h1 q18
                clear h1 h2
                refine j_aload_n dX9_nextPerm_68 rfl ?_
                refine j_iload_n dX9_nextPerm_69 rfl ?_
                refine j_iload_n dX9_nextPerm_70 rfl ?_
                obtain ⟨P19, hp20, h⟩ := h
                refine j_invV (As := [vI v3, vI v13]) (rest := []) dX9_nextPerm_71 lkX9_506 hM.1 rfl rfl (wX9_changes (d := 1) (Nat.le_of_ble_eq_true rfl) hM hW rv3 rv13 hp20) rfl rfl (Nat.le_of_ble_eq_true rfl) (Nat.le_trans (Nat.le_of_ble_eq_true rfl) hd) (jkmV fun F22 A23 hW24 p25 => ?_)
                have h := h F22 A23 p25
                refine j_iload_n dX9_nextPerm_74 rfl ?_
                refine j_iconst dX9_nextPerm_75 ?_
                refine j_iadd dX9_nextPerm_76 ?_
                obtain ⟨r27, h⟩ := h
                obtain ⟨v28, ev28⟩ : ∃ x : Int, x = v3 + 1 := ⟨_, rfl⟩
                have h := h v28 ev28
                refine jnmI (e := ev28) ?_
                refine j_istore_n dX9_nextPerm_77 rfl ?_
                refine j_aload_n dX9_nextPerm_78 rfl ?_
                refine j_getI dX9_nextPerm_79 flX9_236_10 hM.1 rfl ?_
                refine j_iconst dX9_nextPerm_82 ?_
                refine j_isub dX9_nextPerm_83 ?_
                obtain ⟨r29, h⟩ := h
                obtain ⟨v30, ev30⟩ : ∃ x : Int, x = (F22 3222 o) - 1 := ⟨_, rfl⟩
                have h := h v30 ev30
                refine jnmI (e := ev30) ?_
                refine j_istore dX9_nextPerm_84 rfl ?_
                obtain ⟨I36, m37, h0, hs⟩ := h
                have lp : ∀ (n : Nat) (v31 : Int) (v32 : Int) (F33 : jFl) (A34 : jAr), m37 v31 v32 F33 A34 < n → jWf N F33 A34 → jR v31 → jR v32 → I36 v31 v32 F33 A34 → J G l d mX9_nextPerm 86 [.ref o, jD, jD, vI v31, vI v32] [] N F33 A34 (jmB N Q) := by
                  intro nI36
                  induction nI36 with
                  | zero =>
                    intro v31 v32 F33 A34 hmu
                    exact absurd hmu (Nat.not_lt_zero _)
                  | succ nI36 ihI36 =>
                    intro v31 v32 F33 A34 hmuI36 hW35 rv31 rv32 hI
                    have h := hs v31 v32 F33 A34 hI
                    refine j_iload_n dX9_nextPerm_86 rfl ?_
                    refine j_iload dX9_nextPerm_87 rfl ?_
                    obtain ⟨h1, h2⟩ := h
                    refine j_icmp_ge 108 dX9_nextPerm_89 rfl rv31 rv32 (fun q38 => ?_) (fun q38 => ?_)
                    · have h := h1 q38
                      clear h1 h2
                      refine j_iconst dX9_nextPerm_108 ?_
                      exact j_zret dX9_nextPerm_109 rfl (nr_bool (by decide)) ⟨_, rfl, rfl, hW35, h, (by decide)⟩
                    · have h := h2 q38
                      clear h1 h2
                      refine j_aload_n dX9_nextPerm_92 rfl ?_
                      refine j_iload_n dX9_nextPerm_93 rfl ?_
                      refine j_iload dX9_nextPerm_94 rfl ?_
                      obtain ⟨P39, hp40, h⟩ := h
                      refine j_invV (As := [vI v31, vI v32]) (rest := []) dX9_nextPerm_96 lkX9_506 hM.1 rfl rfl (wX9_changes (d := 1) (Nat.le_of_ble_eq_true rfl) hM hW35 rv31 rv32 hp40) rfl rfl (Nat.le_of_ble_eq_true rfl) (Nat.le_trans (Nat.le_of_ble_eq_true rfl) hd) (jkmV fun F42 A43 hW44 p45 => ?_)
                      have h := h F42 A43 p45
                      obtain ⟨r47, h⟩ := h
                      refine j_iinc dX9_nextPerm_99 rfl rfl ?_
                      obtain ⟨r48, h⟩ := h
                      refine j_iinc dX9_nextPerm_102 rfl rfl ?_
                      refine j_goto 86 dX9_nextPerm_105 rfl ?_
                      exact J.wk ((((((jWk.nil).eq).eq).no).no).eq) (ihI36 _ _ _ _ (Nat.lt_of_lt_of_le h.2 (Nat.le_of_lt_succ hmuI36)) hW44 r47 r48 h.1)
                exact J.wk ((((((jWk.nil).eq).eq).no).no).eq) (lp _ _ _ _ _ (Nat.lt_succ_self _) hW24 (ev28 ▸ r27) (ev30 ▸ r29) h0)
              · have h := h2 q18
                clear h1 h2
                obtain ⟨r49, h⟩ := h
                refine j_iinc dX9_nextPerm_62 rfl rfl ?_
                refine j_goto 47 dX9_nextPerm_65 rfl ?_
                exact J.wk ((((((jWk.nil).no).no).eq).eq).eq) (ihI14 _ (Nat.lt_of_lt_of_le h.2 (Nat.le_of_lt_succ hmuI14)) r49 h.1)
          exact J.wk ((((((jWk.nil).no).no).eq).eq).eq) (lp _ _ (Nat.lt_succ_self _) (ev12 ▸ r11) h0)
        · have h := h2 q10
          clear h1 h2
          refine j_iconst dX9_nextPerm_38 ?_
          exact j_zret dX9_nextPerm_39 rfl (nr_bool (by decide)) ⟨_, rfl, rfl, hW, h, (by decide)⟩
      obtain ⟨h1, h2⟩ := h
      refine j_if_lt 34 dX9_nextPerm_8 rfl rv3 (fun q6 => ?_) (fun q6 => ?_)
      · have h := h1 q6
        clear h1 h2
        exact J.wk ((((((jWk.nil).no).no).no).eq).eq) (jn8   h)
      · have h := h2 q6
        clear h1 h2
        refine j_aload_n dX9_nextPerm_11 rfl ?_
        refine j_getFR dX9_nextPerm_12 flX9_230_10 hM.1 rfl (mf_perm hM) ?_
        refine j_iload_n dX9_nextPerm_15 rfl ?_
        obtain ⟨c50, h⟩ := h
        refine j_iald (n := 12) dX9_nextPerm_16 (mt_perm hM) (ml_perm hM) c50 ?_
        refine j_aload_n dX9_nextPerm_17 rfl ?_
        refine j_getFR dX9_nextPerm_18 flX9_230_10 hM.1 rfl (mf_perm hM) ?_
        refine j_iload_n dX9_nextPerm_21 rfl ?_
        refine j_iconst dX9_nextPerm_22 ?_
        refine j_iadd dX9_nextPerm_23 ?_
        obtain ⟨c51, h⟩ := h
        refine j_iald (n := 12) dX9_nextPerm_24 (mt_perm hM) (ml_perm hM) c51 ?_
        obtain ⟨h1, h2⟩ := h
        refine j_icmp_le 34 dX9_nextPerm_25 rfl (hW.ai (mt_perm hM) rfl) (hW.ai (mt_perm hM) rfl) (fun q52 => ?_) (fun q52 => ?_)
        · have h := h1 q52
          clear h1 h2
          exact J.wk ((((((jWk.nil).no).no).no).eq).eq) (jn8   h)
        · have h := h2 q52
          clear h1 h2
          obtain ⟨r53, h⟩ := h
          refine j_iinc dX9_nextPerm_28 rfl rfl ?_
          refine j_goto 7 dX9_nextPerm_31 rfl ?_
          exact J.wk ((((((jWk.nil).no).no).no).eq).eq) (ihI4 _ (Nat.lt_of_lt_of_le h.2 (Nat.le_of_lt_succ hmuI4)) r53 h.1)
  exact J.wk ((((((jWk.nil).no).no).no).eq).eq) (lp _ _ (Nat.lt_succ_self _) (ev2 ▸ r1) h0)
/-- book(II)I -/
def wpX9_book (o : Nat) (a1 : Int) (a2 : Int) (F : jFl) (A : jAr) (Q : Int → Prop) : Prop :=
  jR ((A (o + 34) 0) - 1) ∧
  ∃ P3 : Int → Prop, wpX9_is o a1 0 ((A (o + 34) 0) - 1) F A P3 ∧ ∀ z5, P3 z5 →
  ((z5 = 0) →
    Q (-1)) ∧
  (¬ (z5 = 0) →
    ∃ P9 : Int → Prop, wpX9_is o a2 0 3 F A P9 ∧ ∀ z11, P9 z11 →
    ((z11 = 0) →
      Q (-1)) ∧
    (¬ (z11 = 0) →
      (0 ≤ (4 * a1) + a2 ∧ (4 * a1) + a2 < 8800) ∧
      Q (A (o + 35) ((4 * a1) + a2))))
theorem wX9_book {G : jG} {l : Launch} {d : Nat} {N : jSh} {o : Nat} {F : jFl} {A : jAr} {a1 a2 : Int} {Q : Int → Prop} (hd : 2 ≤ d) (hM : mShape G N o) (hW : jWf N F A) (ra1 : jR a1) (ra2 : jR a2) (h : wpX9_book o a1 a2 F A Q) : jCall G l d mX9_book [.ref o, vI a1, vI a2] N F A (jpI N F A Q) := by
  refine jCall.of (ls := [.ref o, vI a1, vI a2]) (by decide) rfl (Nat.le_of_ble_eq_true rfl) rfl ?_
  unfold wpX9_book at h
  refine j_iload_n dX9_book_0 rfl ?_
  refine j_iconst dX9_book_1 ?_
  refine j_aload_n dX9_book_2 rfl ?_
  refine j_getFR dX9_book_3 flX9_160_10 hM.1 rfl (mf_bookMany hM) ?_
  refine j_iconst dX9_book_6 ?_
  refine j_iald (n := 22) dX9_book_7 (mt_bookMany hM) (ml_bookMany hM) (by decide) ?_
  refine j_iconst dX9_book_8 ?_
  refine j_isub dX9_book_9 ?_
  obtain ⟨r2, h⟩ := h
  obtain ⟨P3, hp4, h⟩ := h
  refine j_invS (As := [vI a1, vI 0, vI ((A (o + 34) 0) - 1)]) (rest := []) dX9_book_10 lkX9_324 (wX9_is (d := 1) (Nat.le_of_ble_eq_true rfl) hM hW ra1 (by decide) r2 hp4) rfl rfl (Nat.le_of_ble_eq_true rfl) (Nat.le_trans (Nat.le_of_ble_eq_true rfl) hd) (jkpB fun z5 p6 r7 => ?_)
  have h := h z5 p6
  obtain ⟨h1, h2⟩ := h
  refine j_if_eq 38 dX9_book_13 rfl (jR_b r7) (fun q8 => ?_) (fun q8 => ?_)
  · have h := h1 q8
    clear h1 h2
    refine j_iconst dX9_book_38 ?_
    exact j_iret dX9_book_39 rfl ⟨_, rfl, rfl, rfl, rfl, h, (by decide)⟩
  · have h := h2 q8
    clear h1 h2
    refine j_iload_n dX9_book_16 rfl ?_
    refine j_iconst dX9_book_17 ?_
    refine j_iconst dX9_book_18 ?_
    obtain ⟨P9, hp10, h⟩ := h
    refine j_invS (As := [vI a2, vI 0, vI 3]) (rest := []) dX9_book_19 lkX9_324 (wX9_is (d := 1) (Nat.le_of_ble_eq_true rfl) hM hW ra2 (by decide) (by decide) hp10) rfl rfl (Nat.le_of_ble_eq_true rfl) (Nat.le_trans (Nat.le_of_ble_eq_true rfl) hd) (jkpB fun z11 p12 r13 => ?_)
    have h := h z11 p12
    obtain ⟨h1, h2⟩ := h
    refine j_if_eq 38 dX9_book_22 rfl (jR_b r13) (fun q14 => ?_) (fun q14 => ?_)
    · have h := h1 q14
      clear h1 h2
      refine j_iconst dX9_book_38 ?_
      exact j_iret dX9_book_39 rfl ⟨_, rfl, rfl, rfl, rfl, h, (by decide)⟩
    · have h := h2 q14
      clear h1 h2
      refine j_aload_n dX9_book_25 rfl ?_
      refine j_getFR dX9_book_26 flX9_163_10 hM.1 rfl (mf_bookRow hM) ?_
      refine j_iconst dX9_book_29 ?_
      refine j_iload_n dX9_book_30 rfl ?_
      refine j_imul dX9_book_31 ?_
      refine j_iload_n dX9_book_32 rfl ?_
      refine j_iadd dX9_book_33 ?_
      obtain ⟨c15, h⟩ := h
      refine j_iald (n := 8800) dX9_book_34 (mt_bookRow hM) (ml_bookRow hM) c15 ?_
      refine j_goto 39 dX9_book_35 rfl ?_
      exact j_iret dX9_book_39 rfl ⟨_, rfl, rfl, rfl, rfl, h, (hW.ai (mt_bookRow hM) rfl)⟩
/-- end(I)Z -/
def wpX9_end (o : Nat) (a1 : Int) (F : jFl) (A : jAr) (Q : Int → jFl → jAr → Prop) : Prop :=
  ((a1 < 0) →
    ∃ P2 : Int → jFl → jAr → Prop, wpX9_refuses o 0 F A P2 ∧ ∀ z4 F5 A6, P2 z4 F5 A6 →
    ∀ z11 : Int, z11 = (if z4 < 0 then 0 else 1) →
    Q z11 F5 A6) ∧
  (¬ (a1 < 0) →
    ((a1 ≤ (F 3003 o)) →
      ∀ F14 : jFl, F14 = upF F 3003 o a1 →
      Q 1 F14 A) ∧
    (¬ (a1 ≤ (F 3003 o)) →
      ∃ P16 : Int → jFl → jAr → Prop, wpX9_refuses o 0 F A P16 ∧ ∀ z18 F19 A20, P16 z18 F19 A20 →
      ∀ z25 : Int, z25 = (if z18 < 0 then 0 else 1) →
      Q z25 F19 A20))
theorem wX9_end {G : jG} {l : Launch} {d : Nat} {N : jSh} {o : Nat} {F : jFl} {A : jAr} {a1 : Int} {Q : Int → jFl → jAr → Prop} (hd : 2 ≤ d) (hM : mShape G N o) (hW : jWf N F A) (ra1 : jR a1) (h : wpX9_end o a1 F A Q) : jCall G l d mX9_end [.ref o, vI a1] N F A (jmB N Q) := by
  refine jCall.of (ls := [.ref o, vI a1]) (by decide) rfl (Nat.le_of_ble_eq_true rfl) rfl ?_
  unfold wpX9_end at h
  refine j_iload_n dX9_end_0 rfl ?_
  obtain ⟨h1, h2⟩ := h
  refine j_if_lt 12 dX9_end_1 rfl ra1 (fun q1 => ?_) (fun q1 => ?_)
  · have h := h1 q1
    clear h1 h2
    refine j_aload_n dX9_end_12 rfl ?_
    refine j_iconst dX9_end_13 ?_
    obtain ⟨P2, hp3, h⟩ := h
    refine j_invV (As := [vI 0]) (rest := []) dX9_end_14 lkX9_254 hM.1 rfl rfl (wX9_refuses (d := 1) (Nat.le_of_ble_eq_true rfl) hM hW (by decide) hp3) rfl rfl (Nat.le_of_ble_eq_true rfl) (Nat.le_trans (Nat.le_of_ble_eq_true rfl) hd) (jkmI fun z4 F5 A6 hW7 p8 r9 => ?_)
    have h := h z4 F5 A6 p8
    have jn12 : ∀ z11 : Int, z11 = (if z4 < 0 then 0 else 1) → J G l d mX9_end 25 [.ref o, vI a1] [vI z11] N F5 A6 (jmB N Q) := by
      intro z11 ez11
      have h := h z11 ez11
      exact j_zret dX9_end_25 rfl (nr_bool (ez11 ▸ (jB_ite (by decide) (by decide)))) ⟨_, rfl, rfl, hW7, h, (ez11 ▸ (jB_ite (by decide) (by decide)))⟩
    clear h
    refine j_if_lt 24 dX9_end_17 rfl r9 (fun q10 => ?_) (fun q10 => ?_)
    · refine j_iconst dX9_end_24 ?_
      exact jn12 _ ((if_pos q10).symm)
    · refine j_iconst dX9_end_20 ?_
      refine j_goto 25 dX9_end_21 rfl ?_
      exact jn12 _ ((if_neg q10).symm)
  · have h := h2 q1
    clear h1 h2
    refine j_iload_n dX9_end_4 rfl ?_
    refine j_aload_n dX9_end_5 rfl ?_
    refine j_getI dX9_end_6 flX9_13_10 hM.1 rfl ?_
    obtain ⟨h1, h2⟩ := h
    refine j_icmp_le 26 dX9_end_9 rfl ra1 (hW.fi rfl) (fun q13 => ?_) (fun q13 => ?_)
    · have h := h1 q13
      clear h1 h2
      refine j_aload_n dX9_end_26 rfl ?_
      refine j_iload_n dX9_end_27 rfl ?_
      refine j_putI dX9_end_28 flX9_13_10 hM.1 hM.2.1 rfl ?_
      obtain ⟨F14, eF14⟩ : ∃ x : jFl, x = upF F 3003 o a1 := ⟨_, rfl⟩
      have hW15 : jWf N F14 A := eF14 ▸ jWf_F (f := 3003) (a := o) (z := a1) hW (jRk_0 rfl ra1)
      refine jnmF (e := eF14) ?_
      have h := h F14 eF14
      refine j_iconst dX9_end_31 ?_
      exact j_zret dX9_end_32 rfl (nr_bool (by decide)) ⟨_, rfl, rfl, hW15, h, (by decide)⟩
    · have h := h2 q13
      clear h1 h2
      refine j_aload_n dX9_end_12 rfl ?_
      refine j_iconst dX9_end_13 ?_
      obtain ⟨P16, hp17, h⟩ := h
      refine j_invV (As := [vI 0]) (rest := []) dX9_end_14 lkX9_254 hM.1 rfl rfl (wX9_refuses (d := 1) (Nat.le_of_ble_eq_true rfl) hM hW (by decide) hp17) rfl rfl (Nat.le_of_ble_eq_true rfl) (Nat.le_trans (Nat.le_of_ble_eq_true rfl) hd) (jkmI fun z18 F19 A20 hW21 p22 r23 => ?_)
      have h := h z18 F19 A20 p22
      have jn26 : ∀ z25 : Int, z25 = (if z18 < 0 then 0 else 1) → J G l d mX9_end 25 [.ref o, vI a1] [vI z25] N F19 A20 (jmB N Q) := by
        intro z25 ez25
        have h := h z25 ez25
        exact j_zret dX9_end_25 rfl (nr_bool (ez25 ▸ (jB_ite (by decide) (by decide)))) ⟨_, rfl, rfl, hW21, h, (ez25 ▸ (jB_ite (by decide) (by decide)))⟩
      clear h
      refine j_if_lt 24 dX9_end_17 rfl r23 (fun q24 => ?_) (fun q24 => ?_)
      · refine j_iconst dX9_end_24 ?_
        exact jn26 _ ((if_pos q24).symm)
      · refine j_iconst dX9_end_20 ?_
        refine j_goto 25 dX9_end_21 rfl ?_
        exact jn26 _ ((if_neg q24).symm)
/-- feed(IIIII)I -/
def wpX9_feed (o : Nat) (a1 : Int) (a2 : Int) (a3 : Int) (a4 : Int) (a5 : Int) (F : jFl) (A : jAr) (Q : Int → jFl → jAr → Prop) : Prop :=
  jR ((F 3003 o) + 20) ∧
  ((((F 3003 o) + 20) ≤ 1600) →
    ∃ P3 : jFl → jAr → Prop, wpX9_put o a1 F A P3 ∧ ∀ F6 A7, P3 F6 A7 →
    ∃ P11 : jFl → jAr → Prop, wpX9_put o a2 F6 A7 P11 ∧ ∀ F14 A15, P11 F14 A15 →
    ∃ P19 : jFl → jAr → Prop, wpX9_put o a3 F14 A15 P19 ∧ ∀ F22 A23, P19 F22 A23 →
    ∃ P27 : jFl → jAr → Prop, wpX9_put o a4 F22 A23 P27 ∧ ∀ F30 A31, P27 F30 A31 →
    ∃ P35 : jFl → jAr → Prop, wpX9_put o a5 F30 A31 P35 ∧ ∀ F38 A39, P35 F38 A39 →
    Q (F38 3003 o) F38 A39) ∧
  (¬ (((F 3003 o) + 20) ≤ 1600) →
    ∃ P43 : Int → jFl → jAr → Prop, wpX9_refuses o 0 F A P43 ∧ ∀ z45 F46 A47, P43 z45 F46 A47 →
    Q z45 F46 A47)
theorem wX9_feed {G : jG} {l : Launch} {d : Nat} {N : jSh} {o : Nat} {F : jFl} {A : jAr} {a1 a2 a3 a4 a5 : Int} {Q : Int → jFl → jAr → Prop} (hd : 2 ≤ d) (hM : mShape G N o) (hW : jWf N F A) (ra1 : jR a1) (ra2 : jR a2) (ra3 : jR a3) (ra4 : jR a4) (ra5 : jR a5) (h : wpX9_feed o a1 a2 a3 a4 a5 F A Q) : jCall G l d mX9_feed [.ref o, vI a1, vI a2, vI a3, vI a4, vI a5] N F A (jmI N Q) := by
  refine jCall.of (ls := [.ref o, vI a1, vI a2, vI a3, vI a4, vI a5]) (by decide) rfl (Nat.le_of_ble_eq_true rfl) rfl ?_
  unfold wpX9_feed at h
  refine j_aload_n dX9_feed_0 rfl ?_
  refine j_getI dX9_feed_1 flX9_13_10 hM.1 rfl ?_
  refine j_bipush dX9_feed_4 ?_
  refine j_iadd dX9_feed_6 ?_
  refine j_sipush dX9_feed_7 ?_
  obtain ⟨r1, h⟩ := h
  obtain ⟨h1, h2⟩ := h
  refine j_icmp_le 19 dX9_feed_10 rfl r1 (by decide) (fun q2 => ?_) (fun q2 => ?_)
  · have h := h1 q2
    clear h1 h2
    refine j_aload_n dX9_feed_19 rfl ?_
    refine j_iload_n dX9_feed_20 rfl ?_
    obtain ⟨P3, hp4, h⟩ := h
    refine j_invV (As := [vI a1]) (rest := []) dX9_feed_21 lkX9_258 hM.1 rfl rfl (wX9_put (d := 1) (Nat.le_of_ble_eq_true rfl) hM hW ra1 hp4) rfl rfl (Nat.le_of_ble_eq_true rfl) (Nat.le_trans (Nat.le_of_ble_eq_true rfl) hd) (jkmV fun F6 A7 hW8 p9 => ?_)
    have h := h F6 A7 p9
    refine j_aload_n dX9_feed_24 rfl ?_
    refine j_iload_n dX9_feed_25 rfl ?_
    obtain ⟨P11, hp12, h⟩ := h
    refine j_invV (As := [vI a2]) (rest := []) dX9_feed_26 lkX9_258 hM.1 rfl rfl (wX9_put (d := 1) (Nat.le_of_ble_eq_true rfl) hM hW8 ra2 hp12) rfl rfl (Nat.le_of_ble_eq_true rfl) (Nat.le_trans (Nat.le_of_ble_eq_true rfl) hd) (jkmV fun F14 A15 hW16 p17 => ?_)
    have h := h F14 A15 p17
    refine j_aload_n dX9_feed_29 rfl ?_
    refine j_iload_n dX9_feed_30 rfl ?_
    obtain ⟨P19, hp20, h⟩ := h
    refine j_invV (As := [vI a3]) (rest := []) dX9_feed_31 lkX9_258 hM.1 rfl rfl (wX9_put (d := 1) (Nat.le_of_ble_eq_true rfl) hM hW16 ra3 hp20) rfl rfl (Nat.le_of_ble_eq_true rfl) (Nat.le_trans (Nat.le_of_ble_eq_true rfl) hd) (jkmV fun F22 A23 hW24 p25 => ?_)
    have h := h F22 A23 p25
    refine j_aload_n dX9_feed_34 rfl ?_
    refine j_iload dX9_feed_35 rfl ?_
    obtain ⟨P27, hp28, h⟩ := h
    refine j_invV (As := [vI a4]) (rest := []) dX9_feed_37 lkX9_258 hM.1 rfl rfl (wX9_put (d := 1) (Nat.le_of_ble_eq_true rfl) hM hW24 ra4 hp28) rfl rfl (Nat.le_of_ble_eq_true rfl) (Nat.le_trans (Nat.le_of_ble_eq_true rfl) hd) (jkmV fun F30 A31 hW32 p33 => ?_)
    have h := h F30 A31 p33
    refine j_aload_n dX9_feed_40 rfl ?_
    refine j_iload dX9_feed_41 rfl ?_
    obtain ⟨P35, hp36, h⟩ := h
    refine j_invV (As := [vI a5]) (rest := []) dX9_feed_43 lkX9_258 hM.1 rfl rfl (wX9_put (d := 1) (Nat.le_of_ble_eq_true rfl) hM hW32 ra5 hp36) rfl rfl (Nat.le_of_ble_eq_true rfl) (Nat.le_trans (Nat.le_of_ble_eq_true rfl) hd) (jkmV fun F38 A39 hW40 p41 => ?_)
    have h := h F38 A39 p41
    refine j_aload_n dX9_feed_46 rfl ?_
    refine j_getI dX9_feed_47 flX9_13_10 hM.1 rfl ?_
    exact j_iret dX9_feed_50 rfl ⟨_, rfl, rfl, hW40, h, (hW40.fi rfl)⟩
  · have h := h2 q2
    clear h1 h2
    refine j_aload_n dX9_feed_13 rfl ?_
    refine j_iconst dX9_feed_14 ?_
    obtain ⟨P43, hp44, h⟩ := h
    refine j_invV (As := [vI 0]) (rest := []) dX9_feed_15 lkX9_254 hM.1 rfl rfl (wX9_refuses (d := 1) (Nat.le_of_ble_eq_true rfl) hM hW (by decide) hp44) rfl rfl (Nat.le_of_ble_eq_true rfl) (Nat.le_trans (Nat.le_of_ble_eq_true rfl) hd) (jkmI fun z45 F46 A47 hW48 p49 r50 => ?_)
    have h := h z45 F46 A47 p49
    exact j_iret dX9_feed_18 rfl ⟨_, rfl, rfl, hW48, h, r50⟩
