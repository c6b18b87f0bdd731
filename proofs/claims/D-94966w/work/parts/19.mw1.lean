set_option maxRecDepth 100000
set_option linter.unusedVariables false
/-! walks of ChildSaysModel: printed by gen/walk.py -/
/-- stands(II)Z -/
def wpX9_stands (o : Nat) (a1 : Int) (a2 : Int) (F : jFl) (A : jAr) (Q : Int → Prop) : Prop :=
  (0 ≤ (12 * a1) + a2 ∧ (12 * a1) + a2 < 264) ∧
  ∀ z3 : Int, z3 = (if (A (o + 30) ((12 * a1) + a2)) ≤ 0 then 0 else 1) →
  Q z3
theorem wX9_stands {G : jG} {l : Launch} {d : Nat} {N : jSh} {o : Nat} {F : jFl} {A : jAr} {a1 a2 : Int} {Q : Int → Prop} (hd : 1 ≤ d) (hM : mShape G N o) (hW : jWf N F A) (ra1 : jR a1) (ra2 : jR a2) (h : wpX9_stands o a1 a2 F A Q) : jCall G l d mX9_stands [.ref o, vI a1, vI a2] N F A (jpB N F A Q) := by
  refine jCall.of (ls := [.ref o, vI a1, vI a2]) (by decide) rfl (Nat.le_of_ble_eq_true rfl) rfl ?_
  unfold wpX9_stands at h
  refine j_aload_n dX9_stands_0 rfl ?_
  refine j_getFR dX9_stands_1 flX9_148_10 hM.1 rfl (mf_main hM) ?_
  refine j_bipush dX9_stands_4 ?_
  refine j_iload_n dX9_stands_6 rfl ?_
  refine j_imul dX9_stands_7 ?_
  refine j_iload_n dX9_stands_8 rfl ?_
  refine j_iadd dX9_stands_9 ?_
  obtain ⟨c1, h⟩ := h
  refine j_iald (n := 264) dX9_stands_10 (mt_main hM) (ml_main hM) c1 ?_
  have jn4 : ∀ z3 : Int, z3 = (if (A (o + 30) ((12 * a1) + a2)) ≤ 0 then 0 else 1) → J G l d mX9_stands 19 [.ref o, vI a1, vI a2] [vI z3] N F A (jpB N F A Q) := by
    intro z3 ez3
    have h := h z3 ez3
    exact j_zret dX9_stands_19 rfl (nr_bool (ez3 ▸ (jB_ite (by decide) (by decide)))) ⟨_, rfl, rfl, rfl, rfl, h, (ez3 ▸ (jB_ite (by decide) (by decide)))⟩
  clear h
  refine j_if_le 18 dX9_stands_11 rfl (hW.ai (mt_main hM) rfl) (fun q2 => ?_) (fun q2 => ?_)
  · refine j_iconst dX9_stands_18 ?_
    exact jn4 _ ((if_pos q2).symm)
  · refine j_iconst dX9_stands_14 ?_
    refine j_goto 19 dX9_stands_15 rfl ?_
    exact jn4 _ ((if_neg q2).symm)
/-- isNever(I)Z -/
def wpX9_isNever (o : Nat) (a1 : Int) (F : jFl) (A : jAr) (Q : Int → Prop) : Prop :=
  (0 ≤ (24 * (F 3039 o)) + a1 ∧ (24 * (F 3039 o)) + a1 < 48) ∧
  ∀ z3 : Int, z3 = (if ¬ (A (o + 8) ((24 * (F 3039 o)) + a1)) = 1 then 0 else 1) →
  Q z3
theorem wX9_isNever {G : jG} {l : Launch} {d : Nat} {N : jSh} {o : Nat} {F : jFl} {A : jAr} {a1 : Int} {Q : Int → Prop} (hd : 1 ≤ d) (hM : mShape G N o) (hW : jWf N F A) (ra1 : jR a1) (h : wpX9_isNever o a1 F A Q) : jCall G l d mX9_isNever [.ref o, vI a1] N F A (jpB N F A Q) := by
  refine jCall.of (ls := [.ref o, vI a1]) (by decide) rfl (Nat.le_of_ble_eq_true rfl) rfl ?_
  unfold wpX9_isNever at h
  refine j_aload_n dX9_isNever_0 rfl ?_
  refine j_getFR dX9_isNever_1 flX9_73_10 hM.1 rfl (mf_never hM) ?_
  refine j_bipush dX9_isNever_4 ?_
  refine j_aload_n dX9_isNever_6 rfl ?_
  refine j_getI dX9_isNever_7 flX9_51_10 hM.1 rfl ?_
  refine j_imul dX9_isNever_10 ?_
  refine j_iload_n dX9_isNever_11 rfl ?_
  refine j_iadd dX9_isNever_12 ?_
  obtain ⟨c1, h⟩ := h
  refine j_iald (n := 48) dX9_isNever_13 (mt_never hM) (ml_never hM) c1 ?_
  refine j_iconst dX9_isNever_14 ?_
  have jn4 : ∀ z3 : Int, z3 = (if ¬ (A (o + 8) ((24 * (F 3039 o)) + a1)) = 1 then 0 else 1) → J G l d mX9_isNever 23 [.ref o, vI a1] [vI z3] N F A (jpB N F A Q) := by
    intro z3 ez3
    have h := h z3 ez3
    exact j_zret dX9_isNever_23 rfl (nr_bool (ez3 ▸ (jB_ite (by decide) (by decide)))) ⟨_, rfl, rfl, rfl, rfl, h, (ez3 ▸ (jB_ite (by decide) (by decide)))⟩
  clear h
  refine j_icmp_ne 22 dX9_isNever_15 rfl (hW.ai (mt_never hM) rfl) (by decide) (fun q2 => ?_) (fun q2 => ?_)
  · refine j_iconst dX9_isNever_22 ?_
    exact jn4 _ ((if_pos q2).symm)
  · refine j_iconst dX9_isNever_18 ?_
    refine j_goto 23 dX9_isNever_19 rfl ?_
    exact jn4 _ ((if_neg q2).symm)
/-- isLetter(I)Z -/
def wpX9_isLetter (o : Nat) (a1 : Int) (F : jFl) (A : jAr) (Q : Int → Prop) : Prop :=
  ((a1 < 97) →
    Q 0) ∧
  (¬ (a1 < 97) →
    ∀ z3 : Int, z3 = (if 122 < a1 then 0 else 1) →
    Q z3)
theorem wX9_isLetter {G : jG} {l : Launch} {d : Nat} {N : jSh} {o : Nat} {F : jFl} {A : jAr} {a1 : Int} {Q : Int → Prop} (hd : 1 ≤ d) (hM : mShape G N o) (hW : jWf N F A) (ra1 : jR a1) (h : wpX9_isLetter o a1 F A Q) : jCall G l d mX9_isLetter [vI a1] N F A (jpB N F A Q) := by
  refine jCall.of (ls := [vI a1]) (by decide) rfl (Nat.le_of_ble_eq_true rfl) rfl ?_
  unfold wpX9_isLetter at h
  refine j_iload_n dX9_isLetter_0 rfl ?_
  refine j_bipush dX9_isLetter_1 ?_
  obtain ⟨h1, h2⟩ := h
  refine j_icmp_lt 16 dX9_isLetter_3 rfl ra1 (by decide) (fun q1 => ?_) (fun q1 => ?_)
  · have h := h1 q1
    clear h1 h2
    refine j_iconst dX9_isLetter_16 ?_
    exact j_zret dX9_isLetter_17 rfl (nr_bool (by decide)) ⟨_, rfl, rfl, rfl, rfl, h, (by decide)⟩
  · have h := h2 q1
    clear h1 h2
    refine j_iload_n dX9_isLetter_6 rfl ?_
    refine j_bipush dX9_isLetter_7 ?_
    have jn4 : ∀ z3 : Int, z3 = (if 122 < a1 then 0 else 1) → J G l d mX9_isLetter 17 [vI a1] [vI z3] N F A (jpB N F A Q) := by
      intro z3 ez3
      have h := h z3 ez3
      exact j_zret dX9_isLetter_17 rfl (nr_bool (ez3 ▸ (jB_ite (by decide) (by decide)))) ⟨_, rfl, rfl, rfl, rfl, h, (ez3 ▸ (jB_ite (by decide) (by decide)))⟩
    clear h
    refine j_icmp_gt 16 dX9_isLetter_9 rfl ra1 (by decide) (fun q2 => ?_) (fun q2 => ?_)
    · refine j_iconst dX9_isLetter_16 ?_
      exact jn4 _ ((if_pos q2).symm)
    · refine j_iconst dX9_isLetter_12 ?_
      refine j_goto 17 dX9_isLetter_13 rfl ?_
      exact jn4 _ ((if_neg q2).symm)
/-- isDigit(I)Z -/
def wpX9_isDigit (o : Nat) (a1 : Int) (F : jFl) (A : jAr) (Q : Int → Prop) : Prop :=
  ((a1 < 48) →
    Q 0) ∧
  (¬ (a1 < 48) →
    ∀ z3 : Int, z3 = (if 57 < a1 then 0 else 1) →
    Q z3)
theorem wX9_isDigit {G : jG} {l : Launch} {d : Nat} {N : jSh} {o : Nat} {F : jFl} {A : jAr} {a1 : Int} {Q : Int → Prop} (hd : 1 ≤ d) (hM : mShape G N o) (hW : jWf N F A) (ra1 : jR a1) (h : wpX9_isDigit o a1 F A Q) : jCall G l d mX9_isDigit [vI a1] N F A (jpB N F A Q) := by
  refine jCall.of (ls := [vI a1]) (by decide) rfl (Nat.le_of_ble_eq_true rfl) rfl ?_
  unfold wpX9_isDigit at h
  refine j_iload_n dX9_isDigit_0 rfl ?_
  refine j_bipush dX9_isDigit_1 ?_
  obtain ⟨h1, h2⟩ := h
  refine j_icmp_lt 16 dX9_isDigit_3 rfl ra1 (by decide) (fun q1 => ?_) (fun q1 => ?_)
  · have h := h1 q1
    clear h1 h2
    refine j_iconst dX9_isDigit_16 ?_
    exact j_zret dX9_isDigit_17 rfl (nr_bool (by decide)) ⟨_, rfl, rfl, rfl, rfl, h, (by decide)⟩
  · have h := h2 q1
    clear h1 h2
    refine j_iload_n dX9_isDigit_6 rfl ?_
    refine j_bipush dX9_isDigit_7 ?_
    have jn4 : ∀ z3 : Int, z3 = (if 57 < a1 then 0 else 1) → J G l d mX9_isDigit 17 [vI a1] [vI z3] N F A (jpB N F A Q) := by
      intro z3 ez3
      have h := h z3 ez3
      exact j_zret dX9_isDigit_17 rfl (nr_bool (ez3 ▸ (jB_ite (by decide) (by decide)))) ⟨_, rfl, rfl, rfl, rfl, h, (ez3 ▸ (jB_ite (by decide) (by decide)))⟩
    clear h
    refine j_icmp_gt 16 dX9_isDigit_9 rfl ra1 (by decide) (fun q2 => ?_) (fun q2 => ?_)
    · refine j_iconst dX9_isDigit_16 ?_
      exact jn4 _ ((if_pos q2).symm)
    · refine j_iconst dX9_isDigit_12 ?_
      refine j_goto 17 dX9_isDigit_13 rfl ?_
      exact jn4 _ ((if_neg q2).symm)
/-- isWordOf(I)Z -/
def wpX9_isWordOf (o : Nat) (a1 : Int) (F : jFl) (A : jAr) (Q : Int → Prop) : Prop :=
  ((a1 < 0) →
    Q 0) ∧
  (¬ (a1 < 0) →
    (0 ≤ F 3039 o ∧ F 3039 o < 2) ∧
    ∀ z4 : Int, z4 = (if (A (o + 2) (F 3039 o)) ≤ a1 then 0 else 1) →
    Q z4)
theorem wX9_isWordOf {G : jG} {l : Launch} {d : Nat} {N : jSh} {o : Nat} {F : jFl} {A : jAr} {a1 : Int} {Q : Int → Prop} (hd : 1 ≤ d) (hM : mShape G N o) (hW : jWf N F A) (ra1 : jR a1) (h : wpX9_isWordOf o a1 F A Q) : jCall G l d mX9_isWordOf [.ref o, vI a1] N F A (jpB N F A Q) := by
  refine jCall.of (ls := [.ref o, vI a1]) (by decide) rfl (Nat.le_of_ble_eq_true rfl) rfl ?_
  unfold wpX9_isWordOf at h
  refine j_iload_n dX9_isWordOf_0 rfl ?_
  obtain ⟨h1, h2⟩ := h
  refine j_if_lt 21 dX9_isWordOf_1 rfl ra1 (fun q1 => ?_) (fun q1 => ?_)
  · have h := h1 q1
    clear h1 h2
    refine j_iconst dX9_isWordOf_21 ?_
    exact j_zret dX9_isWordOf_22 rfl (nr_bool (by decide)) ⟨_, rfl, rfl, rfl, rfl, h, (by decide)⟩
  · have h := h2 q1
    clear h1 h2
    refine j_iload_n dX9_isWordOf_4 rfl ?_
    refine j_aload_n dX9_isWordOf_5 rfl ?_
    refine j_getFR dX9_isWordOf_6 flX9_54_10 hM.1 rfl (mf_words hM) ?_
    refine j_aload_n dX9_isWordOf_9 rfl ?_
    refine j_getI dX9_isWordOf_10 flX9_51_10 hM.1 rfl ?_
    obtain ⟨c2, h⟩ := h
    refine j_iald (n := 2) dX9_isWordOf_13 (mt_words hM) (ml_words hM) c2 ?_
    have jn5 : ∀ z4 : Int, z4 = (if (A (o + 2) (F 3039 o)) ≤ a1 then 0 else 1) → J G l d mX9_isWordOf 22 [.ref o, vI a1] [vI z4] N F A (jpB N F A Q) := by
      intro z4 ez4
      have h := h z4 ez4
      exact j_zret dX9_isWordOf_22 rfl (nr_bool (ez4 ▸ (jB_ite (by decide) (by decide)))) ⟨_, rfl, rfl, rfl, rfl, h, (ez4 ▸ (jB_ite (by decide) (by decide)))⟩
    clear h
    refine j_icmp_ge 21 dX9_isWordOf_14 rfl ra1 (hW.ai (mt_words hM) rfl) (fun q3 => ?_) (fun q3 => ?_)
    · refine j_iconst dX9_isWordOf_21 ?_
      exact jn5 _ ((if_pos q3).symm)
    · refine j_iconst dX9_isWordOf_17 ?_
      refine j_goto 22 dX9_isWordOf_18 rfl ?_
      exact jn5 _ ((if_neg q3).symm)
/-- likes(II)I -/
def wpX9_likes (o : Nat) (a1 : Int) (a2 : Int) (F : jFl) (A : jAr) (Q : Int → Prop) : Prop :=
  jR ((24 * (F 3039 o)) + a1) ∧
  ∀ v2 : Int, v2 = (24 * (F 3039 o)) + a1 →
  jR ((24 * (F 3039 o)) + a2) ∧
  ∀ v4 : Int, v4 = (24 * (F 3039 o)) + a2 →
  (0 ≤ v2 ∧ v2 < 48) ∧
  (0 ≤ v4 ∧ v4 < 48) ∧
  ∀ z8 : Int, z8 = (if ¬ (A (o + 6) v2) = (A (o + 6) v4) then 0 else 2) →
  (0 ≤ v2 ∧ v2 < 48) ∧
  (0 ≤ v4 ∧ v4 < 48) ∧
  ∀ z13 : Int, z13 = (if ¬ (A (o + 5) v2) = (A (o + 5) v4) then 0 else 1) →
  (0 ≤ v2 ∧ v2 < 48) ∧
  (0 ≤ v4 ∧ v4 < 48) ∧
  ∀ z18 : Int, z18 = (if ¬ (A (o + 4) v2) = (A (o + 4) v4) then 0 else 1) →
  jR ((z8 + z13) + z18) ∧
  Q ((z8 + z13) + z18)
theorem wX9_likes {G : jG} {l : Launch} {d : Nat} {N : jSh} {o : Nat} {F : jFl} {A : jAr} {a1 a2 : Int} {Q : Int → Prop} (hd : 1 ≤ d) (hM : mShape G N o) (hW : jWf N F A) (ra1 : jR a1) (ra2 : jR a2) (h : wpX9_likes o a1 a2 F A Q) : jCall G l d mX9_likes [.ref o, vI a1, vI a2] N F A (jpI N F A Q) := by
  refine jCall.of (ls := [.ref o, vI a1, vI a2, jD, jD]) (by decide) rfl (Nat.le_of_ble_eq_true rfl) rfl ?_
  unfold wpX9_likes at h
  refine j_bipush dX9_likes_0 ?_
  refine j_aload_n dX9_likes_2 rfl ?_
  refine j_getI dX9_likes_3 flX9_51_10 hM.1 rfl ?_
  refine j_imul dX9_likes_6 ?_
  refine j_iload_n dX9_likes_7 rfl ?_
  refine j_iadd dX9_likes_8 ?_
  obtain ⟨r1, h⟩ := h
  obtain ⟨v2, ev2⟩ : ∃ x : Int, x = (24 * (F 3039 o)) + a1 := ⟨_, rfl⟩
  have h := h v2 ev2
  refine jnmI (e := ev2) ?_
  refine j_istore_n dX9_likes_9 rfl ?_
  refine j_bipush dX9_likes_10 ?_
  refine j_aload_n dX9_likes_12 rfl ?_
  refine j_getI dX9_likes_13 flX9_51_10 hM.1 rfl ?_
  refine j_imul dX9_likes_16 ?_
  refine j_iload_n dX9_likes_17 rfl ?_
  refine j_iadd dX9_likes_18 ?_
  obtain ⟨r3, h⟩ := h
  obtain ⟨v4, ev4⟩ : ∃ x : Int, x = (24 * (F 3039 o)) + a2 := ⟨_, rfl⟩
  have h := h v4 ev4
  refine jnmI (e := ev4) ?_
  refine j_istore dX9_likes_19 rfl ?_
  refine j_aload_n dX9_likes_21 rfl ?_
  refine j_getFR dX9_likes_22 flX9_67_10 hM.1 rfl (mf_endsOn hM) ?_
  refine j_iload_n dX9_likes_25 rfl ?_
  obtain ⟨c5, h⟩ := h
  refine j_iald (n := 48) dX9_likes_26 (mt_endsOn hM) (ml_endsOn hM) c5 ?_
  refine j_aload_n dX9_likes_27 rfl ?_
  refine j_getFR dX9_likes_28 flX9_67_10 hM.1 rfl (mf_endsOn hM) ?_
  refine j_iload dX9_likes_31 rfl ?_
  obtain ⟨c6, h⟩ := h
  refine j_iald (n := 48) dX9_likes_33 (mt_endsOn hM) (ml_endsOn hM) c6 ?_
  have jn9 : ∀ z8 : Int, z8 = (if ¬ (A (o + 6) v2) = (A (o + 6) v4) then 0 else 2) → J G l d mX9_likes 42 [.ref o, vI a1, vI a2, vI v2, vI v4] [vI z8] N F A (jpI N F A Q) := by
    intro z8 ez8
    have h := h z8 ez8
    refine j_aload_n dX9_likes_42 rfl ?_
    refine j_getFR dX9_likes_43 flX9_64_10 hM.1 rfl (mf_begins hM) ?_
    refine j_iload_n dX9_likes_46 rfl ?_
    obtain ⟨c10, h⟩ := h
    refine j_iald (n := 48) dX9_likes_47 (mt_begins hM) (ml_begins hM) c10 ?_
    refine j_aload_n dX9_likes_48 rfl ?_
    refine j_getFR dX9_likes_49 flX9_64_10 hM.1 rfl (mf_begins hM) ?_
    refine j_iload dX9_likes_52 rfl ?_
    obtain ⟨c11, h⟩ := h
    refine j_iald (n := 48) dX9_likes_54 (mt_begins hM) (ml_begins hM) c11 ?_
    have jn14 : ∀ z13 : Int, z13 = (if ¬ (A (o + 5) v2) = (A (o + 5) v4) then 0 else 1) → J G l d mX9_likes 63 [.ref o, vI a1, vI a2, vI v2, vI v4] [vI z13, vI z8] N F A (jpI N F A Q) := by
      intro z13 ez13
      have h := h z13 ez13
      refine j_iadd dX9_likes_63 ?_
      refine j_aload_n dX9_likes_64 rfl ?_
      refine j_getFR dX9_likes_65 flX9_61_10 hM.1 rfl (mf_beats hM) ?_
      refine j_iload_n dX9_likes_68 rfl ?_
      obtain ⟨c15, h⟩ := h
      refine j_iald (n := 48) dX9_likes_69 (mt_beats hM) (ml_beats hM) c15 ?_
      refine j_aload_n dX9_likes_70 rfl ?_
      refine j_getFR dX9_likes_71 flX9_61_10 hM.1 rfl (mf_beats hM) ?_
      refine j_iload dX9_likes_74 rfl ?_
      obtain ⟨c16, h⟩ := h
      refine j_iald (n := 48) dX9_likes_76 (mt_beats hM) (ml_beats hM) c16 ?_
      have jn19 : ∀ z18 : Int, z18 = (if ¬ (A (o + 4) v2) = (A (o + 4) v4) then 0 else 1) → J G l d mX9_likes 85 [.ref o, vI a1, vI a2, vI v2, vI v4] [vI z18, vI (z8 + z13)] N F A (jpI N F A Q) := by
        intro z18 ez18
        have h := h z18 ez18
        refine j_iadd dX9_likes_85 ?_
        obtain ⟨r20, h⟩ := h
        exact j_iret dX9_likes_86 rfl ⟨_, rfl, rfl, rfl, rfl, h, r20⟩
      clear h
      refine j_icmp_ne 84 dX9_likes_77 rfl (hW.ai (mt_beats hM) rfl) (hW.ai (mt_beats hM) rfl) (fun q17 => ?_) (fun q17 => ?_)
      · refine j_iconst dX9_likes_84 ?_
        exact jn19 _ ((if_pos q17).symm)
      · refine j_iconst dX9_likes_80 ?_
        refine j_goto 85 dX9_likes_81 rfl ?_
        exact jn19 _ ((if_neg q17).symm)
    clear h
    refine j_icmp_ne 62 dX9_likes_55 rfl (hW.ai (mt_begins hM) rfl) (hW.ai (mt_begins hM) rfl) (fun q12 => ?_) (fun q12 => ?_)
    · refine j_iconst dX9_likes_62 ?_
      exact jn14 _ ((if_pos q12).symm)
    · refine j_iconst dX9_likes_58 ?_
      refine j_goto 63 dX9_likes_59 rfl ?_
      exact jn14 _ ((if_neg q12).symm)
  clear h
  refine j_icmp_ne 41 dX9_likes_34 rfl (hW.ai (mt_endsOn hM) rfl) (hW.ai (mt_endsOn hM) rfl) (fun q7 => ?_) (fun q7 => ?_)
  · refine j_iconst dX9_likes_41 ?_
    exact jn9 _ ((if_pos q7).symm)
  · refine j_iconst dX9_likes_37 ?_
    refine j_goto 42 dX9_likes_38 rfl ?_
    exact jn9 _ ((if_neg q7).symm)
/-- isChild(I)Z -/
def wpX9_isChild (o : Nat) (a1 : Int) (F : jFl) (A : jAr) (Q : Int → Prop) : Prop :=
  ((a1 < 0) →
    Q 0) ∧
  (¬ (a1 < 0) →
    (0 ≤ F 3039 o ∧ F 3039 o < 2) ∧
    ∀ z4 : Int, z4 = (if (A (o + 12) (F 3039 o)) ≤ a1 then 0 else 1) →
    Q z4)
theorem wX9_isChild {G : jG} {l : Launch} {d : Nat} {N : jSh} {o : Nat} {F : jFl} {A : jAr} {a1 : Int} {Q : Int → Prop} (hd : 1 ≤ d) (hM : mShape G N o) (hW : jWf N F A) (ra1 : jR a1) (h : wpX9_isChild o a1 F A Q) : jCall G l d mX9_isChild [.ref o, vI a1] N F A (jpB N F A Q) := by
  refine jCall.of (ls := [.ref o, vI a1]) (by decide) rfl (Nat.le_of_ble_eq_true rfl) rfl ?_
  unfold wpX9_isChild at h
  refine j_iload_n dX9_isChild_0 rfl ?_
  obtain ⟨h1, h2⟩ := h
  refine j_if_lt 21 dX9_isChild_1 rfl ra1 (fun q1 => ?_) (fun q1 => ?_)
  · have h := h1 q1
    clear h1 h2
    refine j_iconst dX9_isChild_21 ?_
    exact j_zret dX9_isChild_22 rfl (nr_bool (by decide)) ⟨_, rfl, rfl, rfl, rfl, h, (by decide)⟩
  · have h := h2 q1
    clear h1 h2
    refine j_iload_n dX9_isChild_4 rfl ?_
    refine j_aload_n dX9_isChild_5 rfl ?_
    refine j_getFR dX9_isChild_6 flX9_85_10 hM.1 rfl (mf_children hM) ?_
    refine j_aload_n dX9_isChild_9 rfl ?_
    refine j_getI dX9_isChild_10 flX9_51_10 hM.1 rfl ?_
    obtain ⟨c2, h⟩ := h
    refine j_iald (n := 2) dX9_isChild_13 (mt_children hM) (ml_children hM) c2 ?_
    have jn5 : ∀ z4 : Int, z4 = (if (A (o + 12) (F 3039 o)) ≤ a1 then 0 else 1) → J G l d mX9_isChild 22 [.ref o, vI a1] [vI z4] N F A (jpB N F A Q) := by
      intro z4 ez4
      have h := h z4 ez4
      exact j_zret dX9_isChild_22 rfl (nr_bool (ez4 ▸ (jB_ite (by decide) (by decide)))) ⟨_, rfl, rfl, rfl, rfl, h, (ez4 ▸ (jB_ite (by decide) (by decide)))⟩
    clear h
    refine j_icmp_ge 21 dX9_isChild_14 rfl ra1 (hW.ai (mt_children hM) rfl) (fun q3 => ?_) (fun q3 => ?_)
    · refine j_iconst dX9_isChild_21 ?_
      exact jn5 _ ((if_pos q3).symm)
    · refine j_iconst dX9_isChild_17 ?_
      refine j_goto 22 dX9_isChild_18 rfl ?_
      exact jn5 _ ((if_neg q3).symm)
/-- refuses(I)I -/
def wpX9_refuses (o : Nat) (a1 : Int) (F : jFl) (A : jAr) (Q : Int → jFl → jAr → Prop) : Prop :=
  (0 ≤ a1 ∧ a1 < 6) ∧
  (0 ≤ a1 ∧ a1 < 6) ∧
  jR ((A (o + 27) a1) + 1) ∧
  ∀ A4 : jAr, A4 = upA A (o + 27) a1 ((A (o + 27) a1) + 1) →
  Q (-1) F A4
theorem wX9_refuses {G : jG} {l : Launch} {d : Nat} {N : jSh} {o : Nat} {F : jFl} {A : jAr} {a1 : Int} {Q : Int → jFl → jAr → Prop} (hd : 1 ≤ d) (hM : mShape G N o) (hW : jWf N F A) (ra1 : jR a1) (h : wpX9_refuses o a1 F A Q) : jCall G l d mX9_refuses [.ref o, vI a1] N F A (jmI N Q) := by
  refine jCall.of (ls := [.ref o, vI a1]) (by decide) rfl (Nat.le_of_ble_eq_true rfl) rfl ?_
  unfold wpX9_refuses at h
  refine j_aload_n dX9_refuses_0 rfl ?_
  refine j_getFR dX9_refuses_1 flX9_139_10 hM.1 rfl (mf_refused hM) ?_
  refine j_iload_n dX9_refuses_4 rfl ?_
  refine j_dup2 dX9_refuses_5 rfl rfl ?_
  obtain ⟨c1, h⟩ := h
  refine j_iald (n := 6) dX9_refuses_6 (mt_refused hM) (ml_refused hM) c1 ?_
  refine j_iconst dX9_refuses_7 ?_
  refine j_iadd dX9_refuses_8 ?_
  obtain ⟨c2, h⟩ := h
  obtain ⟨r3, h⟩ := h
  refine j_iast (n := 6) dX9_refuses_9 (mt_refused hM) (Nat.le_trans hM.2.1 (Nat.le_add_right _ _)) (ml_refused hM) c2 ?_
  obtain ⟨A4, eA4⟩ : ∃ x : jAr, x = upA A (o + 27) a1 ((A (o + 27) a1) + 1) := ⟨_, rfl⟩
  have hW5 : jWf N F A4 := eA4 ▸ jWf_A (i := a1) (z := (A (o + 27) a1) + 1) hW (mt_refused hM) (jRk_0 rfl r3)
  refine jnmA (e := eA4) ?_
  have h := h A4 eA4
  refine j_iconst dX9_refuses_10 ?_
  exact j_iret dX9_refuses_11 rfl ⟨_, rfl, rfl, hW5, h, (by decide)⟩
/-- ring(I)I -/
def wpX9_ring (o : Nat) (a1 : Int) (F : jFl) (A : jAr) (Q : Int → Prop) : Prop :=
  (((0 : Int) ≤ (F 3153 o) + a1 ∧ ((F 3153 o) + a1 : Int) ≤ 2147483647) ∧ ((0 : Int) < 20 ∧ (20 : Int) ≤ 2147483647)) ∧
  jR (2 + (((F 3153 o) + a1) % 20)) ∧
  Q (2 + (((F 3153 o) + a1) % 20))
theorem wX9_ring {G : jG} {l : Launch} {d : Nat} {N : jSh} {o : Nat} {F : jFl} {A : jAr} {a1 : Int} {Q : Int → Prop} (hd : 1 ≤ d) (hM : mShape G N o) (hW : jWf N F A) (ra1 : jR a1) (h : wpX9_ring o a1 F A Q) : jCall G l d mX9_ring [.ref o, vI a1] N F A (jpI N F A Q) := by
  refine jCall.of (ls := [.ref o, vI a1]) (by decide) rfl (Nat.le_of_ble_eq_true rfl) rfl ?_
  unfold wpX9_ring at h
  refine j_iconst dX9_ring_0 ?_
  refine j_aload_n dX9_ring_1 rfl ?_
  refine j_getI dX9_ring_2 flX9_166_10 hM.1 rfl ?_
  refine j_iload_n dX9_ring_5 rfl ?_
  refine j_iadd dX9_ring_6 ?_
  refine j_bipush dX9_ring_7 ?_
  obtain ⟨c1, h⟩ := h
  refine j_irem dX9_ring_9 c1.1 c1.2 ?_
  refine j_iadd dX9_ring_10 ?_
  obtain ⟨r2, h⟩ := h
  exact j_iret dX9_ring_11 rfl ⟨_, rfl, rfl, rfl, rfl, h, r2⟩
/-- copies(II)V -/
def wpX9_copies (o : Nat) (a1 : Int) (a2 : Int) (F : jFl) (A : jAr) (Q : jFl → jAr → Prop) : Prop :=
  (0 ≤ a2 ∧ a2 < 22) ∧
  (0 ≤ a1 ∧ a1 < 22) ∧
  ∀ A3 : jAr, A3 = upA A (o + 28) a1 (A (o + 28) a2) →
  ∃ (I8 : Int → jAr → Prop) (m9 : Int → jAr → Nat), I8 0 A3 ∧ ∀ (v5 : Int) (A6 : jAr), I8 v5 A6 →
    ((12 ≤ v5) →
      (0 ≤ a2 ∧ a2 < 22) ∧
      (0 ≤ a1 ∧ a1 < 22) ∧
      ∀ A13 : jAr, A13 = upA A6 (o + 34) a1 (A6 (o + 34) a2) →
      ∃ (I18 : Int → jAr → Prop) (m19 : Int → jAr → Nat), I18 0 A13 ∧ ∀ (v15 : Int) (A16 : jAr), I18 v15 A16 →
        (0 ≤ a2 ∧ a2 < 22) ∧
        jR (4 * (A16 (o + 34) a2)) ∧
        (((4 * (A16 (o + 34) a2)) ≤ v15) →
          Q F A16) ∧
        (¬ ((4 * (A16 (o + 34) a2)) ≤ v15) →
          (0 ≤ (400 * a2) + v15 ∧ (400 * a2) + v15 < 8800) ∧
          (0 ≤ (400 * a1) + v15 ∧ (400 * a1) + v15 < 8800) ∧
          ∀ A25 : jAr, A25 = upA A16 (o + 35) ((400 * a1) + v15) (A16 (o + 35) ((400 * a2) + v15)) →
          jR (v15 + 1) ∧
          I18 (v15 + 1) A25 ∧ m19 (v15 + 1) A25 < m19 v15 A16)) ∧
    (¬ (12 ≤ v5) →
      jR ((12 * a1) + v5) ∧
      ∀ v29 : Int, v29 = (12 * a1) + v5 →
      jR ((12 * a2) + v5) ∧
      ∀ v31 : Int, v31 = (12 * a2) + v5 →
      (0 ≤ v31 ∧ v31 < 264) ∧
      (0 ≤ v29 ∧ v29 < 264) ∧
      ∀ A34 : jAr, A34 = upA A6 (o + 29) v29 (A6 (o + 29) v31) →
      (0 ≤ v31 ∧ v31 < 264) ∧
      (0 ≤ v29 ∧ v29 < 264) ∧
      ∀ A38 : jAr, A38 = upA A34 (o + 30) v29 (A34 (o + 30) v31) →
      (0 ≤ v31 ∧ v31 < 264) ∧
      (0 ≤ v29 ∧ v29 < 264) ∧
      ∀ A42 : jAr, A42 = upA A38 (o + 31) v29 (A38 (o + 31) v31) →
      (0 ≤ v31 ∧ v31 < 264) ∧
      (0 ≤ v29 ∧ v29 < 264) ∧
      ∀ A46 : jAr, A46 = upA A42 (o + 32) v29 (A42 (o + 32) v31) →
      ∃ (I51 : Int → jAr → Prop) (m52 : Int → jAr → Nat), I51 0 A46 ∧ ∀ (v48 : Int) (A49 : jAr), I51 v48 A49 →
        ((12 ≤ v48) →
          jR (v5 + 1) ∧
          I8 (v5 + 1) A49 ∧ m9 (v5 + 1) A49 < m9 v5 A6) ∧
        (¬ (12 ≤ v48) →
          (0 ≤ (12 * v31) + v48 ∧ (12 * v31) + v48 < 3168) ∧
          (0 ≤ (12 * v29) + v48 ∧ (12 * v29) + v48 < 3168) ∧
          ∀ A57 : jAr, A57 = upA A49 (o + 33) ((12 * v29) + v48) (A49 (o + 33) ((12 * v31) + v48)) →
          jR (v48 + 1) ∧
          I51 (v48 + 1) A57 ∧ m52 (v48 + 1) A57 < m52 v48 A49))
theorem wX9_copies {G : jG} {l : Launch} {d : Nat} {N : jSh} {o : Nat} {F : jFl} {A : jAr} {a1 a2 : Int} {Q : jFl → jAr → Prop} (hd : 1 ≤ d) (hM : mShape G N o) (hW : jWf N F A) (ra1 : jR a1) (ra2 : jR a2) (h : wpX9_copies o a1 a2 F A Q) : jCall G l d mX9_copies [.ref o, vI a1, vI a2] N F A (jmV N Q) := by
  refine jCall.of (ls := [.ref o, vI a1, vI a2, jD, jD, jD, jD]) (by decide) rfl (Nat.le_of_ble_eq_true rfl) rfl ?_
  unfold wpX9_copies at h
  refine j_aload_n dX9_copies_0 rfl ?_
  refine j_getFR dX9_copies_1 flX9_142_10 hM.1 rfl (mf_year hM) ?_
  refine j_iload_n dX9_copies_4 rfl ?_
  refine j_aload_n dX9_copies_5 rfl ?_
  refine j_getFR dX9_copies_6 flX9_142_10 hM.1 rfl (mf_year hM) ?_
  refine j_iload_n dX9_copies_9 rfl ?_
  obtain ⟨c1, h⟩ := h
  refine j_iald (n := 22) dX9_copies_10 (mt_year hM) (ml_year hM) c1 ?_
  obtain ⟨c2, h⟩ := h
  refine j_iast (n := 22) dX9_copies_11 (mt_year hM) (Nat.le_trans hM.2.1 (Nat.le_add_right _ _)) (ml_year hM) c2 ?_
  obtain ⟨A3, eA3⟩ : ∃ x : jAr, x = upA A (o + 28) a1 (A (o + 28) a2) := ⟨_, rfl⟩
  have hW4 : jWf N F A3 := eA3 ▸ jWf_A (i := a1) (z := A (o + 28) a2) hW (mt_year hM) (jRk_0 rfl (hW.ai (mt_year hM) rfl))
  refine jnmA (e := eA3) ?_
  have h := h A3 eA3
  refine j_iconst dX9_copies_12 ?_
  refine j_istore_n dX9_copies_13 rfl ?_
  obtain ⟨I8, m9, h0, hs⟩ := h
  have lp : ∀ (n : Nat) (v5 : Int) (A6 : jAr), m9 v5 A6 < n → jWf N F A6 → jR v5 → I8 v5 A6 → J G l d mX9_copies 14 [.ref o, vI a1, vI a2, vI v5, jD, jD, jD] [] N F A6 (jmV N Q) := by
    intro nI8
    induction nI8 with
    | zero =>
      intro v5 A6 hmu
      exact absurd hmu (Nat.not_lt_zero _)
    | succ nI8 ihI8 =>
      intro v5 A6 hmuI8 hW7 rv5 hI
      have h := hs v5 A6 hI
      refine j_iload_n dX9_copies_14 rfl ?_
      refine j_bipush dX9_copies_15 ?_
      obtain ⟨h1, h2⟩ := h
      refine j_icmp_ge 140 dX9_copies_17 rfl rv5 (by decide) (fun q10 => ?_) (fun q10 => ?_)
      · have h := h1 q10
        clear h1 h2
        refine j_aload_n dX9_copies_140 rfl ?_
        refine j_getFR dX9_copies_141 flX9_160_10 hM.1 rfl (mf_bookMany hM) ?_
        refine j_iload_n dX9_copies_144 rfl ?_
        refine j_aload_n dX9_copies_145 rfl ?_
        refine j_getFR dX9_copies_146 flX9_160_10 hM.1 rfl (mf_bookMany hM) ?_
        refine j_iload_n dX9_copies_149 rfl ?_
        obtain ⟨c11, h⟩ := h
        refine j_iald (n := 22) dX9_copies_150 (mt_bookMany hM) (ml_bookMany hM) c11 ?_
        obtain ⟨c12, h⟩ := h
        refine j_iast (n := 22) dX9_copies_151 (mt_bookMany hM) (Nat.le_trans hM.2.1 (Nat.le_add_right _ _)) (ml_bookMany hM) c12 ?_
        obtain ⟨A13, eA13⟩ : ∃ x : jAr, x = upA A6 (o + 34) a1 (A6 (o + 34) a2) := ⟨_, rfl⟩
        have hW14 : jWf N F A13 := eA13 ▸ jWf_A (i := a1) (z := A6 (o + 34) a2) hW7 (mt_bookMany hM) (jRk_0 rfl (hW7.ai (mt_bookMany hM) rfl))
        refine jnmA (e := eA13) ?_
        have h := h A13 eA13
        refine j_iconst dX9_copies_152 ?_
        refine j_istore_n dX9_copies_153 rfl ?_
        obtain ⟨I18, m19, h0, hs⟩ := h
        have lp : ∀ (n : Nat) (v15 : Int) (A16 : jAr), m19 v15 A16 < n → jWf N F A16 → jR v15 → I18 v15 A16 → J G l d mX9_copies 154 [.ref o, vI a1, vI a2, vI v15, jD, jD, jD] [] N F A16 (jmV N Q) := by
          intro nI18
          induction nI18 with
          | zero =>
            intro v15 A16 hmu
            exact absurd hmu (Nat.not_lt_zero _)
          | succ nI18 ihI18 =>
            intro v15 A16 hmuI18 hW17 rv15 hI
            have h := hs v15 A16 hI
            refine j_iload_n dX9_copies_154 rfl ?_
            refine j_iconst dX9_copies_155 ?_
            refine j_aload_n dX9_copies_156 rfl ?_
            refine j_getFR dX9_copies_157 flX9_160_10 hM.1 rfl (mf_bookMany hM) ?_
            refine j_iload_n dX9_copies_160 rfl ?_
            obtain ⟨c20, h⟩ := h
            refine j_iald (n := 22) dX9_copies_161 (mt_bookMany hM) (ml_bookMany hM) c20 ?_
            refine j_imul dX9_copies_162 ?_
            obtain ⟨r21, h⟩ := h
            obtain ⟨h1, h2⟩ := h
            refine j_icmp_ge 196 dX9_copies_163 rfl rv15 r21 (fun q22 => ?_) (fun q22 => ?_)
            · have h := h1 q22
              clear h1 h2
              exact j_vret dX9_copies_196 rfl ⟨rfl, rfl, hW17, h⟩
            · have h := h2 q22
              clear h1 h2
              refine j_aload_n dX9_copies_166 rfl ?_
              refine j_getFR dX9_copies_167 flX9_163_10 hM.1 rfl (mf_bookRow hM) ?_
              refine j_sipush dX9_copies_170 ?_
              refine j_iload_n dX9_copies_173 rfl ?_
              refine j_imul dX9_copies_174 ?_
              refine j_iload_n dX9_copies_175 rfl ?_
              refine j_iadd dX9_copies_176 ?_
              refine j_aload_n dX9_copies_177 rfl ?_
              refine j_getFR dX9_copies_178 flX9_163_10 hM.1 rfl (mf_bookRow hM) ?_
              refine j_sipush dX9_copies_181 ?_
              refine j_iload_n dX9_copies_184 rfl ?_
              refine j_imul dX9_copies_185 ?_
              refine j_iload_n dX9_copies_186 rfl ?_
              refine j_iadd dX9_copies_187 ?_
              obtain ⟨c23, h⟩ := h
              refine j_iald (n := 8800) dX9_copies_188 (mt_bookRow hM) (ml_bookRow hM) c23 ?_
              obtain ⟨c24, h⟩ := h
              refine j_iast (n := 8800) dX9_copies_189 (mt_bookRow hM) (Nat.le_trans hM.2.1 (Nat.le_add_right _ _)) (ml_bookRow hM) c24 ?_
              obtain ⟨A25, eA25⟩ : ∃ x : jAr, x = upA A16 (o + 35) ((400 * a1) + v15) (A16 (o + 35) ((400 * a2) + v15)) := ⟨_, rfl⟩
              have hW26 : jWf N F A25 := eA25 ▸ jWf_A (i := (400 * a1) + v15) (z := A16 (o + 35) ((400 * a2) + v15)) hW17 (mt_bookRow hM) (jRk_0 rfl (hW17.ai (mt_bookRow hM) rfl))
              refine jnmA (e := eA25) ?_
              have h := h A25 eA25
              obtain ⟨r27, h⟩ := h
              refine j_iinc dX9_copies_190 rfl rfl ?_
              refine j_goto 154 dX9_copies_193 rfl ?_
              exact J.wk ((((((((jWk.nil).no).no).no).eq).eq).eq).eq) (ihI18 _ _ (Nat.lt_of_lt_of_le h.2 (Nat.le_of_lt_succ hmuI18)) hW26 r27 h.1)
        exact J.wk ((((((((jWk.nil).no).no).no).eq).eq).eq).eq) (lp _ _ _ (Nat.lt_succ_self _) hW14 (by decide) h0)
      · have h := h2 q10
        clear h1 h2
        refine j_bipush dX9_copies_20 ?_
        refine j_iload_n dX9_copies_22 rfl ?_
        refine j_imul dX9_copies_23 ?_
        refine j_iload_n dX9_copies_24 rfl ?_
        refine j_iadd dX9_copies_25 ?_
        obtain ⟨r28, h⟩ := h
        obtain ⟨v29, ev29⟩ : ∃ x : Int, x = (12 * a1) + v5 := ⟨_, rfl⟩
        have h := h v29 ev29
        refine jnmI (e := ev29) ?_
        refine j_istore dX9_copies_26 rfl ?_
        refine j_bipush dX9_copies_28 ?_
        refine j_iload_n dX9_copies_30 rfl ?_
        refine j_imul dX9_copies_31 ?_
        refine j_iload_n dX9_copies_32 rfl ?_
        refine j_iadd dX9_copies_33 ?_
        obtain ⟨r30, h⟩ := h
        obtain ⟨v31, ev31⟩ : ∃ x : Int, x = (12 * a2) + v5 := ⟨_, rfl⟩
        have h := h v31 ev31
        refine jnmI (e := ev31) ?_
        refine j_istore dX9_copies_34 rfl ?_
        refine j_aload_n dX9_copies_36 rfl ?_
        refine j_getFR dX9_copies_37 flX9_145_10 hM.1 rfl (mf_orderOf hM) ?_
        refine j_iload dX9_copies_40 rfl ?_
        refine j_aload_n dX9_copies_42 rfl ?_
        refine j_getFR dX9_copies_43 flX9_145_10 hM.1 rfl (mf_orderOf hM) ?_
        refine j_iload dX9_copies_46 rfl ?_
        obtain ⟨c32, h⟩ := h
        refine j_iald (n := 264) dX9_copies_48 (mt_orderOf hM) (ml_orderOf hM) c32 ?_
        obtain ⟨c33, h⟩ := h
        refine j_iast (n := 264) dX9_copies_49 (mt_orderOf hM) (Nat.le_trans hM.2.1 (Nat.le_add_right _ _)) (ml_orderOf hM) c33 ?_
        obtain ⟨A34, eA34⟩ : ∃ x : jAr, x = upA A6 (o + 29) v29 (A6 (o + 29) v31) := ⟨_, rfl⟩
        have hW35 : jWf N F A34 := eA34 ▸ jWf_A (i := v29) (z := A6 (o + 29) v31) hW7 (mt_orderOf hM) (jRk_0 rfl (hW7.ai (mt_orderOf hM) rfl))
        refine jnmA (e := eA34) ?_
        have h := h A34 eA34
        refine j_aload_n dX9_copies_50 rfl ?_
        refine j_getFR dX9_copies_51 flX9_148_10 hM.1 rfl (mf_main hM) ?_
        refine j_iload dX9_copies_54 rfl ?_
        refine j_aload_n dX9_copies_56 rfl ?_
        refine j_getFR dX9_copies_57 flX9_148_10 hM.1 rfl (mf_main hM) ?_
        refine j_iload dX9_copies_60 rfl ?_
        obtain ⟨c36, h⟩ := h
        refine j_iald (n := 264) dX9_copies_62 (mt_main hM) (ml_main hM) c36 ?_
        obtain ⟨c37, h⟩ := h
        refine j_iast (n := 264) dX9_copies_63 (mt_main hM) (Nat.le_trans hM.2.1 (Nat.le_add_right _ _)) (ml_main hM) c37 ?_
        obtain ⟨A38, eA38⟩ : ∃ x : jAr, x = upA A34 (o + 30) v29 (A34 (o + 30) v31) := ⟨_, rfl⟩
        have hW39 : jWf N F A38 := eA38 ▸ jWf_A (i := v29) (z := A34 (o + 30) v31) hW35 (mt_main hM) (jRk_0 rfl (hW35.ai (mt_main hM) rfl))
        refine jnmA (e := eA38) ?_
        have h := h A38 eA38
        refine j_aload_n dX9_copies_64 rfl ?_
        refine j_getFR dX9_copies_65 flX9_151_10 hM.1 rfl (mf_except hM) ?_
        refine j_iload dX9_copies_68 rfl ?_
        refine j_aload_n dX9_copies_70 rfl ?_
        refine j_getFR dX9_copies_71 flX9_151_10 hM.1 rfl (mf_except hM) ?_
        refine j_iload dX9_copies_74 rfl ?_
        obtain ⟨c40, h⟩ := h
        refine j_iald (n := 264) dX9_copies_76 (mt_except hM) (ml_except hM) c40 ?_
        obtain ⟨c41, h⟩ := h
        refine j_iast (n := 264) dX9_copies_77 (mt_except hM) (Nat.le_trans hM.2.1 (Nat.le_add_right _ _)) (ml_except hM) c41 ?_
        obtain ⟨A42, eA42⟩ : ∃ x : jAr, x = upA A38 (o + 31) v29 (A38 (o + 31) v31) := ⟨_, rfl⟩
        have hW43 : jWf N F A42 := eA42 ▸ jWf_A (i := v29) (z := A38 (o + 31) v31) hW39 (mt_except hM) (jRk_0 rfl (hW39.ai (mt_except hM) rfl))
        refine jnmA (e := eA42) ?_
        have h := h A42 eA42
        refine j_aload_n dX9_copies_78 rfl ?_
        refine j_getFR dX9_copies_79 flX9_154_10 hM.1 rfl (mf_sung hM) ?_
        refine j_iload dX9_copies_82 rfl ?_
        refine j_aload_n dX9_copies_84 rfl ?_
        refine j_getFR dX9_copies_85 flX9_154_10 hM.1 rfl (mf_sung hM) ?_
        refine j_iload dX9_copies_88 rfl ?_
        obtain ⟨c44, h⟩ := h
        refine j_iald (n := 264) dX9_copies_90 (mt_sung hM) (ml_sung hM) c44 ?_
        obtain ⟨c45, h⟩ := h
        refine j_iast (n := 264) dX9_copies_91 (mt_sung hM) (Nat.le_trans hM.2.1 (Nat.le_add_right _ _)) (ml_sung hM) c45 ?_
        obtain ⟨A46, eA46⟩ : ∃ x : jAr, x = upA A42 (o + 32) v29 (A42 (o + 32) v31) := ⟨_, rfl⟩
        have hW47 : jWf N F A46 := eA46 ▸ jWf_A (i := v29) (z := A42 (o + 32) v31) hW43 (mt_sung hM) (jRk_0 rfl (hW43.ai (mt_sung hM) rfl))
        refine jnmA (e := eA46) ?_
        have h := h A46 eA46
        refine j_iconst dX9_copies_92 ?_
        refine j_istore dX9_copies_93 rfl ?_
        obtain ⟨I51, m52, h0, hs⟩ := h
        have lp : ∀ (n : Nat) (v48 : Int) (A49 : jAr), m52 v48 A49 < n → jWf N F A49 → jR v48 → I51 v48 A49 → J G l d mX9_copies 95 [.ref o, vI a1, vI a2, vI v5, vI v29, vI v31, vI v48] [] N F A49 (jmV N Q) := by
          intro nI51
          induction nI51 with
          | zero =>
            intro v48 A49 hmu
            exact absurd hmu (Nat.not_lt_zero _)
          | succ nI51 ihI51 =>
            intro v48 A49 hmuI51 hW50 rv48 hI
            have h := hs v48 A49 hI
            refine j_iload dX9_copies_95 rfl ?_
            refine j_bipush dX9_copies_97 ?_
            obtain ⟨h1, h2⟩ := h
            refine j_icmp_ge 134 dX9_copies_99 rfl rv48 (by decide) (fun q53 => ?_) (fun q53 => ?_)
            · have h := h1 q53
              clear h1 h2
              obtain ⟨r54, h⟩ := h
              refine j_iinc dX9_copies_134 rfl rfl ?_
              refine j_goto 14 dX9_copies_137 rfl ?_
              exact J.wk ((((((((jWk.nil).no).no).no).eq).eq).eq).eq) (ihI8 _ _ (Nat.lt_of_lt_of_le h.2 (Nat.le_of_lt_succ hmuI8)) hW50 r54 h.1)
            · have h := h2 q53
              clear h1 h2
              refine j_aload_n dX9_copies_102 rfl ?_
              refine j_getFR dX9_copies_103 flX9_157_10 hM.1 rfl (mf_rows hM) ?_
              refine j_bipush dX9_copies_106 ?_
              refine j_iload dX9_copies_108 rfl ?_
              refine j_imul dX9_copies_110 ?_
              refine j_iload dX9_copies_111 rfl ?_
              refine j_iadd dX9_copies_113 ?_
              refine j_aload_n dX9_copies_114 rfl ?_
              refine j_getFR dX9_copies_115 flX9_157_10 hM.1 rfl (mf_rows hM) ?_
              refine j_bipush dX9_copies_118 ?_
              refine j_iload dX9_copies_120 rfl ?_
              refine j_imul dX9_copies_122 ?_
              refine j_iload dX9_copies_123 rfl ?_
              refine j_iadd dX9_copies_125 ?_
              obtain ⟨c55, h⟩ := h
              refine j_iald (n := 3168) dX9_copies_126 (mt_rows hM) (ml_rows hM) c55 ?_
              obtain ⟨c56, h⟩ := h
              refine j_iast (n := 3168) dX9_copies_127 (mt_rows hM) (Nat.le_trans hM.2.1 (Nat.le_add_right _ _)) (ml_rows hM) c56 ?_
              obtain ⟨A57, eA57⟩ : ∃ x : jAr, x = upA A49 (o + 33) ((12 * v29) + v48) (A49 (o + 33) ((12 * v31) + v48)) := ⟨_, rfl⟩
              have hW58 : jWf N F A57 := eA57 ▸ jWf_A (i := (12 * v29) + v48) (z := A49 (o + 33) ((12 * v31) + v48)) hW50 (mt_rows hM) (jRk_0 rfl (hW50.ai (mt_rows hM) rfl))
              refine jnmA (e := eA57) ?_
              have h := h A57 eA57
              obtain ⟨r59, h⟩ := h
              refine j_iinc dX9_copies_128 rfl rfl ?_
              refine j_goto 95 dX9_copies_131 rfl ?_
              exact J.wk ((((((((jWk.nil).eq).eq).eq).eq).eq).eq).eq) (ihI51 _ _ (Nat.lt_of_lt_of_le h.2 (Nat.le_of_lt_succ hmuI51)) hW58 r59 h.1)
        exact J.wk ((((((((jWk.nil).eq).eq).eq).eq).eq).eq).eq) (lp _ _ _ (Nat.lt_succ_self _) hW47 (by decide) h0)
  exact J.wk ((((((((jWk.nil).no).no).no).eq).eq).eq).eq) (lp _ _ _ (Nat.lt_succ_self _) hW4 (by decide) h0)
/-- loads(II)V -/
def wpX9_loads (o : Nat) (a1 : Int) (a2 : Int) (F : jFl) (A : jAr) (Q : jFl → jAr → Prop) : Prop :=
  jR ((12 * a1) + a2) ∧
  ∀ v2 : Int, v2 = (12 * a1) + a2 →
  (0 ≤ v2 ∧ v2 < 264) ∧
  ∀ F4 : jFl, F4 = upF F 3165 o (A (o + 30) v2) →
  (0 ≤ v2 ∧ v2 < 264) ∧
  ∀ F7 : jFl, F7 = upF F4 3168 o (A (o + 31) v2) →
  (0 ≤ v2 ∧ v2 < 264) ∧
  ∀ z11 : Int, z11 = (if ¬ (A (o + 32) v2) = 1 then 0 else 1) →
  ∀ F13 : jFl, F13 = upF F7 3171 o z11 →
  ∃ (I18 : Int → jAr → Prop) (m19 : Int → jAr → Nat), I18 0 A ∧ ∀ (v15 : Int) (A16 : jAr), I18 v15 A16 →
    jR ((F13 3165 o) + (F13 3168 o)) ∧
    ((((F13 3165 o) + (F13 3168 o)) ≤ v15) →
      Q F13 A16) ∧
    (¬ (((F13 3165 o) + (F13 3168 o)) ≤ v15) →
      (0 ≤ (12 * v2) + v15 ∧ (12 * v2) + v15 < 3168) ∧
      (0 ≤ v15 ∧ v15 < 12) ∧
      ∀ A24 : jAr, A24 = upA A16 (o + 36) v15 (A16 (o + 33) ((12 * v2) + v15)) →
      jR (v15 + 1) ∧
      I18 (v15 + 1) A24 ∧ m19 (v15 + 1) A24 < m19 v15 A16)
theorem wX9_loads {G : jG} {l : Launch} {d : Nat} {N : jSh} {o : Nat} {F : jFl} {A : jAr} {a1 a2 : Int} {Q : jFl → jAr → Prop} (hd : 1 ≤ d) (hM : mShape G N o) (hW : jWf N F A) (ra1 : jR a1) (ra2 : jR a2) (h : wpX9_loads o a1 a2 F A Q) : jCall G l d mX9_loads [.ref o, vI a1, vI a2] N F A (jmV N Q) := by
  refine jCall.of (ls := [.ref o, vI a1, vI a2, jD, jD]) (by decide) rfl (Nat.le_of_ble_eq_true rfl) rfl ?_
  unfold wpX9_loads at h
  refine j_bipush dX9_loads_0 ?_
  refine j_iload_n dX9_loads_2 rfl ?_
  refine j_imul dX9_loads_3 ?_
  refine j_iload_n dX9_loads_4 rfl ?_
  refine j_iadd dX9_loads_5 ?_
  obtain ⟨r1, h⟩ := h
  obtain ⟨v2, ev2⟩ : ∃ x : Int, x = (12 * a1) + a2 := ⟨_, rfl⟩
  have h := h v2 ev2
  refine jnmI (e := ev2) ?_
  refine j_istore_n dX9_loads_6 rfl ?_
  refine j_aload_n dX9_loads_7 rfl ?_
  refine j_aload_n dX9_loads_8 rfl ?_
  refine j_getFR dX9_loads_9 flX9_148_10 hM.1 rfl (mf_main hM) ?_
  refine j_iload_n dX9_loads_12 rfl ?_
  obtain ⟨c3, h⟩ := h
  refine j_iald (n := 264) dX9_loads_13 (mt_main hM) (ml_main hM) c3 ?_
  refine j_putI dX9_loads_14 flX9_178_10 hM.1 hM.2.1 rfl ?_
  obtain ⟨F4, eF4⟩ : ∃ x : jFl, x = upF F 3165 o (A (o + 30) v2) := ⟨_, rfl⟩
  have hW5 : jWf N F4 A := eF4 ▸ jWf_F (f := 3165) (a := o) (z := A (o + 30) v2) hW (jRk_0 rfl (hW.ai (mt_main hM) rfl))
  refine jnmF (e := eF4) ?_
  have h := h F4 eF4
  refine j_aload_n dX9_loads_17 rfl ?_
  refine j_aload_n dX9_loads_18 rfl ?_
  refine j_getFR dX9_loads_19 flX9_151_10 hM.1 rfl (mf_except hM) ?_
  refine j_iload_n dX9_loads_22 rfl ?_
  obtain ⟨c6, h⟩ := h
  refine j_iald (n := 264) dX9_loads_23 (mt_except hM) (ml_except hM) c6 ?_
  refine j_putI dX9_loads_24 flX9_181_10 hM.1 hM.2.1 rfl ?_
  obtain ⟨F7, eF7⟩ : ∃ x : jFl, x = upF F4 3168 o (A (o + 31) v2) := ⟨_, rfl⟩
  have hW8 : jWf N F7 A := eF7 ▸ jWf_F (f := 3168) (a := o) (z := A (o + 31) v2) hW5 (jRk_0 rfl (hW5.ai (mt_except hM) rfl))
  refine jnmF (e := eF7) ?_
  have h := h F7 eF7
  refine j_aload_n dX9_loads_27 rfl ?_
  refine j_aload_n dX9_loads_28 rfl ?_
  refine j_getFR dX9_loads_29 flX9_154_10 hM.1 rfl (mf_sung hM) ?_
  refine j_iload_n dX9_loads_32 rfl ?_
  obtain ⟨c9, h⟩ := h
  refine j_iald (n := 264) dX9_loads_33 (mt_sung hM) (ml_sung hM) c9 ?_
  refine j_iconst dX9_loads_34 ?_
  have jn12 : ∀ z11 : Int, z11 = (if ¬ (A (o + 32) v2) = 1 then 0 else 1) → J G l d mX9_loads 43 [.ref o, vI a1, vI a2, vI v2, jD] [vI z11, .ref o] N F7 A (jmV N Q) := by
    intro z11 ez11
    have h := h z11 ez11
    refine j_putZ dX9_loads_43 flX9_184_10 hM.1 hM.2.1 rfl (ez11 ▸ (jB_ite (by decide) (by decide))) ?_
    obtain ⟨F13, eF13⟩ : ∃ x : jFl, x = upF F7 3171 o z11 := ⟨_, rfl⟩
    have hW14 : jWf N F13 A := eF13 ▸ jWf_F (f := 3171) (a := o) (z := z11) hW8 (jRk_0 rfl (ez11 ▸ (jR_ite (by decide) (by decide))))
    refine jnmF (e := eF13) ?_
    have h := h F13 eF13
    refine j_iconst dX9_loads_46 ?_
    refine j_istore dX9_loads_47 rfl ?_
    obtain ⟨I18, m19, h0, hs⟩ := h
    have lp : ∀ (n : Nat) (v15 : Int) (A16 : jAr), m19 v15 A16 < n → jWf N F13 A16 → jR v15 → I18 v15 A16 → J G l d mX9_loads 49 [.ref o, jD, jD, vI v2, vI v15] [] N F13 A16 (jmV N Q) := by
      intro nI18
      induction nI18 with
      | zero =>
        intro v15 A16 hmu
        exact absurd hmu (Nat.not_lt_zero _)
      | succ nI18 ihI18 =>
        intro v15 A16 hmuI18 hW17 rv15 hI
        have h := hs v15 A16 hI
        refine j_iload dX9_loads_49 rfl ?_
        refine j_aload_n dX9_loads_51 rfl ?_
        refine j_getI dX9_loads_52 flX9_178_10 hM.1 rfl ?_
        refine j_aload_n dX9_loads_55 rfl ?_
        refine j_getI dX9_loads_56 flX9_181_10 hM.1 rfl ?_
        refine j_iadd dX9_loads_59 ?_
        obtain ⟨r20, h⟩ := h
        obtain ⟨h1, h2⟩ := h
        refine j_icmp_ge 88 dX9_loads_60 rfl rv15 r20 (fun q21 => ?_) (fun q21 => ?_)
        · have h := h1 q21
          clear h1 h2
          exact j_vret dX9_loads_88 rfl ⟨rfl, rfl, hW17, h⟩
        · have h := h2 q21
          clear h1 h2
          refine j_aload_n dX9_loads_63 rfl ?_
          refine j_getFR dX9_loads_64 flX9_175_10 hM.1 rfl (mf_told hM) ?_
          refine j_iload dX9_loads_67 rfl ?_
          refine j_aload_n dX9_loads_69 rfl ?_
          refine j_getFR dX9_loads_70 flX9_157_10 hM.1 rfl (mf_rows hM) ?_
          refine j_bipush dX9_loads_73 ?_
          refine j_iload_n dX9_loads_75 rfl ?_
          refine j_imul dX9_loads_76 ?_
          refine j_iload dX9_loads_77 rfl ?_
          refine j_iadd dX9_loads_79 ?_
          obtain ⟨c22, h⟩ := h
          refine j_iald (n := 3168) dX9_loads_80 (mt_rows hM) (ml_rows hM) c22 ?_
          obtain ⟨c23, h⟩ := h
          refine j_iast (n := 12) dX9_loads_81 (mt_told hM) (Nat.le_trans hM.2.1 (Nat.le_add_right _ _)) (ml_told hM) c23 ?_
          obtain ⟨A24, eA24⟩ : ∃ x : jAr, x = upA A16 (o + 36) v15 (A16 (o + 33) ((12 * v2) + v15)) := ⟨_, rfl⟩
          have hW25 : jWf N F13 A24 := eA24 ▸ jWf_A (i := v15) (z := A16 (o + 33) ((12 * v2) + v15)) hW17 (mt_told hM) (jRk_0 rfl (hW17.ai (mt_rows hM) rfl))
          refine jnmA (e := eA24) ?_
          have h := h A24 eA24
          obtain ⟨r26, h⟩ := h
          refine j_iinc dX9_loads_82 rfl rfl ?_
          refine j_goto 49 dX9_loads_85 rfl ?_
          exact J.wk ((((((jWk.nil).eq).eq).no).no).eq) (ihI18 _ _ (Nat.lt_of_lt_of_le h.2 (Nat.le_of_lt_succ hmuI18)) hW25 r26 h.1)
    exact J.wk ((((((jWk.nil).eq).eq).no).no).eq) (lp _ _ _ (Nat.lt_succ_self _) hW14 (by decide) h0)
  clear h
  refine j_icmp_ne 42 dX9_loads_35 rfl (hW8.ai (mt_sung hM) rfl) (by decide) (fun q10 => ?_) (fun q10 => ?_)
  · refine j_iconst dX9_loads_42 ?_
    exact jn12 _ ((if_pos q10).symm)
  · refine j_iconst dX9_loads_38 ?_
    refine j_goto 43 dX9_loads_39 rfl ?_
    exact jn12 _ ((if_neg q10).symm)
/-- heardBy(II)I -/
def wpX9_heardBy (o : Nat) (a1 : Int) (a2 : Int) (F : jFl) (A : jAr) (Q : Int → Prop) : Prop :=
  (0 ≤ (10 * (F 3039 o)) + a1 ∧ (10 * (F 3039 o)) + a1 < 20) ∧
  (0 ≤ (24 * ((6 * (F 3039 o)) + (A (o + 14) ((10 * (F 3039 o)) + a1)))) + a2 ∧ (24 * ((6 * (F 3039 o)) + (A (o + 14) ((10 * (F 3039 o)) + a1)))) + a2 < 288) ∧
  ∀ v3 : Int, v3 = A (o + 11) ((24 * ((6 * (F 3039 o)) + (A (o + 14) ((10 * (F 3039 o)) + a1)))) + a2) →
  ((¬ v3 = (-1)) →
    Q v3) ∧
  (¬ (¬ v3 = (-1)) →
    Q a2)
theorem wX9_heardBy {G : jG} {l : Launch} {d : Nat} {N : jSh} {o : Nat} {F : jFl} {A : jAr} {a1 a2 : Int} {Q : Int → Prop} (hd : 1 ≤ d) (hM : mShape G N o) (hW : jWf N F A) (ra1 : jR a1) (ra2 : jR a2) (h : wpX9_heardBy o a1 a2 F A Q) : jCall G l d mX9_heardBy [.ref o, vI a1, vI a2] N F A (jpI N F A Q) := by
  refine jCall.of (ls := [.ref o, vI a1, vI a2, jD]) (by decide) rfl (Nat.le_of_ble_eq_true rfl) rfl ?_
  unfold wpX9_heardBy at h
  refine j_aload_n dX9_heardBy_0 rfl ?_
  refine j_getFR dX9_heardBy_1 flX9_82_10 hM.1 rfl (mf_heardAs hM) ?_
  refine j_bipush dX9_heardBy_4 ?_
  refine j_bipush dX9_heardBy_6 ?_
  refine j_aload_n dX9_heardBy_8 rfl ?_
  refine j_getI dX9_heardBy_9 flX9_51_10 hM.1 rfl ?_
  refine j_imul dX9_heardBy_12 ?_
  refine j_aload_n dX9_heardBy_13 rfl ?_
  refine j_getFR dX9_heardBy_14 flX9_91_10 hM.1 rfl (mf_childStreet hM) ?_
  refine j_bipush dX9_heardBy_17 ?_
  refine j_aload_n dX9_heardBy_19 rfl ?_
  refine j_getI dX9_heardBy_20 flX9_51_10 hM.1 rfl ?_
  refine j_imul dX9_heardBy_23 ?_
  refine j_iload_n dX9_heardBy_24 rfl ?_
  refine j_iadd dX9_heardBy_25 ?_
  obtain ⟨c1, h⟩ := h
  refine j_iald (n := 20) dX9_heardBy_26 (mt_childStreet hM) (ml_childStreet hM) c1 ?_
  refine j_iadd dX9_heardBy_27 ?_
  refine j_imul dX9_heardBy_28 ?_
  refine j_iload_n dX9_heardBy_29 rfl ?_
  refine j_iadd dX9_heardBy_30 ?_
  obtain ⟨c2, h⟩ := h
  refine j_iald (n := 288) dX9_heardBy_31 (mt_heardAs hM) (ml_heardAs hM) c2 ?_
  obtain ⟨v3, ev3⟩ : ∃ x : Int, x = A (o + 11) ((24 * ((6 * (F 3039 o)) + (A (o + 14) ((10 * (F 3039 o)) + a1)))) + a2) := ⟨_, rfl⟩
  have h := h v3 ev3
  refine jnmI (e := ev3) ?_
  refine j_istore_n dX9_heardBy_32 rfl ?_
  refine j_iload_n dX9_heardBy_33 rfl ?_
  refine j_iconst dX9_heardBy_34 ?_
  obtain ⟨h1, h2⟩ := h
  refine j_icmp_ne 42 dX9_heardBy_35 rfl (ev3 ▸ (hW.ai (mt_heardAs hM) rfl)) (by decide) (fun q4 => ?_) (fun q4 => ?_)
  · have h := h1 q4
    clear h1 h2
    refine j_iload_n dX9_heardBy_42 rfl ?_
    exact j_iret dX9_heardBy_43 rfl ⟨_, rfl, rfl, rfl, rfl, h, (ev3 ▸ (hW.ai (mt_heardAs hM) rfl))⟩
  · have h := h2 q4
    clear h1 h2
    refine j_iload_n dX9_heardBy_38 rfl ?_
    refine j_goto 43 dX9_heardBy_39 rfl ?_
    exact j_iret dX9_heardBy_43 rfl ⟨_, rfl, rfl, rfl, rfl, h, ra2⟩
/-- knows(II)Z -/
def wpX9_knows (o : Nat) (a1 : Int) (a2 : Int) (F : jFl) (A : jAr) (Q : Int → Prop) : Prop :=
  (0 ≤ (24 * ((10 * (F 3039 o)) + a1)) + a2 ∧ (24 * ((10 * (F 3039 o)) + a1)) + a2 < 480) ∧
  ∀ z3 : Int, z3 = (if ¬ (A (o + 16) ((24 * ((10 * (F 3039 o)) + a1)) + a2)) = 1 then 0 else 1) →
  Q z3
theorem wX9_knows {G : jG} {l : Launch} {d : Nat} {N : jSh} {o : Nat} {F : jFl} {A : jAr} {a1 a2 : Int} {Q : Int → Prop} (hd : 1 ≤ d) (hM : mShape G N o) (hW : jWf N F A) (ra1 : jR a1) (ra2 : jR a2) (h : wpX9_knows o a1 a2 F A Q) : jCall G l d mX9_knows [.ref o, vI a1, vI a2] N F A (jpB N F A Q) := by
  refine jCall.of (ls := [.ref o, vI a1, vI a2]) (by decide) rfl (Nat.le_of_ble_eq_true rfl) rfl ?_
  unfold wpX9_knows at h
  refine j_aload_n dX9_knows_0 rfl ?_
  refine j_getFR dX9_knows_1 flX9_97_10 hM.1 rfl (mf_knows hM) ?_
  refine j_bipush dX9_knows_4 ?_
  refine j_bipush dX9_knows_6 ?_
  refine j_aload_n dX9_knows_8 rfl ?_
  refine j_getI dX9_knows_9 flX9_51_10 hM.1 rfl ?_
  refine j_imul dX9_knows_12 ?_
  refine j_iload_n dX9_knows_13 rfl ?_
  refine j_iadd dX9_knows_14 ?_
  refine j_imul dX9_knows_15 ?_
  refine j_iload_n dX9_knows_16 rfl ?_
  refine j_iadd dX9_knows_17 ?_
  obtain ⟨c1, h⟩ := h
  refine j_iald (n := 480) dX9_knows_18 (mt_knows hM) (ml_knows hM) c1 ?_
  refine j_iconst dX9_knows_19 ?_
  have jn4 : ∀ z3 : Int, z3 = (if ¬ (A (o + 16) ((24 * ((10 * (F 3039 o)) + a1)) + a2)) = 1 then 0 else 1) → J G l d mX9_knows 28 [.ref o, vI a1, vI a2] [vI z3] N F A (jpB N F A Q) := by
    intro z3 ez3
    have h := h z3 ez3
    exact j_zret dX9_knows_28 rfl (nr_bool (ez3 ▸ (jB_ite (by decide) (by decide)))) ⟨_, rfl, rfl, rfl, rfl, h, (ez3 ▸ (jB_ite (by decide) (by decide)))⟩
  clear h
  refine j_icmp_ne 27 dX9_knows_20 rfl (hW.ai (mt_knows hM) rfl) (by decide) (fun q2 => ?_) (fun q2 => ?_)
  · refine j_iconst dX9_knows_27 ?_
    exact jn4 _ ((if_pos q2).symm)
  · refine j_iconst dX9_knows_23 ?_
    refine j_goto 28 dX9_knows_24 rfl ?_
    exact jn4 _ ((if_neg q2).symm)
/-- costs(II)I -/
def wpX9_costs (o : Nat) (a1 : Int) (a2 : Int) (F : jFl) (A : jAr) (Q : Int → Prop) : Prop :=
  (0 ≤ (24 * (F 3039 o)) + a2 ∧ (24 * (F 3039 o)) + a2 < 48) ∧
  ∀ v2 : Int, v2 = A (o + 4) ((24 * (F 3039 o)) + a2) →
  ((a1 = (-1)) →
    Q v2) ∧
  (¬ (a1 = (-1)) →
    (0 ≤ (24 * (F 3039 o)) + a1 ∧ (24 * (F 3039 o)) + a1 < 48) ∧
    (0 ≤ (24 * (F 3039 o)) + a2 ∧ (24 * (F 3039 o)) + a2 < 48) ∧
    ((¬ (A (o + 6) ((24 * (F 3039 o)) + a1)) = (A (o + 6) ((24 * (F 3039 o)) + a2))) →
      Q v2) ∧
    (¬ (¬ (A (o + 6) ((24 * (F 3039 o)) + a1)) = (A (o + 6) ((24 * (F 3039 o)) + a2))) →
      jR (v2 + (-1)) ∧
      Q (v2 + (-1))))
theorem wX9_costs {G : jG} {l : Launch} {d : Nat} {N : jSh} {o : Nat} {F : jFl} {A : jAr} {a1 a2 : Int} {Q : Int → Prop} (hd : 1 ≤ d) (hM : mShape G N o) (hW : jWf N F A) (ra1 : jR a1) (ra2 : jR a2) (h : wpX9_costs o a1 a2 F A Q) : jCall G l d mX9_costs [.ref o, vI a1, vI a2] N F A (jpI N F A Q) := by
  refine jCall.of (ls := [.ref o, vI a1, vI a2, jD]) (by decide) rfl (Nat.le_of_ble_eq_true rfl) rfl ?_
  unfold wpX9_costs at h
  refine j_aload_n dX9_costs_0 rfl ?_
  refine j_getFR dX9_costs_1 flX9_61_10 hM.1 rfl (mf_beats hM) ?_
  refine j_bipush dX9_costs_4 ?_
  refine j_aload_n dX9_costs_6 rfl ?_
  refine j_getI dX9_costs_7 flX9_51_10 hM.1 rfl ?_
  refine j_imul dX9_costs_10 ?_
  refine j_iload_n dX9_costs_11 rfl ?_
  refine j_iadd dX9_costs_12 ?_
  obtain ⟨c1, h⟩ := h
  refine j_iald (n := 48) dX9_costs_13 (mt_beats hM) (ml_beats hM) c1 ?_
  obtain ⟨v2, ev2⟩ : ∃ x : Int, x = A (o + 4) ((24 * (F 3039 o)) + a2) := ⟨_, rfl⟩
  have h := h v2 ev2
  refine jnmI (e := ev2) ?_
  refine j_istore_n dX9_costs_14 rfl ?_
  refine j_iload_n dX9_costs_15 rfl ?_
  refine j_iconst dX9_costs_16 ?_
  obtain ⟨h1, h2⟩ := h
  refine j_icmp_eq 54 dX9_costs_17 rfl ra1 (by decide) (fun q3 => ?_) (fun q3 => ?_)
  · have h := h1 q3
    clear h1 h2
    refine j_iload_n dX9_costs_54 rfl ?_
    exact j_iret dX9_costs_55 rfl ⟨_, rfl, rfl, rfl, rfl, h, (ev2 ▸ (hW.ai (mt_beats hM) rfl))⟩
  · have h := h2 q3
    clear h1 h2
    refine j_aload_n dX9_costs_20 rfl ?_
    refine j_getFR dX9_costs_21 flX9_67_10 hM.1 rfl (mf_endsOn hM) ?_
    refine j_bipush dX9_costs_24 ?_
    refine j_aload_n dX9_costs_26 rfl ?_
    refine j_getI dX9_costs_27 flX9_51_10 hM.1 rfl ?_
    refine j_imul dX9_costs_30 ?_
    refine j_iload_n dX9_costs_31 rfl ?_
    refine j_iadd dX9_costs_32 ?_
    obtain ⟨c4, h⟩ := h
    refine j_iald (n := 48) dX9_costs_33 (mt_endsOn hM) (ml_endsOn hM) c4 ?_
    refine j_aload_n dX9_costs_34 rfl ?_
    refine j_getFR dX9_costs_35 flX9_67_10 hM.1 rfl (mf_endsOn hM) ?_
    refine j_bipush dX9_costs_38 ?_
    refine j_aload_n dX9_costs_40 rfl ?_
    refine j_getI dX9_costs_41 flX9_51_10 hM.1 rfl ?_
    refine j_imul dX9_costs_44 ?_
    refine j_iload_n dX9_costs_45 rfl ?_
    refine j_iadd dX9_costs_46 ?_
    obtain ⟨c5, h⟩ := h
    refine j_iald (n := 48) dX9_costs_47 (mt_endsOn hM) (ml_endsOn hM) c5 ?_
    obtain ⟨h1, h2⟩ := h
    refine j_icmp_ne 54 dX9_costs_48 rfl (hW.ai (mt_endsOn hM) rfl) (hW.ai (mt_endsOn hM) rfl) (fun q6 => ?_) (fun q6 => ?_)
    · have h := h1 q6
      clear h1 h2
      refine j_iload_n dX9_costs_54 rfl ?_
      exact j_iret dX9_costs_55 rfl ⟨_, rfl, rfl, rfl, rfl, h, (ev2 ▸ (hW.ai (mt_beats hM) rfl))⟩
    · have h := h2 q6
      clear h1 h2
      obtain ⟨r7, h⟩ := h
      refine j_iinc dX9_costs_51 rfl rfl ?_
      refine j_iload_n dX9_costs_54 rfl ?_
      exact j_iret dX9_costs_55 rfl ⟨_, rfl, rfl, rfl, rfl, h, r7⟩
/-- runsInto(I)I -/
def wpX9_runsInto (o : Nat) (a1 : Int) (F : jFl) (A : jAr) (Q : Int → Prop) : Prop :=
  ((2 ≤ (F 3177 o)) →
    ∃ (I3 : Int → Prop) (m4 : Int → Nat), I3 0 ∧ ∀ (v2 : Int), I3 v2 →
      ((a1 ≤ v2) →
        Q (-1)) ∧
      (¬ (a1 ≤ v2) →
        (0 ≤ v2 ∧ v2 < 12) ∧
        ∀ v7 : Int, v7 = A (o + 38) v2 →
        (0 ≤ v7 ∧ v7 < 12) ∧
        (((A (o + 39) v7) = 3) →
          jR (v2 + 1) ∧
          I3 (v2 + 1) ∧ m4 (v2 + 1) < m4 v2) ∧
        (¬ ((A (o + 39) v7) = 3) →
          (0 ≤ v7 ∧ v7 < 12) ∧
          (((A (o + 40) v7) ≤ 1) →
            jR (v2 + 1) ∧
            I3 (v2 + 1) ∧ m4 (v2 + 1) < m4 v2) ∧
          (¬ ((A (o + 40) v7) ≤ 1) →
            (0 ≤ 12 * v7 ∧ 12 * v7 < 144) ∧
            ((¬ (A (o + 42) (12 * v7)) = (A (o + 37) 0)) →
              jR (v2 + 1) ∧
              I3 (v2 + 1) ∧ m4 (v2 + 1) < m4 v2) ∧
            (¬ (¬ (A (o + 42) (12 * v7)) = (A (o + 37) 0)) →
              (0 ≤ (12 * v7) + 1 ∧ (12 * v7) + 1 < 144) ∧
              ((¬ (A (o + 42) ((12 * v7) + 1)) = (A (o + 37) 1)) →
                jR (v2 + 1) ∧
                I3 (v2 + 1) ∧ m4 (v2 + 1) < m4 v2) ∧
              (¬ (¬ (A (o + 42) ((12 * v7) + 1)) = (A (o + 37) 1)) →
                Q v7)))))) ∧
  (¬ (2 ≤ (F 3177 o)) →
    Q (-1))
theorem wX9_runsInto {G : jG} {l : Launch} {d : Nat} {N : jSh} {o : Nat} {F : jFl} {A : jAr} {a1 : Int} {Q : Int → Prop} (hd : 1 ≤ d) (hM : mShape G N o) (hW : jWf N F A) (ra1 : jR a1) (h : wpX9_runsInto o a1 F A Q) : jCall G l d mX9_runsInto [.ref o, vI a1] N F A (jpI N F A Q) := by
  refine jCall.of (ls := [.ref o, vI a1, jD, jD]) (by decide) rfl (Nat.le_of_ble_eq_true rfl) rfl ?_
  unfold wpX9_runsInto at h
  refine j_aload_n dX9_runsInto_0 rfl ?_
  refine j_getI dX9_runsInto_1 flX9_191_10 hM.1 rfl ?_
  refine j_iconst dX9_runsInto_4 ?_
  obtain ⟨h1, h2⟩ := h
  refine j_icmp_ge 10 dX9_runsInto_5 rfl (hW.fi rfl) (by decide) (fun q1 => ?_) (fun q1 => ?_)
  · have h := h1 q1
    clear h1 h2
    refine j_iconst dX9_runsInto_10 ?_
    refine j_istore_n dX9_runsInto_11 rfl ?_
    obtain ⟨I3, m4, h0, hs⟩ := h
    have lp : ∀ (n : Nat) (v2 : Int), m4 v2 < n → jR v2 → I3 v2 → J G l d mX9_runsInto 12 [.ref o, vI a1, vI v2, jD] [] N F A (jpI N F A Q) := by
      intro nI3
      induction nI3 with
      | zero =>
        intro v2 hmu
        exact absurd hmu (Nat.not_lt_zero _)
      | succ nI3 ihI3 =>
        intro v2 hmuI3 rv2 hI
        have h := hs v2 hI
        refine j_iload_n dX9_runsInto_12 rfl ?_
        refine j_iload_n dX9_runsInto_13 rfl ?_
        obtain ⟨h1, h2⟩ := h
        refine j_icmp_ge 90 dX9_runsInto_14 rfl rv2 ra1 (fun q5 => ?_) (fun q5 => ?_)
        · have h := h1 q5
          clear h1 h2
          refine j_iconst dX9_runsInto_90 ?_
          exact j_iret dX9_runsInto_91 rfl ⟨_, rfl, rfl, rfl, rfl, h, (by decide)⟩
        · have h := h2 q5
          clear h1 h2
          refine j_aload_n dX9_runsInto_17 rfl ?_
          refine j_getFR dX9_runsInto_18 flX9_203_10 hM.1 rfl (mf_seat hM) ?_
          refine j_iload_n dX9_runsInto_21 rfl ?_
          obtain ⟨c6, h⟩ := h
          refine j_iald (n := 12) dX9_runsInto_22 (mt_seat hM) (ml_seat hM) c6 ?_
          obtain ⟨v7, ev7⟩ : ∃ x : Int, x = A (o + 38) v2 := ⟨_, rfl⟩
          have h := h v7 ev7
          refine jnmI (e := ev7) ?_
          refine j_istore_n dX9_runsInto_23 rfl ?_
          refine j_aload_n dX9_runsInto_24 rfl ?_
          refine j_getFR dX9_runsInto_25 flX9_209_10 hM.1 rfl (mf_sitKind hM) ?_
          refine j_iload_n dX9_runsInto_28 rfl ?_
          obtain ⟨c8, h⟩ := h
          refine j_iald (n := 12) dX9_runsInto_29 (mt_sitKind hM) (ml_sitKind hM) c8 ?_
          refine j_iconst dX9_runsInto_30 ?_
          obtain ⟨h1, h2⟩ := h
          refine j_icmp_eq 84 dX9_runsInto_31 rfl (hW.ai (mt_sitKind hM) rfl) (by decide) (fun q9 => ?_) (fun q9 => ?_)
          · have h := h1 q9
            clear h1 h2
            obtain ⟨r10, h⟩ := h
            refine j_iinc dX9_runsInto_84 rfl rfl ?_
            refine j_goto 12 dX9_runsInto_87 rfl ?_
            exact J.wk (((((jWk.nil).no).eq).eq).eq) (ihI3 _ (Nat.lt_of_lt_of_le h.2 (Nat.le_of_lt_succ hmuI3)) r10 h.1)
          · have h := h2 q9
            clear h1 h2
            refine j_aload_n dX9_runsInto_34 rfl ?_
            refine j_getFR dX9_runsInto_35 flX9_212_10 hM.1 rfl (mf_sitMain hM) ?_
            refine j_iload_n dX9_runsInto_38 rfl ?_
            obtain ⟨c11, h⟩ := h
            refine j_iald (n := 12) dX9_runsInto_39 (mt_sitMain hM) (ml_sitMain hM) c11 ?_
            refine j_iconst dX9_runsInto_40 ?_
            obtain ⟨h1, h2⟩ := h
            refine j_icmp_le 84 dX9_runsInto_41 rfl (hW.ai (mt_sitMain hM) rfl) (by decide) (fun q12 => ?_) (fun q12 => ?_)
            · have h := h1 q12
              clear h1 h2
              obtain ⟨r13, h⟩ := h
              refine j_iinc dX9_runsInto_84 rfl rfl ?_
              refine j_goto 12 dX9_runsInto_87 rfl ?_
              exact J.wk (((((jWk.nil).no).eq).eq).eq) (ihI3 _ (Nat.lt_of_lt_of_le h.2 (Nat.le_of_lt_succ hmuI3)) r13 h.1)
            · have h := h2 q12
              clear h1 h2
              refine j_aload_n dX9_runsInto_44 rfl ?_
              refine j_getFR dX9_runsInto_45 flX9_218_10 hM.1 rfl (mf_sitRow hM) ?_
              refine j_bipush dX9_runsInto_48 ?_
              refine j_iload_n dX9_runsInto_50 rfl ?_
              refine j_imul dX9_runsInto_51 ?_
              obtain ⟨c14, h⟩ := h
              refine j_iald (n := 144) dX9_runsInto_52 (mt_sitRow hM) (ml_sitRow hM) c14 ?_
              refine j_aload_n dX9_runsInto_53 rfl ?_
              refine j_getFR dX9_runsInto_54 flX9_188_10 hM.1 rfl (mf_said hM) ?_
              refine j_iconst dX9_runsInto_57 ?_
              refine j_iald (n := 12) dX9_runsInto_58 (mt_said hM) (ml_said hM) (by decide) ?_
              obtain ⟨h1, h2⟩ := h
              refine j_icmp_ne 84 dX9_runsInto_59 rfl (hW.ai (mt_sitRow hM) rfl) (hW.ai (mt_said hM) rfl) (fun q16 => ?_) (fun q16 => ?_)
              · have h := h1 q16
                clear h1 h2
                obtain ⟨r17, h⟩ := h
                refine j_iinc dX9_runsInto_84 rfl rfl ?_
                refine j_goto 12 dX9_runsInto_87 rfl ?_
                exact J.wk (((((jWk.nil).no).eq).eq).eq) (ihI3 _ (Nat.lt_of_lt_of_le h.2 (Nat.le_of_lt_succ hmuI3)) r17 h.1)
              · have h := h2 q16
                clear h1 h2
                refine j_aload_n dX9_runsInto_62 rfl ?_
                refine j_getFR dX9_runsInto_63 flX9_218_10 hM.1 rfl (mf_sitRow hM) ?_
                refine j_bipush dX9_runsInto_66 ?_
                refine j_iload_n dX9_runsInto_68 rfl ?_
                refine j_imul dX9_runsInto_69 ?_
                refine j_iconst dX9_runsInto_70 ?_
                refine j_iadd dX9_runsInto_71 ?_
                obtain ⟨c18, h⟩ := h
                refine j_iald (n := 144) dX9_runsInto_72 (mt_sitRow hM) (ml_sitRow hM) c18 ?_
                refine j_aload_n dX9_runsInto_73 rfl ?_
                refine j_getFR dX9_runsInto_74 flX9_188_10 hM.1 rfl (mf_said hM) ?_
                refine j_iconst dX9_runsInto_77 ?_
                refine j_iald (n := 12) dX9_runsInto_78 (mt_said hM) (ml_said hM) (by decide) ?_
                obtain ⟨h1, h2⟩ := h
                refine j_icmp_ne 84 dX9_runsInto_79 rfl (hW.ai (mt_sitRow hM) rfl) (hW.ai (mt_said hM) rfl) (fun q20 => ?_) (fun q20 => ?_)
                · have h := h1 q20
                  clear h1 h2
                  obtain ⟨r21, h⟩ := h
                  refine j_iinc dX9_runsInto_84 rfl rfl ?_
                  refine j_goto 12 dX9_runsInto_87 rfl ?_
                  exact J.wk (((((jWk.nil).no).eq).eq).eq) (ihI3 _ (Nat.lt_of_lt_of_le h.2 (Nat.le_of_lt_succ hmuI3)) r21 h.1)
                · have h := h2 q20
                  clear h1 h2
                  refine j_iload_n dX9_runsInto_82 rfl ?_
                  exact j_iret dX9_runsInto_83 rfl ⟨_, rfl, rfl, rfl, rfl, h, (ev7 ▸ (hW.ai (mt_seat hM) rfl))⟩
    exact J.wk (((((jWk.nil).no).eq).eq).eq) (lp _ _ (Nat.lt_succ_self _) (by decide) h0)
  · have h := h2 q1
    clear h1 h2
    refine j_iconst dX9_runsInto_8 ?_
    exact j_iret dX9_runsInto_9 rfl ⟨_, rfl, rfl, rfl, rfl, h, (by decide)⟩
/-- notes(IIII)V -/
def wpX9_notes (o : Nat) (a1 : Int) (a2 : Int) (a3 : Int) (a4 : Int) (F : jFl) (A : jAr) (Q : jFl → jAr → Prop) : Prop :=
  (0 ≤ a1 ∧ a1 < 22) ∧
  ((¬ (A (o + 34) a1) = 100) →
    (0 ≤ a1 ∧ a1 < 22) ∧
    jR ((400 * a1) + (4 * (A (o + 34) a1))) ∧
    ∀ v5 : Int, v5 = (400 * a1) + (4 * (A (o + 34) a1)) →
    (0 ≤ a1 ∧ a1 < 22) ∧
    (0 ≤ v5 ∧ v5 < 8800) ∧
    ∀ A8 : jAr, A8 = upA A (o + 35) v5 (A (o + 28) a1) →
    (0 ≤ v5 + 1 ∧ v5 + 1 < 8800) ∧
    ∀ A11 : jAr, A11 = upA A8 (o + 35) (v5 + 1) a2 →
    (0 ≤ v5 + 2 ∧ v5 + 2 < 8800) ∧
    ∀ A14 : jAr, A14 = upA A11 (o + 35) (v5 + 2) a3 →
    (0 ≤ v5 + 3 ∧ v5 + 3 < 8800) ∧
    ∀ A17 : jAr, A17 = upA A14 (o + 35) (v5 + 3) a4 →
    (0 ≤ a1 ∧ a1 < 22) ∧
    (0 ≤ a1 ∧ a1 < 22) ∧
    jR ((A17 (o + 34) a1) + 1) ∧
    ∀ A22 : jAr, A22 = upA A17 (o + 34) a1 ((A17 (o + 34) a1) + 1) →
    Q F A22) ∧
  (¬ (¬ (A (o + 34) a1) = 100) →
    ∃ (I27 : Int → jAr → Prop) (m28 : Int → jAr → Nat), I27 4 A ∧ ∀ (v24 : Int) (A25 : jAr), I27 v24 A25 →
      ((400 ≤ v24) →
        (0 ≤ a1 ∧ a1 < 22) ∧
        (0 ≤ a1 ∧ a1 < 22) ∧
        jR ((A25 (o + 34) a1) - 1) ∧
        ∀ A33 : jAr, A33 = upA A25 (o + 34) a1 ((A25 (o + 34) a1) - 1) →
        (0 ≤ a1 ∧ a1 < 22) ∧
        jR ((400 * a1) + (4 * (A33 (o + 34) a1))) ∧
        ∀ v37 : Int, v37 = (400 * a1) + (4 * (A33 (o + 34) a1)) →
        (0 ≤ a1 ∧ a1 < 22) ∧
        (0 ≤ v37 ∧ v37 < 8800) ∧
        ∀ A40 : jAr, A40 = upA A33 (o + 35) v37 (A33 (o + 28) a1) →
        (0 ≤ v37 + 1 ∧ v37 + 1 < 8800) ∧
        ∀ A43 : jAr, A43 = upA A40 (o + 35) (v37 + 1) a2 →
        (0 ≤ v37 + 2 ∧ v37 + 2 < 8800) ∧
        ∀ A46 : jAr, A46 = upA A43 (o + 35) (v37 + 2) a3 →
        (0 ≤ v37 + 3 ∧ v37 + 3 < 8800) ∧
        ∀ A49 : jAr, A49 = upA A46 (o + 35) (v37 + 3) a4 →
        (0 ≤ a1 ∧ a1 < 22) ∧
        (0 ≤ a1 ∧ a1 < 22) ∧
        jR ((A49 (o + 34) a1) + 1) ∧
        ∀ A54 : jAr, A54 = upA A49 (o + 34) a1 ((A49 (o + 34) a1) + 1) →
        Q F A54) ∧
      (¬ (400 ≤ v24) →
        (0 ≤ (400 * a1) + v24 ∧ (400 * a1) + v24 < 8800) ∧
        (0 ≤ ((400 * a1) + v24) - 4 ∧ ((400 * a1) + v24) - 4 < 8800) ∧
        ∀ A58 : jAr, A58 = upA A25 (o + 35) (((400 * a1) + v24) - 4) (A25 (o + 35) ((400 * a1) + v24)) →
        jR (v24 + 1) ∧
        I27 (v24 + 1) A58 ∧ m28 (v24 + 1) A58 < m28 v24 A25))
theorem wX9_notes {G : jG} {l : Launch} {d : Nat} {N : jSh} {o : Nat} {F : jFl} {A : jAr} {a1 a2 a3 a4 : Int} {Q : jFl → jAr → Prop} (hd : 1 ≤ d) (hM : mShape G N o) (hW : jWf N F A) (ra1 : jR a1) (ra2 : jR a2) (ra3 : jR a3) (ra4 : jR a4) (h : wpX9_notes o a1 a2 a3 a4 F A Q) : jCall G l d mX9_notes [.ref o, vI a1, vI a2, vI a3, vI a4] N F A (jmV N Q) := by
  refine jCall.of (ls := [.ref o, vI a1, vI a2, vI a3, vI a4, jD]) (by decide) rfl (Nat.le_of_ble_eq_true rfl) rfl ?_
  unfold wpX9_notes at h
  refine j_aload_n dX9_notes_0 rfl ?_
  refine j_getFR dX9_notes_1 flX9_160_10 hM.1 rfl (mf_bookMany hM) ?_
  refine j_iload_n dX9_notes_4 rfl ?_
  obtain ⟨c1, h⟩ := h
  refine j_iald (n := 22) dX9_notes_5 (mt_bookMany hM) (ml_bookMany hM) c1 ?_
  refine j_bipush dX9_notes_6 ?_
  obtain ⟨h1, h2⟩ := h
  refine j_icmp_ne 66 dX9_notes_8 rfl (hW.ai (mt_bookMany hM) rfl) (by decide) (fun q2 => ?_) (fun q2 => ?_)
  · have h := h1 q2
    clear h1 h2
    refine j_sipush dX9_notes_66 ?_
    refine j_iload_n dX9_notes_69 rfl ?_
    refine j_imul dX9_notes_70 ?_
    refine j_iconst dX9_notes_71 ?_
    refine j_aload_n dX9_notes_72 rfl ?_
    refine j_getFR dX9_notes_73 flX9_160_10 hM.1 rfl (mf_bookMany hM) ?_
    refine j_iload_n dX9_notes_76 rfl ?_
    obtain ⟨c3, h⟩ := h
    refine j_iald (n := 22) dX9_notes_77 (mt_bookMany hM) (ml_bookMany hM) c3 ?_
    refine j_imul dX9_notes_78 ?_
    refine j_iadd dX9_notes_79 ?_
    obtain ⟨r4, h⟩ := h
    obtain ⟨v5, ev5⟩ : ∃ x : Int, x = (400 * a1) + (4 * (A (o + 34) a1)) := ⟨_, rfl⟩
    have h := h v5 ev5
    refine jnmI (e := ev5) ?_
    refine j_istore dX9_notes_80 rfl ?_
    refine j_aload_n dX9_notes_82 rfl ?_
    refine j_getFR dX9_notes_83 flX9_163_10 hM.1 rfl (mf_bookRow hM) ?_
    refine j_iload dX9_notes_86 rfl ?_
    refine j_aload_n dX9_notes_88 rfl ?_
    refine j_getFR dX9_notes_89 flX9_142_10 hM.1 rfl (mf_year hM) ?_
    refine j_iload_n dX9_notes_92 rfl ?_
    obtain ⟨c6, h⟩ := h
    refine j_iald (n := 22) dX9_notes_93 (mt_year hM) (ml_year hM) c6 ?_
    obtain ⟨c7, h⟩ := h
    refine j_iast (n := 8800) dX9_notes_94 (mt_bookRow hM) (Nat.le_trans hM.2.1 (Nat.le_add_right _ _)) (ml_bookRow hM) c7 ?_
    obtain ⟨A8, eA8⟩ : ∃ x : jAr, x = upA A (o + 35) v5 (A (o + 28) a1) := ⟨_, rfl⟩
    have hW9 : jWf N F A8 := eA8 ▸ jWf_A (i := v5) (z := A (o + 28) a1) hW (mt_bookRow hM) (jRk_0 rfl (hW.ai (mt_year hM) rfl))
    refine jnmA (e := eA8) ?_
    have h := h A8 eA8
    refine j_aload_n dX9_notes_95 rfl ?_
    refine j_getFR dX9_notes_96 flX9_163_10 hM.1 rfl (mf_bookRow hM) ?_
    refine j_iload dX9_notes_99 rfl ?_
    refine j_iconst dX9_notes_101 ?_
    refine j_iadd dX9_notes_102 ?_
    refine j_iload_n dX9_notes_103 rfl ?_
    obtain ⟨c10, h⟩ := h
    refine j_iast (n := 8800) dX9_notes_104 (mt_bookRow hM) (Nat.le_trans hM.2.1 (Nat.le_add_right _ _)) (ml_bookRow hM) c10 ?_
    obtain ⟨A11, eA11⟩ : ∃ x : jAr, x = upA A8 (o + 35) (v5 + 1) a2 := ⟨_, rfl⟩
    have hW12 : jWf N F A11 := eA11 ▸ jWf_A (i := v5 + 1) (z := a2) hW9 (mt_bookRow hM) (jRk_0 rfl ra2)
    refine jnmA (e := eA11) ?_
    have h := h A11 eA11
    refine j_aload_n dX9_notes_105 rfl ?_
    refine j_getFR dX9_notes_106 flX9_163_10 hM.1 rfl (mf_bookRow hM) ?_
    refine j_iload dX9_notes_109 rfl ?_
    refine j_iconst dX9_notes_111 ?_
    refine j_iadd dX9_notes_112 ?_
    refine j_iload_n dX9_notes_113 rfl ?_
    obtain ⟨c13, h⟩ := h
    refine j_iast (n := 8800) dX9_notes_114 (mt_bookRow hM) (Nat.le_trans hM.2.1 (Nat.le_add_right _ _)) (ml_bookRow hM) c13 ?_
    obtain ⟨A14, eA14⟩ : ∃ x : jAr, x = upA A11 (o + 35) (v5 + 2) a3 := ⟨_, rfl⟩
    have hW15 : jWf N F A14 := eA14 ▸ jWf_A (i := v5 + 2) (z := a3) hW12 (mt_bookRow hM) (jRk_0 rfl ra3)
    refine jnmA (e := eA14) ?_
    have h := h A14 eA14
    refine j_aload_n dX9_notes_115 rfl ?_
    refine j_getFR dX9_notes_116 flX9_163_10 hM.1 rfl (mf_bookRow hM) ?_
    refine j_iload dX9_notes_119 rfl ?_
    refine j_iconst dX9_notes_121 ?_
    refine j_iadd dX9_notes_122 ?_
    refine j_iload dX9_notes_123 rfl ?_
    obtain ⟨c16, h⟩ := h
    refine j_iast (n := 8800) dX9_notes_125 (mt_bookRow hM) (Nat.le_trans hM.2.1 (Nat.le_add_right _ _)) (ml_bookRow hM) c16 ?_
    obtain ⟨A17, eA17⟩ : ∃ x : jAr, x = upA A14 (o + 35) (v5 + 3) a4 := ⟨_, rfl⟩
    have hW18 : jWf N F A17 := eA17 ▸ jWf_A (i := v5 + 3) (z := a4) hW15 (mt_bookRow hM) (jRk_0 rfl ra4)
    refine jnmA (e := eA17) ?_
    have h := h A17 eA17
    refine j_aload_n dX9_notes_126 rfl ?_
    refine j_getFR dX9_notes_127 flX9_160_10 hM.1 rfl (mf_bookMany hM) ?_
    refine j_iload_n dX9_notes_130 rfl ?_
    refine j_dup2 dX9_notes_131 rfl rfl ?_
    obtain ⟨c19, h⟩ := h
    refine j_iald (n := 22) dX9_notes_132 (mt_bookMany hM) (ml_bookMany hM) c19 ?_
    refine j_iconst dX9_notes_133 ?_
    refine j_iadd dX9_notes_134 ?_
    obtain ⟨c20, h⟩ := h
    obtain ⟨r21, h⟩ := h
    refine j_iast (n := 22) dX9_notes_135 (mt_bookMany hM) (Nat.le_trans hM.2.1 (Nat.le_add_right _ _)) (ml_bookMany hM) c20 ?_
    obtain ⟨A22, eA22⟩ : ∃ x : jAr, x = upA A17 (o + 34) a1 ((A17 (o + 34) a1) + 1) := ⟨_, rfl⟩
    have hW23 : jWf N F A22 := eA22 ▸ jWf_A (i := a1) (z := (A17 (o + 34) a1) + 1) hW18 (mt_bookMany hM) (jRk_0 rfl r21)
    refine jnmA (e := eA22) ?_
    have h := h A22 eA22
    exact j_vret dX9_notes_136 rfl ⟨rfl, rfl, hW23, h⟩
  · have h := h2 q2
    clear h1 h2
    refine j_iconst dX9_notes_11 ?_
    refine j_istore dX9_notes_12 rfl ?_
    obtain ⟨I27, m28, h0, hs⟩ := h
    have lp : ∀ (n : Nat) (v24 : Int) (A25 : jAr), m28 v24 A25 < n → jWf N F A25 → jR v24 → I27 v24 A25 → J G l d mX9_notes 14 [.ref o, vI a1, vI a2, vI a3, vI a4, vI v24] [] N F A25 (jmV N Q) := by
      intro nI27
      induction nI27 with
      | zero =>
        intro v24 A25 hmu
        exact absurd hmu (Nat.not_lt_zero _)
      | succ nI27 ihI27 =>
        intro v24 A25 hmuI27 hW26 rv24 hI
        have h := hs v24 A25 hI
        refine j_iload dX9_notes_14 rfl ?_
        refine j_sipush dX9_notes_16 ?_
        obtain ⟨h1, h2⟩ := h
        refine j_icmp_ge 56 dX9_notes_19 rfl rv24 (by decide) (fun q29 => ?_) (fun q29 => ?_)
        · have h := h1 q29
          clear h1 h2
          refine j_aload_n dX9_notes_56 rfl ?_
          refine j_getFR dX9_notes_57 flX9_160_10 hM.1 rfl (mf_bookMany hM) ?_
          refine j_iload_n dX9_notes_60 rfl ?_
          refine j_dup2 dX9_notes_61 rfl rfl ?_
          obtain ⟨c30, h⟩ := h
          refine j_iald (n := 22) dX9_notes_62 (mt_bookMany hM) (ml_bookMany hM) c30 ?_
          refine j_iconst dX9_notes_63 ?_
          refine j_isub dX9_notes_64 ?_
          obtain ⟨c31, h⟩ := h
          obtain ⟨r32, h⟩ := h
          refine j_iast (n := 22) dX9_notes_65 (mt_bookMany hM) (Nat.le_trans hM.2.1 (Nat.le_add_right _ _)) (ml_bookMany hM) c31 ?_
          obtain ⟨A33, eA33⟩ : ∃ x : jAr, x = upA A25 (o + 34) a1 ((A25 (o + 34) a1) - 1) := ⟨_, rfl⟩
          have hW34 : jWf N F A33 := eA33 ▸ jWf_A (i := a1) (z := (A25 (o + 34) a1) - 1) hW26 (mt_bookMany hM) (jRk_0 rfl r32)
          refine jnmA (e := eA33) ?_
          have h := h A33 eA33
          refine j_sipush dX9_notes_66 ?_
          refine j_iload_n dX9_notes_69 rfl ?_
          refine j_imul dX9_notes_70 ?_
          refine j_iconst dX9_notes_71 ?_
          refine j_aload_n dX9_notes_72 rfl ?_
          refine j_getFR dX9_notes_73 flX9_160_10 hM.1 rfl (mf_bookMany hM) ?_
          refine j_iload_n dX9_notes_76 rfl ?_
          obtain ⟨c35, h⟩ := h
          refine j_iald (n := 22) dX9_notes_77 (mt_bookMany hM) (ml_bookMany hM) c35 ?_
          refine j_imul dX9_notes_78 ?_
          refine j_iadd dX9_notes_79 ?_
          obtain ⟨r36, h⟩ := h
          obtain ⟨v37, ev37⟩ : ∃ x : Int, x = (400 * a1) + (4 * (A33 (o + 34) a1)) := ⟨_, rfl⟩
          have h := h v37 ev37
          refine jnmI (e := ev37) ?_
          refine j_istore dX9_notes_80 rfl ?_
          refine j_aload_n dX9_notes_82 rfl ?_
          refine j_getFR dX9_notes_83 flX9_163_10 hM.1 rfl (mf_bookRow hM) ?_
          refine j_iload dX9_notes_86 rfl ?_
          refine j_aload_n dX9_notes_88 rfl ?_
          refine j_getFR dX9_notes_89 flX9_142_10 hM.1 rfl (mf_year hM) ?_
          refine j_iload_n dX9_notes_92 rfl ?_
          obtain ⟨c38, h⟩ := h
          refine j_iald (n := 22) dX9_notes_93 (mt_year hM) (ml_year hM) c38 ?_
          obtain ⟨c39, h⟩ := h
          refine j_iast (n := 8800) dX9_notes_94 (mt_bookRow hM) (Nat.le_trans hM.2.1 (Nat.le_add_right _ _)) (ml_bookRow hM) c39 ?_
          obtain ⟨A40, eA40⟩ : ∃ x : jAr, x = upA A33 (o + 35) v37 (A33 (o + 28) a1) := ⟨_, rfl⟩
          have hW41 : jWf N F A40 := eA40 ▸ jWf_A (i := v37) (z := A33 (o + 28) a1) hW34 (mt_bookRow hM) (jRk_0 rfl (hW34.ai (mt_year hM) rfl))
          refine jnmA (e := eA40) ?_
          have h := h A40 eA40
          refine j_aload_n dX9_notes_95 rfl ?_
          refine j_getFR dX9_notes_96 flX9_163_10 hM.1 rfl (mf_bookRow hM) ?_
          refine j_iload dX9_notes_99 rfl ?_
          refine j_iconst dX9_notes_101 ?_
          refine j_iadd dX9_notes_102 ?_
          refine j_iload_n dX9_notes_103 rfl ?_
          obtain ⟨c42, h⟩ := h
          refine j_iast (n := 8800) dX9_notes_104 (mt_bookRow hM) (Nat.le_trans hM.2.1 (Nat.le_add_right _ _)) (ml_bookRow hM) c42 ?_
          obtain ⟨A43, eA43⟩ : ∃ x : jAr, x = upA A40 (o + 35) (v37 + 1) a2 := ⟨_, rfl⟩
          have hW44 : jWf N F A43 := eA43 ▸ jWf_A (i := v37 + 1) (z := a2) hW41 (mt_bookRow hM) (jRk_0 rfl ra2)
          refine jnmA (e := eA43) ?_
          have h := h A43 eA43
          refine j_aload_n dX9_notes_105 rfl ?_
          refine j_getFR dX9_notes_106 flX9_163_10 hM.1 rfl (mf_bookRow hM) ?_
          refine j_iload dX9_notes_109 rfl ?_
          refine j_iconst dX9_notes_111 ?_
          refine j_iadd dX9_notes_112 ?_
          refine j_iload_n dX9_notes_113 rfl ?_
          obtain ⟨c45, h⟩ := h
          refine j_iast (n := 8800) dX9_notes_114 (mt_bookRow hM) (Nat.le_trans hM.2.1 (Nat.le_add_right _ _)) (ml_bookRow hM) c45 ?_
          obtain ⟨A46, eA46⟩ : ∃ x : jAr, x = upA A43 (o + 35) (v37 + 2) a3 := ⟨_, rfl⟩
          have hW47 : jWf N F A46 := eA46 ▸ jWf_A (i := v37 + 2) (z := a3) hW44 (mt_bookRow hM) (jRk_0 rfl ra3)
          refine jnmA (e := eA46) ?_
          have h := h A46 eA46
          refine j_aload_n dX9_notes_115 rfl ?_
          refine j_getFR dX9_notes_116 flX9_163_10 hM.1 rfl (mf_bookRow hM) ?_
          refine j_iload dX9_notes_119 rfl ?_
          refine j_iconst dX9_notes_121 ?_
          refine j_iadd dX9_notes_122 ?_
          refine j_iload dX9_notes_123 rfl ?_
          obtain ⟨c48, h⟩ := h
          refine j_iast (n := 8800) dX9_notes_125 (mt_bookRow hM) (Nat.le_trans hM.2.1 (Nat.le_add_right _ _)) (ml_bookRow hM) c48 ?_
          obtain ⟨A49, eA49⟩ : ∃ x : jAr, x = upA A46 (o + 35) (v37 + 3) a4 := ⟨_, rfl⟩
          have hW50 : jWf N F A49 := eA49 ▸ jWf_A (i := v37 + 3) (z := a4) hW47 (mt_bookRow hM) (jRk_0 rfl ra4)
          refine jnmA (e := eA49) ?_
          have h := h A49 eA49
          refine j_aload_n dX9_notes_126 rfl ?_
          refine j_getFR dX9_notes_127 flX9_160_10 hM.1 rfl (mf_bookMany hM) ?_
          refine j_iload_n dX9_notes_130 rfl ?_
          refine j_dup2 dX9_notes_131 rfl rfl ?_
          obtain ⟨c51, h⟩ := h
          refine j_iald (n := 22) dX9_notes_132 (mt_bookMany hM) (ml_bookMany hM) c51 ?_
          refine j_iconst dX9_notes_133 ?_
          refine j_iadd dX9_notes_134 ?_
          obtain ⟨c52, h⟩ := h
          obtain ⟨r53, h⟩ := h
          refine j_iast (n := 22) dX9_notes_135 (mt_bookMany hM) (Nat.le_trans hM.2.1 (Nat.le_add_right _ _)) (ml_bookMany hM) c52 ?_
          obtain ⟨A54, eA54⟩ : ∃ x : jAr, x = upA A49 (o + 34) a1 ((A49 (o + 34) a1) + 1) := ⟨_, rfl⟩
          have hW55 : jWf N F A54 := eA54 ▸ jWf_A (i := a1) (z := (A49 (o + 34) a1) + 1) hW50 (mt_bookMany hM) (jRk_0 rfl r53)
          refine jnmA (e := eA54) ?_
          have h := h A54 eA54
          exact j_vret dX9_notes_136 rfl ⟨rfl, rfl, hW55, h⟩
        · have h := h2 q29
          clear h1 h2
          refine j_aload_n dX9_notes_22 rfl ?_
          refine j_getFR dX9_notes_23 flX9_163_10 hM.1 rfl (mf_bookRow hM) ?_
          refine j_sipush dX9_notes_26 ?_
          refine j_iload_n dX9_notes_29 rfl ?_
          refine j_imul dX9_notes_30 ?_
          refine j_iload dX9_notes_31 rfl ?_
          refine j_iadd dX9_notes_33 ?_
          refine j_iconst dX9_notes_34 ?_
          refine j_isub dX9_notes_35 ?_
          refine j_aload_n dX9_notes_36 rfl ?_
          refine j_getFR dX9_notes_37 flX9_163_10 hM.1 rfl (mf_bookRow hM) ?_
          refine j_sipush dX9_notes_40 ?_
          refine j_iload_n dX9_notes_43 rfl ?_
          refine j_imul dX9_notes_44 ?_
          refine j_iload dX9_notes_45 rfl ?_
          refine j_iadd dX9_notes_47 ?_
          obtain ⟨c56, h⟩ := h
          refine j_iald (n := 8800) dX9_notes_48 (mt_bookRow hM) (ml_bookRow hM) c56 ?_
          obtain ⟨c57, h⟩ := h
          refine j_iast (n := 8800) dX9_notes_49 (mt_bookRow hM) (Nat.le_trans hM.2.1 (Nat.le_add_right _ _)) (ml_bookRow hM) c57 ?_
          obtain ⟨A58, eA58⟩ : ∃ x : jAr, x = upA A25 (o + 35) (((400 * a1) + v24) - 4) (A25 (o + 35) ((400 * a1) + v24)) := ⟨_, rfl⟩
          have hW59 : jWf N F A58 := eA58 ▸ jWf_A (i := ((400 * a1) + v24) - 4) (z := A25 (o + 35) ((400 * a1) + v24)) hW26 (mt_bookRow hM) (jRk_0 rfl (hW26.ai (mt_bookRow hM) rfl))
          refine jnmA (e := eA58) ?_
          have h := h A58 eA58
          obtain ⟨r60, h⟩ := h
          refine j_iinc dX9_notes_50 rfl rfl ?_
          refine j_goto 14 dX9_notes_53 rfl ?_
          exact J.wk (((((((jWk.nil).eq).eq).eq).eq).eq).eq) (ihI27 _ _ (Nat.lt_of_lt_of_le h.2 (Nat.le_of_lt_succ hmuI27)) hW59 r60 h.1)
    exact J.wk (((((((jWk.nil).eq).eq).eq).eq).eq).eq) (lp _ _ _ (Nat.lt_succ_self _) hW (by decide) h0)
/-- blame(II)V -/
def wpX9_blame (o : Nat) (a1 : Int) (a2 : Int) (F : jFl) (A : jAr) (Q : jFl → jAr → Prop) : Prop :=
  (((F 3024 o) ≤ 0) →
    ∀ F2 : jFl, F2 = upF F 3024 o a1 →
    ∀ F4 : jFl, F4 = upF F2 3027 o a2 →
    Q F4 A) ∧
  (¬ ((F 3024 o) ≤ 0) →
    Q F A)
theorem wX9_blame {G : jG} {l : Launch} {d : Nat} {N : jSh} {o : Nat} {F : jFl} {A : jAr} {a1 a2 : Int} {Q : jFl → jAr → Prop} (hd : 1 ≤ d) (hM : mShape G N o) (hW : jWf N F A) (ra1 : jR a1) (ra2 : jR a2) (h : wpX9_blame o a1 a2 F A Q) : jCall G l d mX9_blame [.ref o, vI a1, vI a2] N F A (jmV N Q) := by
  refine jCall.of (ls := [.ref o, vI a1, vI a2]) (by decide) rfl (Nat.le_of_ble_eq_true rfl) rfl ?_
  unfold wpX9_blame at h
  refine j_aload_n dX9_blame_0 rfl ?_
  refine j_getI dX9_blame_1 flX9_36_10 hM.1 rfl ?_
  obtain ⟨h1, h2⟩ := h
  refine j_if_le 8 dX9_blame_4 rfl (hW.fi rfl) (fun q1 => ?_) (fun q1 => ?_)
  · have h := h1 q1
    clear h1 h2
    refine j_aload_n dX9_blame_8 rfl ?_
    refine j_iload_n dX9_blame_9 rfl ?_
    refine j_putI dX9_blame_10 flX9_36_10 hM.1 hM.2.1 rfl ?_
    obtain ⟨F2, eF2⟩ : ∃ x : jFl, x = upF F 3024 o a1 := ⟨_, rfl⟩
    have hW3 : jWf N F2 A := eF2 ▸ jWf_F (f := 3024) (a := o) (z := a1) hW (jRk_0 rfl ra1)
    refine jnmF (e := eF2) ?_
    have h := h F2 eF2
    refine j_aload_n dX9_blame_13 rfl ?_
    refine j_iload_n dX9_blame_14 rfl ?_
    refine j_putI dX9_blame_15 flX9_39_10 hM.1 hM.2.1 rfl ?_
    obtain ⟨F4, eF4⟩ : ∃ x : jFl, x = upF F2 3027 o a2 := ⟨_, rfl⟩
    have hW5 : jWf N F4 A := eF4 ▸ jWf_F (f := 3027) (a := o) (z := a2) hW3 (jRk_0 rfl ra2)
    refine jnmF (e := eF4) ?_
    have h := h F4 eF4
    exact j_vret dX9_blame_18 rfl ⟨rfl, rfl, hW5, h⟩
  · have h := h2 q1
    clear h1 h2
    exact j_vret dX9_blame_7 rfl ⟨rfl, rfl, hW, h⟩
