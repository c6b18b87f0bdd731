set_option maxRecDepth 100000
set_option linter.unusedVariables false
/-! walks of ChildSaysModel: printed by gen/walk.py -/
/-- isOwn(J)Z -/
def wpX9_isOwn (o : Nat) (a1 : Int) (F : jFl) (A : jAr) (Q : Int → Prop) : Prop :=
  (((jcmp a1 2003792484) = 0) →
    Q 1) ∧
  (¬ ((jcmp a1 2003792484) = 0) →
    (((jcmp a1 422607680627) = 0) →
      Q 1) ∧
    (¬ ((jcmp a1 422607680627) = 0) →
      (((jcmp a1 126922548733043) = 0) →
        Q 1) ∧
      (¬ ((jcmp a1 126922548733043) = 0) →
        (((jcmp a1 512970880104) = 0) →
          Q 1) ∧
        (¬ ((jcmp a1 512970880104) = 0) →
          ((¬ (jcmp a1 474148660594) = 0) →
            (((jcmp a1 126943972648308) = 0) →
              Q 1) ∧
            (¬ ((jcmp a1 126943972648308) = 0) →
              (((jcmp a1 24947) = 0) →
                Q 1) ∧
              (¬ ((jcmp a1 24947) = 0) →
                (((jcmp a1 426953501796) = 0) →
                  Q 1) ∧
                (¬ ((jcmp a1 426953501796) = 0) →
                  (((jcmp a1 28518) = 0) →
                    Q 1) ∧
                  (¬ ((jcmp a1 28518) = 0) →
                    ((¬ (jcmp a1 448545973363) = 0) →
                      (((jcmp a1 7102839) = 0) →
                        Q 1) ∧
                      (¬ ((jcmp a1 7102839) = 0) →
                        (((jcmp a1 1937075815) = 0) →
                          Q 1) ∧
                        (¬ ((jcmp a1 1937075815) = 0) →
                          (((jcmp a1 1935767923) = 0) →
                            Q 1) ∧
                          (¬ ((jcmp a1 1935767923) = 0) →
                            (((jcmp a1 6452596) = 0) →
                              Q 1) ∧
                            (¬ ((jcmp a1 6452596) = 0) →
                              ((¬ (jcmp a1 1751474532) = 0) →
                                (((jcmp a1 1835363940) = 0) →
                                  Q 1) ∧
                                (¬ ((jcmp a1 1835363940) = 0) →
                                  ((¬ (jcmp a1 1953853029) = 0) →
                                    Q 0) ∧
                                  (¬ (¬ (jcmp a1 1953853029) = 0) →
                                    Q 1))) ∧
                              (¬ (¬ (jcmp a1 1751474532) = 0) →
                                Q 1)))))) ∧
                    (¬ (¬ (jcmp a1 448545973363) = 0) →
                      Q 1)))))) ∧
          (¬ (¬ (jcmp a1 474148660594) = 0) →
            Q 1)))))
theorem wX9_isOwn {G : jG} {l : Launch} {d : Nat} {N : jSh} {o : Nat} {F : jFl} {A : jAr} {a1 : Int} {Q : Int → Prop} (hd : 1 ≤ d) (hM : mShape G N o) (hW : jWf N F A) (ra1 : jRL a1) (h : wpX9_isOwn o a1 F A Q) : jCall G l d mX9_isOwn [.ref o, vL a1] N F A (jpB N F A Q) := by
  refine jCall.of (ls := [.ref o, vL a1, jD]) (by decide) rfl (Nat.le_of_ble_eq_true rfl) rfl ?_
  unfold wpX9_isOwn at h
  refine j_lload_n dX9_isOwn_0 rfl ?_
  refine j_ldc2 (n := 2003792484) dX9_isOwn_1 q2217 ?_
  refine j_lcmp dX9_isOwn_4 ra1 (by decide) ?_
  obtain ⟨h1, h2⟩ := h
  refine j_if_eq 40 dX9_isOwn_5 rfl jcmp_R (fun q1 => ?_) (fun q1 => ?_)
  · have h := h1 q1
    clear h1 h2
    refine j_iconst dX9_isOwn_40 ?_
    exact j_zret dX9_isOwn_41 rfl (nr_bool (by decide)) ⟨_, rfl, rfl, rfl, rfl, h, (by decide)⟩
  · have h := h2 q1
    clear h1 h2
    refine j_lload_n dX9_isOwn_8 rfl ?_
    refine j_ldc2 (n := 422607680627) dX9_isOwn_9 q2238 ?_
    refine j_lcmp dX9_isOwn_12 ra1 (by decide) ?_
    obtain ⟨h1, h2⟩ := h
    refine j_if_eq 40 dX9_isOwn_13 rfl jcmp_R (fun q2 => ?_) (fun q2 => ?_)
    · have h := h1 q2
      clear h1 h2
      refine j_iconst dX9_isOwn_40 ?_
      exact j_zret dX9_isOwn_41 rfl (nr_bool (by decide)) ⟨_, rfl, rfl, rfl, rfl, h, (by decide)⟩
    · have h := h2 q2
      clear h1 h2
      refine j_lload_n dX9_isOwn_16 rfl ?_
      refine j_ldc2 (n := 126922548733043) dX9_isOwn_17 q2239 ?_
      refine j_lcmp dX9_isOwn_20 ra1 (by decide) ?_
      obtain ⟨h1, h2⟩ := h
      refine j_if_eq 40 dX9_isOwn_21 rfl jcmp_R (fun q3 => ?_) (fun q3 => ?_)
      · have h := h1 q3
        clear h1 h2
        refine j_iconst dX9_isOwn_40 ?_
        exact j_zret dX9_isOwn_41 rfl (nr_bool (by decide)) ⟨_, rfl, rfl, rfl, rfl, h, (by decide)⟩
      · have h := h2 q3
        clear h1 h2
        refine j_lload_n dX9_isOwn_24 rfl ?_
        refine j_ldc2 (n := 512970880104) dX9_isOwn_25 q2240 ?_
        refine j_lcmp dX9_isOwn_28 ra1 (by decide) ?_
        obtain ⟨h1, h2⟩ := h
        refine j_if_eq 40 dX9_isOwn_29 rfl jcmp_R (fun q4 => ?_) (fun q4 => ?_)
        · have h := h1 q4
          clear h1 h2
          refine j_iconst dX9_isOwn_40 ?_
          exact j_zret dX9_isOwn_41 rfl (nr_bool (by decide)) ⟨_, rfl, rfl, rfl, rfl, h, (by decide)⟩
        · have h := h2 q4
          clear h1 h2
          refine j_lload_n dX9_isOwn_32 rfl ?_
          refine j_ldc2 (n := 474148660594) dX9_isOwn_33 q2241 ?_
          refine j_lcmp dX9_isOwn_36 ra1 (by decide) ?_
          obtain ⟨h1, h2⟩ := h
          refine j_if_ne 42 dX9_isOwn_37 rfl jcmp_R (fun q5 => ?_) (fun q5 => ?_)
          · have h := h1 q5
            clear h1 h2
            refine j_lload_n dX9_isOwn_42 rfl ?_
            refine j_ldc2 (n := 126943972648308) dX9_isOwn_43 q2242 ?_
            refine j_lcmp dX9_isOwn_46 ra1 (by decide) ?_
            obtain ⟨h1, h2⟩ := h
            refine j_if_eq 82 dX9_isOwn_47 rfl jcmp_R (fun q6 => ?_) (fun q6 => ?_)
            · have h := h1 q6
              clear h1 h2
              refine j_iconst dX9_isOwn_82 ?_
              exact j_zret dX9_isOwn_83 rfl (nr_bool (by decide)) ⟨_, rfl, rfl, rfl, rfl, h, (by decide)⟩
            · have h := h2 q6
              clear h1 h2
              refine j_lload_n dX9_isOwn_50 rfl ?_
              refine j_ldc2 (n := 24947) dX9_isOwn_51 q2243 ?_
              refine j_lcmp dX9_isOwn_54 ra1 (by decide) ?_
              obtain ⟨h1, h2⟩ := h
              refine j_if_eq 82 dX9_isOwn_55 rfl jcmp_R (fun q7 => ?_) (fun q7 => ?_)
              · have h := h1 q7
                clear h1 h2
                refine j_iconst dX9_isOwn_82 ?_
                exact j_zret dX9_isOwn_83 rfl (nr_bool (by decide)) ⟨_, rfl, rfl, rfl, rfl, h, (by decide)⟩
              · have h := h2 q7
                clear h1 h2
                refine j_lload_n dX9_isOwn_58 rfl ?_
                refine j_ldc2 (n := 426953501796) dX9_isOwn_59 q2244 ?_
                refine j_lcmp dX9_isOwn_62 ra1 (by decide) ?_
                obtain ⟨h1, h2⟩ := h
                refine j_if_eq 82 dX9_isOwn_63 rfl jcmp_R (fun q8 => ?_) (fun q8 => ?_)
                · have h := h1 q8
                  clear h1 h2
                  refine j_iconst dX9_isOwn_82 ?_
                  exact j_zret dX9_isOwn_83 rfl (nr_bool (by decide)) ⟨_, rfl, rfl, rfl, rfl, h, (by decide)⟩
                · have h := h2 q8
                  clear h1 h2
                  refine j_lload_n dX9_isOwn_66 rfl ?_
                  refine j_ldc2 (n := 28518) dX9_isOwn_67 q2245 ?_
                  refine j_lcmp dX9_isOwn_70 ra1 (by decide) ?_
                  obtain ⟨h1, h2⟩ := h
                  refine j_if_eq 82 dX9_isOwn_71 rfl jcmp_R (fun q9 => ?_) (fun q9 => ?_)
                  · have h := h1 q9
                    clear h1 h2
                    refine j_iconst dX9_isOwn_82 ?_
                    exact j_zret dX9_isOwn_83 rfl (nr_bool (by decide)) ⟨_, rfl, rfl, rfl, rfl, h, (by decide)⟩
                  · have h := h2 q9
                    clear h1 h2
                    refine j_lload_n dX9_isOwn_74 rfl ?_
                    refine j_ldc2 (n := 448545973363) dX9_isOwn_75 q2246 ?_
                    refine j_lcmp dX9_isOwn_78 ra1 (by decide) ?_
                    obtain ⟨h1, h2⟩ := h
                    refine j_if_ne 84 dX9_isOwn_79 rfl jcmp_R (fun q10 => ?_) (fun q10 => ?_)
                    · have h := h1 q10
                      clear h1 h2
                      refine j_lload_n dX9_isOwn_84 rfl ?_
                      refine j_ldc2 (n := 7102839) dX9_isOwn_85 q2247 ?_
                      refine j_lcmp dX9_isOwn_88 ra1 (by decide) ?_
                      obtain ⟨h1, h2⟩ := h
                      refine j_if_eq 124 dX9_isOwn_89 rfl jcmp_R (fun q11 => ?_) (fun q11 => ?_)
                      · have h := h1 q11
                        clear h1 h2
                        refine j_iconst dX9_isOwn_124 ?_
                        exact j_zret dX9_isOwn_125 rfl (nr_bool (by decide)) ⟨_, rfl, rfl, rfl, rfl, h, (by decide)⟩
                      · have h := h2 q11
                        clear h1 h2
                        refine j_lload_n dX9_isOwn_92 rfl ?_
                        refine j_ldc2 (n := 1937075815) dX9_isOwn_93 q2248 ?_
                        refine j_lcmp dX9_isOwn_96 ra1 (by decide) ?_
                        obtain ⟨h1, h2⟩ := h
                        refine j_if_eq 124 dX9_isOwn_97 rfl jcmp_R (fun q12 => ?_) (fun q12 => ?_)
                        · have h := h1 q12
                          clear h1 h2
                          refine j_iconst dX9_isOwn_124 ?_
                          exact j_zret dX9_isOwn_125 rfl (nr_bool (by decide)) ⟨_, rfl, rfl, rfl, rfl, h, (by decide)⟩
                        · have h := h2 q12
                          clear h1 h2
                          refine j_lload_n dX9_isOwn_100 rfl ?_
                          refine j_ldc2 (n := 1935767923) dX9_isOwn_101 q2249 ?_
                          refine j_lcmp dX9_isOwn_104 ra1 (by decide) ?_
                          obtain ⟨h1, h2⟩ := h
                          refine j_if_eq 124 dX9_isOwn_105 rfl jcmp_R (fun q13 => ?_) (fun q13 => ?_)
                          · have h := h1 q13
                            clear h1 h2
                            refine j_iconst dX9_isOwn_124 ?_
                            exact j_zret dX9_isOwn_125 rfl (nr_bool (by decide)) ⟨_, rfl, rfl, rfl, rfl, h, (by decide)⟩
                          · have h := h2 q13
                            clear h1 h2
                            refine j_lload_n dX9_isOwn_108 rfl ?_
                            refine j_ldc2 (n := 6452596) dX9_isOwn_109 q2250 ?_
                            refine j_lcmp dX9_isOwn_112 ra1 (by decide) ?_
                            obtain ⟨h1, h2⟩ := h
                            refine j_if_eq 124 dX9_isOwn_113 rfl jcmp_R (fun q14 => ?_) (fun q14 => ?_)
                            · have h := h1 q14
                              clear h1 h2
                              refine j_iconst dX9_isOwn_124 ?_
                              exact j_zret dX9_isOwn_125 rfl (nr_bool (by decide)) ⟨_, rfl, rfl, rfl, rfl, h, (by decide)⟩
                            · have h := h2 q14
                              clear h1 h2
                              refine j_lload_n dX9_isOwn_116 rfl ?_
                              refine j_ldc2 (n := 1751474532) dX9_isOwn_117 q2251 ?_
                              refine j_lcmp dX9_isOwn_120 ra1 (by decide) ?_
                              obtain ⟨h1, h2⟩ := h
                              refine j_if_ne 126 dX9_isOwn_121 rfl jcmp_R (fun q15 => ?_) (fun q15 => ?_)
                              · have h := h1 q15
                                clear h1 h2
                                refine j_lload_n dX9_isOwn_126 rfl ?_
                                refine j_ldc2 (n := 1835363940) dX9_isOwn_127 q2252 ?_
                                refine j_lcmp dX9_isOwn_130 ra1 (by decide) ?_
                                obtain ⟨h1, h2⟩ := h
                                refine j_if_eq 142 dX9_isOwn_131 rfl jcmp_R (fun q16 => ?_) (fun q16 => ?_)
                                · have h := h1 q16
                                  clear h1 h2
                                  refine j_iconst dX9_isOwn_142 ?_
                                  exact j_zret dX9_isOwn_143 rfl (nr_bool (by decide)) ⟨_, rfl, rfl, rfl, rfl, h, (by decide)⟩
                                · have h := h2 q16
                                  clear h1 h2
                                  refine j_lload_n dX9_isOwn_134 rfl ?_
                                  refine j_ldc2 (n := 1953853029) dX9_isOwn_135 q2253 ?_
                                  refine j_lcmp dX9_isOwn_138 ra1 (by decide) ?_
                                  obtain ⟨h1, h2⟩ := h
                                  refine j_if_ne 144 dX9_isOwn_139 rfl jcmp_R (fun q17 => ?_) (fun q17 => ?_)
                                  · have h := h1 q17
                                    clear h1 h2
                                    refine j_iconst dX9_isOwn_144 ?_
                                    exact j_zret dX9_isOwn_145 rfl (nr_bool (by decide)) ⟨_, rfl, rfl, rfl, rfl, h, (by decide)⟩
                                  · have h := h2 q17
                                    clear h1 h2
                                    refine j_iconst dX9_isOwn_142 ?_
                                    exact j_zret dX9_isOwn_143 rfl (nr_bool (by decide)) ⟨_, rfl, rfl, rfl, rfl, h, (by decide)⟩
                              · have h := h2 q15
                                clear h1 h2
                                refine j_iconst dX9_isOwn_124 ?_
                                exact j_zret dX9_isOwn_125 rfl (nr_bool (by decide)) ⟨_, rfl, rfl, rfl, rfl, h, (by decide)⟩
                    · have h := h2 q10
                      clear h1 h2
                      refine j_iconst dX9_isOwn_82 ?_
                      exact j_zret dX9_isOwn_83 rfl (nr_bool (by decide)) ⟨_, rfl, rfl, rfl, rfl, h, (by decide)⟩
          · have h := h2 q5
            clear h1 h2
            refine j_iconst dX9_isOwn_40 ?_
            exact j_zret dX9_isOwn_41 rfl (nr_bool (by decide)) ⟨_, rfl, rfl, rfl, rfl, h, (by decide)⟩
/-- manyOf(II)I -/
def wpX9_manyOf (o : Nat) (a1 : Int) (a2 : Int) (F : jFl) (A : jAr) (Q : Int → Prop) : Prop :=
  ((¬ a2 = 0) →
    ((¬ a2 = 1) →
      ((¬ a2 = 2) →
        (0 ≤ a1 ∧ a1 < 2) ∧
        Q (A (o + 17) a1)) ∧
      (¬ (¬ a2 = 2) →
        (0 ≤ a1 ∧ a1 < 2) ∧
        Q (A (o + 12) a1))) ∧
    (¬ (¬ a2 = 1) →
      (0 ≤ a1 ∧ a1 < 2) ∧
      Q (A (o + 9) a1))) ∧
  (¬ (¬ a2 = 0) →
    (0 ≤ a1 ∧ a1 < 2) ∧
    Q (A (o + 2) a1))
theorem wX9_manyOf {G : jG} {l : Launch} {d : Nat} {N : jSh} {o : Nat} {F : jFl} {A : jAr} {a1 a2 : Int} {Q : Int → Prop} (hd : 1 ≤ d) (hM : mShape G N o) (hW : jWf N F A) (ra1 : jR a1) (ra2 : jR a2) (h : wpX9_manyOf o a1 a2 F A Q) : jCall G l d mX9_manyOf [.ref o, vI a1, vI a2] N F A (jpI N F A Q) := by
  refine jCall.of (ls := [.ref o, vI a1, vI a2]) (by decide) rfl (Nat.le_of_ble_eq_true rfl) rfl ?_
  unfold wpX9_manyOf at h
  refine j_iload_n dX9_manyOf_0 rfl ?_
  obtain ⟨h1, h2⟩ := h
  refine j_if_ne 13 dX9_manyOf_1 rfl ra2 (fun q1 => ?_) (fun q1 => ?_)
  · have h := h1 q1
    clear h1 h2
    refine j_iload_n dX9_manyOf_13 rfl ?_
    refine j_iconst dX9_manyOf_14 ?_
    obtain ⟨h1, h2⟩ := h
    refine j_icmp_ne 27 dX9_manyOf_15 rfl ra2 (by decide) (fun q2 => ?_) (fun q2 => ?_)
    · have h := h1 q2
      clear h1 h2
      refine j_iload_n dX9_manyOf_27 rfl ?_
      refine j_iconst dX9_manyOf_28 ?_
      obtain ⟨h1, h2⟩ := h
      refine j_icmp_ne 41 dX9_manyOf_29 rfl ra2 (by decide) (fun q3 => ?_) (fun q3 => ?_)
      · have h := h1 q3
        clear h1 h2
        refine j_aload_n dX9_manyOf_41 rfl ?_
        refine j_getFR dX9_manyOf_42 flX9_100_10 hM.1 rfl (mf_laws hM) ?_
        refine j_iload_n dX9_manyOf_45 rfl ?_
        obtain ⟨c4, h⟩ := h
        refine j_iald (n := 2) dX9_manyOf_46 (mt_laws hM) (ml_laws hM) c4 ?_
        exact j_iret dX9_manyOf_47 rfl ⟨_, rfl, rfl, rfl, rfl, h, (hW.ai (mt_laws hM) rfl)⟩
      · have h := h2 q3
        clear h1 h2
        refine j_aload_n dX9_manyOf_32 rfl ?_
        refine j_getFR dX9_manyOf_33 flX9_85_10 hM.1 rfl (mf_children hM) ?_
        refine j_iload_n dX9_manyOf_36 rfl ?_
        obtain ⟨c5, h⟩ := h
        refine j_iald (n := 2) dX9_manyOf_37 (mt_children hM) (ml_children hM) c5 ?_
        refine j_goto 47 dX9_manyOf_38 rfl ?_
        exact j_iret dX9_manyOf_47 rfl ⟨_, rfl, rfl, rfl, rfl, h, (hW.ai (mt_children hM) rfl)⟩
    · have h := h2 q2
      clear h1 h2
      refine j_aload_n dX9_manyOf_18 rfl ?_
      refine j_getFR dX9_manyOf_19 flX9_76_10 hM.1 rfl (mf_streets hM) ?_
      refine j_iload_n dX9_manyOf_22 rfl ?_
      obtain ⟨c6, h⟩ := h
      refine j_iald (n := 2) dX9_manyOf_23 (mt_streets hM) (ml_streets hM) c6 ?_
      refine j_goto 47 dX9_manyOf_24 rfl ?_
      exact j_iret dX9_manyOf_47 rfl ⟨_, rfl, rfl, rfl, rfl, h, (hW.ai (mt_streets hM) rfl)⟩
  · have h := h2 q1
    clear h1 h2
    refine j_aload_n dX9_manyOf_4 rfl ?_
    refine j_getFR dX9_manyOf_5 flX9_54_10 hM.1 rfl (mf_words hM) ?_
    refine j_iload_n dX9_manyOf_8 rfl ?_
    obtain ⟨c7, h⟩ := h
    refine j_iald (n := 2) dX9_manyOf_9 (mt_words hM) (ml_words hM) c7 ?_
    refine j_goto 47 dX9_manyOf_10 rfl ?_
    exact j_iret dX9_manyOf_47 rfl ⟨_, rfl, rfl, rfl, rfl, h, (hW.ai (mt_words hM) rfl)⟩
/-- nameOf(III)J -/
def wpX9_nameOf (o : Nat) (a1 : Int) (a2 : Int) (a3 : Int) (F : jFl) (A : jAr) (Q : Int → Prop) : Prop :=
  (a2 = 0 →
    (0 ≤ (24 * a1) + a3 ∧ (24 * a1) + a3 < 48) ∧
    Q (A (o + 3) ((24 * a1) + a3))) ∧
  (a2 = 1 →
    (0 ≤ (6 * a1) + a3 ∧ (6 * a1) + a3 < 12) ∧
    Q (A (o + 10) ((6 * a1) + a3))) ∧
  (a2 = 2 →
    (0 ≤ (10 * a1) + a3 ∧ (10 * a1) + a3 < 20) ∧
    Q (A (o + 13) ((10 * a1) + a3))) ∧
  (¬ a2 = 0 → ¬ a2 = 1 → ¬ a2 = 2 →
    (0 ≤ (12 * a1) + a3 ∧ (12 * a1) + a3 < 24) ∧
    Q (A (o + 18) ((12 * a1) + a3)))
theorem wX9_nameOf {G : jG} {l : Launch} {d : Nat} {N : jSh} {o : Nat} {F : jFl} {A : jAr} {a1 a2 a3 : Int} {Q : Int → Prop} (hd : 1 ≤ d) (hM : mShape G N o) (hW : jWf N F A) (ra1 : jR a1) (ra2 : jR a2) (ra3 : jR a3) (h : wpX9_nameOf o a1 a2 a3 F A Q) : jCall G l d mX9_nameOf [.ref o, vI a1, vI a2, vI a3] N F A (jpL N F A Q) := by
  refine jCall.of (ls := [.ref o, vI a1, vI a2, vI a3]) (by decide) rfl (Nat.le_of_ble_eq_true rfl) rfl ?_
  unfold wpX9_nameOf at h
  refine j_iload_n dX9_nameOf_0 rfl ?_
  obtain ⟨h1, h⟩ := h
  by_cases q5 : a2 = 0
  · refine j_tableIn (off := 27) 28 dX9_nameOf_1 ra2 (by rw [q5]; decide) (by rw [q5]; decide) (by rw [q5]; rfl) rfl ?_
    have h := h1 q5
    clear h1
    refine j_aload_n dX9_nameOf_28 rfl ?_
    refine j_getFR dX9_nameOf_29 flX9_57_10 hM.1 rfl (mf_wordName hM) ?_
    refine j_bipush dX9_nameOf_32 ?_
    refine j_iload_n dX9_nameOf_34 rfl ?_
    refine j_imul dX9_nameOf_35 ?_
    refine j_iload_n dX9_nameOf_36 rfl ?_
    refine j_iadd dX9_nameOf_37 ?_
    obtain ⟨c1, h⟩ := h
    refine j_lald (n := 48) dX9_nameOf_38 (mt_wordName hM) (ml_wordName hM) c1 ?_
    exact j_lret dX9_nameOf_39 rfl ⟨_, rfl, rfl, rfl, rfl, h, (hW.al (mt_wordName hM) rfl)⟩
  clear h1
  obtain ⟨h1, h⟩ := h
  by_cases q6 : a2 = 1
  · refine j_tableIn (off := 39) 40 dX9_nameOf_1 ra2 (by rw [q6]; decide) (by rw [q6]; decide) (by rw [q6]; rfl) rfl ?_
    have h := h1 q6
    clear h1
    refine j_aload_n dX9_nameOf_40 rfl ?_
    refine j_getFR dX9_nameOf_41 flX9_79_10 hM.1 rfl (mf_streetName hM) ?_
    refine j_bipush dX9_nameOf_44 ?_
    refine j_iload_n dX9_nameOf_46 rfl ?_
    refine j_imul dX9_nameOf_47 ?_
    refine j_iload_n dX9_nameOf_48 rfl ?_
    refine j_iadd dX9_nameOf_49 ?_
    obtain ⟨c2, h⟩ := h
    refine j_lald (n := 12) dX9_nameOf_50 (mt_streetName hM) (ml_streetName hM) c2 ?_
    exact j_lret dX9_nameOf_51 rfl ⟨_, rfl, rfl, rfl, rfl, h, (hW.al (mt_streetName hM) rfl)⟩
  clear h1
  obtain ⟨h1, h⟩ := h
  by_cases q7 : a2 = 2
  · refine j_tableIn (off := 51) 52 dX9_nameOf_1 ra2 (by rw [q7]; decide) (by rw [q7]; decide) (by rw [q7]; rfl) rfl ?_
    have h := h1 q7
    clear h1
    refine j_aload_n dX9_nameOf_52 rfl ?_
    refine j_getFR dX9_nameOf_53 flX9_88_10 hM.1 rfl (mf_childName hM) ?_
    refine j_bipush dX9_nameOf_56 ?_
    refine j_iload_n dX9_nameOf_58 rfl ?_
    refine j_imul dX9_nameOf_59 ?_
    refine j_iload_n dX9_nameOf_60 rfl ?_
    refine j_iadd dX9_nameOf_61 ?_
    obtain ⟨c3, h⟩ := h
    refine j_lald (n := 20) dX9_nameOf_62 (mt_childName hM) (ml_childName hM) c3 ?_
    exact j_lret dX9_nameOf_63 rfl ⟨_, rfl, rfl, rfl, rfl, h, (hW.al (mt_childName hM) rfl)⟩
  clear h1
  have h := h q5 q6 q7
  refine j_tableOut 64 dX9_nameOf_1 ra2 (by omega) rfl ?_
  refine j_aload_n dX9_nameOf_64 rfl ?_
  refine j_getFR dX9_nameOf_65 flX9_103_10 hM.1 rfl (mf_lawName hM) ?_
  refine j_bipush dX9_nameOf_68 ?_
  refine j_iload_n dX9_nameOf_70 rfl ?_
  refine j_imul dX9_nameOf_71 ?_
  refine j_iload_n dX9_nameOf_72 rfl ?_
  refine j_iadd dX9_nameOf_73 ?_
  obtain ⟨c4, h⟩ := h
  refine j_lald (n := 24) dX9_nameOf_74 (mt_lawName hM) (ml_lawName hM) c4 ?_
  exact j_lret dX9_nameOf_75 rfl ⟨_, rfl, rfl, rfl, rfl, h, (hW.al (mt_lawName hM) rfl)⟩
/-- isLaw(I)Z -/
def wpX9_isLaw (o : Nat) (a1 : Int) (F : jFl) (A : jAr) (Q : Int → Prop) : Prop :=
  ((a1 < 0) →
    Q 0) ∧
  (¬ (a1 < 0) →
    (0 ≤ F 3039 o ∧ F 3039 o < 2) ∧
    ∀ z4 : Int, z4 = (if (A (o + 17) (F 3039 o)) ≤ a1 then 0 else 1) →
    Q z4)
theorem wX9_isLaw {G : jG} {l : Launch} {d : Nat} {N : jSh} {o : Nat} {F : jFl} {A : jAr} {a1 : Int} {Q : Int → Prop} (hd : 1 ≤ d) (hM : mShape G N o) (hW : jWf N F A) (ra1 : jR a1) (h : wpX9_isLaw o a1 F A Q) : jCall G l d mX9_isLaw [.ref o, vI a1] N F A (jpB N F A Q) := by
  refine jCall.of (ls := [.ref o, vI a1]) (by decide) rfl (Nat.le_of_ble_eq_true rfl) rfl ?_
  unfold wpX9_isLaw at h
  refine j_iload_n dX9_isLaw_0 rfl ?_
  obtain ⟨h1, h2⟩ := h
  refine j_if_lt 21 dX9_isLaw_1 rfl ra1 (fun q1 => ?_) (fun q1 => ?_)
  · have h := h1 q1
    clear h1 h2
    refine j_iconst dX9_isLaw_21 ?_
    exact j_zret dX9_isLaw_22 rfl (nr_bool (by decide)) ⟨_, rfl, rfl, rfl, rfl, h, (by decide)⟩
  · have h := h2 q1
    clear h1 h2
    refine j_iload_n dX9_isLaw_4 rfl ?_
    refine j_aload_n dX9_isLaw_5 rfl ?_
    refine j_getFR dX9_isLaw_6 flX9_100_10 hM.1 rfl (mf_laws hM) ?_
    refine j_aload_n dX9_isLaw_9 rfl ?_
    refine j_getI dX9_isLaw_10 flX9_51_10 hM.1 rfl ?_
    obtain ⟨c2, h⟩ := h
    refine j_iald (n := 2) dX9_isLaw_13 (mt_laws hM) (ml_laws hM) c2 ?_
    have jn5 : ∀ z4 : Int, z4 = (if (A (o + 17) (F 3039 o)) ≤ a1 then 0 else 1) → J G l d mX9_isLaw 22 [.ref o, vI a1] [vI z4] N F A (jpB N F A Q) := by
      intro z4 ez4
      have h := h z4 ez4
      exact j_zret dX9_isLaw_22 rfl (nr_bool (ez4 ▸ (jB_ite (by decide) (by decide)))) ⟨_, rfl, rfl, rfl, rfl, h, (ez4 ▸ (jB_ite (by decide) (by decide)))⟩
    clear h
    refine j_icmp_ge 21 dX9_isLaw_14 rfl ra1 (hW.ai (mt_laws hM) rfl) (fun q3 => ?_) (fun q3 => ?_)
    · refine j_iconst dX9_isLaw_21 ?_
      exact jn5 _ ((if_pos q3).symm)
    · refine j_iconst dX9_isLaw_17 ?_
      refine j_goto 22 dX9_isLaw_18 rfl ?_
      exact jn5 _ ((if_neg q3).symm)
/-- isRemembered(I)Z -/
def wpX9_isRemembered (o : Nat) (a1 : Int) (F : jFl) (A : jAr) (Q : Int → Prop) : Prop :=
  (0 ≤ 14 * a1 ∧ 14 * a1 < 29400) ∧
  ((¬ (A (o + 43) (14 * a1)) = (F 3177 o)) →
    Q 0) ∧
  (¬ (¬ (A (o + 43) (14 * a1)) = (F 3177 o)) →
    (0 ≤ (14 * a1) + 1 ∧ (14 * a1) + 1 < 29400) ∧
    (((A (o + 43) ((14 * a1) + 1)) = (F 3180 o)) →
      ∃ (I6 : Int → Prop) (m7 : Int → Nat), I6 0 ∧ ∀ (v5 : Int), I6 v5 →
        jR ((F 3177 o) + (F 3180 o)) ∧
        ((((F 3177 o) + (F 3180 o)) ≤ v5) →
          Q 1) ∧
        (¬ (((F 3177 o) + (F 3180 o)) ≤ v5) →
          (0 ≤ ((14 * a1) + 2) + v5 ∧ ((14 * a1) + 2) + v5 < 29400) ∧
          (0 ≤ v5 ∧ v5 < 12) ∧
          (((A (o + 43) (((14 * a1) + 2) + v5)) = (A (o + 37) v5)) →
            jR (v5 + 1) ∧
            I6 (v5 + 1) ∧ m7 (v5 + 1) < m7 v5) ∧
          (¬ ((A (o + 43) (((14 * a1) + 2) + v5)) = (A (o + 37) v5)) →
            Q 0))) ∧
    (¬ ((A (o + 43) ((14 * a1) + 1)) = (F 3180 o)) →
      Q 0))
theorem wX9_isRemembered {G : jG} {l : Launch} {d : Nat} {N : jSh} {o : Nat} {F : jFl} {A : jAr} {a1 : Int} {Q : Int → Prop} (hd : 1 ≤ d) (hM : mShape G N o) (hW : jWf N F A) (ra1 : jR a1) (h : wpX9_isRemembered o a1 F A Q) : jCall G l d mX9_isRemembered [.ref o, vI a1] N F A (jpB N F A Q) := by
  refine jCall.of (ls := [.ref o, vI a1, jD]) (by decide) rfl (Nat.le_of_ble_eq_true rfl) rfl ?_
  unfold wpX9_isRemembered at h
  refine j_aload_n dX9_isRemembered_0 rfl ?_
  refine j_getFR dX9_isRemembered_1 flX9_221_10 hM.1 rfl (mf_history hM) ?_
  refine j_bipush dX9_isRemembered_4 ?_
  refine j_iload_n dX9_isRemembered_6 rfl ?_
  refine j_imul dX9_isRemembered_7 ?_
  obtain ⟨c1, h⟩ := h
  refine j_iald (n := 29400) dX9_isRemembered_8 (mt_history hM) (ml_history hM) c1 ?_
  refine j_aload_n dX9_isRemembered_9 rfl ?_
  refine j_getI dX9_isRemembered_10 flX9_191_10 hM.1 rfl ?_
  obtain ⟨h1, h2⟩ := h
  refine j_icmp_ne 34 dX9_isRemembered_13 rfl (hW.ai (mt_history hM) rfl) (hW.fi rfl) (fun q2 => ?_) (fun q2 => ?_)
  · have h := h1 q2
    clear h1 h2
    refine j_iconst dX9_isRemembered_34 ?_
    exact j_zret dX9_isRemembered_35 rfl (nr_bool (by decide)) ⟨_, rfl, rfl, rfl, rfl, h, (by decide)⟩
  · have h := h2 q2
    clear h1 h2
    refine j_aload_n dX9_isRemembered_16 rfl ?_
    refine j_getFR dX9_isRemembered_17 flX9_221_10 hM.1 rfl (mf_history hM) ?_
    refine j_bipush dX9_isRemembered_20 ?_
    refine j_iload_n dX9_isRemembered_22 rfl ?_
    refine j_imul dX9_isRemembered_23 ?_
    refine j_iconst dX9_isRemembered_24 ?_
    refine j_iadd dX9_isRemembered_25 ?_
    obtain ⟨c3, h⟩ := h
    refine j_iald (n := 29400) dX9_isRemembered_26 (mt_history hM) (ml_history hM) c3 ?_
    refine j_aload_n dX9_isRemembered_27 rfl ?_
    refine j_getI dX9_isRemembered_28 flX9_194_10 hM.1 rfl ?_
    obtain ⟨h1, h2⟩ := h
    refine j_icmp_eq 36 dX9_isRemembered_31 rfl (hW.ai (mt_history hM) rfl) (hW.fi rfl) (fun q4 => ?_) (fun q4 => ?_)
    · have h := h1 q4
      clear h1 h2
      refine j_iconst dX9_isRemembered_36 ?_
      refine j_istore_n dX9_isRemembered_37 rfl ?_
      obtain ⟨I6, m7, h0, hs⟩ := h
      have lp : ∀ (n : Nat) (v5 : Int), m7 v5 < n → jR v5 → I6 v5 → J G l d mX9_isRemembered 38 [.ref o, vI a1, vI v5] [] N F A (jpB N F A Q) := by
        intro nI6
        induction nI6 with
        | zero =>
          intro v5 hmu
          exact absurd hmu (Nat.not_lt_zero _)
        | succ nI6 ihI6 =>
          intro v5 hmuI6 rv5 hI
          have h := hs v5 hI
          refine j_iload_n dX9_isRemembered_38 rfl ?_
          refine j_aload_n dX9_isRemembered_39 rfl ?_
          refine j_getI dX9_isRemembered_40 flX9_191_10 hM.1 rfl ?_
          refine j_aload_n dX9_isRemembered_43 rfl ?_
          refine j_getI dX9_isRemembered_44 flX9_194_10 hM.1 rfl ?_
          refine j_iadd dX9_isRemembered_47 ?_
          obtain ⟨r8, h⟩ := h
          obtain ⟨h1, h2⟩ := h
          refine j_icmp_ge 81 dX9_isRemembered_48 rfl rv5 r8 (fun q9 => ?_) (fun q9 => ?_)
          · have h := h1 q9
            clear h1 h2
            refine j_iconst dX9_isRemembered_81 ?_
            exact j_zret dX9_isRemembered_82 rfl (nr_bool (by decide)) ⟨_, rfl, rfl, rfl, rfl, h, (by decide)⟩
          · have h := h2 q9
            clear h1 h2
            refine j_aload_n dX9_isRemembered_51 rfl ?_
            refine j_getFR dX9_isRemembered_52 flX9_221_10 hM.1 rfl (mf_history hM) ?_
            refine j_bipush dX9_isRemembered_55 ?_
            refine j_iload_n dX9_isRemembered_57 rfl ?_
            refine j_imul dX9_isRemembered_58 ?_
            refine j_iconst dX9_isRemembered_59 ?_
            refine j_iadd dX9_isRemembered_60 ?_
            refine j_iload_n dX9_isRemembered_61 rfl ?_
            refine j_iadd dX9_isRemembered_62 ?_
            obtain ⟨c10, h⟩ := h
            refine j_iald (n := 29400) dX9_isRemembered_63 (mt_history hM) (ml_history hM) c10 ?_
            refine j_aload_n dX9_isRemembered_64 rfl ?_
            refine j_getFR dX9_isRemembered_65 flX9_188_10 hM.1 rfl (mf_said hM) ?_
            refine j_iload_n dX9_isRemembered_68 rfl ?_
            obtain ⟨c11, h⟩ := h
            refine j_iald (n := 12) dX9_isRemembered_69 (mt_said hM) (ml_said hM) c11 ?_
            obtain ⟨h1, h2⟩ := h
            refine j_icmp_eq 75 dX9_isRemembered_70 rfl (hW.ai (mt_history hM) rfl) (hW.ai (mt_said hM) rfl) (fun q12 => ?_) (fun q12 => ?_)
            · have h := h1 q12
              clear h1 h2
              obtain ⟨r13, h⟩ := h
              refine j_iinc dX9_isRemembered_75 rfl rfl ?_
              refine j_goto 38 dX9_isRemembered_78 rfl ?_
              exact J.wk ((((jWk.nil).eq).eq).eq) (ihI6 _ (Nat.lt_of_lt_of_le h.2 (Nat.le_of_lt_succ hmuI6)) r13 h.1)
            · have h := h2 q12
              clear h1 h2
              refine j_iconst dX9_isRemembered_73 ?_
              exact j_zret dX9_isRemembered_74 rfl (nr_bool (by decide)) ⟨_, rfl, rfl, rfl, rfl, h, (by decide)⟩
      exact J.wk ((((jWk.nil).eq).eq).eq) (lp _ _ (Nat.lt_succ_self _) (by decide) h0)
    · have h := h2 q4
      clear h1 h2
      refine j_iconst dX9_isRemembered_34 ?_
      exact j_zret dX9_isRemembered_35 rfl (nr_bool (by decide)) ⟨_, rfl, rfl, rfl, rfl, h, (by decide)⟩
/-- remembers(I)V -/
def wpX9_remembers (o : Nat) (a1 : Int) (F : jFl) (A : jAr) (Q : jFl → jAr → Prop) : Prop :=
  (0 ≤ 14 * a1 ∧ 14 * a1 < 29400) ∧
  ∀ A2 : jAr, A2 = upA A (o + 43) (14 * a1) (F 3177 o) →
  (0 ≤ (14 * a1) + 1 ∧ (14 * a1) + 1 < 29400) ∧
  ∀ A5 : jAr, A5 = upA A2 (o + 43) ((14 * a1) + 1) (F 3180 o) →
  ∃ (I10 : Int → jAr → Prop) (m11 : Int → jAr → Nat), I10 0 A5 ∧ ∀ (v7 : Int) (A8 : jAr), I10 v7 A8 →
    jR ((F 3177 o) + (F 3180 o)) ∧
    ((((F 3177 o) + (F 3180 o)) ≤ v7) →
      Q F A8) ∧
    (¬ (((F 3177 o) + (F 3180 o)) ≤ v7) →
      (0 ≤ v7 ∧ v7 < 12) ∧
      (0 ≤ ((14 * a1) + 2) + v7 ∧ ((14 * a1) + 2) + v7 < 29400) ∧
      ∀ A16 : jAr, A16 = upA A8 (o + 43) (((14 * a1) + 2) + v7) (A8 (o + 37) v7) →
      jR (v7 + 1) ∧
      I10 (v7 + 1) A16 ∧ m11 (v7 + 1) A16 < m11 v7 A8)
theorem wX9_remembers {G : jG} {l : Launch} {d : Nat} {N : jSh} {o : Nat} {F : jFl} {A : jAr} {a1 : Int} {Q : jFl → jAr → Prop} (hd : 1 ≤ d) (hM : mShape G N o) (hW : jWf N F A) (ra1 : jR a1) (h : wpX9_remembers o a1 F A Q) : jCall G l d mX9_remembers [.ref o, vI a1] N F A (jmV N Q) := by
  refine jCall.of (ls := [.ref o, vI a1, jD]) (by decide) rfl (Nat.le_of_ble_eq_true rfl) rfl ?_
  unfold wpX9_remembers at h
  refine j_aload_n dX9_remembers_0 rfl ?_
  refine j_getFR dX9_remembers_1 flX9_221_10 hM.1 rfl (mf_history hM) ?_
  refine j_bipush dX9_remembers_4 ?_
  refine j_iload_n dX9_remembers_6 rfl ?_
  refine j_imul dX9_remembers_7 ?_
  refine j_aload_n dX9_remembers_8 rfl ?_
  refine j_getI dX9_remembers_9 flX9_191_10 hM.1 rfl ?_
  obtain ⟨c1, h⟩ := h
  refine j_iast (n := 29400) dX9_remembers_12 (mt_history hM) (Nat.le_trans hM.2.1 (Nat.le_add_right _ _)) (ml_history hM) c1 ?_
  obtain ⟨A2, eA2⟩ : ∃ x : jAr, x = upA A (o + 43) (14 * a1) (F 3177 o) := ⟨_, rfl⟩
  have hW3 : jWf N F A2 := eA2 ▸ jWf_A (i := 14 * a1) (z := F 3177 o) hW (mt_history hM) (jRk_0 rfl (hW.fi rfl))
  refine jnmA (e := eA2) ?_
  have h := h A2 eA2
  refine j_aload_n dX9_remembers_13 rfl ?_
  refine j_getFR dX9_remembers_14 flX9_221_10 hM.1 rfl (mf_history hM) ?_
  refine j_bipush dX9_remembers_17 ?_
  refine j_iload_n dX9_remembers_19 rfl ?_
  refine j_imul dX9_remembers_20 ?_
  refine j_iconst dX9_remembers_21 ?_
  refine j_iadd dX9_remembers_22 ?_
  refine j_aload_n dX9_remembers_23 rfl ?_
  refine j_getI dX9_remembers_24 flX9_194_10 hM.1 rfl ?_
  obtain ⟨c4, h⟩ := h
  refine j_iast (n := 29400) dX9_remembers_27 (mt_history hM) (Nat.le_trans hM.2.1 (Nat.le_add_right _ _)) (ml_history hM) c4 ?_
  obtain ⟨A5, eA5⟩ : ∃ x : jAr, x = upA A2 (o + 43) ((14 * a1) + 1) (F 3180 o) := ⟨_, rfl⟩
  have hW6 : jWf N F A5 := eA5 ▸ jWf_A (i := (14 * a1) + 1) (z := F 3180 o) hW3 (mt_history hM) (jRk_0 rfl (hW3.fi rfl))
  refine jnmA (e := eA5) ?_
  have h := h A5 eA5
  refine j_iconst dX9_remembers_28 ?_
  refine j_istore_n dX9_remembers_29 rfl ?_
  obtain ⟨I10, m11, h0, hs⟩ := h
  have lp : ∀ (n : Nat) (v7 : Int) (A8 : jAr), m11 v7 A8 < n → jWf N F A8 → jR v7 → I10 v7 A8 → J G l d mX9_remembers 30 [.ref o, vI a1, vI v7] [] N F A8 (jmV N Q) := by
    intro nI10
    induction nI10 with
    | zero =>
      intro v7 A8 hmu
      exact absurd hmu (Nat.not_lt_zero _)
    | succ nI10 ihI10 =>
      intro v7 A8 hmuI10 hW9 rv7 hI
      have h := hs v7 A8 hI
      refine j_iload_n dX9_remembers_30 rfl ?_
      refine j_aload_n dX9_remembers_31 rfl ?_
      refine j_getI dX9_remembers_32 flX9_191_10 hM.1 rfl ?_
      refine j_aload_n dX9_remembers_35 rfl ?_
      refine j_getI dX9_remembers_36 flX9_194_10 hM.1 rfl ?_
      refine j_iadd dX9_remembers_39 ?_
      obtain ⟨r12, h⟩ := h
      obtain ⟨h1, h2⟩ := h
      refine j_icmp_ge 68 dX9_remembers_40 rfl rv7 r12 (fun q13 => ?_) (fun q13 => ?_)
      · have h := h1 q13
        clear h1 h2
        exact j_vret dX9_remembers_68 rfl ⟨rfl, rfl, hW9, h⟩
      · have h := h2 q13
        clear h1 h2
        refine j_aload_n dX9_remembers_43 rfl ?_
        refine j_getFR dX9_remembers_44 flX9_221_10 hM.1 rfl (mf_history hM) ?_
        refine j_bipush dX9_remembers_47 ?_
        refine j_iload_n dX9_remembers_49 rfl ?_
        refine j_imul dX9_remembers_50 ?_
        refine j_iconst dX9_remembers_51 ?_
        refine j_iadd dX9_remembers_52 ?_
        refine j_iload_n dX9_remembers_53 rfl ?_
        refine j_iadd dX9_remembers_54 ?_
        refine j_aload_n dX9_remembers_55 rfl ?_
        refine j_getFR dX9_remembers_56 flX9_188_10 hM.1 rfl (mf_said hM) ?_
        refine j_iload_n dX9_remembers_59 rfl ?_
        obtain ⟨c14, h⟩ := h
        refine j_iald (n := 12) dX9_remembers_60 (mt_said hM) (ml_said hM) c14 ?_
        obtain ⟨c15, h⟩ := h
        refine j_iast (n := 29400) dX9_remembers_61 (mt_history hM) (Nat.le_trans hM.2.1 (Nat.le_add_right _ _)) (ml_history hM) c15 ?_
        obtain ⟨A16, eA16⟩ : ∃ x : jAr, x = upA A8 (o + 43) (((14 * a1) + 2) + v7) (A8 (o + 37) v7) := ⟨_, rfl⟩
        have hW17 : jWf N F A16 := eA16 ▸ jWf_A (i := ((14 * a1) + 2) + v7) (z := A8 (o + 37) v7) hW9 (mt_history hM) (jRk_0 rfl (hW9.ai (mt_said hM) rfl))
        refine jnmA (e := eA16) ?_
        have h := h A16 eA16
        obtain ⟨r18, h⟩ := h
        refine j_iinc dX9_remembers_62 rfl rfl ?_
        refine j_goto 30 dX9_remembers_65 rfl ?_
        exact J.wk ((((jWk.nil).eq).eq).eq) (ihI10 _ _ (Nat.lt_of_lt_of_le h.2 (Nat.le_of_lt_succ hmuI10)) hW17 r18 h.1)
  exact J.wk ((((jWk.nil).eq).eq).eq) (lp _ _ _ (Nat.lt_succ_self _) hW6 (by decide) h0)
/-- is(III)Z -/
def wpX9_is (o : Nat) (a1 : Int) (a2 : Int) (a3 : Int) (F : jFl) (A : jAr) (Q : Int → Prop) : Prop :=
  ((a1 < a2) →
    Q 0) ∧
  (¬ (a1 < a2) →
    ∀ z3 : Int, z3 = (if a3 < a1 then 0 else 1) →
    Q z3)
theorem wX9_is {G : jG} {l : Launch} {d : Nat} {N : jSh} {o : Nat} {F : jFl} {A : jAr} {a1 a2 a3 : Int} {Q : Int → Prop} (hd : 1 ≤ d) (hM : mShape G N o) (hW : jWf N F A) (ra1 : jR a1) (ra2 : jR a2) (ra3 : jR a3) (h : wpX9_is o a1 a2 a3 F A Q) : jCall G l d mX9_is [vI a1, vI a2, vI a3] N F A (jpB N F A Q) := by
  refine jCall.of (ls := [vI a1, vI a2, vI a3]) (by decide) rfl (Nat.le_of_ble_eq_true rfl) rfl ?_
  unfold wpX9_is at h
  refine j_iload_n dX9_is_0 rfl ?_
  refine j_iload_n dX9_is_1 rfl ?_
  obtain ⟨h1, h2⟩ := h
  refine j_icmp_lt 14 dX9_is_2 rfl ra1 ra2 (fun q1 => ?_) (fun q1 => ?_)
  · have h := h1 q1
    clear h1 h2
    refine j_iconst dX9_is_14 ?_
    exact j_zret dX9_is_15 rfl (nr_bool (by decide)) ⟨_, rfl, rfl, rfl, rfl, h, (by decide)⟩
  · have h := h2 q1
    clear h1 h2
    refine j_iload_n dX9_is_5 rfl ?_
    refine j_iload_n dX9_is_6 rfl ?_
    have jn4 : ∀ z3 : Int, z3 = (if a3 < a1 then 0 else 1) → J G l d mX9_is 15 [vI a1, vI a2, vI a3] [vI z3] N F A (jpB N F A Q) := by
      intro z3 ez3
      have h := h z3 ez3
      exact j_zret dX9_is_15 rfl (nr_bool (ez3 ▸ (jB_ite (by decide) (by decide)))) ⟨_, rfl, rfl, rfl, rfl, h, (ez3 ▸ (jB_ite (by decide) (by decide)))⟩
    clear h
    refine j_icmp_gt 14 dX9_is_7 rfl ra1 ra3 (fun q2 => ?_) (fun q2 => ?_)
    · refine j_iconst dX9_is_14 ?_
      exact jn4 _ ((if_pos q2).symm)
    · refine j_iconst dX9_is_10 ?_
      refine j_goto 15 dX9_is_11 rfl ?_
      exact jn4 _ ((if_neg q2).symm)
/-- begin()V -/
def wpX9_begin (o : Nat) (F : jFl) (A : jAr) (Q : jFl → jAr → Prop) : Prop :=
  ∀ A2 : jAr, A2 = upA A (o + 28) 0 0 →
  ∀ A5 : jAr, A5 = upA A2 (o + 34) 0 0 →
  ∀ F7 : jFl, F7 = upF F 3156 o 0 →
  ∃ (I12 : Int → jAr → Prop) (m13 : Int → jAr → Nat), I12 0 A5 ∧ ∀ (v9 : Int) (A10 : jAr), I12 v9 A10 →
    (0 ≤ F7 3039 o ∧ F7 3039 o < 2) ∧
    (((A10 (o + 17) (F7 3039 o)) ≤ v9) →
      Q F7 A10) ∧
    (¬ ((A10 (o + 17) (F7 3039 o)) ≤ v9) →
      jR ((12 * (F7 3039 o)) + v9) ∧
      ∀ v17 : Int, v17 = (12 * (F7 3039 o)) + v9 →
      (0 ≤ v9 ∧ v9 < 264) ∧
      ∀ A19 : jAr, A19 = upA A10 (o + 29) v9 v9 →
      (0 ≤ v17 ∧ v17 < 24) ∧
      (0 ≤ v9 ∧ v9 < 264) ∧
      ∀ A23 : jAr, A23 = upA A19 (o + 30) v9 (A19 (o + 20) v17) →
      (0 ≤ v17 ∧ v17 < 24) ∧
      (0 ≤ v9 ∧ v9 < 264) ∧
      ∀ A27 : jAr, A27 = upA A23 (o + 31) v9 (A23 (o + 21) v17) →
      (0 ≤ v17 ∧ v17 < 24) ∧
      (0 ≤ v9 ∧ v9 < 264) ∧
      ∀ A31 : jAr, A31 = upA A27 (o + 32) v9 (A27 (o + 19) v17) →
      ∃ (I36 : Int → jAr → Prop) (m37 : Int → jAr → Nat), I36 0 A31 ∧ ∀ (v33 : Int) (A34 : jAr), I36 v33 A34 →
        ((12 ≤ v33) →
          jR (v9 + 1) ∧
          I12 (v9 + 1) A34 ∧ m13 (v9 + 1) A34 < m13 v9 A10) ∧
        (¬ (12 ≤ v33) →
          (0 ≤ (12 * v17) + v33 ∧ (12 * v17) + v33 < 288) ∧
          (0 ≤ (12 * v9) + v33 ∧ (12 * v9) + v33 < 3168) ∧
          ∀ A42 : jAr, A42 = upA A34 (o + 33) ((12 * v9) + v33) (A34 (o + 22) ((12 * v17) + v33)) →
          jR (v33 + 1) ∧
          I36 (v33 + 1) A42 ∧ m37 (v33 + 1) A42 < m37 v33 A34))
theorem wX9_begin {G : jG} {l : Launch} {d : Nat} {N : jSh} {o : Nat} {F : jFl} {A : jAr} {Q : jFl → jAr → Prop} (hd : 1 ≤ d) (hM : mShape G N o) (hW : jWf N F A) (h : wpX9_begin o F A Q) : jCall G l d mX9_begin [.ref o] N F A (jmV N Q) := by
  refine jCall.of (ls := [.ref o, jD, jD, jD]) (by decide) rfl (Nat.le_of_ble_eq_true rfl) rfl ?_
  unfold wpX9_begin at h
  refine j_aload_n dX9_begin_0 rfl ?_
  refine j_getFR dX9_begin_1 flX9_142_10 hM.1 rfl (mf_year hM) ?_
  refine j_iconst dX9_begin_4 ?_
  refine j_iconst dX9_begin_5 ?_
  refine j_iast (n := 22) dX9_begin_6 (mt_year hM) (Nat.le_trans hM.2.1 (Nat.le_add_right _ _)) (ml_year hM) (by decide) ?_
  obtain ⟨A2, eA2⟩ : ∃ x : jAr, x = upA A (o + 28) 0 0 := ⟨_, rfl⟩
  have hW3 : jWf N F A2 := eA2 ▸ jWf_A (i := 0) (z := 0) hW (mt_year hM) (jRk_0 rfl (by decide))
  refine jnmA (e := eA2) ?_
  have h := h A2 eA2
  refine j_aload_n dX9_begin_7 rfl ?_
  refine j_getFR dX9_begin_8 flX9_160_10 hM.1 rfl (mf_bookMany hM) ?_
  refine j_iconst dX9_begin_11 ?_
  refine j_iconst dX9_begin_12 ?_
  refine j_iast (n := 22) dX9_begin_13 (mt_bookMany hM) (Nat.le_trans hM.2.1 (Nat.le_add_right _ _)) (ml_bookMany hM) (by decide) ?_
  obtain ⟨A5, eA5⟩ : ∃ x : jAr, x = upA A2 (o + 34) 0 0 := ⟨_, rfl⟩
  have hW6 : jWf N F A5 := eA5 ▸ jWf_A (i := 0) (z := 0) hW3 (mt_bookMany hM) (jRk_0 rfl (by decide))
  refine jnmA (e := eA5) ?_
  have h := h A5 eA5
  refine j_aload_n dX9_begin_14 rfl ?_
  refine j_iconst dX9_begin_15 ?_
  refine j_putI dX9_begin_16 flX9_169_10 hM.1 hM.2.1 rfl ?_
  obtain ⟨F7, eF7⟩ : ∃ x : jFl, x = upF F 3156 o 0 := ⟨_, rfl⟩
  have hW8 : jWf N F7 A5 := eF7 ▸ jWf_F (f := 3156) (a := o) (z := 0) hW6 (jRk_0 rfl (by decide))
  refine jnmF (e := eF7) ?_
  have h := h F7 eF7
  refine j_iconst dX9_begin_19 ?_
  refine j_istore_n dX9_begin_20 rfl ?_
  obtain ⟨I12, m13, h0, hs⟩ := h
  have lp : ∀ (n : Nat) (v9 : Int) (A10 : jAr), m13 v9 A10 < n → jWf N F7 A10 → jR v9 → I12 v9 A10 → J G l d mX9_begin 21 [.ref o, vI v9, jD, jD] [] N F7 A10 (jmV N Q) := by
    intro nI12
    induction nI12 with
    | zero =>
      intro v9 A10 hmu
      exact absurd hmu (Nat.not_lt_zero _)
    | succ nI12 ihI12 =>
      intro v9 A10 hmuI12 hW11 rv9 hI
      have h := hs v9 A10 hI
      refine j_iload_n dX9_begin_21 rfl ?_
      refine j_aload_n dX9_begin_22 rfl ?_
      refine j_getFR dX9_begin_23 flX9_100_10 hM.1 rfl (mf_laws hM) ?_
      refine j_aload_n dX9_begin_26 rfl ?_
      refine j_getI dX9_begin_27 flX9_51_10 hM.1 rfl ?_
      obtain ⟨c14, h⟩ := h
      refine j_iald (n := 2) dX9_begin_30 (mt_laws hM) (ml_laws hM) c14 ?_
      obtain ⟨h1, h2⟩ := h
      refine j_icmp_ge 129 dX9_begin_31 rfl rv9 (hW11.ai (mt_laws hM) rfl) (fun q15 => ?_) (fun q15 => ?_)
      · have h := h1 q15
        clear h1 h2
        exact j_vret dX9_begin_129 rfl ⟨rfl, rfl, hW11, h⟩
      · have h := h2 q15
        clear h1 h2
        refine j_bipush dX9_begin_34 ?_
        refine j_aload_n dX9_begin_36 rfl ?_
        refine j_getI dX9_begin_37 flX9_51_10 hM.1 rfl ?_
        refine j_imul dX9_begin_40 ?_
        refine j_iload_n dX9_begin_41 rfl ?_
        refine j_iadd dX9_begin_42 ?_
        obtain ⟨r16, h⟩ := h
        obtain ⟨v17, ev17⟩ : ∃ x : Int, x = (12 * (F7 3039 o)) + v9 := ⟨_, rfl⟩
        have h := h v17 ev17
        refine jnmI (e := ev17) ?_
        refine j_istore_n dX9_begin_43 rfl ?_
        refine j_aload_n dX9_begin_44 rfl ?_
        refine j_getFR dX9_begin_45 flX9_145_10 hM.1 rfl (mf_orderOf hM) ?_
        refine j_iload_n dX9_begin_48 rfl ?_
        refine j_iload_n dX9_begin_49 rfl ?_
        obtain ⟨c18, h⟩ := h
        refine j_iast (n := 264) dX9_begin_50 (mt_orderOf hM) (Nat.le_trans hM.2.1 (Nat.le_add_right _ _)) (ml_orderOf hM) c18 ?_
        obtain ⟨A19, eA19⟩ : ∃ x : jAr, x = upA A10 (o + 29) v9 v9 := ⟨_, rfl⟩
        have hW20 : jWf N F7 A19 := eA19 ▸ jWf_A (i := v9) (z := v9) hW11 (mt_orderOf hM) (jRk_0 rfl rv9)
        refine jnmA (e := eA19) ?_
        have h := h A19 eA19
        refine j_aload_n dX9_begin_51 rfl ?_
        refine j_getFR dX9_begin_52 flX9_148_10 hM.1 rfl (mf_main hM) ?_
        refine j_iload_n dX9_begin_55 rfl ?_
        refine j_aload_n dX9_begin_56 rfl ?_
        refine j_getFR dX9_begin_57 flX9_109_10 hM.1 rfl (mf_lawMain hM) ?_
        refine j_iload_n dX9_begin_60 rfl ?_
        obtain ⟨c21, h⟩ := h
        refine j_iald (n := 24) dX9_begin_61 (mt_lawMain hM) (ml_lawMain hM) c21 ?_
        obtain ⟨c22, h⟩ := h
        refine j_iast (n := 264) dX9_begin_62 (mt_main hM) (Nat.le_trans hM.2.1 (Nat.le_add_right _ _)) (ml_main hM) c22 ?_
        obtain ⟨A23, eA23⟩ : ∃ x : jAr, x = upA A19 (o + 30) v9 (A19 (o + 20) v17) := ⟨_, rfl⟩
        have hW24 : jWf N F7 A23 := eA23 ▸ jWf_A (i := v9) (z := A19 (o + 20) v17) hW20 (mt_main hM) (jRk_0 rfl (hW20.ai (mt_lawMain hM) rfl))
        refine jnmA (e := eA23) ?_
        have h := h A23 eA23
        refine j_aload_n dX9_begin_63 rfl ?_
        refine j_getFR dX9_begin_64 flX9_151_10 hM.1 rfl (mf_except hM) ?_
        refine j_iload_n dX9_begin_67 rfl ?_
        refine j_aload_n dX9_begin_68 rfl ?_
        refine j_getFR dX9_begin_69 flX9_112_10 hM.1 rfl (mf_lawExcept hM) ?_
        refine j_iload_n dX9_begin_72 rfl ?_
        obtain ⟨c25, h⟩ := h
        refine j_iald (n := 24) dX9_begin_73 (mt_lawExcept hM) (ml_lawExcept hM) c25 ?_
        obtain ⟨c26, h⟩ := h
        refine j_iast (n := 264) dX9_begin_74 (mt_except hM) (Nat.le_trans hM.2.1 (Nat.le_add_right _ _)) (ml_except hM) c26 ?_
        obtain ⟨A27, eA27⟩ : ∃ x : jAr, x = upA A23 (o + 31) v9 (A23 (o + 21) v17) := ⟨_, rfl⟩
        have hW28 : jWf N F7 A27 := eA27 ▸ jWf_A (i := v9) (z := A23 (o + 21) v17) hW24 (mt_except hM) (jRk_0 rfl (hW24.ai (mt_lawExcept hM) rfl))
        refine jnmA (e := eA27) ?_
        have h := h A27 eA27
        refine j_aload_n dX9_begin_75 rfl ?_
        refine j_getFR dX9_begin_76 flX9_154_10 hM.1 rfl (mf_sung hM) ?_
        refine j_iload_n dX9_begin_79 rfl ?_
        refine j_aload_n dX9_begin_80 rfl ?_
        refine j_getFR dX9_begin_81 flX9_106_10 hM.1 rfl (mf_lawSung hM) ?_
        refine j_iload_n dX9_begin_84 rfl ?_
        obtain ⟨c29, h⟩ := h
        refine j_iald (n := 24) dX9_begin_85 (mt_lawSung hM) (ml_lawSung hM) c29 ?_
        obtain ⟨c30, h⟩ := h
        refine j_iast (n := 264) dX9_begin_86 (mt_sung hM) (Nat.le_trans hM.2.1 (Nat.le_add_right _ _)) (ml_sung hM) c30 ?_
        obtain ⟨A31, eA31⟩ : ∃ x : jAr, x = upA A27 (o + 32) v9 (A27 (o + 19) v17) := ⟨_, rfl⟩
        have hW32 : jWf N F7 A31 := eA31 ▸ jWf_A (i := v9) (z := A27 (o + 19) v17) hW28 (mt_sung hM) (jRk_0 rfl (hW28.ai (mt_lawSung hM) rfl))
        refine jnmA (e := eA31) ?_
        have h := h A31 eA31
        refine j_iconst dX9_begin_87 ?_
        refine j_istore_n dX9_begin_88 rfl ?_
        obtain ⟨I36, m37, h0, hs⟩ := h
        have lp : ∀ (n : Nat) (v33 : Int) (A34 : jAr), m37 v33 A34 < n → jWf N F7 A34 → jR v33 → I36 v33 A34 → J G l d mX9_begin 89 [.ref o, vI v9, vI v17, vI v33] [] N F7 A34 (jmV N Q) := by
          intro nI36
          induction nI36 with
          | zero =>
            intro v33 A34 hmu
            exact absurd hmu (Nat.not_lt_zero _)
          | succ nI36 ihI36 =>
            intro v33 A34 hmuI36 hW35 rv33 hI
            have h := hs v33 A34 hI
            refine j_iload_n dX9_begin_89 rfl ?_
            refine j_bipush dX9_begin_90 ?_
            obtain ⟨h1, h2⟩ := h
            refine j_icmp_ge 123 dX9_begin_92 rfl rv33 (by decide) (fun q38 => ?_) (fun q38 => ?_)
            · have h := h1 q38
              clear h1 h2
              obtain ⟨r39, h⟩ := h
              refine j_iinc dX9_begin_123 rfl rfl ?_
              refine j_goto 21 dX9_begin_126 rfl ?_
              exact J.wk (((((jWk.nil).no).no).eq).eq) (ihI12 _ _ (Nat.lt_of_lt_of_le h.2 (Nat.le_of_lt_succ hmuI12)) hW35 r39 h.1)
            · have h := h2 q38
              clear h1 h2
              refine j_aload_n dX9_begin_95 rfl ?_
              refine j_getFR dX9_begin_96 flX9_157_10 hM.1 rfl (mf_rows hM) ?_
              refine j_bipush dX9_begin_99 ?_
              refine j_iload_n dX9_begin_101 rfl ?_
              refine j_imul dX9_begin_102 ?_
              refine j_iload_n dX9_begin_103 rfl ?_
              refine j_iadd dX9_begin_104 ?_
              refine j_aload_n dX9_begin_105 rfl ?_
              refine j_getFR dX9_begin_106 flX9_115_10 hM.1 rfl (mf_lawWords hM) ?_
              refine j_bipush dX9_begin_109 ?_
              refine j_iload_n dX9_begin_111 rfl ?_
              refine j_imul dX9_begin_112 ?_
              refine j_iload_n dX9_begin_113 rfl ?_
              refine j_iadd dX9_begin_114 ?_
              obtain ⟨c40, h⟩ := h
              refine j_iald (n := 288) dX9_begin_115 (mt_lawWords hM) (ml_lawWords hM) c40 ?_
              obtain ⟨c41, h⟩ := h
              refine j_iast (n := 3168) dX9_begin_116 (mt_rows hM) (Nat.le_trans hM.2.1 (Nat.le_add_right _ _)) (ml_rows hM) c41 ?_
              obtain ⟨A42, eA42⟩ : ∃ x : jAr, x = upA A34 (o + 33) ((12 * v9) + v33) (A34 (o + 22) ((12 * v17) + v33)) := ⟨_, rfl⟩
              have hW43 : jWf N F7 A42 := eA42 ▸ jWf_A (i := (12 * v9) + v33) (z := A34 (o + 22) ((12 * v17) + v33)) hW35 (mt_rows hM) (jRk_0 rfl (hW35.ai (mt_lawWords hM) rfl))
              refine jnmA (e := eA42) ?_
              have h := h A42 eA42
              obtain ⟨r44, h⟩ := h
              refine j_iinc dX9_begin_117 rfl rfl ?_
              refine j_goto 89 dX9_begin_120 rfl ?_
              exact J.wk (((((jWk.nil).eq).eq).eq).eq) (ihI36 _ _ (Nat.lt_of_lt_of_le h.2 (Nat.le_of_lt_succ hmuI36)) hW43 r44 h.1)
        exact J.wk (((((jWk.nil).eq).eq).eq).eq) (lp _ _ _ (Nat.lt_succ_self _) hW32 (by decide) h0)
  exact J.wk (((((jWk.nil).no).no).eq).eq) (lp _ _ _ (Nat.lt_succ_self _) hW8 (by decide) h0)
/-- firstPerm(I)V -/
def wpX9_firstPerm (o : Nat) (a1 : Int) (F : jFl) (A : jAr) (Q : jFl → jAr → Prop) : Prop :=
  ∀ F1 : jFl, F1 = upF F 3222 o a1 →
  ∃ (I6 : Int → jAr → Prop) (m7 : Int → jAr → Nat), I6 0 A ∧ ∀ (v3 : Int) (A4 : jAr), I6 v3 A4 →
    ((a1 ≤ v3) →
      Q F1 A4) ∧
    (¬ (a1 ≤ v3) →
      (0 ≤ v3 ∧ v3 < 12) ∧
      ∀ A10 : jAr, A10 = upA A4 (o + 46) v3 v3 →
      jR (v3 + 1) ∧
      I6 (v3 + 1) A10 ∧ m7 (v3 + 1) A10 < m7 v3 A4)
theorem wX9_firstPerm {G : jG} {l : Launch} {d : Nat} {N : jSh} {o : Nat} {F : jFl} {A : jAr} {a1 : Int} {Q : jFl → jAr → Prop} (hd : 1 ≤ d) (hM : mShape G N o) (hW : jWf N F A) (ra1 : jR a1) (h : wpX9_firstPerm o a1 F A Q) : jCall G l d mX9_firstPerm [.ref o, vI a1] N F A (jmV N Q) := by
  refine jCall.of (ls := [.ref o, vI a1, jD]) (by decide) rfl (Nat.le_of_ble_eq_true rfl) rfl ?_
  unfold wpX9_firstPerm at h
  refine j_aload_n dX9_firstPerm_0 rfl ?_
  refine j_iload_n dX9_firstPerm_1 rfl ?_
  refine j_putI dX9_firstPerm_2 flX9_236_10 hM.1 hM.2.1 rfl ?_
  obtain ⟨F1, eF1⟩ : ∃ x : jFl, x = upF F 3222 o a1 := ⟨_, rfl⟩
  have hW2 : jWf N F1 A := eF1 ▸ jWf_F (f := 3222) (a := o) (z := a1) hW (jRk_0 rfl ra1)
  refine jnmF (e := eF1) ?_
  have h := h F1 eF1
  refine j_iconst dX9_firstPerm_5 ?_
  refine j_istore_n dX9_firstPerm_6 rfl ?_
  obtain ⟨I6, m7, h0, hs⟩ := h
  have lp : ∀ (n : Nat) (v3 : Int) (A4 : jAr), m7 v3 A4 < n → jWf N F1 A4 → jR v3 → I6 v3 A4 → J G l d mX9_firstPerm 7 [.ref o, vI a1, vI v3] [] N F1 A4 (jmV N Q) := by
    intro nI6
    induction nI6 with
    | zero =>
      intro v3 A4 hmu
      exact absurd hmu (Nat.not_lt_zero _)
    | succ nI6 ihI6 =>
      intro v3 A4 hmuI6 hW5 rv3 hI
      have h := hs v3 A4 hI
      refine j_iload_n dX9_firstPerm_7 rfl ?_
      refine j_iload_n dX9_firstPerm_8 rfl ?_
      obtain ⟨h1, h2⟩ := h
      refine j_icmp_ge 25 dX9_firstPerm_9 rfl rv3 ra1 (fun q8 => ?_) (fun q8 => ?_)
      · have h := h1 q8
        clear h1 h2
        exact j_vret dX9_firstPerm_25 rfl ⟨rfl, rfl, hW5, h⟩
      · have h := h2 q8
        clear h1 h2
        refine j_aload_n dX9_firstPerm_12 rfl ?_
        refine j_getFR dX9_firstPerm_13 flX9_230_10 hM.1 rfl (mf_perm hM) ?_
        refine j_iload_n dX9_firstPerm_16 rfl ?_
        refine j_iload_n dX9_firstPerm_17 rfl ?_
        obtain ⟨c9, h⟩ := h
        refine j_iast (n := 12) dX9_firstPerm_18 (mt_perm hM) (Nat.le_trans hM.2.1 (Nat.le_add_right _ _)) (ml_perm hM) c9 ?_
        obtain ⟨A10, eA10⟩ : ∃ x : jAr, x = upA A4 (o + 46) v3 v3 := ⟨_, rfl⟩
        have hW11 : jWf N F1 A10 := eA10 ▸ jWf_A (i := v3) (z := v3) hW5 (mt_perm hM) (jRk_0 rfl rv3)
        refine jnmA (e := eA10) ?_
        have h := h A10 eA10
        obtain ⟨r12, h⟩ := h
        refine j_iinc dX9_firstPerm_19 rfl rfl ?_
        refine j_goto 7 dX9_firstPerm_22 rfl ?_
        exact J.wk ((((jWk.nil).eq).eq).eq) (ihI6 _ _ (Nat.lt_of_lt_of_le h.2 (Nat.le_of_lt_succ hmuI6)) hW11 r12 h.1)
  exact J.wk ((((jWk.nil).eq).eq).eq) (lp _ _ _ (Nat.lt_succ_self _) hW2 (by decide) h0)
/-- changes(II)V -/
def wpX9_changes (o : Nat) (a1 : Int) (a2 : Int) (F : jFl) (A : jAr) (Q : jFl → jAr → Prop) : Prop :=
  (0 ≤ a1 ∧ a1 < 12) ∧
  ∀ v2 : Int, v2 = A (o + 46) a1 →
  (0 ≤ a2 ∧ a2 < 12) ∧
  (0 ≤ a1 ∧ a1 < 12) ∧
  ∀ A5 : jAr, A5 = upA A (o + 46) a1 (A (o + 46) a2) →
  (0 ≤ a2 ∧ a2 < 12) ∧
  ∀ A8 : jAr, A8 = upA A5 (o + 46) a2 v2 →
  Q F A8
theorem wX9_changes {G : jG} {l : Launch} {d : Nat} {N : jSh} {o : Nat} {F : jFl} {A : jAr} {a1 a2 : Int} {Q : jFl → jAr → Prop} (hd : 1 ≤ d) (hM : mShape G N o) (hW : jWf N F A) (ra1 : jR a1) (ra2 : jR a2) (h : wpX9_changes o a1 a2 F A Q) : jCall G l d mX9_changes [.ref o, vI a1, vI a2] N F A (jmV N Q) := by
  refine jCall.of (ls := [.ref o, vI a1, vI a2, jD]) (by decide) rfl (Nat.le_of_ble_eq_true rfl) rfl ?_
  unfold wpX9_changes at h
  refine j_aload_n dX9_changes_0 rfl ?_
  refine j_getFR dX9_changes_1 flX9_230_10 hM.1 rfl (mf_perm hM) ?_
  refine j_iload_n dX9_changes_4 rfl ?_
  obtain ⟨c1, h⟩ := h
  refine j_iald (n := 12) dX9_changes_5 (mt_perm hM) (ml_perm hM) c1 ?_
  obtain ⟨v2, ev2⟩ : ∃ x : Int, x = A (o + 46) a1 := ⟨_, rfl⟩
  have h := h v2 ev2
  refine jnmI (e := ev2) ?_
  refine j_istore_n dX9_changes_6 rfl ?_
  refine j_aload_n dX9_changes_7 rfl ?_
  refine j_getFR dX9_changes_8 flX9_230_10 hM.1 rfl (mf_perm hM) ?_
  refine j_iload_n dX9_changes_11 rfl ?_
  refine j_aload_n dX9_changes_12 rfl ?_
  refine j_getFR dX9_changes_13 flX9_230_10 hM.1 rfl (mf_perm hM) ?_
  refine j_iload_n dX9_changes_16 rfl ?_
  obtain ⟨c3, h⟩ := h
  refine j_iald (n := 12) dX9_changes_17 (mt_perm hM) (ml_perm hM) c3 ?_
  obtain ⟨c4, h⟩ := h
  refine j_iast (n := 12) dX9_changes_18 (mt_perm hM) (Nat.le_trans hM.2.1 (Nat.le_add_right _ _)) (ml_perm hM) c4 ?_
  obtain ⟨A5, eA5⟩ : ∃ x : jAr, x = upA A (o + 46) a1 (A (o + 46) a2) := ⟨_, rfl⟩
  have hW6 : jWf N F A5 := eA5 ▸ jWf_A (i := a1) (z := A (o + 46) a2) hW (mt_perm hM) (jRk_0 rfl (hW.ai (mt_perm hM) rfl))
  refine jnmA (e := eA5) ?_
  have h := h A5 eA5
  refine j_aload_n dX9_changes_19 rfl ?_
  refine j_getFR dX9_changes_20 flX9_230_10 hM.1 rfl (mf_perm hM) ?_
  refine j_iload_n dX9_changes_23 rfl ?_
  refine j_iload_n dX9_changes_24 rfl ?_
  obtain ⟨c7, h⟩ := h
  refine j_iast (n := 12) dX9_changes_25 (mt_perm hM) (Nat.le_trans hM.2.1 (Nat.le_add_right _ _)) (ml_perm hM) c7 ?_
  obtain ⟨A8, eA8⟩ : ∃ x : jAr, x = upA A5 (o + 46) a2 v2 := ⟨_, rfl⟩
  have hW9 : jWf N F A8 := eA8 ▸ jWf_A (i := a2) (z := v2) hW6 (mt_perm hM) (jRk_0 rfl (ev2 ▸ (hW.ai (mt_perm hM) rfl)))
  refine jnmA (e := eA8) ?_
  have h := h A8 eA8
  exact j_vret dX9_changes_26 rfl ⟨rfl, rfl, hW9, h⟩
/-- isWord(J)Z -/
def wpX9_isWord (o : Nat) (a1 : Int) (F : jFl) (A : jAr) (Q : Int → Prop) : Prop :=
  ((¬ (F 3009 o) = 1) →
    Q 0) ∧
  (¬ (¬ (F 3009 o) = 1) →
    ∀ z3 : Int, z3 = (if ¬ (jcmp (F 3022 o) a1) = 0 then 0 else 1) →
    Q z3)
theorem wX9_isWord {G : jG} {l : Launch} {d : Nat} {N : jSh} {o : Nat} {F : jFl} {A : jAr} {a1 : Int} {Q : Int → Prop} (hd : 1 ≤ d) (hM : mShape G N o) (hW : jWf N F A) (ra1 : jRL a1) (h : wpX9_isWord o a1 F A Q) : jCall G l d mX9_isWord [.ref o, vL a1] N F A (jpB N F A Q) := by
  refine jCall.of (ls := [.ref o, vL a1, jD]) (by decide) rfl (Nat.le_of_ble_eq_true rfl) rfl ?_
  unfold wpX9_isWord at h
  refine j_aload_n dX9_isWord_0 rfl ?_
  refine j_getI dX9_isWord_1 flX9_20_10 hM.1 rfl ?_
  refine j_iconst dX9_isWord_4 ?_
  obtain ⟨h1, h2⟩ := h
  refine j_icmp_ne 21 dX9_isWord_5 rfl (hW.fi rfl) (by decide) (fun q1 => ?_) (fun q1 => ?_)
  · have h := h1 q1
    clear h1 h2
    refine j_iconst dX9_isWord_21 ?_
    exact j_zret dX9_isWord_22 rfl (nr_bool (by decide)) ⟨_, rfl, rfl, rfl, rfl, h, (by decide)⟩
  · have h := h2 q1
    clear h1 h2
    refine j_aload_n dX9_isWord_8 rfl ?_
    refine j_getL dX9_isWord_9 flX9_32_10 hM.1 rfl ?_
    refine j_lload_n dX9_isWord_12 rfl ?_
    refine j_lcmp dX9_isWord_13 (hW.fl rfl) ra1 ?_
    have jn4 : ∀ z3 : Int, z3 = (if ¬ (jcmp (F 3022 o) a1) = 0 then 0 else 1) → J G l d mX9_isWord 22 [.ref o, vL a1, jD] [vI z3] N F A (jpB N F A Q) := by
      intro z3 ez3
      have h := h z3 ez3
      exact j_zret dX9_isWord_22 rfl (nr_bool (ez3 ▸ (jB_ite (by decide) (by decide)))) ⟨_, rfl, rfl, rfl, rfl, h, (ez3 ▸ (jB_ite (by decide) (by decide)))⟩
    clear h
    refine j_if_ne 21 dX9_isWord_14 rfl jcmp_R (fun q2 => ?_) (fun q2 => ?_)
    · refine j_iconst dX9_isWord_21 ?_
      exact jn4 _ ((if_pos q2).symm)
    · refine j_iconst dX9_isWord_17 ?_
      refine j_goto 22 dX9_isWord_18 rfl ?_
      exact jn4 _ ((if_neg q2).symm)
/-- draw(I)I -/
def wpX9_draw (o : Nat) (a1 : Int) (F : jFl) (A : jAr) (Q : Int → jFl → jAr → Prop) : Prop :=
  (((0 : Int) ≤ (1103515245 * (F 3160 o)) + 12345 ∧ ((1103515245 * (F 3160 o)) + 12345 : Int) ≤ 9223372036854775807) ∧ ((0 : Int) < 2147483648 ∧ (2147483648 : Int) ≤ 9223372036854775807)) ∧
  jRL (((1103515245 * (F 3160 o)) + 12345) % 2147483648) ∧
  ∀ F3 : jFl, F3 = upF F 3160 o (((1103515245 * (F 3160 o)) + 12345) % 2147483648) →
  (((0 : Int) ≤ F3 3160 o ∧ (F3 3160 o : Int) ≤ 9223372036854775807) ∧ ((0 : Int) < 64 ∧ (64 : Int) ≤ 9223372036854775807)) ∧
  (((0 : Int) ≤ (F3 3160 o) / 64 ∧ ((F3 3160 o) / 64 : Int) ≤ 9223372036854775807) ∧ ((0 : Int) < a1 ∧ (a1 : Int) ≤ 9223372036854775807)) ∧
  jR (((F3 3160 o) / 64) % a1) ∧
  Q (((F3 3160 o) / 64) % a1) F3 A
theorem wX9_draw {G : jG} {l : Launch} {d : Nat} {N : jSh} {o : Nat} {F : jFl} {A : jAr} {a1 : Int} {Q : Int → jFl → jAr → Prop} (hd : 1 ≤ d) (hM : mShape G N o) (hW : jWf N F A) (ra1 : jR a1) (h : wpX9_draw o a1 F A Q) : jCall G l d mX9_draw [.ref o, vI a1] N F A (jmI N Q) := by
  refine jCall.of (ls := [.ref o, vI a1]) (by decide) rfl (Nat.le_of_ble_eq_true rfl) rfl ?_
  unfold wpX9_draw at h
  refine j_aload_n dX9_draw_0 rfl ?_
  refine j_ldc2 (n := 1103515245) dX9_draw_1 q2481 ?_
  refine j_aload_n dX9_draw_4 rfl ?_
  refine j_getL dX9_draw_5 flX9_172_10 hM.1 rfl ?_
  refine j_lmul dX9_draw_8 ?_
  refine j_ldc2 (n := 12345) dX9_draw_9 q2482 ?_
  refine j_ladd dX9_draw_12 ?_
  refine j_ldc2 (n := 2147483648) dX9_draw_13 q2483 ?_
  obtain ⟨c1, h⟩ := h
  refine j_lrem dX9_draw_16 c1.1 c1.2 ?_
  obtain ⟨r2, h⟩ := h
  refine j_putL dX9_draw_17 flX9_172_10 hM.1 hM.2.1 rfl ?_
  obtain ⟨F3, eF3⟩ : ∃ x : jFl, x = upF F 3160 o (((1103515245 * (F 3160 o)) + 12345) % 2147483648) := ⟨_, rfl⟩
  have hW4 : jWf N F3 A := eF3 ▸ jWf_F (f := 3160) (a := o) (z := ((1103515245 * (F 3160 o)) + 12345) % 2147483648) hW (jRk_1 rfl r2)
  refine jnmF (e := eF3) ?_
  have h := h F3 eF3
  refine j_aload_n dX9_draw_20 rfl ?_
  refine j_getL dX9_draw_21 flX9_172_10 hM.1 rfl ?_
  refine j_ldc2 (n := 64) dX9_draw_24 q2484 ?_
  obtain ⟨c5, h⟩ := h
  refine j_ldiv dX9_draw_27 c5.1 c5.2 ?_
  refine j_iload_n dX9_draw_28 rfl ?_
  refine j_i2l dX9_draw_29 ra1 ?_
  obtain ⟨c6, h⟩ := h
  refine j_lrem dX9_draw_30 c6.1 c6.2 ?_
  refine j_l2i dX9_draw_31 ?_
  obtain ⟨r7, h⟩ := h
  exact j_iret dX9_draw_32 rfl ⟨_, rfl, rfl, hW4, h, r7⟩
/-- fault(I)I -/
def wpX9_fault (o : Nat) (a1 : Int) (F : jFl) (A : jAr) (Q : Int → Prop) : Prop :=
  ((¬ a1 = 0) →
    ((¬ a1 = 1) →
      Q (-1)) ∧
    (¬ (¬ a1 = 1) →
      Q (F 3033 o))) ∧
  (¬ (¬ a1 = 0) →
    Q (F 3030 o))
theorem wX9_fault {G : jG} {l : Launch} {d : Nat} {N : jSh} {o : Nat} {F : jFl} {A : jAr} {a1 : Int} {Q : Int → Prop} (hd : 1 ≤ d) (hM : mShape G N o) (hW : jWf N F A) (ra1 : jR a1) (h : wpX9_fault o a1 F A Q) : jCall G l d mX9_fault [.ref o, vI a1] N F A (jpI N F A Q) := by
  refine jCall.of (ls := [.ref o, vI a1]) (by decide) rfl (Nat.le_of_ble_eq_true rfl) rfl ?_
  unfold wpX9_fault at h
  refine j_iload_n dX9_fault_0 rfl ?_
  obtain ⟨h1, h2⟩ := h
  refine j_if_ne 11 dX9_fault_1 rfl ra1 (fun q1 => ?_) (fun q1 => ?_)
  · have h := h1 q1
    clear h1 h2
    refine j_iload_n dX9_fault_11 rfl ?_
    refine j_iconst dX9_fault_12 ?_
    obtain ⟨h1, h2⟩ := h
    refine j_icmp_ne 23 dX9_fault_13 rfl ra1 (by decide) (fun q2 => ?_) (fun q2 => ?_)
    · have h := h1 q2
      clear h1 h2
      refine j_iconst dX9_fault_23 ?_
      exact j_iret dX9_fault_24 rfl ⟨_, rfl, rfl, rfl, rfl, h, (by decide)⟩
    · have h := h2 q2
      clear h1 h2
      refine j_aload_n dX9_fault_16 rfl ?_
      refine j_getI dX9_fault_17 flX9_45_10 hM.1 rfl ?_
      refine j_goto 24 dX9_fault_20 rfl ?_
      exact j_iret dX9_fault_24 rfl ⟨_, rfl, rfl, rfl, rfl, h, (hW.fi rfl)⟩
  · have h := h2 q1
    clear h1 h2
    refine j_aload_n dX9_fault_4 rfl ?_
    refine j_getI dX9_fault_5 flX9_42_10 hM.1 rfl ?_
    refine j_goto 24 dX9_fault_8 rfl ?_
    exact j_iret dX9_fault_24 rfl ⟨_, rfl, rfl, rfl, rfl, h, (hW.fi rfl)⟩
/-- put(I)V -/
def wpX9_put (o : Nat) (a1 : Int) (F : jFl) (A : jAr) (Q : jFl → jAr → Prop) : Prop :=
  ∃ (I5 : Int → jFl → jAr → Prop) (m6 : Int → jFl → jAr → Nat), I5 24 F A ∧ ∀ (v1 : Int) (F2 : jFl) (A3 : jAr), I5 v1 F2 A3 →
    ((v1 < 0) →
      Q F2 A3) ∧
    (¬ (v1 < 0) →
      ((0 : Int) ≤ v1 ∧ (v1 : Int) < 32) ∧
      (0 ≤ F2 3003 o ∧ F2 3003 o < 1800) ∧
      ∀ A10 : jAr, A10 = upA A3 (o + 1) (F2 3003 o) ((a1 / 2 ^ v1.toNat) % 256) →
      jR ((F2 3003 o) + 1) ∧
      ∀ F13 : jFl, F13 = upF F2 3003 o ((F2 3003 o) + 1) →
      jR (v1 + (-8)) ∧
      I5 (v1 + (-8)) F13 A10 ∧ m6 (v1 + (-8)) F13 A10 < m6 v1 F2 A3)
theorem wX9_put {G : jG} {l : Launch} {d : Nat} {N : jSh} {o : Nat} {F : jFl} {A : jAr} {a1 : Int} {Q : jFl → jAr → Prop} (hd : 1 ≤ d) (hM : mShape G N o) (hW : jWf N F A) (ra1 : jR a1) (h : wpX9_put o a1 F A Q) : jCall G l d mX9_put [.ref o, vI a1] N F A (jmV N Q) := by
  refine jCall.of (ls := [.ref o, vI a1, jD]) (by decide) rfl (Nat.le_of_ble_eq_true rfl) rfl ?_
  unfold wpX9_put at h
  refine j_bipush dX9_put_0 ?_
  refine j_istore_n dX9_put_2 rfl ?_
  obtain ⟨I5, m6, h0, hs⟩ := h
  have lp : ∀ (n : Nat) (v1 : Int) (F2 : jFl) (A3 : jAr), m6 v1 F2 A3 < n → jWf N F2 A3 → jR v1 → I5 v1 F2 A3 → J G l d mX9_put 3 [.ref o, vI a1, vI v1] [] N F2 A3 (jmV N Q) := by
    intro nI5
    induction nI5 with
    | zero =>
      intro v1 F2 A3 hmu
      exact absurd hmu (Nat.not_lt_zero _)
    | succ nI5 ihI5 =>
      intro v1 F2 A3 hmuI5 hW4 rv1 hI
      have h := hs v1 F2 A3 hI
      refine j_iload_n dX9_put_3 rfl ?_
      obtain ⟨h1, h2⟩ := h
      refine j_if_lt 39 dX9_put_4 rfl rv1 (fun q7 => ?_) (fun q7 => ?_)
      · have h := h1 q7
        clear h1 h2
        exact j_vret dX9_put_39 rfl ⟨rfl, rfl, hW4, h⟩
      · have h := h2 q7
        clear h1 h2
        refine j_aload_n dX9_put_7 rfl ?_
        refine j_getFR dX9_put_8 flX9_7_10 hM.1 rfl (mf_tape hM) ?_
        refine j_aload_n dX9_put_11 rfl ?_
        refine j_getI dX9_put_12 flX9_13_10 hM.1 rfl ?_
        refine j_iload_n dX9_put_15 rfl ?_
        refine j_iload_n dX9_put_16 rfl ?_
        obtain ⟨c8, h⟩ := h
        refine j_ishr dX9_put_17 ra1 c8 ?_
        refine j_sipush dX9_put_18 ?_
        refine j_iand 8 (by decide) (by decide +kernel) dX9_put_21 ?_
        rw [show ((2 ^ 8 : Nat) : Int) = 256 from rfl]
        obtain ⟨c9, h⟩ := h
        refine j_iast (n := 1800) dX9_put_22 (mt_tape hM) (Nat.le_trans hM.2.1 (Nat.le_add_right _ _)) (ml_tape hM) c9 ?_
        obtain ⟨A10, eA10⟩ : ∃ x : jAr, x = upA A3 (o + 1) (F2 3003 o) ((a1 / 2 ^ v1.toNat) % 256) := ⟨_, rfl⟩
        have hW11 : jWf N F2 A10 := eA10 ▸ jWf_A (i := F2 3003 o) (z := (a1 / 2 ^ v1.toNat) % 256) hW4 (mt_tape hM) (jRk_0 rfl (jR_mod (x := a1 / 2 ^ v1.toNat) (m := 256) (by decide)))
        refine jnmA (e := eA10) ?_
        have h := h A10 eA10
        refine j_aload_n dX9_put_23 rfl ?_
        refine j_dup dX9_put_24 rfl ?_
        refine j_getI dX9_put_25 flX9_13_10 hM.1 rfl ?_
        refine j_iconst dX9_put_28 ?_
        refine j_iadd dX9_put_29 ?_
        obtain ⟨r12, h⟩ := h
        refine j_putI dX9_put_30 flX9_13_10 hM.1 hM.2.1 rfl ?_
        obtain ⟨F13, eF13⟩ : ∃ x : jFl, x = upF F2 3003 o ((F2 3003 o) + 1) := ⟨_, rfl⟩
        have hW14 : jWf N F13 A10 := eF13 ▸ jWf_F (f := 3003) (a := o) (z := (F2 3003 o) + 1) hW11 (jRk_0 rfl r12)
        refine jnmF (e := eF13) ?_
        have h := h F13 eF13
        obtain ⟨r15, h⟩ := h
        refine j_iinc dX9_put_33 rfl rfl ?_
        refine j_goto 3 dX9_put_36 rfl ?_
        exact J.wk ((((jWk.nil).eq).eq).eq) (ihI5 _ _ _ (Nat.lt_of_lt_of_le h.2 (Nat.le_of_lt_succ hmuI5)) hW14 r15 h.1)
  exact J.wk ((((jWk.nil).eq).eq).eq) (lp _ _ _ _ (Nat.lt_succ_self _) hW (by decide) h0)
/-- isSign(I)Z -/
def wpX9_isSign (o : Nat) (a1 : Int) (F : jFl) (A : jAr) (Q : Int → Prop) : Prop :=
  ((¬ (F 3009 o) = 3) →
    Q 0) ∧
  (¬ (¬ (F 3009 o) = 3) →
    ∀ z3 : Int, z3 = (if ¬ (F 3018 o) = a1 then 0 else 1) →
    Q z3)
theorem wX9_isSign {G : jG} {l : Launch} {d : Nat} {N : jSh} {o : Nat} {F : jFl} {A : jAr} {a1 : Int} {Q : Int → Prop} (hd : 1 ≤ d) (hM : mShape G N o) (hW : jWf N F A) (ra1 : jR a1) (h : wpX9_isSign o a1 F A Q) : jCall G l d mX9_isSign [.ref o, vI a1] N F A (jpB N F A Q) := by
  refine jCall.of (ls := [.ref o, vI a1]) (by decide) rfl (Nat.le_of_ble_eq_true rfl) rfl ?_
  unfold wpX9_isSign at h
  refine j_aload_n dX9_isSign_0 rfl ?_
  refine j_getI dX9_isSign_1 flX9_20_10 hM.1 rfl ?_
  refine j_iconst dX9_isSign_4 ?_
  obtain ⟨h1, h2⟩ := h
  refine j_icmp_ne 20 dX9_isSign_5 rfl (hW.fi rfl) (by decide) (fun q1 => ?_) (fun q1 => ?_)
  · have h := h1 q1
    clear h1 h2
    refine j_iconst dX9_isSign_20 ?_
    exact j_zret dX9_isSign_21 rfl (nr_bool (by decide)) ⟨_, rfl, rfl, rfl, rfl, h, (by decide)⟩
  · have h := h2 q1
    clear h1 h2
    refine j_aload_n dX9_isSign_8 rfl ?_
    refine j_getI dX9_isSign_9 flX9_29_10 hM.1 rfl ?_
    refine j_iload_n dX9_isSign_12 rfl ?_
    have jn4 : ∀ z3 : Int, z3 = (if ¬ (F 3018 o) = a1 then 0 else 1) → J G l d mX9_isSign 21 [.ref o, vI a1] [vI z3] N F A (jpB N F A Q) := by
      intro z3 ez3
      have h := h z3 ez3
      exact j_zret dX9_isSign_21 rfl (nr_bool (ez3 ▸ (jB_ite (by decide) (by decide)))) ⟨_, rfl, rfl, rfl, rfl, h, (ez3 ▸ (jB_ite (by decide) (by decide)))⟩
    clear h
    refine j_icmp_ne 20 dX9_isSign_13 rfl (hW.fi rfl) ra1 (fun q2 => ?_) (fun q2 => ?_)
    · refine j_iconst dX9_isSign_20 ?_
      exact jn4 _ ((if_pos q2).symm)
    · refine j_iconst dX9_isSign_16 ?_
      refine j_goto 21 dX9_isSign_17 rfl ?_
      exact jn4 _ ((if_neg q2).symm)
/-- saysAsTold()V -/
def wpX9_saysAsTold (o : Nat) (F : jFl) (A : jAr) (Q : jFl → jAr → Prop) : Prop :=
  ∀ F1 : jFl, F1 = upF F 3177 o (F 3165 o) →
  ∀ F3 : jFl, F3 = upF F1 3180 o (F1 3168 o) →
  ∃ (I8 : Int → jAr → Prop) (m9 : Int → jAr → Nat), I8 0 A ∧ ∀ (v5 : Int) (A6 : jAr), I8 v5 A6 →
    jR ((F3 3165 o) + (F3 3168 o)) ∧
    ((((F3 3165 o) + (F3 3168 o)) ≤ v5) →
      Q F3 A6) ∧
    (¬ (((F3 3165 o) + (F3 3168 o)) ≤ v5) →
      (0 ≤ v5 ∧ v5 < 12) ∧
      (0 ≤ v5 ∧ v5 < 12) ∧
      ∀ A14 : jAr, A14 = upA A6 (o + 37) v5 (A6 (o + 36) v5) →
      jR (v5 + 1) ∧
      I8 (v5 + 1) A14 ∧ m9 (v5 + 1) A14 < m9 v5 A6)
theorem wX9_saysAsTold {G : jG} {l : Launch} {d : Nat} {N : jSh} {o : Nat} {F : jFl} {A : jAr} {Q : jFl → jAr → Prop} (hd : 1 ≤ d) (hM : mShape G N o) (hW : jWf N F A) (h : wpX9_saysAsTold o F A Q) : jCall G l d mX9_saysAsTold [.ref o] N F A (jmV N Q) := by
  refine jCall.of (ls := [.ref o, jD]) (by decide) rfl (Nat.le_of_ble_eq_true rfl) rfl ?_
  unfold wpX9_saysAsTold at h
  refine j_aload_n dX9_saysAsTold_0 rfl ?_
  refine j_aload_n dX9_saysAsTold_1 rfl ?_
  refine j_getI dX9_saysAsTold_2 flX9_178_10 hM.1 rfl ?_
  refine j_putI dX9_saysAsTold_5 flX9_191_10 hM.1 hM.2.1 rfl ?_
  obtain ⟨F1, eF1⟩ : ∃ x : jFl, x = upF F 3177 o (F 3165 o) := ⟨_, rfl⟩
  have hW2 : jWf N F1 A := eF1 ▸ jWf_F (f := 3177) (a := o) (z := F 3165 o) hW (jRk_0 rfl (hW.fi rfl))
  refine jnmF (e := eF1) ?_
  have h := h F1 eF1
  refine j_aload_n dX9_saysAsTold_8 rfl ?_
  refine j_aload_n dX9_saysAsTold_9 rfl ?_
  refine j_getI dX9_saysAsTold_10 flX9_181_10 hM.1 rfl ?_
  refine j_putI dX9_saysAsTold_13 flX9_194_10 hM.1 hM.2.1 rfl ?_
  obtain ⟨F3, eF3⟩ : ∃ x : jFl, x = upF F1 3180 o (F1 3168 o) := ⟨_, rfl⟩
  have hW4 : jWf N F3 A := eF3 ▸ jWf_F (f := 3180) (a := o) (z := F1 3168 o) hW2 (jRk_0 rfl (hW2.fi rfl))
  refine jnmF (e := eF3) ?_
  have h := h F3 eF3
  refine j_iconst dX9_saysAsTold_16 ?_
  refine j_istore_n dX9_saysAsTold_17 rfl ?_
  obtain ⟨I8, m9, h0, hs⟩ := h
  have lp : ∀ (n : Nat) (v5 : Int) (A6 : jAr), m9 v5 A6 < n → jWf N F3 A6 → jR v5 → I8 v5 A6 → J G l d mX9_saysAsTold 18 [.ref o, vI v5] [] N F3 A6 (jmV N Q) := by
    intro nI8
    induction nI8 with
    | zero =>
      intro v5 A6 hmu
      exact absurd hmu (Nat.not_lt_zero _)
    | succ nI8 ihI8 =>
      intro v5 A6 hmuI8 hW7 rv5 hI
      have h := hs v5 A6 hI
      refine j_iload_n dX9_saysAsTold_18 rfl ?_
      refine j_aload_n dX9_saysAsTold_19 rfl ?_
      refine j_getI dX9_saysAsTold_20 flX9_178_10 hM.1 rfl ?_
      refine j_aload_n dX9_saysAsTold_23 rfl ?_
      refine j_getI dX9_saysAsTold_24 flX9_181_10 hM.1 rfl ?_
      refine j_iadd dX9_saysAsTold_27 ?_
      obtain ⟨r10, h⟩ := h
      obtain ⟨h1, h2⟩ := h
      refine j_icmp_ge 49 dX9_saysAsTold_28 rfl rv5 r10 (fun q11 => ?_) (fun q11 => ?_)
      · have h := h1 q11
        clear h1 h2
        exact j_vret dX9_saysAsTold_49 rfl ⟨rfl, rfl, hW7, h⟩
      · have h := h2 q11
        clear h1 h2
        refine j_aload_n dX9_saysAsTold_31 rfl ?_
        refine j_getFR dX9_saysAsTold_32 flX9_188_10 hM.1 rfl (mf_said hM) ?_
        refine j_iload_n dX9_saysAsTold_35 rfl ?_
        refine j_aload_n dX9_saysAsTold_36 rfl ?_
        refine j_getFR dX9_saysAsTold_37 flX9_175_10 hM.1 rfl (mf_told hM) ?_
        refine j_iload_n dX9_saysAsTold_40 rfl ?_
        obtain ⟨c12, h⟩ := h
        refine j_iald (n := 12) dX9_saysAsTold_41 (mt_told hM) (ml_told hM) c12 ?_
        obtain ⟨c13, h⟩ := h
        refine j_iast (n := 12) dX9_saysAsTold_42 (mt_said hM) (Nat.le_trans hM.2.1 (Nat.le_add_right _ _)) (ml_said hM) c13 ?_
        obtain ⟨A14, eA14⟩ : ∃ x : jAr, x = upA A6 (o + 37) v5 (A6 (o + 36) v5) := ⟨_, rfl⟩
        have hW15 : jWf N F3 A14 := eA14 ▸ jWf_A (i := v5) (z := A6 (o + 36) v5) hW7 (mt_said hM) (jRk_0 rfl (hW7.ai (mt_told hM) rfl))
        refine jnmA (e := eA14) ?_
        have h := h A14 eA14
        obtain ⟨r16, h⟩ := h
        refine j_iinc dX9_saysAsTold_43 rfl rfl ?_
        refine j_goto 18 dX9_saysAsTold_46 rfl ?_
        exact J.wk (((jWk.nil).eq).eq) (ihI8 _ _ (Nat.lt_of_lt_of_le h.2 (Nat.le_of_lt_succ hmuI8)) hW15 r16 h.1)
  exact J.wk (((jWk.nil).eq).eq) (lp _ _ _ (Nat.lt_succ_self _) hW4 (by decide) h0)
/-- hasWord(II)Z -/
def wpX9_hasWord (o : Nat) (a1 : Int) (a2 : Int) (F : jFl) (A : jAr) (Q : Int → Prop) : Prop :=
  ∃ (I2 : Int → Prop) (m3 : Int → Nat), I2 0 ∧ ∀ (v1 : Int), I2 v1 →
    (0 ≤ a1 ∧ a1 < 264) ∧
    (0 ≤ a1 ∧ a1 < 264) ∧
    jR ((A (o + 30) a1) + (A (o + 31) a1)) ∧
    ((((A (o + 30) a1) + (A (o + 31) a1)) ≤ v1) →
      Q 0) ∧
    (¬ (((A (o + 30) a1) + (A (o + 31) a1)) ≤ v1) →
      (0 ≤ (12 * a1) + v1 ∧ (12 * a1) + v1 < 3168) ∧
      ((¬ (A (o + 33) ((12 * a1) + v1)) = a2) →
        jR (v1 + 1) ∧
        I2 (v1 + 1) ∧ m3 (v1 + 1) < m3 v1) ∧
      (¬ (¬ (A (o + 33) ((12 * a1) + v1)) = a2) →
        Q 1))
theorem wX9_hasWord {G : jG} {l : Launch} {d : Nat} {N : jSh} {o : Nat} {F : jFl} {A : jAr} {a1 a2 : Int} {Q : Int → Prop} (hd : 1 ≤ d) (hM : mShape G N o) (hW : jWf N F A) (ra1 : jR a1) (ra2 : jR a2) (h : wpX9_hasWord o a1 a2 F A Q) : jCall G l d mX9_hasWord [.ref o, vI a1, vI a2] N F A (jpB N F A Q) := by
  refine jCall.of (ls := [.ref o, vI a1, vI a2, jD]) (by decide) rfl (Nat.le_of_ble_eq_true rfl) rfl ?_
  unfold wpX9_hasWord at h
  refine j_iconst dX9_hasWord_0 ?_
  refine j_istore_n dX9_hasWord_1 rfl ?_
  obtain ⟨I2, m3, h0, hs⟩ := h
  have lp : ∀ (n : Nat) (v1 : Int), m3 v1 < n → jR v1 → I2 v1 → J G l d mX9_hasWord 2 [.ref o, vI a1, vI a2, vI v1] [] N F A (jpB N F A Q) := by
    intro nI2
    induction nI2 with
    | zero =>
      intro v1 hmu
      exact absurd hmu (Nat.not_lt_zero _)
    | succ nI2 ihI2 =>
      intro v1 hmuI2 rv1 hI
      have h := hs v1 hI
      refine j_iload_n dX9_hasWord_2 rfl ?_
      refine j_aload_n dX9_hasWord_3 rfl ?_
      refine j_getFR dX9_hasWord_4 flX9_148_10 hM.1 rfl (mf_main hM) ?_
      refine j_iload_n dX9_hasWord_7 rfl ?_
      obtain ⟨c4, h⟩ := h
      refine j_iald (n := 264) dX9_hasWord_8 (mt_main hM) (ml_main hM) c4 ?_
      refine j_aload_n dX9_hasWord_9 rfl ?_
      refine j_getFR dX9_hasWord_10 flX9_151_10 hM.1 rfl (mf_except hM) ?_
      refine j_iload_n dX9_hasWord_13 rfl ?_
      obtain ⟨c5, h⟩ := h
      refine j_iald (n := 264) dX9_hasWord_14 (mt_except hM) (ml_except hM) c5 ?_
      refine j_iadd dX9_hasWord_15 ?_
      obtain ⟨r6, h⟩ := h
      obtain ⟨h1, h2⟩ := h
      refine j_icmp_ge 42 dX9_hasWord_16 rfl rv1 r6 (fun q7 => ?_) (fun q7 => ?_)
      · have h := h1 q7
        clear h1 h2
        refine j_iconst dX9_hasWord_42 ?_
        exact j_zret dX9_hasWord_43 rfl (nr_bool (by decide)) ⟨_, rfl, rfl, rfl, rfl, h, (by decide)⟩
      · have h := h2 q7
        clear h1 h2
        refine j_aload_n dX9_hasWord_19 rfl ?_
        refine j_getFR dX9_hasWord_20 flX9_157_10 hM.1 rfl (mf_rows hM) ?_
        refine j_bipush dX9_hasWord_23 ?_
        refine j_iload_n dX9_hasWord_25 rfl ?_
        refine j_imul dX9_hasWord_26 ?_
        refine j_iload_n dX9_hasWord_27 rfl ?_
        refine j_iadd dX9_hasWord_28 ?_
        obtain ⟨c8, h⟩ := h
        refine j_iald (n := 3168) dX9_hasWord_29 (mt_rows hM) (ml_rows hM) c8 ?_
        refine j_iload_n dX9_hasWord_30 rfl ?_
        obtain ⟨h1, h2⟩ := h
        refine j_icmp_ne 36 dX9_hasWord_31 rfl (hW.ai (mt_rows hM) rfl) ra2 (fun q9 => ?_) (fun q9 => ?_)
        · have h := h1 q9
          clear h1 h2
          obtain ⟨r10, h⟩ := h
          refine j_iinc dX9_hasWord_36 rfl rfl ?_
          refine j_goto 2 dX9_hasWord_39 rfl ?_
          exact J.wk (((((jWk.nil).eq).eq).eq).eq) (ihI2 _ (Nat.lt_of_lt_of_le h.2 (Nat.le_of_lt_succ hmuI2)) r10 h.1)
        · have h := h2 q9
          clear h1 h2
          refine j_iconst dX9_hasWord_34 ?_
          exact j_zret dX9_hasWord_35 rfl (nr_bool (by decide)) ⟨_, rfl, rfl, rfl, rfl, h, (by decide)⟩
  exact J.wk (((((jWk.nil).eq).eq).eq).eq) (lp _ _ (Nat.lt_succ_self _) (by decide) h0)
/-- writes(I)V -/
def wpX9_writes (o : Nat) (a1 : Int) (F : jFl) (A : jAr) (Q : jFl → jAr → Prop) : Prop :=
  (0 ≤ F 3237 o ∧ F 3237 o < 210) ∧
  ∀ A2 : jAr, A2 = upA A (o + 48) (F 3237 o) (a1 % 256) →
  jR ((F 3237 o) + 1) ∧
  ∀ F5 : jFl, F5 = upF F 3237 o ((F 3237 o) + 1) →
  Q F5 A2
theorem wX9_writes {G : jG} {l : Launch} {d : Nat} {N : jSh} {o : Nat} {F : jFl} {A : jAr} {a1 : Int} {Q : jFl → jAr → Prop} (hd : 1 ≤ d) (hM : mShape G N o) (hW : jWf N F A) (ra1 : jR a1) (h : wpX9_writes o a1 F A Q) : jCall G l d mX9_writes [.ref o, vI a1] N F A (jmV N Q) := by
  refine jCall.of (ls := [.ref o, vI a1]) (by decide) rfl (Nat.le_of_ble_eq_true rfl) rfl ?_
  unfold wpX9_writes at h
  refine j_aload_n dX9_writes_0 rfl ?_
  refine j_getFR dX9_writes_1 flX9_248_10 hM.1 rfl (mf_out hM) ?_
  refine j_aload_n dX9_writes_4 rfl ?_
  refine j_getI dX9_writes_5 flX9_251_10 hM.1 rfl ?_
  refine j_iload_n dX9_writes_8 rfl ?_
  refine j_sipush dX9_writes_9 ?_
  refine j_iand 8 (by decide) (by decide +kernel) dX9_writes_12 ?_
  rw [show ((2 ^ 8 : Nat) : Int) = 256 from rfl]
  obtain ⟨c1, h⟩ := h
  refine j_iast (n := 210) dX9_writes_13 (mt_out hM) (Nat.le_trans hM.2.1 (Nat.le_add_right _ _)) (ml_out hM) c1 ?_
  obtain ⟨A2, eA2⟩ : ∃ x : jAr, x = upA A (o + 48) (F 3237 o) (a1 % 256) := ⟨_, rfl⟩
  have hW3 : jWf N F A2 := eA2 ▸ jWf_A (i := F 3237 o) (z := a1 % 256) hW (mt_out hM) (jRk_0 rfl (jR_mod (x := a1) (m := 256) (by decide)))
  refine jnmA (e := eA2) ?_
  have h := h A2 eA2
  refine j_aload_n dX9_writes_14 rfl ?_
  refine j_dup dX9_writes_15 rfl ?_
  refine j_getI dX9_writes_16 flX9_251_10 hM.1 rfl ?_
  refine j_iconst dX9_writes_19 ?_
  refine j_iadd dX9_writes_20 ?_
  obtain ⟨r4, h⟩ := h
  refine j_putI dX9_writes_21 flX9_251_10 hM.1 hM.2.1 rfl ?_
  obtain ⟨F5, eF5⟩ : ∃ x : jFl, x = upF F 3237 o ((F 3237 o) + 1) := ⟨_, rfl⟩
  have hW6 : jWf N F5 A2 := eF5 ▸ jWf_F (f := 3237) (a := o) (z := (F 3237 o) + 1) hW3 (jRk_0 rfl r4)
  refine jnmF (e := eF5) ?_
  have h := h F5 eF5
  exact j_vret dX9_writes_24 rfl ⟨rfl, rfl, hW6, h⟩
