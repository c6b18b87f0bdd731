set_option maxRecDepth 100000
set_option linter.unusedVariables false
/-! walks of the component and of JDK methods: printed by gen/walkc.py -/
/-- ChildSays$Unlike.of(LChildSays$Law;)LChildSays$Unlike; -/
def wqX5_of (o : Nat) (a1 : Int) (N : jSh) (F : jFl) (A : jAr) (Q : Int → jFl → jAr → Prop) : Prop :=
  jfn N 0 o = 1 ∧
  ∀ F3 : jFl, F3 = upF F 1809 o 0 →
  ∃ (I9 : Int → jFl → jAr → Prop) (m10 : Int → jFl → jAr → Nat), I9 0 F3 A ∧ ∀ (v4 : Int) (F5 : jFl) (A6 : jAr), I9 v4 F5 A6 →
    ∃ b11 : Nat, jfn N 1814 o = (b11 : Int) ∧
    jtg N b11 = 1 ∧
    ∃ b14 : Nat, F5 311 b11 = (b14 : Int) ∧
    jtg N b14 = 2 ∧
    ∃ b17 : Nat, jfn N 623 b14 = (b17 : Int) ∧
    jtg N b17 = 20 ∧
    ∃ (P20 : Int → Prop), wqJ2_size b17 N F5 A6 P20 ∧
    ∀ z22, P20 z22 →
    ((z22 ≤ v4) →
      Q (o : Int) F5 A6) ∧
    ((¬ (z22 ≤ v4)) →
      ∃ b28 : Nat, jfn N 1802 o = (b28 : Int) ∧
      jtg N b28 = 110 ∧
      ((0 : Int) ≤ F5 1809 o ∧ (F5 1809 o : Int) < (jln N b28 : Int)) ∧
      ∃ (P32 : Int → Prop), wqJ2_get b17 v4 N F5 A6 P32 ∧
      ∀ z34, P32 z34 →
      jcst N "ChildSays$Child" z34 ∧
      ∃ b40 : Nat, A6 b28 (F5 1809 o) = (b40 : Int) ∧
      jtg N b40 = 3 ∧
      ∃ (P43 : Int → jFl → jAr → Prop), wqX2_of b40 z34 a1 N F5 A6 P43 ∧
      ∀ z45 F46 A47, P43 z45 F46 A47 →
      ∃ (I54 : Int → Prop) (m55 : Int → Nat), I54 0 ∧ ∀ (v52 : Int), I54 v52 →
        ((0 : Int) ≤ v52 ∧ (v52 : Int) < (jln N b28 : Int)) ∧
        ∃ b57 : Nat, A47 b28 v52 = (b57 : Int) ∧
        jtg N b57 = 3 ∧
        ((0 : Int) ≤ F46 1809 o ∧ (F46 1809 o : Int) < (jln N b28 : Int)) ∧
        ∃ b61 : Nat, A47 b28 (F46 1809 o) = (b61 : Int) ∧
        jtg N b61 = 3 ∧
        ∃ b64 : Nat, jfn N 902 b57 = (b64 : Int) ∧
        jtg N b64 = 4 ∧
        ∃ (P67 : Int → Prop), wqX3_isLike b64 (jfn N 902 b61) N F46 A47 P67 ∧
        ∀ z69, P67 z69 →
        ((¬ z69 = 0) →
          ∃ K80 : jFl → jAr → Prop, (
            ∀ (F76 : jFl) (A77 : jAr), K80 F76 A77 →
            ∃ b83 : Nat, jfn N 1808 o = (b83 : Int) ∧
            jtg N b83 = 102 ∧
            ((0 : Int) ≤ v52 ∧ (v52 : Int) < (jln N b83 : Int)) ∧
            jfn N 0 b83 = 1 ∧
            ((0 : Int) ≤ v52 ∧ (v52 : Int) < (jln N b83 : Int)) ∧
            jR ((A77 b83 v52) + 1) ∧
            ∀ A89 : jAr, A89 = upA A77 b83 v52 ((A77 b83 v52) + 1) →
            jR (v4 + 1) ∧
            I9 (v4 + 1) F76 A89 ∧ m10 (v4 + 1) F76 A89 < m10 v4 F5 A6) ∧
          ((¬ v52 = (F46 1809 o)) →
            K80 F46 A47) ∧
          ((v52 = (F46 1809 o)) →
            ∃ b93 : Nat, jfn N 1805 o = (b93 : Int) ∧
            jtg N b93 = 102 ∧
            jfn N 0 b93 = 1 ∧
            ((0 : Int) ≤ F46 1809 o ∧ (F46 1809 o : Int) < (jln N b93 : Int)) ∧
            ∀ A98 : jAr, A98 = upA A47 b93 (F46 1809 o) v4 →
            ∃ b100 : Nat, jfn N 1808 o = (b100 : Int) ∧
            jtg N b100 = 102 ∧
            jfn N 0 b100 = 1 ∧
            ((0 : Int) ≤ F46 1809 o ∧ (F46 1809 o : Int) < (jln N b100 : Int)) ∧
            ∀ A105 : jAr, A105 = upA A98 b100 (F46 1809 o) 0 →
            jR ((F46 1809 o) + 1) ∧
            ∀ F109 : jFl, F109 = upF F46 1809 o ((F46 1809 o) + 1) →
            K80 F109 A105)) ∧
        ((z69 = 0) →
          jR (v52 + 1) ∧
          I54 (v52 + 1) ∧ m55 (v52 + 1) < m55 v52))
theorem vX5_of {G : jG} {l : Launch} [jOff l] {d : Nat} {N : jSh} {F : jFl} {A : jAr} {o : Nat} {a1 : Int} {Q : Int → jFl → jAr → Prop} (hd : 6 ≤ d) (hW : jWg G N F A) (ht : jtg N o = 6) (h : wqX5_of o a1 N F A Q) : jCall G l d mX5_of [vR (o : Int), vR a1] N F A (cmR G N Q) := by
  unfold wqX5_of at h
  refine jCall.of (by decide) rfl (ls := [vR (o : Int), vR a1, jD, jD]) (by simp only [jent_R, jent_I, jent_L, jent_nil]; exact Nat.le_of_ble_eq_true rfl) (by simp only [jloc, jent_R, jent_I, jent_L, jent_nil]; rfl) ?_
  refine r_aload_n dX5_of_0 rfl ?_
  refine j_iconst dX5_of_1 ?_
  obtain ⟨w1, h⟩ := h
  refine c_pI hW dX5_of_2 flX5_31_6 rfl ht w1 rfl (by decide) fun F3 eF3 hW2 => ?_
  have h := h F3 eF3
  refine j_iconst dX5_of_5 ?_
  refine j_istore_n dX5_of_6 (jokR rfl (Nat.le_of_ble_eq_true rfl)) ?_
  obtain ⟨I9, m10, h0, hs⟩ := h
  have lp : ∀ (n : Nat) (v4 : Int) (F5 : jFl) (A6 : jAr), m10 v4 F5 A6 < n → jWg G N F5 A6 → jR v4 → I9 v4 F5 A6 → J G l d mX5_of 7 [vR (o : Int), vR a1, vI v4, jD] [] N F5 A6 (cmR G N Q) := by
    intro nI9
    induction nI9 with
    | zero =>
      intro v4 F5 A6 hmu
      exact absurd hmu (Nat.not_lt_zero _)
    | succ nI9 ihI9 =>
      intro v4 F5 A6 hmuI9 hW7 rv4 hI
      have h := hs v4 F5 A6 hI
      refine j_iload_n dX5_of_7 rfl ?_
      refine r_aload_n dX5_of_8 rfl ?_
      refine r_gRF dX5_of_9 flX5_3_6 rfl ht rfl ?_
      obtain ⟨b11, hz12, h⟩ := h
      obtain ⟨t13, h⟩ := h
      refine r_gRN dX5_of_12 flX5_35_1 hz12 t13 rfl ?_
      obtain ⟨b14, hz15, h⟩ := h
      obtain ⟨t16, h⟩ := h
      refine r_gRF dX5_of_15 flX5_39_2 hz15 t16 rfl ?_
      obtain ⟨b17, hz18, h⟩ := h
      obtain ⟨t19, h⟩ := h
      obtain ⟨P20, hp21, h⟩ := h
      refine r_invV (ci := 20) (As := []) (rest := [vI v4]) dX5_of_18 lkX5_45 hz18 t19 rfl rfl (vJ2_size (d := 2) (Nat.le_of_ble_eq_true rfl) hW7 t19  hp21) rfl rfl (Nat.le_of_ble_eq_true rfl) (Nat.le_trans (Nat.le_of_ble_eq_true rfl) hd) (jkpI fun z22 p25 r26 => ?_)
      have h := h z22 p25
      obtain ⟨h1, h2⟩ := h
      refine j_icmp_ge 144 dX5_of_21 rfl rv4 r26 (fun q27 => ?_) (fun q27 => ?_)
      · have h := h1 q27
        clear h1 h2
        refine r_aload_n dX5_of_144 rfl ?_
        exact r_aret dX5_of_145 rfl (Or.inl ⟨_, rfl⟩) ⟨_, rfl, rfl, hW7, h, trivial⟩
      · have h := h2 q27
        clear h1 h2
        refine r_aload_n dX5_of_24 rfl ?_
        refine r_gRF dX5_of_25 flX5_17_6 rfl ht rfl ?_
        refine r_aload_n dX5_of_28 rfl ?_
        refine r_gI dX5_of_29 flX5_31_6 rfl ht rfl ?_
        obtain ⟨b28, hz29, h⟩ := h
        obtain ⟨t30, h⟩ := h
        obtain ⟨c31, h⟩ := h
        refine r_aald dX5_of_32 hz29 t30 rfl rfl c31 ?_
        refine r_aload_n dX5_of_33 rfl ?_
        refine r_gRF dX5_of_34 flX5_3_6 rfl ht rfl ?_
        refine r_gRN dX5_of_37 flX5_35_1 hz12 t13 rfl ?_
        refine r_gRF dX5_of_40 flX5_39_2 hz15 t16 rfl ?_
        refine j_iload_n dX5_of_43 rfl ?_
        obtain ⟨P32, hp33, h⟩ := h
        refine r_invV (ci := 20) (As := [vI v4]) (rest := [vR (A6 b28 (F5 1809 o))]) dX5_of_44 lkX5_51 hz18 t19 rfl rfl (vJ2_get (d := 4) (Nat.le_of_ble_eq_true rfl) hW7 t19 rv4 hp33) rfl rfl (Nat.le_of_ble_eq_true rfl) (Nat.le_trans (Nat.le_of_ble_eq_true rfl) hd) (jkpR fun z34 p37 r38 => ?_)
        have h := h z34 p37
        obtain ⟨j39, h⟩ := h
        refine r_chk dX5_of_47 q1606 j39 ?_
        refine r_aload_n dX5_of_50 rfl ?_
        obtain ⟨b40, hz41, h⟩ := h
        obtain ⟨t42, h⟩ := h
        obtain ⟨P43, hp44, h⟩ := h
        refine r_invV (ci := 3) (As := [vR z34, vR a1]) (rest := []) dX5_of_51 lkX5_57 hz41 t42 rfl rfl (vX2_of (d := 5) (Nat.le_of_ble_eq_true rfl) hW7 t42  hp44) rfl rfl (Nat.le_of_ble_eq_true rfl) (Nat.le_trans (Nat.le_of_ble_eq_true rfl) hd) (ckmR fun z45 F46 A47 hW48 p50 r51 => ?_)
        have h := h z45 F46 A47 p50
        refine j_pop dX5_of_54 (vR_cat _) ?_
        refine j_iconst dX5_of_55 ?_
        refine j_istore_n dX5_of_56 rfl ?_
        obtain ⟨I54, m55, h0, hs⟩ := h
        have lp : ∀ (n : Nat) (v52 : Int), m55 v52 < n → jR v52 → I54 v52 → J G l d mX5_of 57 [vR (o : Int), vR a1, vI v4, vI v52] [] N F46 A47 (cmR G N Q) := by
          intro nI54
          induction nI54 with
          | zero =>
            intro v52 hmu
            exact absurd hmu (Nat.not_lt_zero _)
          | succ nI54 ihI54 =>
            intro v52 hmuI54 rv52 hI
            have h := hs v52 hI
            refine r_aload_n dX5_of_57 rfl ?_
            refine r_gRF dX5_of_58 flX5_17_6 rfl ht rfl ?_
            refine j_iload_n dX5_of_61 rfl ?_
            obtain ⟨c56, h⟩ := h
            refine r_aald dX5_of_62 hz29 t30 rfl rfl c56 ?_
            obtain ⟨b57, hz58, h⟩ := h
            obtain ⟨t59, h⟩ := h
            refine r_gRF dX5_of_63 flX5_61_3 hz58 t59 rfl ?_
            refine r_aload_n dX5_of_66 rfl ?_
            refine r_gRF dX5_of_67 flX5_17_6 rfl ht rfl ?_
            refine r_aload_n dX5_of_70 rfl ?_
            refine r_gI dX5_of_71 flX5_31_6 rfl ht rfl ?_
            obtain ⟨c60, h⟩ := h
            refine r_aald dX5_of_74 hz29 t30 rfl rfl c60 ?_
            obtain ⟨b61, hz62, h⟩ := h
            obtain ⟨t63, h⟩ := h
            refine r_gRF dX5_of_75 flX5_61_3 hz62 t63 rfl ?_
            obtain ⟨b64, hz65, h⟩ := h
            obtain ⟨t66, h⟩ := h
            obtain ⟨P67, hp68, h⟩ := h
            refine r_invV (ci := 4) (As := [vR (jfn N 902 b61)]) (rest := []) dX5_of_78 lkX5_65 hz65 t66 rfl rfl (vX3_isLike (d := 3) (Nat.le_of_ble_eq_true rfl) hW48 t66  hp68) rfl rfl (Nat.le_of_ble_eq_true rfl) (Nat.le_trans (Nat.le_of_ble_eq_true rfl) hd) (jkpB fun z69 p72 r73 => ?_)
            have h := h z69 p72
            obtain ⟨h1, h2⟩ := h
            refine j_if_ne 90 dX5_of_81 rfl (jR_b r73) (fun q74 => ?_) (fun q74 => ?_)
            · have h := h1 q74
              clear h1 h2
              refine j_iload_n dX5_of_90 rfl ?_
              refine r_aload_n dX5_of_91 rfl ?_
              refine r_gI dX5_of_92 flX5_31_6 rfl ht rfl ?_
              obtain ⟨K80, hK82, h⟩ := h
              have jn81 : ∀ (F76 : jFl) (A77 : jAr), jWg G N F76 A77 → K80 F76 A77 → J G l d mX5_of 128 [vR (o : Int), vR a1, vI v4, vI v52] [] N F76 A77 (cmR G N Q) := by
                intro F76 A77 hW78  h
                have h := hK82 F76 A77 h
                refine r_aload_n dX5_of_128 rfl ?_
                refine r_gRF dX5_of_129 flX5_25_6 rfl ht rfl ?_
                refine j_iload_n dX5_of_132 rfl ?_
                refine j_dup2 dX5_of_133 rfl (vR_cat _) ?_
                obtain ⟨b83, hz84, h⟩ := h
                obtain ⟨t85, h⟩ := h
                obtain ⟨c86, h⟩ := h
                refine r_iald dX5_of_134 hz84 t85 c86 ?_
                refine j_iconst dX5_of_135 ?_
                refine j_iadd dX5_of_136 ?_
                obtain ⟨w87, h⟩ := h
                obtain ⟨c88, h⟩ := h
                obtain ⟨r91, h⟩ := h
                refine c_iast hW78 dX5_of_137 hz84 t85 w87 c88 r91 fun A89 eA89 hW90 => ?_
                have h := h A89 eA89
                obtain ⟨r92, h⟩ := h
                refine j_iinc dX5_of_138 rfl (jokR rfl (Nat.le_of_ble_eq_true rfl)) ?_
                refine j_goto 7 dX5_of_141 rfl ?_
                exact J.wk (((((jWk.nil).no).eq).eq).eq) (ihI9 _ _ _ (Nat.lt_of_lt_of_le h.2 (Nat.le_of_lt_succ hmuI9)) hW90 r92 h.1)
              obtain ⟨h1, h2⟩ := h
              refine j_icmp_ne 128 dX5_of_95 rfl rv52 (hW48.fi rfl) (fun q75 => ?_) (fun q75 => ?_)
              · have h := h1 q75
                clear h1 h2
                exact J.wk (((((jWk.nil).eq).eq).eq).eq) (jn81 _ _ hW48 h)
              · have h := h2 (Classical.not_not.mp q75)
                clear h1 h2
                refine r_aload_n dX5_of_98 rfl ?_
                refine r_gRF dX5_of_99 flX5_21_6 rfl ht rfl ?_
                refine r_aload_n dX5_of_102 rfl ?_
                refine r_gI dX5_of_103 flX5_31_6 rfl ht rfl ?_
                refine j_iload_n dX5_of_106 rfl ?_
                obtain ⟨b93, hz94, h⟩ := h
                obtain ⟨t95, h⟩ := h
                obtain ⟨w96, h⟩ := h
                obtain ⟨c97, h⟩ := h
                refine c_iast hW48 dX5_of_107 hz94 t95 w96 c97 rv4 fun A98 eA98 hW99 => ?_
                have h := h A98 eA98
                refine r_aload_n dX5_of_108 rfl ?_
                refine r_gRF dX5_of_109 flX5_25_6 rfl ht rfl ?_
                refine r_aload_n dX5_of_112 rfl ?_
                refine r_gI dX5_of_113 flX5_31_6 rfl ht rfl ?_
                refine j_iconst dX5_of_116 ?_
                obtain ⟨b100, hz101, h⟩ := h
                obtain ⟨t102, h⟩ := h
                obtain ⟨w103, h⟩ := h
                obtain ⟨c104, h⟩ := h
                refine c_iast hW99 dX5_of_117 hz101 t102 w103 c104 (by decide) fun A105 eA105 hW106 => ?_
                have h := h A105 eA105
                refine r_aload_n dX5_of_118 rfl ?_
                refine j_dup dX5_of_119 (vR_cat _) ?_
                refine r_gI dX5_of_120 flX5_31_6 rfl ht rfl ?_
                refine j_iconst dX5_of_123 ?_
                refine j_iadd dX5_of_124 ?_
                obtain ⟨r107, h⟩ := h
                refine c_pI hW106 dX5_of_125 flX5_31_6 rfl ht w1 rfl r107 fun F109 eF109 hW108 => ?_
                have h := h F109 eF109
                exact J.wk (((((jWk.nil).eq).eq).eq).eq) (jn81 _ _ hW108 h)
            · have h := h2 (Classical.not_not.mp q74)
              clear h1 h2
              obtain ⟨r110, h⟩ := h
              refine j_iinc dX5_of_84 rfl rfl ?_
              refine j_goto 57 dX5_of_87 rfl ?_
              exact J.wk (((((jWk.nil).eq).eq).eq).eq) (ihI54 _ (Nat.lt_of_lt_of_le h.2 (Nat.le_of_lt_succ hmuI54)) r110 h.1)
        exact J.wk (((((jWk.nil).eq).eq).eq).eq) (lp _ _ (Nat.lt_succ_self _) (by decide) h0)
  exact J.wk (((((jWk.nil).no).eq).eq).eq) (lp _ _ _ _ (Nat.lt_succ_self _) hW2 (by decide) h0)
/-- ChildSays$Round.meets(LChildSays$Child;LChildSays$Law;)LChildSays$Round; -/
def wqX6_meets (o : Nat) (a1 : Int) (a2 : Int) (N : jSh) (F : jFl) (A : jAr) (Q : Int → jFl → jAr → Prop) : Prop :=
  ∃ b1 : Nat, a2 = (b1 : Int) ∧
  jtg N b1 = 17 ∧
  ∃ b4 : Nat, jfn N 2102 o = (b4 : Int) ∧
  jtg N b4 = 4 ∧
  ∃ (P7 : Int → jFl → jAr → Prop), wqX3_like b4 (jfn N 5102 b1) N F A P7 ∧
  ∀ z9 F10 A11, P7 z9 F10 A11 →
  ∃ b16 : Nat, jfn N 2105 o = (b16 : Int) ∧
  jtg N b16 = 4 ∧
  ∃ (P19 : Int → jFl → jAr → Prop), wqX3_like b16 (jfn N 5102 b1) N F10 A11 P19 ∧
  ∀ z21 F22 A23, P19 z21 F22 A23 →
  jfn N 0 o = 1 ∧
  ∀ F30 : jFl, F30 = upF F22 2109 o 0 →
  ∃ (I36 : Int → jFl → jAr → Prop) (m37 : Int → jFl → jAr → Nat), I36 0 F30 A23 ∧ ∀ (v31 : Int) (F32 : jFl) (A33 : jAr), I36 v31 F32 A33 →
    (((F32 2112 o) ≤ v31) →
      ∃ (I43 : jFl → jAr → Prop) (m44 : jFl → jAr → Nat), I43 F32 A33 ∧ ∀ (F39 : jFl) (A40 : jAr), I43 F39 A40 →
        ∃ (P45 : Int → Prop), wqX3_isLike b4 (jfn N 2105 o) N F39 A40 P45 ∧
        ∀ z47, P45 z47 →
        ((¬ z47 = 0) →
          jR ((F39 2109 o) + (F39 2112 o)) ∧
          ∀ F55 : jFl, F55 = upF F39 2106 o ((F39 2109 o) + (F39 2112 o)) →
          Q (o : Int) F55 A40) ∧
        ((z47 = 0) →
          ∃ (P56 : Int → jFl → jAr → Prop), wqX6_next o (jfn N 2102 o) a1 a2 N F39 A40 P56 ∧
          ∀ z58 F59 A60, P56 z58 F59 A60 →
          ∃ (P65 : Int → jFl → jAr → Prop), wqX6_next o (jfn N 2105 o) a1 a2 N F59 A60 P65 ∧
          ∀ z67 F68 A69, P65 z67 F68 A69 →
          jR ((F68 2109 o) + 1) ∧
          ∀ F76 : jFl, F76 = upF F68 2109 o ((F68 2109 o) + 1) →
          I43 F76 A69 ∧ m44 F76 A69 < m44 F39 A40)) ∧
    ((¬ ((F32 2112 o) ≤ v31)) →
      ∃ (P77 : Int → jFl → jAr → Prop), wqX6_next o (jfn N 2105 o) a1 a2 N F32 A33 P77 ∧
      ∀ z79 F80 A81, P77 z79 F80 A81 →
      jR (v31 + 1) ∧
      I36 (v31 + 1) F80 A81 ∧ m37 (v31 + 1) F80 A81 < m37 v31 F32 A33)
theorem vX6_meets {G : jG} {l : Launch} [jOff l] {d : Nat} {N : jSh} {F : jFl} {A : jAr} {o : Nat} {a1 a2 : Int} {Q : Int → jFl → jAr → Prop} (hd : 6 ≤ d) (hW : jWg G N F A) (ht : jtg N o = 7) (h : wqX6_meets o a1 a2 N F A Q) : jCall G l d mX6_meets [vR (o : Int), vR a1, vR a2] N F A (cmR G N Q) := by
  unfold wqX6_meets at h
  refine jCall.of (by decide) rfl (ls := [vR (o : Int), vR a1, vR a2, jD]) (by simp only [jent_R, jent_I, jent_L, jent_nil]; exact Nat.le_of_ble_eq_true rfl) (by simp only [jloc, jent_R, jent_I, jent_L, jent_nil]; rfl) ?_
  refine r_aload_n dX6_meets_0 rfl ?_
  refine r_gRF dX6_meets_1 flX6_18_7 rfl ht rfl ?_
  refine r_aload_n dX6_meets_4 rfl ?_
  obtain ⟨b1, hz2, h⟩ := h
  obtain ⟨t3, h⟩ := h
  refine r_gRF dX6_meets_5 flX6_58_17 hz2 t3 rfl ?_
  obtain ⟨b4, hz5, h⟩ := h
  obtain ⟨t6, h⟩ := h
  obtain ⟨P7, hp8, h⟩ := h
  refine r_invV (ci := 4) (As := [vR (jfn N 5102 b1)]) (rest := []) dX6_meets_8 lkX6_50 hz5 t6 rfl rfl (vX3_like (d := 3) (Nat.le_of_ble_eq_true rfl) hW t6  hp8) rfl rfl (Nat.le_of_ble_eq_true rfl) (Nat.le_trans (Nat.le_of_ble_eq_true rfl) hd) (ckmR fun z9 F10 A11 hW12 p14 r15 => ?_)
  have h := h z9 F10 A11 p14
  refine j_pop dX6_meets_11 (vR_cat _) ?_
  refine r_aload_n dX6_meets_12 rfl ?_
  refine r_gRF dX6_meets_13 flX6_22_7 rfl ht rfl ?_
  refine r_aload_n dX6_meets_16 rfl ?_
  refine r_gRF dX6_meets_17 flX6_58_17 hz2 t3 rfl ?_
  obtain ⟨b16, hz17, h⟩ := h
  obtain ⟨t18, h⟩ := h
  obtain ⟨P19, hp20, h⟩ := h
  refine r_invV (ci := 4) (As := [vR (jfn N 5102 b1)]) (rest := []) dX6_meets_20 lkX6_50 hz17 t18 rfl rfl (vX3_like (d := 3) (Nat.le_of_ble_eq_true rfl) hW12 t18  hp20) rfl rfl (Nat.le_of_ble_eq_true rfl) (Nat.le_trans (Nat.le_of_ble_eq_true rfl) hd) (ckmR fun z21 F22 A23 hW24 p26 r27 => ?_)
  have h := h z21 F22 A23 p26
  refine j_pop dX6_meets_23 (vR_cat _) ?_
  refine r_aload_n dX6_meets_24 rfl ?_
  refine j_iconst dX6_meets_25 ?_
  obtain ⟨w28, h⟩ := h
  refine c_pI hW24 dX6_meets_26 flX6_81_7 rfl ht w28 rfl (by decide) fun F30 eF30 hW29 => ?_
  have h := h F30 eF30
  refine j_iconst dX6_meets_29 ?_
  refine j_istore_n dX6_meets_30 (jokR rfl (Nat.le_of_ble_eq_true rfl)) ?_
  obtain ⟨I36, m37, h0, hs⟩ := h
  have lp : ∀ (n : Nat) (v31 : Int) (F32 : jFl) (A33 : jAr), m37 v31 F32 A33 < n → jWg G N F32 A33 → jR v31 → I36 v31 F32 A33 → J G l d mX6_meets 31 [vR (o : Int), vR a1, vR a2, vI v31] [] N F32 A33 (cmR G N Q) := by
    intro nI36
    induction nI36 with
    | zero =>
      intro v31 F32 A33 hmu
      exact absurd hmu (Nat.not_lt_zero _)
    | succ nI36 ihI36 =>
      intro v31 F32 A33 hmuI36 hW34 rv31 hI
      have h := hs v31 F32 A33 hI
      refine j_iload_n dX6_meets_31 rfl ?_
      refine r_aload_n dX6_meets_32 rfl ?_
      refine r_gI dX6_meets_33 flX6_62_7 rfl ht rfl ?_
      obtain ⟨h1, h2⟩ := h
      refine j_icmp_ge 56 dX6_meets_36 rfl rv31 (hW34.fi rfl) (fun q38 => ?_) (fun q38 => ?_)
      · have h := h1 q38
        clear h1 h2
        obtain ⟨I43, m44, h0, hs⟩ := h
        have lp : ∀ (n : Nat) (F39 : jFl) (A40 : jAr), m44 F39 A40 < n → jWg G N F39 A40 → I43 F39 A40 → J G l d mX6_meets 56 [vR (o : Int), vR a1, vR a2, jD] [] N F39 A40 (cmR G N Q) := by
          intro nI43
          induction nI43 with
          | zero =>
            intro F39 A40 hmu
            exact absurd hmu (Nat.not_lt_zero _)
          | succ nI43 ihI43 =>
            intro F39 A40 hmuI43 hW41  hI
            have h := hs F39 A40 hI
            refine r_aload_n dX6_meets_56 rfl ?_
            refine r_gRF dX6_meets_57 flX6_18_7 rfl ht rfl ?_
            refine r_aload_n dX6_meets_60 rfl ?_
            refine r_gRF dX6_meets_61 flX6_22_7 rfl ht rfl ?_
            obtain ⟨P45, hp46, h⟩ := h
            refine r_invV (ci := 4) (As := [vR (jfn N 2105 o)]) (rest := []) dX6_meets_64 lkX6_65 hz5 t6 rfl rfl (vX3_isLike (d := 3) (Nat.le_of_ble_eq_true rfl) hW41 t6  hp46) rfl rfl (Nat.le_of_ble_eq_true rfl) (Nat.le_trans (Nat.le_of_ble_eq_true rfl) hd) (jkpB fun z47 p50 r51 => ?_)
            have h := h z47 p50
            obtain ⟨h1, h2⟩ := h
            refine j_if_ne 105 dX6_meets_67 rfl (jR_b r51) (fun q52 => ?_) (fun q52 => ?_)
            · have h := h1 q52
              clear h1 h2
              refine r_aload_n dX6_meets_105 rfl ?_
              refine r_aload_n dX6_meets_106 rfl ?_
              refine r_gI dX6_meets_107 flX6_81_7 rfl ht rfl ?_
              refine r_aload_n dX6_meets_110 rfl ?_
              refine r_gI dX6_meets_111 flX6_62_7 rfl ht rfl ?_
              refine j_iadd dX6_meets_114 ?_
              obtain ⟨r53, h⟩ := h
              refine c_pI hW41 dX6_meets_115 flX6_59_7 rfl ht w28 rfl r53 fun F55 eF55 hW54 => ?_
              have h := h F55 eF55
              refine r_aload_n dX6_meets_118 rfl ?_
              exact r_aret dX6_meets_119 rfl (Or.inl ⟨_, rfl⟩) ⟨_, rfl, rfl, hW54, h, trivial⟩
            · have h := h2 (Classical.not_not.mp q52)
              clear h1 h2
              refine r_aload_n dX6_meets_70 rfl ?_
              refine r_aload_n dX6_meets_71 rfl ?_
              refine r_gRF dX6_meets_72 flX6_18_7 rfl ht rfl ?_
              refine r_aload_n dX6_meets_75 rfl ?_
              refine r_aload_n dX6_meets_76 rfl ?_
              obtain ⟨P56, hp57, h⟩ := h
              refine r_invV (ci := 7) (As := [vR (jfn N 2102 o), vR a1, vR a2]) (rest := []) dX6_meets_77 lkX6_69 rfl ht rfl rfl (vX6_next (d := 5) (Nat.le_of_ble_eq_true rfl) hW41 ht  hp57) rfl rfl (Nat.le_of_ble_eq_true rfl) (Nat.le_trans (Nat.le_of_ble_eq_true rfl) hd) (ckmB fun z58 F59 A60 hW61 p63 r64 => ?_)
              have h := h z58 F59 A60 p63
              refine j_pop dX6_meets_80 rfl ?_
              refine r_aload_n dX6_meets_81 rfl ?_
              refine r_aload_n dX6_meets_82 rfl ?_
              refine r_gRF dX6_meets_83 flX6_22_7 rfl ht rfl ?_
              refine r_aload_n dX6_meets_86 rfl ?_
              refine r_aload_n dX6_meets_87 rfl ?_
              obtain ⟨P65, hp66, h⟩ := h
              refine r_invV (ci := 7) (As := [vR (jfn N 2105 o), vR a1, vR a2]) (rest := []) dX6_meets_88 lkX6_69 rfl ht rfl rfl (vX6_next (d := 5) (Nat.le_of_ble_eq_true rfl) hW61 ht  hp66) rfl rfl (Nat.le_of_ble_eq_true rfl) (Nat.le_trans (Nat.le_of_ble_eq_true rfl) hd) (ckmB fun z67 F68 A69 hW70 p72 r73 => ?_)
              have h := h z67 F68 A69 p72
              refine j_pop dX6_meets_91 rfl ?_
              refine r_aload_n dX6_meets_92 rfl ?_
              refine j_dup dX6_meets_93 (vR_cat _) ?_
              refine r_gI dX6_meets_94 flX6_81_7 rfl ht rfl ?_
              refine j_iconst dX6_meets_97 ?_
              refine j_iadd dX6_meets_98 ?_
              obtain ⟨r74, h⟩ := h
              refine c_pI hW70 dX6_meets_99 flX6_81_7 rfl ht w28 rfl r74 fun F76 eF76 hW75 => ?_
              have h := h F76 eF76
              refine j_goto 56 dX6_meets_102 rfl ?_
              exact J.wk (((((jWk.nil).no).eq).eq).eq) (ihI43 _ _ (Nat.lt_of_lt_of_le h.2 (Nat.le_of_lt_succ hmuI43)) hW75 h.1)
        exact J.wk (((((jWk.nil).no).eq).eq).eq) (lp _ _ _ (Nat.lt_succ_self _) hW34 h0)
      · have h := h2 q38
        clear h1 h2
        refine r_aload_n dX6_meets_39 rfl ?_
        refine r_aload_n dX6_meets_40 rfl ?_
        refine r_gRF dX6_meets_41 flX6_22_7 rfl ht rfl ?_
        refine r_aload_n dX6_meets_44 rfl ?_
        refine r_aload_n dX6_meets_45 rfl ?_
        obtain ⟨P77, hp78, h⟩ := h
        refine r_invV (ci := 7) (As := [vR (jfn N 2105 o), vR a1, vR a2]) (rest := []) dX6_meets_46 lkX6_69 rfl ht rfl rfl (vX6_next (d := 5) (Nat.le_of_ble_eq_true rfl) hW34 ht  hp78) rfl rfl (Nat.le_of_ble_eq_true rfl) (Nat.le_trans (Nat.le_of_ble_eq_true rfl) hd) (ckmB fun z79 F80 A81 hW82 p84 r85 => ?_)
        have h := h z79 F80 A81 p84
        refine j_pop dX6_meets_49 rfl ?_
        obtain ⟨r86, h⟩ := h
        refine j_iinc dX6_meets_50 rfl (jokR rfl (Nat.le_of_ble_eq_true rfl)) ?_
        refine j_goto 31 dX6_meets_53 rfl ?_
        exact J.wk (((((jWk.nil).eq).eq).eq).eq) (ihI36 _ _ _ (Nat.lt_of_lt_of_le h.2 (Nat.le_of_lt_succ hmuI36)) hW82 r86 h.1)
  exact J.wk (((((jWk.nil).eq).eq).eq).eq) (lp _ _ _ _ (Nat.lt_succ_self _) hW29 (by decide) h0)
/-- ChildSays$Put.many()I -/
def wqX7_many (o : Nat) (N : jSh) (F : jFl) (A : jAr) (Q : Int → jFl → jAr → Prop) : Prop :=
  ∃ b1 : Nat, F 2411 o = (b1 : Int) ∧
  jtg N b1 = 17 ∧
  ∃ b4 : Nat, jfn N 2420 o = (b4 : Int) ∧
  jtg N b4 = 1 ∧
  (F 5103 b1 = 0 ∨ F 5103 b1 = 1) ∧
  ∃ (P8 : Int → jFl → jAr → Prop), wqX0_byMany b4 (jfn N 2402 o) (F 5103 b1) N F A P8 ∧
  ∀ z10 F11 A12, P8 z10 F11 A12 →
  Q z10 F11 A12
theorem vX7_many {G : jG} {l : Launch} [jOff l] {d : Nat} {N : jSh} {F : jFl} {A : jAr} {o : Nat} {Q : Int → jFl → jAr → Prop} (hd : 6 ≤ d) (hW : jWg G N F A) (ht : jtg N o = 8) (h : wqX7_many o N F A Q) : jCall G l d mX7_many [vR (o : Int)] N F A (cmI G N Q) := by
  unfold wqX7_many at h
  refine jCall.of (by decide) rfl (ls := [vR (o : Int)]) (by simp only [jent_R, jent_I, jent_L, jent_nil]; exact Nat.le_of_ble_eq_true rfl) (by simp only [jloc, jent_R, jent_I, jent_L, jent_nil]; rfl) ?_
  refine r_aload_n dX7_many_0 rfl ?_
  refine r_gRF dX7_many_1 flX7_3_8 rfl ht rfl ?_
  refine r_aload_n dX7_many_4 rfl ?_
  refine r_gRF dX7_many_5 flX7_18_8 rfl ht rfl ?_
  refine r_aload_n dX7_many_8 rfl ?_
  refine r_gR dX7_many_9 flX7_29_8 rfl ht rfl ?_
  obtain ⟨b1, hz2, h⟩ := h
  obtain ⟨t3, h⟩ := h
  refine r_gI dX7_many_12 flX7_50_17 hz2 t3 rfl ?_
  obtain ⟨b4, hz5, h⟩ := h
  obtain ⟨t6, h⟩ := h
  obtain ⟨b7, h⟩ := h
  obtain ⟨P8, hp9, h⟩ := h
  refine r_invVN (ci := 1) (As := [vR (jfn N 2402 o), vI (F 5103 b1)]) (rest := []) dX7_many_15 lkX7_54 hz5 t6 rfl rfl (vX0_byMany (d := 5) (Nat.le_of_ble_eq_true rfl) hW t6 b7 hp9) rfl rfl (Nat.le_of_ble_eq_true rfl) (Nat.le_trans (Nat.le_of_ble_eq_true rfl) hd) (ckmI fun z10 F11 A12 hW13 p15 r16 => ?_)
  have h := h z10 F11 A12 p15
  exact j_iret dX7_many_18 rfl ⟨_, rfl, rfl, hW13, h, r16⟩
/-- java/util/ArrayList.add(Ljava/lang/Object;[Ljava/lang/Object;I)V -/
def wqJ2_add_2 (S : Nat → Nat) (o : Nat) (a1 : Int) (a2 : Int) (a3 : Int) (N : jSh) (F : jFl) (A : jAr) (Q : jSh → jFl → jAr → Prop) : Prop :=
  ∃ b1 : Nat, a2 = (b1 : Int) ∧
  jtg N b1 = 104 ∧
  jR (jln N b1 : Int) ∧
  ∃ K12 : Int → jSh → jFl → jAr → Prop, (
    ∀ (v6 : Int) (N7 : jSh) (F8 : jFl) (A9 : jAr), K12 v6 N7 F8 A9 →
    ∃ b15 : Nat, v6 = (b15 : Int) ∧
    jtg N7 b15 = 104 ∧
    jfn N7 0 b15 = 1 ∧
    ((0 : Int) ≤ a3 ∧ (a3 : Int) < (jln N7 b15 : Int)) ∧
    jast N7 "java/lang/Object" a1 ∧
    ∀ A20 : jAr, A20 = upA A9 b15 a3 a1 →
    jfn N7 0 o = 1 ∧
    jR (a3 + 1) ∧
    ∀ F27 : jFl, F27 = upF F8 6003 o (a3 + 1) →
    Q N7 F27 A20) ∧
  ((¬ a3 = (jln N b1 : Int)) →
    K12 a2 N F A) ∧
  ((a3 = (jln N b1 : Int)) →
    ∃ (P28 : Int → jSh → jFl → jAr → Prop), wqJ2_grow S o N F A P28 ∧
    ∀ z30 N33 F31 A32, P28 z30 N33 F31 A32 →
    K12 z30 N33 F31 A32)
theorem vJ2_add_2 {G : jG} {l : Launch} [jOff l] {d : Nat} {N : jSh} {F : jFl} {A : jAr} {o : Nat} {a1 a2 a3 : Int} {Q : jSh → jFl → jAr → Prop} (hd : 7 ≤ d) (hW : jWg G N F A) (ht : jtg N o = 20) (ra3 : jR a3) (h : wqJ2_add_2 (gS G) o a1 a2 a3 N F A Q) : jCall G l d mJ2_add_2 [vR (o : Int), vR a1, vR a2, vI a3] N F A (cnV G N Q) := by
  unfold wqJ2_add_2 at h
  refine jCall.of (by decide) rfl (ls := [vR (o : Int), vR a1, vR a2, vI a3]) (by simp only [jent_R, jent_I, jent_L, jent_nil]; exact Nat.le_of_ble_eq_true rfl) (by simp only [jloc, jent_R, jent_I, jent_L, jent_nil]; rfl) ?_
  refine j_iload_n dJ2_add_2_0 rfl ?_
  refine r_aload_n dJ2_add_2_1 rfl ?_
  obtain ⟨b1, hz2, h⟩ := h
  obtain ⟨t3, h⟩ := h
  refine r_alen dJ2_add_2_2 hz2 t3 rfl ?_
  obtain ⟨r4, h⟩ := h
  obtain ⟨K12, hK14, h⟩ := h
  have jn13 : ∀ (v6 : Int) (N7 : jSh) (F8 : jFl) (A9 : jAr), jWg G N7 F8 A9 → jTx N N7 → K12 v6 N7 F8 A9 → J G l d mJ2_add_2 11 [vR (o : Int), vR a1, vR v6, vI a3] [] N7 F8 A9 (cnV G N Q) := by
    intro v6 N7 F8 A9 hW10 hT11  h
    have h := hK14 v6 N7 F8 A9 h
    refine r_aload_n dJ2_add_2_11 rfl ?_
    refine j_iload_n dJ2_add_2_12 rfl ?_
    refine r_aload_n dJ2_add_2_13 rfl ?_
    obtain ⟨b15, hz16, h⟩ := h
    obtain ⟨t17, h⟩ := h
    obtain ⟨w18, h⟩ := h
    obtain ⟨c19, h⟩ := h
    obtain ⟨j22, h⟩ := h
    refine c_aast hW10 dJ2_add_2_14 hz16 t17 rfl w18 c19 j22 rfl fun A20 eA20 hW21 => ?_
    have h := h A20 eA20
    refine r_aload_n dJ2_add_2_15 rfl ?_
    refine j_iload_n dJ2_add_2_16 rfl ?_
    refine j_iconst dJ2_add_2_17 ?_
    refine j_iadd dJ2_add_2_18 ?_
    have t23 : jtg N7 o = 20 := (hT11.tg hW ht)
    obtain ⟨w24, h⟩ := h
    obtain ⟨r25, h⟩ := h
    refine c_pI hW21 dJ2_add_2_19 flJ2_48_20 rfl t23 w24 rfl r25 fun F27 eF27 hW26 => ?_
    have h := h F27 eF27
    exact j_vret dJ2_add_2_22 rfl ⟨rfl, hW26, hT11, h⟩
  obtain ⟨h1, h2⟩ := h
  refine j_icmp_ne 11 dJ2_add_2_3 rfl ra3 r4 (fun q5 => ?_) (fun q5 => ?_)
  · have h := h1 q5
    clear h1 h2
    exact J.wk (((((jWk.nil).eq).eq).eq).eq) (jn13 _ _ _ _ hW (jTx.refl _) h)
  · have h := h2 (Classical.not_not.mp q5)
    clear h1 h2
    refine r_aload_n dJ2_add_2_6 rfl ?_
    obtain ⟨P28, hp29, h⟩ := h
    refine r_invV (ci := 20) (As := []) (rest := []) dJ2_add_2_7 lkJ2_129 rfl ht rfl rfl (vJ2_grow (d := 6) (Nat.le_of_ble_eq_true rfl) hW ht  hp29) rfl rfl (Nat.le_of_ble_eq_true rfl) (Nat.le_trans (Nat.le_of_ble_eq_true rfl) hd) (cknR fun z30 N33 F31 A32 hW34 hT35 p36 r37 => ?_)
    have h := h z30 N33 F31 A32 p36
    refine r_astore_n dJ2_add_2_10 (jokR rfl (Nat.le_of_ble_eq_true rfl)) ?_
    exact J.wk (((((jWk.nil).eq).eq).eq).eq) (jn13 _ _ _ _ hW34 hT35 h)
/-- java/lang/AbstractStringBuilder.inflate()V -/
def wqJ3_inflate (S : Nat → Nat) (o : Nat) (N : jSh) (F : jFl) (A : jAr) (Q : jSh → jFl → jAr → Prop) : Prop :=
  ∃ (P1 : Int → Prop), wqJ3_isLatin1 S o N F A P1 ∧
  ∀ z3, P1 z3 →
  ((¬ z3 = 0) →
    ∃ b9 : Nat, F 7202 o = (b9 : Int) ∧
    jtg N b9 = 108 ∧
    jR (jln N b9 : Int) ∧
    ∃ (P13 : Int → jSh → jFl → jAr → Prop), wqJ6_newBytesFor S (jln N b9 : Int) N F A P13 ∧
    ∀ z15 N18 F16 A17, P13 z15 N18 F16 A17 →
    ∃ (P24 : jFl → jAr → Prop), wqJ10_inflate S (F16 7202 o) 0 z15 0 (F16 7209 o) N18 F16 A17 P24 ∧
    ∀ F27 A28, P24 F27 A28 →
    jfn N18 0 o = 1 ∧
    ∀ F35 : jFl, F35 = upF F27 7202 o z15 →
    ∀ F37 : jFl, F37 = upF F35 7203 o 1 →
    Q N18 F37 A28) ∧
  ((z3 = 0) →
    Q N F A)
theorem vJ3_inflate {G : jG} {l : Launch} [jOff l] {d : Nat} {N : jSh} {F : jFl} {A : jAr} {o : Nat} {Q : jSh → jFl → jAr → Prop} (hd : 7 ≤ d) (hW : jWg G N F A) (ht : jtg N o = 21) (h : wqJ3_inflate (gS G) o N F A Q) : jCall G l d mJ3_inflate [vR (o : Int)] N F A (cnV G N Q) := by
  unfold wqJ3_inflate at h
  refine jCall.of (by decide) rfl (ls := [vR (o : Int), jD]) (by simp only [jent_R, jent_I, jent_L, jent_nil]; exact Nat.le_of_ble_eq_true rfl) (by simp only [jloc, jent_R, jent_I, jent_L, jent_nil]; rfl) ?_
  refine r_aload_n dJ3_inflate_0 rfl ?_
  obtain ⟨P1, hp2, h⟩ := h
  refine r_invU (ci := 21) (As := []) (rest := []) rfl dJ3_inflate_1 lkUJ3_83 rfl ht (vJ3_isLatin1 (d := 2) (Nat.le_of_ble_eq_true rfl) hW ht  hp2) rfl rfl (Nat.le_of_ble_eq_true rfl) (Nat.le_trans (Nat.le_of_ble_eq_true rfl) hd) (jkpB fun z3 p6 r7 => ?_)
  have h := h z3 p6
  obtain ⟨h1, h2⟩ := h
  refine j_if_ne 8 dJ3_inflate_4 rfl (jR_b r7) (fun q8 => ?_) (fun q8 => ?_)
  · have h := h1 q8
    clear h1 h2
    refine r_aload_n dJ3_inflate_8 rfl ?_
    refine r_gR dJ3_inflate_9 flJ3_15_21 rfl ht rfl ?_
    obtain ⟨b9, hz10, h⟩ := h
    obtain ⟨t11, h⟩ := h
    refine r_alen dJ3_inflate_12 hz10 t11 rfl ?_
    obtain ⟨r12, h⟩ := h
    obtain ⟨P13, hp14, h⟩ := h
    refine r_invS (As := [vI (jln N b9 : Int)]) (rest := []) dJ3_inflate_13 lkJ3_26 (vJ6_newBytesFor (d := 3) (Nat.le_of_ble_eq_true rfl) hW r12 hp14) rfl rfl (Nat.le_of_ble_eq_true rfl) (Nat.le_trans (Nat.le_of_ble_eq_true rfl) hd) (cknR fun z15 N18 F16 A17 hW19 hT20 p21 r22 => ?_)
    have h := h z15 N18 F16 A17 p21
    refine r_astore_n dJ3_inflate_16 (jokR rfl (Nat.le_of_ble_eq_true rfl)) ?_
    refine r_aload_n dJ3_inflate_17 rfl ?_
    have t23 : jtg N18 o = 21 := (hT20.tg hW ht)
    refine r_gR dJ3_inflate_18 flJ3_15_21 rfl t23 rfl ?_
    refine j_iconst dJ3_inflate_21 ?_
    refine r_aload_n dJ3_inflate_22 rfl ?_
    refine j_iconst dJ3_inflate_23 ?_
    refine r_aload_n dJ3_inflate_24 rfl ?_
    refine r_gI dJ3_inflate_25 flJ3_79_21 rfl t23 rfl ?_
    obtain ⟨P24, hp25, h⟩ := h
    refine r_invS (As := [vR (F16 7202 o), vI 0, vR z15, vI 0, vI (F16 7209 o)]) (rest := []) dJ3_inflate_28 lkJ3_125 (vJ10_inflate (d := 6) (Nat.le_of_ble_eq_true rfl) hW19 (by decide) (by decide) (hW19.fi rfl) hp25) rfl rfl (Nat.le_of_ble_eq_true rfl) (Nat.le_trans (Nat.le_of_ble_eq_true rfl) hd) (ckmV fun F27 A28 hW29 p31 => ?_)
    have h := h F27 A28 p31
    refine r_aload_n dJ3_inflate_31 rfl ?_
    refine r_aload_n dJ3_inflate_32 rfl ?_
    obtain ⟨w33, h⟩ := h
    refine c_pR hW29 dJ3_inflate_33 flJ3_15_21 rfl t23 w33 rfl (ty := (.array .byte)) (by decide +kernel) (Or.inr ⟨_, rfl⟩) fun F35 eF35 hW34 => ?_
    have h := h F35 eF35
    refine r_aload_n dJ3_inflate_36 rfl ?_
    refine j_iconst dJ3_inflate_37 ?_
    refine c_pB hW34 dJ3_inflate_38 flJ3_22_21 rfl t23 w33 rfl (by decide) (by decide) fun F37 eF37 hW36 => ?_
    have h := h F37 eF37
    exact j_vret dJ3_inflate_41 rfl ⟨rfl, hW36, hT20, h⟩
  · have h := h2 (Classical.not_not.mp q8)
    clear h1 h2
    exact j_vret dJ3_inflate_7 rfl ⟨rfl, hW, (jTx.refl N), h⟩
/-- java/lang/StringBuilder.append(C)Ljava/lang/StringBuilder; -/
def wqJ4_append (S : Nat → Nat) (o : Nat) (a1 : Int) (N : jSh) (F : jFl) (A : jAr) (Q : Int → jSh → jFl → jAr → Prop) : Prop :=
  ∃ (P1 : Int → jSh → jFl → jAr → Prop), wqJ3_append S o a1 N F A P1 ∧
  ∀ z3 N6 F4 A5, P1 z3 N6 F4 A5 →
  Q (o : Int) N6 F4 A5
theorem vJ4_append {G : jG} {l : Launch} [jOff l] {d : Nat} {N : jSh} {F : jFl} {A : jAr} {o : Nat} {a1 : Int} {Q : Int → jSh → jFl → jAr → Prop} (hd : 7 ≤ d) (hW : jWg G N F A) (ht : jtg N o = 21) (ra1 : jR a1) (h : wqJ4_append (gS G) o a1 N F A Q) : jCall G l d mJ4_append [vR (o : Int), vI a1] N F A (cnR G N Q) := by
  unfold wqJ4_append at h
  refine jCall.of (by decide) rfl (ls := [vR (o : Int), vI a1]) (by simp only [jent_R, jent_I, jent_L, jent_nil]; exact Nat.le_of_ble_eq_true rfl) (by simp only [jloc, jent_R, jent_I, jent_L, jent_nil]; rfl) ?_
  refine r_aload_n dJ4_append_0 rfl ?_
  refine j_iload_n dJ4_append_1 rfl ?_
  obtain ⟨P1, hp2, h⟩ := h
  refine r_invSU (ci := 21) (As := [vI a1]) (rest := []) dJ4_append_2 lkSUJ4_50 rfl ht rfl (vJ3_append (d := 6) (Nat.le_of_ble_eq_true rfl) hW ht ra1 hp2) rfl rfl (Nat.le_of_ble_eq_true rfl) (Nat.le_trans (Nat.le_of_ble_eq_true rfl) hd) (cknR fun z3 N6 F4 A5 hW7 hT8 p9 r10 => ?_)
  have h := h z3 N6 F4 A5 p9
  refine j_pop dJ4_append_5 (vR_cat _) ?_
  refine r_aload_n dJ4_append_6 rfl ?_
  exact r_aret dJ4_append_7 rfl (Or.inl ⟨_, rfl⟩) ⟨_, rfl, hW7, hT8, h, trivial⟩
/-- java/lang/StringBuilder.setLength(I)V -/
def wqJ4_setLength (S : Nat → Nat) (o : Nat) (a1 : Int) (N : jSh) (F : jFl) (A : jAr) (Q : jSh → jFl → jAr → Prop) : Prop :=
  ∃ (P1 : jSh → jFl → jAr → Prop), wqJ3_setLength S o a1 N F A P1 ∧
  ∀ N6 F4 A5, P1 N6 F4 A5 →
  Q N6 F4 A5
theorem vJ4_setLength {G : jG} {l : Launch} [jOff l] {d : Nat} {N : jSh} {F : jFl} {A : jAr} {o : Nat} {a1 : Int} {Q : jSh → jFl → jAr → Prop} (hd : 7 ≤ d) (hW : jWg G N F A) (ht : jtg N o = 21) (ra1 : jR a1) (h : wqJ4_setLength (gS G) o a1 N F A Q) : jCall G l d mJ4_setLength [vR (o : Int), vI a1] N F A (cnV G N Q) := by
  unfold wqJ4_setLength at h
  refine jCall.of (by decide) rfl (ls := [vR (o : Int), vI a1]) (by simp only [jent_R, jent_I, jent_L, jent_nil]; exact Nat.le_of_ble_eq_true rfl) (by simp only [jloc, jent_R, jent_I, jent_L, jent_nil]; rfl) ?_
  refine r_aload_n dJ4_setLength_0 rfl ?_
  refine j_iload_n dJ4_setLength_1 rfl ?_
  obtain ⟨P1, hp2, h⟩ := h
  refine r_invSU (ci := 21) (As := [vI a1]) (rest := []) dJ4_setLength_2 lkSUJ4_333 rfl ht rfl (vJ3_setLength (d := 6) (Nat.le_of_ble_eq_true rfl) hW ht ra1 hp2) rfl rfl (Nat.le_of_ble_eq_true rfl) (Nat.le_trans (Nat.le_of_ble_eq_true rfl) hd) (cknV fun N6 F4 A5 hW7 hT8 p9 => ?_)
  have h := h N6 F4 A5 p9
  exact j_vret dJ4_setLength_5 rfl ⟨rfl, hW7, hT8, h⟩
/-- java/lang/String.<init>([CIILjava/lang/Void;)V -/
def wqJ5_init_2 (S : Nat → Nat) (o : Nat) (a1 : Int) (a2 : Int) (a3 : Int) (a4 : Int) (N : jSh) (F : jFl) (A : jAr) (Q : jSh → jFl → jAr → Prop) : Prop :=
  ((¬ a3 = 0) →
    (((1 : Int) = 0) →
      jfn N 0 o = 1 ∧
      ∀ N5 : jSh, N5 = jpF N 6603 o 1 →
      ∃ (P7 : Int → jSh → jFl → jAr → Prop), wqJ6_toBytes S a1 a2 a3 N5 F A P7 ∧
      ∀ z9 N12 F10 A11, P7 z9 N12 F10 A11 →
      ∀ N20 : jSh, N20 = jpF N12 6602 o z9 →
      Q N20 F10 A11) ∧
    ((¬ ((1 : Int) = 0)) →
      ∃ (P22 : Int → jSh → jFl → jAr → Prop), wqJ6_compress S a1 a2 a3 N F A P22 ∧
      ∀ z24 N27 F25 A26, P22 z24 N27 F25 A26 →
      ∃ (P32 : Int → Prop), wqJ6_coderFromArrayLen z24 a3 N27 F25 A26 P32 ∧
      ∀ z34, P32 z34 →
      jfn N27 0 o = 1 ∧
      ∀ N42 : jSh, N42 = jpF N27 6603 o z34 →
      ∀ N47 : jSh, N47 = jpF N42 6602 o z24 →
      Q N47 F25 A26)) ∧
  ((a3 = 0) →
    jtg N (S 18) = 22 ∧
    jfn N 0 o = 1 ∧
    ∀ N52 : jSh, N52 = jpF N 6602 o (jfn N 6602 (S 18)) →
    (-128 ≤ jfn N52 6603 (S 18) ∧ jfn N52 6603 (S 18) ≤ 127) ∧
    ∀ N59 : jSh, N59 = jpF N52 6603 o (jfn N52 6603 (S 18)) →
    Q N59 F A)
theorem vJ5_init_2 {G : jG} {l : Launch} [jOff l] {d : Nat} {N : jSh} {F : jFl} {A : jAr} {o : Nat} {a1 a2 a3 a4 : Int} {Q : jSh → jFl → jAr → Prop} (hd : 7 ≤ d) (hW : jWg G N F A) (ht : jtg N o = 22) (ra2 : jR a2) (ra3 : jR a3) (h : wqJ5_init_2 (gS G) o a1 a2 a3 a4 N F A Q) : jCall G l d mJ5_init_2 [vR (o : Int), vR a1, vI a2, vI a3, vR a4] N F A (cnV G N Q) := by
  unfold wqJ5_init_2 at h
  refine jCall.of (by decide) rfl (ls := [vR (o : Int), vR a1, vI a2, vI a3, vR a4, jD]) (by simp only [jent_R, jent_I, jent_L, jent_nil]; exact Nat.le_of_ble_eq_true rfl) (by simp only [jloc, jent_R, jent_I, jent_L, jent_nil]; rfl) ?_
  refine r_aload_n dJ5_init_2_0 rfl ?_
  refine r_objInit dJ5_init_2_1 q769 rfl (Nat.le_trans (Nat.le_of_ble_eq_true rfl) hd) (Nat.le_of_ble_eq_true rfl) ?_
  refine j_iload_n dJ5_init_2_4 rfl ?_
  obtain ⟨h1, h2⟩ := h
  refine j_if_ne 27 dJ5_init_2_5 rfl ra3 (fun q1 => ?_) (fun q1 => ?_)
  · have h := h1 q1
    clear h1 h2
    refine r_gets (q := ("java/lang/String", "COMPACT_STRINGS", "Z", 1001)) (v := vI 1) dJ5_init_2_27 (List.mem_of_elem_eq_true (by decide +kernel)) q771 rfl ?_
    obtain ⟨h1, h2⟩ := h
    refine j_if_eq 58 dJ5_init_2_30 rfl (by decide) (fun q2 => ?_) (fun q2 => ?_)
    · have h := h1 q2
      clear h1 h2
      refine r_aload_n dJ5_init_2_58 rfl ?_
      refine j_iconst dJ5_init_2_59 ?_
      obtain ⟨w3, h⟩ := h
      refine c_pBF hW dJ5_init_2_60 flJ5_15_22 rfl ht w3 rfl (by decide) (by decide) rfl (by intro c hc; cases hc; rfl) (by decide) fun N5 eN5 hT6 hW4 => ?_
      have h := h N5 eN5
      refine r_aload_n dJ5_init_2_63 rfl ?_
      refine r_aload_n dJ5_init_2_64 rfl ?_
      refine j_iload_n dJ5_init_2_65 rfl ?_
      refine j_iload_n dJ5_init_2_66 rfl ?_
      obtain ⟨P7, hp8, h⟩ := h
      refine r_invS (As := [vR a1, vI a2, vI a3]) (rest := [vR (o : Int)]) dJ5_init_2_67 lkJ5_180 (vJ6_toBytes (d := 4) (Nat.le_of_ble_eq_true rfl) hW4 ra2 ra3 hp8) rfl rfl (Nat.le_of_ble_eq_true rfl) (Nat.le_trans (Nat.le_of_ble_eq_true rfl) hd) (cknR fun z9 N12 F10 A11 hW13 hT14 p15 r16 => ?_)
      have h := h z9 N12 F10 A11 p15
      have t17 : jtg N12 o = 22 := (hT14.tg hW4 (hT6.tg hW ht))
      have w18 : jfn N12 0 o = 1 := (hT14.ow hW4 (hT6.tg hW ht) (hT6.ow hW ht w3))
      refine c_pRF hW13 dJ5_init_2_70 flJ5_9_22 rfl t17 w18 rfl (ty := (.array .byte)) rfl (by intro c hc; cases hc; rfl) (by decide) (by decide +kernel) (Or.inr ⟨_, rfl⟩) fun N20 eN20 hT21 hW19 => ?_
      have h := h N20 eN20
      exact j_vret dJ5_init_2_73 rfl ⟨rfl, hW19, ((hT6.trans hT14).trans hT21), h⟩
    · have h := h2 q2
      clear h1 h2
      refine r_aload_n dJ5_init_2_33 rfl ?_
      refine j_iload_n dJ5_init_2_34 rfl ?_
      refine j_iload_n dJ5_init_2_35 rfl ?_
      obtain ⟨P22, hp23, h⟩ := h
      refine r_invS (As := [vR a1, vI a2, vI a3]) (rest := []) dJ5_init_2_36 lkJ5_177 (vJ6_compress (d := 6) (Nat.le_of_ble_eq_true rfl) hW ra2 ra3 hp23) rfl rfl (Nat.le_of_ble_eq_true rfl) (Nat.le_trans (Nat.le_of_ble_eq_true rfl) hd) (cknR fun z24 N27 F25 A26 hW28 hT29 p30 r31 => ?_)
      have h := h z24 N27 F25 A26 p30
      refine r_astore dJ5_init_2_39 (jokR rfl (Nat.le_of_ble_eq_true rfl)) ?_
      refine r_aload_n dJ5_init_2_41 rfl ?_
      refine r_aload dJ5_init_2_42 rfl ?_
      refine j_iload_n dJ5_init_2_44 rfl ?_
      obtain ⟨P32, hp33, h⟩ := h
      refine r_invS (As := [vR z24, vI a3]) (rest := [vR (o : Int)]) dJ5_init_2_45 lkJ5_47 (vJ6_coderFromArrayLen (d := 2) (Nat.le_of_ble_eq_true rfl) hW28 ra3 hp33) rfl rfl (Nat.le_of_ble_eq_true rfl) (Nat.le_trans (Nat.le_of_ble_eq_true rfl) hd) (jkpY fun z34 p37 r38 => ?_)
      have h := h z34 p37
      have t39 : jtg N27 o = 22 := (hT29.tg hW ht)
      obtain ⟨w40, h⟩ := h
      refine c_pBF hW28 dJ5_init_2_48 flJ5_15_22 rfl t39 w40 rfl (jR_y r38) r38 rfl (by intro c hc; cases hc; rfl) (by decide) fun N42 eN42 hT43 hW41 => ?_
      have h := h N42 eN42
      refine r_aload_n dJ5_init_2_51 rfl ?_
      refine r_aload dJ5_init_2_52 rfl ?_
      have t44 : jtg N42 o = 22 := (hT43.tg hW28 t39)
      have w45 : jfn N42 0 o = 1 := (hT43.ow hW28 t39 w40)
      refine c_pRF hW41 dJ5_init_2_54 flJ5_9_22 rfl t44 w45 rfl (ty := (.array .byte)) rfl (by intro c hc; cases hc; rfl) (by decide) (by decide +kernel) (Or.inr ⟨_, rfl⟩) fun N47 eN47 hT48 hW46 => ?_
      have h := h N47 eN47
      exact j_vret dJ5_init_2_57 rfl ⟨rfl, hW46, ((hT29.trans hT43).trans hT48), h⟩
  · have h := h2 (Classical.not_not.mp q1)
    clear h1 h2
    refine r_aload_n dJ5_init_2_8 rfl ?_
    refine r_ldcs (n := 18) (tx := "") dJ5_init_2_9 (List.mem_of_elem_eq_true (by decide +kernel)) ?_
    obtain ⟨t49, h⟩ := h
    refine r_gRF dJ5_init_2_11 flJ5_9_22 rfl t49 rfl ?_
    obtain ⟨w50, h⟩ := h
    refine c_pRF hW dJ5_init_2_14 flJ5_9_22 rfl ht w50 rfl (ty := (.array .byte)) rfl (by intro c hc; cases hc; rfl) (by decide) (by decide +kernel) (Or.inr ⟨_, rfl⟩) fun N52 eN52 hT53 hW51 => ?_
    have h := h N52 eN52
    refine r_aload_n dJ5_init_2_17 rfl ?_
    refine r_ldcs (n := 18) (tx := "") dJ5_init_2_18 (List.mem_of_elem_eq_true (by decide +kernel)) ?_
    have t54 : jtg N52 (gS G 18) = 22 := (hT53.tg hW t49)
    refine r_gIF dJ5_init_2_20 flJ5_15_22 rfl t54 rfl ?_
    have t55 : jtg N52 o = 22 := (hT53.tg hW ht)
    have w56 : jfn N52 0 o = 1 := (hT53.ow hW ht w50)
    obtain ⟨y57, h⟩ := h
    refine c_pBF hW51 dJ5_init_2_23 flJ5_15_22 rfl t55 w56 rfl (hW51.ni rfl (by decide)) y57 rfl (by intro c hc; cases hc; rfl) (by decide) fun N59 eN59 hT60 hW58 => ?_
    have h := h N59 eN59
    exact j_vret dJ5_init_2_26 rfl ⟨rfl, hW58, (hT53.trans hT60), h⟩
/-- java/lang/Exception.<init>()V -/
def wqJ8_init (o : Nat) (N : jSh) (F : jFl) (A : jAr) (Q : jFl → jAr → Prop) : Prop :=
  ∃ (P1 : jFl → jAr → Prop), wqJ7_init o N F A P1 ∧
  ∀ F4 A5, P1 F4 A5 →
  Q F4 A5
theorem vJ8_init {G : jG} {l : Launch} [jOff l] {d : Nat} {N : jSh} {F : jFl} {A : jAr} {o : Nat} {Q : jFl → jAr → Prop} (hd : 7 ≤ d) (hW : jWg G N F A) (ht : jtg N o = 12) (h : wqJ8_init o N F A Q) : jCall G l d mJ8_init [vR (o : Int)] N F A (cmV G N Q) := by
  unfold wqJ8_init at h
  refine jCall.of (by decide) rfl (ls := [vR (o : Int)]) (by simp only [jent_R, jent_I, jent_L, jent_nil]; exact Nat.le_of_ble_eq_true rfl) (by simp only [jloc, jent_R, jent_I, jent_L, jent_nil]; rfl) ?_
  refine r_aload_n dJ8_init_0 rfl ?_
  obtain ⟨P1, ⟨g1, g2, g3⟩, h⟩ := h
  rw [vR_nat]
  exact r_thrInit (Nat.le_trans (by decide) hd) ht (hW.2.1 o g1) g2 (by decide) (j_vret dJ8_init_4 rfl ⟨rfl, rfl, thF_W hW, h _ _ (g3 _ thF_o thF_25)⟩)
/-- ChildSays.becomes(IIZ)I -/
def wqX0_becomes_2 (o : Nat) (a1 : Int) (a2 : Int) (a3 : Int) (N : jSh) (F : jFl) (A : jAr) (Q : Int → jFl → jAr → Prop) : Prop :=
  ∃ (P1 : Int → Prop), wqX0_standingOf o a1 N F A P1 ∧
  ∀ z3, P1 z3 →
  ((z3 < 0) →
    Q (-1) F A) ∧
  ((¬ (z3 < 0)) →
    ∃ b9 : Nat, F 311 o = (b9 : Int) ∧
    jtg N b9 = 2 ∧
    ∃ b12 : Nat, jfn N 623 b9 = (b12 : Int) ∧
    jtg N b12 = 20 ∧
    ∃ (P15 : Int → Prop), wqJ2_isEmpty b12 N F A P15 ∧
    ∀ z17, P15 z17 →
    ((z17 = 0) →
      ∃ b23 : Nat, jfn N 335 o = (b23 : Int) ∧
      jtg N b23 = 6 ∧
      ∃ (P26 : Int → jFl → jAr → Prop), wqX5_of b23 z3 N F A P26 ∧
      ∀ z28 F29 A30, P26 z28 F29 A30 →
      ((¬ a2 = (-1)) →
        jR ((F29 1809 b23) - 1) ∧
        ∃ (P37 : Int → Prop), wqX0_isIn a2 0 ((F29 1809 b23) - 1) N F29 A30 P37 ∧
        ∀ z39, P37 z39 →
        ((¬ z39 = 0) →
          ((a3 = 0) →
            ∃ b46 : Nat, jfn N 1808 b23 = (b46 : Int) ∧
            jtg N b46 = 102 ∧
            ((0 : Int) ≤ a2 ∧ (a2 : Int) < (jln N b46 : Int)) ∧
            Q (A30 b46 a2) F29 A30) ∧
          ((¬ (a3 = 0)) →
            ∃ b50 : Nat, jfn N 1805 b23 = (b50 : Int) ∧
            jtg N b50 = 102 ∧
            ((0 : Int) ≤ a2 ∧ (a2 : Int) < (jln N b50 : Int)) ∧
            Q (A30 b50 a2) F29 A30)) ∧
        ((z39 = 0) →
          Q (-1) F29 A30)) ∧
      ((a2 = (-1)) →
        Q (F29 1809 b23) F29 A30)) ∧
    ((¬ (z17 = 0)) →
      Q (-1) F A))
theorem vX0_becomes_2 {G : jG} {l : Launch} [jOff l] {d : Nat} {N : jSh} {F : jFl} {A : jAr} {o : Nat} {a1 a2 a3 : Int} {Q : Int → jFl → jAr → Prop} (hd : 7 ≤ d) (hW : jWg G N F A) (ht : jtg N o = 1) (ra1 : jR a1) (ra2 : jR a2) (ba3 : a3 = 0 ∨ a3 = 1) (h : wqX0_becomes_2 o a1 a2 a3 N F A Q) : jCall G l d mX0_becomes_2 [vR (o : Int), vI a1, vI a2, vI a3] N F A (cmI G N Q) := by
  unfold wqX0_becomes_2 at h
  refine jCall.of (by decide) rfl (ls := [vR (o : Int), vI a1, vI a2, vI a3, jD]) (by simp only [jent_R, jent_I, jent_L, jent_nil]; exact Nat.le_of_ble_eq_true rfl) (by simp only [jloc, jent_R, jent_I, jent_L, jent_nil]; rfl) ?_
  refine r_aload_n dX0_becomes_2_0 rfl ?_
  refine j_iload_n dX0_becomes_2_1 rfl ?_
  obtain ⟨P1, hp2, h⟩ := h
  refine r_invV (ci := 1) (As := [vI a1]) (rest := []) dX0_becomes_2_2 lkX0_347 rfl ht rfl rfl (vX0_standingOf (d := 6) (Nat.le_of_ble_eq_true rfl) hW ht ra1 hp2) rfl rfl (Nat.le_of_ble_eq_true rfl) (Nat.le_trans (Nat.le_of_ble_eq_true rfl) hd) (jkpR fun z3 p6 r7 => ?_)
  have h := h z3 p6
  refine r_astore dX0_becomes_2_5 rfl ?_
  refine r_aload dX0_becomes_2_7 rfl ?_
  obtain ⟨h1, h2⟩ := h
  refine r_ifnull 25 dX0_becomes_2_9 rfl (fun q8 => ?_) (fun q8 => ?_)
  · have h := h1 q8
    clear h1 h2
    refine j_iconst dX0_becomes_2_25 ?_
    exact j_iret dX0_becomes_2_26 rfl ⟨_, rfl, rfl, hW, h, (by decide)⟩
  · have h := h2 q8
    clear h1 h2
    refine r_aload_n dX0_becomes_2_12 rfl ?_
    refine r_gR dX0_becomes_2_13 flX0_20_1 rfl ht rfl ?_
    obtain ⟨b9, hz10, h⟩ := h
    obtain ⟨t11, h⟩ := h
    refine r_gRF dX0_becomes_2_16 flX0_203_2 hz10 t11 rfl ?_
    obtain ⟨b12, hz13, h⟩ := h
    obtain ⟨t14, h⟩ := h
    obtain ⟨P15, hp16, h⟩ := h
    refine r_invV (ci := 20) (As := []) (rest := []) dX0_becomes_2_19 lkX0_190 hz13 t14 rfl rfl (vJ2_isEmpty (d := 2) (Nat.le_of_ble_eq_true rfl) hW t14  hp16) rfl rfl (Nat.le_of_ble_eq_true rfl) (Nat.le_trans (Nat.le_of_ble_eq_true rfl) hd) (jkpB fun z17 p20 r21 => ?_)
    have h := h z17 p20
    obtain ⟨h1, h2⟩ := h
    refine j_if_eq 27 dX0_becomes_2_22 rfl (jR_b r21) (fun q22 => ?_) (fun q22 => ?_)
    · have h := h1 q22
      clear h1 h2
      refine r_aload_n dX0_becomes_2_27 rfl ?_
      refine r_gRF dX0_becomes_2_28 flX0_58_1 rfl ht rfl ?_
      refine r_aload dX0_becomes_2_31 rfl ?_
      obtain ⟨b23, hz24, h⟩ := h
      obtain ⟨t25, h⟩ := h
      obtain ⟨P26, hp27, h⟩ := h
      refine r_invV (ci := 6) (As := [vR z3]) (rest := []) dX0_becomes_2_33 lkX0_434 hz24 t25 rfl rfl (vX5_of (d := 6) (Nat.le_of_ble_eq_true rfl) hW t25  hp27) rfl rfl (Nat.le_of_ble_eq_true rfl) (Nat.le_trans (Nat.le_of_ble_eq_true rfl) hd) (ckmR fun z28 F29 A30 hW31 p33 r34 => ?_)
      have h := h z28 F29 A30 p33
      refine j_pop dX0_becomes_2_36 (vR_cat _) ?_
      refine j_iload_n dX0_becomes_2_37 rfl ?_
      refine j_iconst dX0_becomes_2_38 ?_
      obtain ⟨h1, h2⟩ := h
      refine j_icmp_ne 50 dX0_becomes_2_39 rfl ra2 (by decide) (fun q35 => ?_) (fun q35 => ?_)
      · have h := h1 q35
        clear h1 h2
        refine j_iload_n dX0_becomes_2_50 rfl ?_
        refine j_i2l dX0_becomes_2_51 ra2 ?_
        refine j_lconst 0 rfl dX0_becomes_2_52 ?_
        refine r_aload_n dX0_becomes_2_53 rfl ?_
        refine r_gRF dX0_becomes_2_54 flX0_58_1 rfl ht rfl ?_
        refine r_gIN dX0_becomes_2_57 flX0_437_6 hz24 t25 rfl ?_
        refine j_iconst dX0_becomes_2_60 ?_
        refine j_isub dX0_becomes_2_61 ?_
        obtain ⟨r36, h⟩ := h
        refine j_i2l dX0_becomes_2_62 r36 ?_
        obtain ⟨P37, hp38, h⟩ := h
        refine r_invS (As := [vL a2, vL 0, vL ((F29 1809 b23) - 1)]) (rest := []) dX0_becomes_2_63 lkX0_124 (vX0_isIn (d := 2) (Nat.le_of_ble_eq_true rfl) hW31 (jR_L ra2) (by decide) (jR_L r36) hp38) rfl rfl (Nat.le_of_ble_eq_true rfl) (Nat.le_trans (Nat.le_of_ble_eq_true rfl) hd) (jkpB fun z39 p42 r43 => ?_)
        have h := h z39 p42
        obtain ⟨h1, h2⟩ := h
        refine j_if_ne 73 dX0_becomes_2_66 rfl (jR_b r43) (fun q44 => ?_) (fun q44 => ?_)
        · have h := h1 q44
          clear h1 h2
          refine j_iload_n dX0_becomes_2_73 rfl ?_
          obtain ⟨h1, h2⟩ := h
          refine j_if_eq 89 dX0_becomes_2_74 rfl (jR_b ba3) (fun q45 => ?_) (fun q45 => ?_)
          · have h := h1 q45
            clear h1 h2
            refine r_aload_n dX0_becomes_2_89 rfl ?_
            refine r_gRF dX0_becomes_2_90 flX0_58_1 rfl ht rfl ?_
            refine r_gRFN dX0_becomes_2_93 flX0_443_6 hz24 t25 rfl ?_
            refine j_iload_n dX0_becomes_2_96 rfl ?_
            obtain ⟨b46, hz47, h⟩ := h
            obtain ⟨t48, h⟩ := h
            obtain ⟨c49, h⟩ := h
            refine r_iald dX0_becomes_2_97 hz47 t48 c49 ?_
            exact j_iret dX0_becomes_2_98 rfl ⟨_, rfl, rfl, hW31, h, (hW31.ai t48 rfl)⟩
          · have h := h2 q45
            clear h1 h2
            refine r_aload_n dX0_becomes_2_77 rfl ?_
            refine r_gRF dX0_becomes_2_78 flX0_58_1 rfl ht rfl ?_
            refine r_gRFN dX0_becomes_2_81 flX0_440_6 hz24 t25 rfl ?_
            refine j_iload_n dX0_becomes_2_84 rfl ?_
            obtain ⟨b50, hz51, h⟩ := h
            obtain ⟨t52, h⟩ := h
            obtain ⟨c53, h⟩ := h
            refine r_iald dX0_becomes_2_85 hz51 t52 c53 ?_
            refine j_goto 98 dX0_becomes_2_86 rfl ?_
            exact j_iret dX0_becomes_2_98 rfl ⟨_, rfl, rfl, hW31, h, (hW31.ai t52 rfl)⟩
        · have h := h2 (Classical.not_not.mp q44)
          clear h1 h2
          refine j_iconst dX0_becomes_2_69 ?_
          refine j_goto 98 dX0_becomes_2_70 rfl ?_
          exact j_iret dX0_becomes_2_98 rfl ⟨_, rfl, rfl, hW31, h, (by decide)⟩
      · have h := h2 (Classical.not_not.mp q35)
        clear h1 h2
        refine r_aload_n dX0_becomes_2_42 rfl ?_
        refine r_gRF dX0_becomes_2_43 flX0_58_1 rfl ht rfl ?_
        refine r_gIN dX0_becomes_2_46 flX0_437_6 hz24 t25 rfl ?_
        exact j_iret dX0_becomes_2_49 rfl ⟨_, rfl, rfl, hW31, h, (hW31.fi rfl)⟩
    · have h := h2 q22
      clear h1 h2
      refine j_iconst dX0_becomes_2_25 ?_
      exact j_iret dX0_becomes_2_26 rfl ⟨_, rfl, rfl, hW, h, (by decide)⟩
/-- ChildSays.behind(Ljava/lang/String;II)I -/
def wqX0_behind (S : Nat → Nat) (o : Nat) (a1 : Int) (a2 : Int) (a3 : Int) (N : jSh) (F : jFl) (A : jAr) (Q : Int → Prop) : Prop :=
  jR (a2 + 3) ∧
  (((a2 + 3) ≤ a3) →
    ∃ b3 : Nat, a1 = (b3 : Int) ∧
    jtg N b3 = 22 ∧
    jR (a2 + 1) ∧
    ∃ (P7 : Int → Prop), wqJ5_charAt S b3 (a2 + 1) N F A P7 ∧
    ∀ z9, P7 z9 →
    jR (a2 + 2) ∧
    ∃ (P15 : Int → Prop), wqJ5_charAt S b3 (a2 + 2) N F A P15 ∧
    ∀ z17, P15 z17 →
    jR (((a2 + 3) + z9) + z17) ∧
    ∀ v23 : Int, v23 = ((a2 + 3) + z9) + z17 →
    ∃ (P24 : Int → Prop), wqJ5_charAt S b3 a2 N F A P24 ∧
    ∀ z26, P24 z26 →
    ((1 < z26) →
      Q (-1)) ∧
    ((¬ (1 < z26)) →
      ((8 < z9) →
        Q (-1)) ∧
      ((¬ (8 < z9)) →
        ((4 < z17) →
          Q (-1)) ∧
        ((¬ (4 < z17)) →
          ((¬ z9 = 0) →
            ((v23 ≤ a3) →
              jR (a2 + 3) ∧
              ∀ v37 : Int, v37 = a2 + 3 →
              ∃ (I40 : Int → Prop) (m41 : Int → Nat), I40 v37 ∧ ∀ (v38 : Int), I40 v38 →
                ((v23 ≤ v38) →
                  Q v23) ∧
                ((¬ (v23 ≤ v38)) →
                  ∃ (P43 : Int → Prop), wqJ5_charAt S b3 v38 N F A P43 ∧
                  ∀ z45, P43 z45 →
                  ∃ b50 : Nat, F 311 o = (b50 : Int) ∧
                  jtg N b50 = 2 ∧
                  ∃ b53 : Nat, jfn N 617 b50 = (b53 : Int) ∧
                  jtg N b53 = 20 ∧
                  ∃ (P56 : Int → Prop), wqJ2_size b53 N F A P56 ∧
                  ∀ z58, P56 z58 →
                  ((z45 < z58) →
                    jR (v38 + 1) ∧
                    I40 (v38 + 1) ∧ m41 (v38 + 1) < m41 v38) ∧
                  ((¬ (z45 < z58)) →
                    Q (-1)))) ∧
            ((¬ (v23 ≤ a3)) →
              Q (-1))) ∧
          ((z9 = 0) →
            ((0 < z17) →
              Q (-1)) ∧
            ((¬ (0 < z17)) →
              ((v23 ≤ a3) →
                jR (a2 + 3) ∧
                ∀ v68 : Int, v68 = a2 + 3 →
                ∃ (I71 : Int → Prop) (m72 : Int → Nat), I71 v68 ∧ ∀ (v69 : Int), I71 v69 →
                  ((v23 ≤ v69) →
                    Q v23) ∧
                  ((¬ (v23 ≤ v69)) →
                    ∃ (P74 : Int → Prop), wqJ5_charAt S b3 v69 N F A P74 ∧
                    ∀ z76, P74 z76 →
                    ∃ b81 : Nat, F 311 o = (b81 : Int) ∧
                    jtg N b81 = 2 ∧
                    ∃ b84 : Nat, jfn N 617 b81 = (b84 : Int) ∧
                    jtg N b84 = 20 ∧
                    ∃ (P87 : Int → Prop), wqJ2_size b84 N F A P87 ∧
                    ∀ z89, P87 z89 →
                    ((z76 < z89) →
                      jR (v69 + 1) ∧
                      I71 (v69 + 1) ∧ m72 (v69 + 1) < m72 v69) ∧
                    ((¬ (z76 < z89)) →
                      Q (-1)))) ∧
              ((¬ (v23 ≤ a3)) →
                Q (-1)))))))) ∧
  ((¬ ((a2 + 3) ≤ a3)) →
    Q (-1))
theorem vX0_behind {G : jG} {l : Launch} [jOff l] {d : Nat} {N : jSh} {F : jFl} {A : jAr} {o : Nat} {a1 a2 a3 : Int} {Q : Int → Prop} (hd : 7 ≤ d) (hW : jWg G N F A) (ht : jtg N o = 1) (ra2 : jR a2) (ra3 : jR a3) (h : wqX0_behind (gS G) o a1 a2 a3 N F A Q) : jCall G l d mX0_behind [vR (o : Int), vR a1, vI a2, vI a3] N F A (jpI N F A Q) := by
  unfold wqX0_behind at h
  refine jCall.of (by decide) rfl (ls := [vR (o : Int), vR a1, vI a2, vI a3, jD, jD, jD, jD]) (by simp only [jent_R, jent_I, jent_L, jent_nil]; exact Nat.le_of_ble_eq_true rfl) (by simp only [jloc, jent_R, jent_I, jent_L, jent_nil]; rfl) ?_
  refine j_iload_n dX0_behind_0 rfl ?_
  refine j_iconst dX0_behind_1 ?_
  refine j_iadd dX0_behind_2 ?_
  refine j_iload_n dX0_behind_3 rfl ?_
  obtain ⟨r1, h⟩ := h
  obtain ⟨h1, h2⟩ := h
  refine j_icmp_le 9 dX0_behind_4 rfl r1 ra3 (fun q2 => ?_) (fun q2 => ?_)
  · have h := h1 q2
    clear h1 h2
    refine r_aload_n dX0_behind_9 rfl ?_
    refine j_iload_n dX0_behind_10 rfl ?_
    refine j_iconst dX0_behind_11 ?_
    refine j_iadd dX0_behind_12 ?_
    obtain ⟨b3, hz4, h⟩ := h
    obtain ⟨t5, h⟩ := h
    obtain ⟨r6, h⟩ := h
    obtain ⟨P7, hp8, h⟩ := h
    refine r_invV (ci := 22) (As := [vI (a2 + 1)]) (rest := []) dX0_behind_13 lkX0_145 hz4 t5 rfl rfl (vJ5_charAt (d := 6) (Nat.le_of_ble_eq_true rfl) hW t5 r6 hp8) rfl rfl (Nat.le_of_ble_eq_true rfl) (Nat.le_trans (Nat.le_of_ble_eq_true rfl) hd) (jkpC fun z9 p12 r13 => ?_)
    have h := h z9 p12
    refine j_istore dX0_behind_16 rfl ?_
    refine r_aload_n dX0_behind_18 rfl ?_
    refine j_iload_n dX0_behind_19 rfl ?_
    refine j_iconst dX0_behind_20 ?_
    refine j_iadd dX0_behind_21 ?_
    obtain ⟨r14, h⟩ := h
    obtain ⟨P15, hp16, h⟩ := h
    refine r_invV (ci := 22) (As := [vI (a2 + 2)]) (rest := []) dX0_behind_22 lkX0_145 hz4 t5 rfl rfl (vJ5_charAt (d := 6) (Nat.le_of_ble_eq_true rfl) hW t5 r14 hp16) rfl rfl (Nat.le_of_ble_eq_true rfl) (Nat.le_trans (Nat.le_of_ble_eq_true rfl) hd) (jkpC fun z17 p20 r21 => ?_)
    have h := h z17 p20
    refine j_istore dX0_behind_25 rfl ?_
    refine j_iload_n dX0_behind_27 rfl ?_
    refine j_iconst dX0_behind_28 ?_
    refine j_iadd dX0_behind_29 ?_
    refine j_iload dX0_behind_30 rfl ?_
    refine j_iadd dX0_behind_32 ?_
    refine j_iload dX0_behind_33 rfl ?_
    refine j_iadd dX0_behind_35 ?_
    obtain ⟨r22, h⟩ := h
    obtain ⟨v23, ev23⟩ : ∃ x : Int, x = ((a2 + 3) + z9) + z17 := ⟨_, rfl⟩
    have h := h v23 ev23
    refine jnmI (e := ev23) ?_
    refine j_istore dX0_behind_36 rfl ?_
    refine r_aload_n dX0_behind_38 rfl ?_
    refine j_iload_n dX0_behind_39 rfl ?_
    obtain ⟨P24, hp25, h⟩ := h
    refine r_invV (ci := 22) (As := [vI a2]) (rest := []) dX0_behind_40 lkX0_145 hz4 t5 rfl rfl (vJ5_charAt (d := 6) (Nat.le_of_ble_eq_true rfl) hW t5 ra2 hp25) rfl rfl (Nat.le_of_ble_eq_true rfl) (Nat.le_trans (Nat.le_of_ble_eq_true rfl) hd) (jkpC fun z26 p29 r30 => ?_)
    have h := h z26 p29
    refine j_iconst dX0_behind_43 ?_
    obtain ⟨h1, h2⟩ := h
    refine j_icmp_gt 76 dX0_behind_44 rfl (jR_c r30) (by decide) (fun q31 => ?_) (fun q31 => ?_)
    · have h := h1 q31
      clear h1 h2
      refine j_iconst dX0_behind_76 ?_
      exact j_iret dX0_behind_77 rfl ⟨_, rfl, rfl, rfl, rfl, h, (by decide)⟩
    · have h := h2 q31
      clear h1 h2
      refine j_iload dX0_behind_47 rfl ?_
      refine j_bipush dX0_behind_49 ?_
      obtain ⟨h1, h2⟩ := h
      refine j_icmp_gt 76 dX0_behind_51 rfl (jR_c r13) (by decide) (fun q32 => ?_) (fun q32 => ?_)
      · have h := h1 q32
        clear h1 h2
        refine j_iconst dX0_behind_76 ?_
        exact j_iret dX0_behind_77 rfl ⟨_, rfl, rfl, rfl, rfl, h, (by decide)⟩
      · have h := h2 q32
        clear h1 h2
        refine j_iload dX0_behind_54 rfl ?_
        refine j_iconst dX0_behind_56 ?_
        obtain ⟨h1, h2⟩ := h
        refine j_icmp_gt 76 dX0_behind_57 rfl (jR_c r21) (by decide) (fun q33 => ?_) (fun q33 => ?_)
        · have h := h1 q33
          clear h1 h2
          refine j_iconst dX0_behind_76 ?_
          exact j_iret dX0_behind_77 rfl ⟨_, rfl, rfl, rfl, rfl, h, (by decide)⟩
        · have h := h2 q33
          clear h1 h2
          refine j_iload dX0_behind_60 rfl ?_
          obtain ⟨h1, h2⟩ := h
          refine j_if_ne 70 dX0_behind_62 rfl (jR_c r13) (fun q34 => ?_) (fun q34 => ?_)
          · have h := h1 q34
            clear h1 h2
            refine j_iload dX0_behind_70 rfl ?_
            refine j_iload_n dX0_behind_72 rfl ?_
            obtain ⟨h1, h2⟩ := h
            refine j_icmp_le 78 dX0_behind_73 rfl (ev23 ▸ r22) ra3 (fun q35 => ?_) (fun q35 => ?_)
            · have h := h1 q35
              clear h1 h2
              refine j_iload_n dX0_behind_78 rfl ?_
              refine j_iconst dX0_behind_79 ?_
              refine j_iadd dX0_behind_80 ?_
              obtain ⟨r36, h⟩ := h
              obtain ⟨v37, ev37⟩ : ∃ x : Int, x = a2 + 3 := ⟨_, rfl⟩
              have h := h v37 ev37
              refine jnmI (e := ev37) ?_
              refine j_istore dX0_behind_81 rfl ?_
              obtain ⟨I40, m41, h0, hs⟩ := h
              have lp : ∀ (n : Nat) (v38 : Int), m41 v38 < n → jR v38 → I40 v38 → J G l d mX0_behind 83 [vR (o : Int), vR a1, jD, jD, jD, jD, vI v23, vI v38] [] N F A (jpI N F A Q) := by
                intro nI40
                induction nI40 with
                | zero =>
                  intro v38 hmu
                  exact absurd hmu (Nat.not_lt_zero _)
                | succ nI40 ihI40 =>
                  intro v38 hmuI40 rv38 hI
                  have h := hs v38 hI
                  refine j_iload dX0_behind_83 rfl ?_
                  refine j_iload dX0_behind_85 rfl ?_
                  obtain ⟨h1, h2⟩ := h
                  refine j_icmp_ge 117 dX0_behind_87 rfl rv38 (ev23 ▸ r22) (fun q42 => ?_) (fun q42 => ?_)
                  · have h := h1 q42
                    clear h1 h2
                    refine j_iload dX0_behind_117 rfl ?_
                    exact j_iret dX0_behind_119 rfl ⟨_, rfl, rfl, rfl, rfl, h, (ev23 ▸ r22)⟩
                  · have h := h2 q42
                    clear h1 h2
                    refine r_aload_n dX0_behind_90 rfl ?_
                    refine j_iload dX0_behind_91 rfl ?_
                    obtain ⟨P43, hp44, h⟩ := h
                    refine r_invV (ci := 22) (As := [vI v38]) (rest := []) dX0_behind_93 lkX0_145 hz4 t5 rfl rfl (vJ5_charAt (d := 6) (Nat.le_of_ble_eq_true rfl) hW t5 rv38 hp44) rfl rfl (Nat.le_of_ble_eq_true rfl) (Nat.le_trans (Nat.le_of_ble_eq_true rfl) hd) (jkpC fun z45 p48 r49 => ?_)
                    have h := h z45 p48
                    refine r_aload_n dX0_behind_96 rfl ?_
                    refine r_gR dX0_behind_97 flX0_20_1 rfl ht rfl ?_
                    obtain ⟨b50, hz51, h⟩ := h
                    obtain ⟨t52, h⟩ := h
                    refine r_gRF dX0_behind_100 flX0_197_2 hz51 t52 rfl ?_
                    obtain ⟨b53, hz54, h⟩ := h
                    obtain ⟨t55, h⟩ := h
                    obtain ⟨P56, hp57, h⟩ := h
                    refine r_invV (ci := 20) (As := []) (rest := [vI z45]) dX0_behind_103 lkX0_128 hz54 t55 rfl rfl (vJ2_size (d := 2) (Nat.le_of_ble_eq_true rfl) hW t55  hp57) rfl rfl (Nat.le_of_ble_eq_true rfl) (Nat.le_trans (Nat.le_of_ble_eq_true rfl) hd) (jkpI fun z58 p61 r62 => ?_)
                    have h := h z58 p61
                    obtain ⟨h1, h2⟩ := h
                    refine j_icmp_lt 111 dX0_behind_106 rfl (jR_c r49) r62 (fun q63 => ?_) (fun q63 => ?_)
                    · have h := h1 q63
                      clear h1 h2
                      obtain ⟨r64, h⟩ := h
                      refine j_iinc dX0_behind_111 rfl rfl ?_
                      refine j_goto 83 dX0_behind_114 rfl ?_
                      exact J.wk (((((((((jWk.nil).eq).eq).no).no).no).no).eq).eq) (ihI40 _ (Nat.lt_of_lt_of_le h.2 (Nat.le_of_lt_succ hmuI40)) r64 h.1)
                    · have h := h2 q63
                      clear h1 h2
                      refine j_iconst dX0_behind_109 ?_
                      exact j_iret dX0_behind_110 rfl ⟨_, rfl, rfl, rfl, rfl, h, (by decide)⟩
              exact J.wk (((((((((jWk.nil).eq).eq).no).no).no).no).eq).eq) (lp _ _ (Nat.lt_succ_self _) (ev37 ▸ r36) h0)
            · have h := h2 q35
              clear h1 h2
              refine j_iconst dX0_behind_76 ?_
              exact j_iret dX0_behind_77 rfl ⟨_, rfl, rfl, rfl, rfl, h, (by decide)⟩
          · have h := h2 (Classical.not_not.mp q34)
            clear h1 h2
            refine j_iload dX0_behind_65 rfl ?_
            obtain ⟨h1, h2⟩ := h
            refine j_if_gt 76 dX0_behind_67 rfl (jR_c r21) (fun q65 => ?_) (fun q65 => ?_)
            · have h := h1 q65
              clear h1 h2
              refine j_iconst dX0_behind_76 ?_
              exact j_iret dX0_behind_77 rfl ⟨_, rfl, rfl, rfl, rfl, h, (by decide)⟩
            · have h := h2 q65
              clear h1 h2
              refine j_iload dX0_behind_70 rfl ?_
              refine j_iload_n dX0_behind_72 rfl ?_
              obtain ⟨h1, h2⟩ := h
              refine j_icmp_le 78 dX0_behind_73 rfl (ev23 ▸ r22) ra3 (fun q66 => ?_) (fun q66 => ?_)
              · have h := h1 q66
                clear h1 h2
                refine j_iload_n dX0_behind_78 rfl ?_
                refine j_iconst dX0_behind_79 ?_
                refine j_iadd dX0_behind_80 ?_
                obtain ⟨r67, h⟩ := h
                obtain ⟨v68, ev68⟩ : ∃ x : Int, x = a2 + 3 := ⟨_, rfl⟩
                have h := h v68 ev68
                refine jnmI (e := ev68) ?_
                refine j_istore dX0_behind_81 rfl ?_
                obtain ⟨I71, m72, h0, hs⟩ := h
                have lp : ∀ (n : Nat) (v69 : Int), m72 v69 < n → jR v69 → I71 v69 → J G l d mX0_behind 83 [vR (o : Int), vR a1, jD, jD, jD, jD, vI v23, vI v69] [] N F A (jpI N F A Q) := by
                  intro nI71
                  induction nI71 with
                  | zero =>
                    intro v69 hmu
                    exact absurd hmu (Nat.not_lt_zero _)
                  | succ nI71 ihI71 =>
                    intro v69 hmuI71 rv69 hI
                    have h := hs v69 hI
                    refine j_iload dX0_behind_83 rfl ?_
                    refine j_iload dX0_behind_85 rfl ?_
                    obtain ⟨h1, h2⟩ := h
                    refine j_icmp_ge 117 dX0_behind_87 rfl rv69 (ev23 ▸ r22) (fun q73 => ?_) (fun q73 => ?_)
                    · have h := h1 q73
                      clear h1 h2
                      refine j_iload dX0_behind_117 rfl ?_
                      exact j_iret dX0_behind_119 rfl ⟨_, rfl, rfl, rfl, rfl, h, (ev23 ▸ r22)⟩
                    · have h := h2 q73
                      clear h1 h2
                      refine r_aload_n dX0_behind_90 rfl ?_
                      refine j_iload dX0_behind_91 rfl ?_
                      obtain ⟨P74, hp75, h⟩ := h
                      refine r_invV (ci := 22) (As := [vI v69]) (rest := []) dX0_behind_93 lkX0_145 hz4 t5 rfl rfl (vJ5_charAt (d := 6) (Nat.le_of_ble_eq_true rfl) hW t5 rv69 hp75) rfl rfl (Nat.le_of_ble_eq_true rfl) (Nat.le_trans (Nat.le_of_ble_eq_true rfl) hd) (jkpC fun z76 p79 r80 => ?_)
                      have h := h z76 p79
                      refine r_aload_n dX0_behind_96 rfl ?_
                      refine r_gR dX0_behind_97 flX0_20_1 rfl ht rfl ?_
                      obtain ⟨b81, hz82, h⟩ := h
                      obtain ⟨t83, h⟩ := h
                      refine r_gRF dX0_behind_100 flX0_197_2 hz82 t83 rfl ?_
                      obtain ⟨b84, hz85, h⟩ := h
                      obtain ⟨t86, h⟩ := h
                      obtain ⟨P87, hp88, h⟩ := h
                      refine r_invV (ci := 20) (As := []) (rest := [vI z76]) dX0_behind_103 lkX0_128 hz85 t86 rfl rfl (vJ2_size (d := 2) (Nat.le_of_ble_eq_true rfl) hW t86  hp88) rfl rfl (Nat.le_of_ble_eq_true rfl) (Nat.le_trans (Nat.le_of_ble_eq_true rfl) hd) (jkpI fun z89 p92 r93 => ?_)
                      have h := h z89 p92
                      obtain ⟨h1, h2⟩ := h
                      refine j_icmp_lt 111 dX0_behind_106 rfl (jR_c r80) r93 (fun q94 => ?_) (fun q94 => ?_)
                      · have h := h1 q94
                        clear h1 h2
                        obtain ⟨r95, h⟩ := h
                        refine j_iinc dX0_behind_111 rfl rfl ?_
                        refine j_goto 83 dX0_behind_114 rfl ?_
                        exact J.wk (((((((((jWk.nil).eq).eq).no).no).no).no).eq).eq) (ihI71 _ (Nat.lt_of_lt_of_le h.2 (Nat.le_of_lt_succ hmuI71)) r95 h.1)
                      · have h := h2 q94
                        clear h1 h2
                        refine j_iconst dX0_behind_109 ?_
                        exact j_iret dX0_behind_110 rfl ⟨_, rfl, rfl, rfl, rfl, h, (by decide)⟩
                exact J.wk (((((((((jWk.nil).eq).eq).no).no).no).no).eq).eq) (lp _ _ (Nat.lt_succ_self _) (ev68 ▸ r67) h0)
              · have h := h2 q66
                clear h1 h2
                refine j_iconst dX0_behind_76 ?_
                exact j_iret dX0_behind_77 rfl ⟨_, rfl, rfl, rfl, rfl, h, (by decide)⟩
  · have h := h2 q2
    clear h1 h2
    refine j_iconst dX0_behind_7 ?_
    exact j_iret dX0_behind_8 rfl ⟨_, rfl, rfl, rfl, rfl, h, (by decide)⟩
/-- ChildSays.checked(Ljava/lang/CharSequence;I)I -/
def wqX0_checked (S : Nat → Nat) (a1 : Int) (a2 : Int) (N : jSh) (F : jFl) (A : jAr) (Q : Int → Prop) : Prop :=
  ∃ (I4 : Int → Int → Prop) (m5 : Int → Int → Nat), I4 71 0 ∧ ∀ (v1 : Int) (v2 : Int), I4 v1 v2 →
    ((a2 ≤ v2) →
      Q v1) ∧
    ((¬ (a2 ≤ v2)) →
      ∃ b7 : Nat, a1 = (b7 : Int) ∧
      ∃ P9 : Int → Prop, ((jtg N b7 = 21 ∧ wqJ4_charAt S b7 v2 N F A P9) ∨ (jtg N b7 = 22 ∧ wqJ5_charAt S b7 v2 N F A P9)) ∧
      ∀ z11, P9 z11 →
      (((0 : Int) ≤ (3 * v1) + z11 ∧ ((3 * v1) + z11 : Int) ≤ 2147483647) ∧ ((0 : Int) < 253 ∧ (253 : Int) ≤ 2147483647)) ∧
      jR (((3 * v1) + z11) % 253) ∧
      ∀ v16 : Int, v16 = ((3 * v1) + z11) % 253 →
      jR (v2 + 1) ∧
      I4 v16 (v2 + 1) ∧ m5 v16 (v2 + 1) < m5 v1 v2)
theorem vX0_checked {G : jG} {l : Launch} [jOff l] {d : Nat} {N : jSh} {F : jFl} {A : jAr} {a1 a2 : Int} {Q : Int → Prop} (hd : 7 ≤ d) (hW : jWg G N F A) (ra2 : jR a2) (h : wqX0_checked (gS G) a1 a2 N F A Q) : jCall G l d mX0_checked [vR a1, vI a2] N F A (jpI N F A Q) := by
  unfold wqX0_checked at h
  refine jCall.of (by decide) rfl (ls := [vR a1, vI a2, jD, jD]) (by simp only [jent_R, jent_I, jent_L, jent_nil]; exact Nat.le_of_ble_eq_true rfl) (by simp only [jloc, jent_R, jent_I, jent_L, jent_nil]; rfl) ?_
  refine j_bipush dX0_checked_0 ?_
  refine j_istore_n dX0_checked_2 rfl ?_
  refine j_iconst dX0_checked_3 ?_
  refine j_istore_n dX0_checked_4 rfl ?_
  obtain ⟨I4, m5, h0, hs⟩ := h
  have lp : ∀ (n : Nat) (v1 : Int) (v2 : Int), m5 v1 v2 < n → jR v1 → jR v2 → I4 v1 v2 → J G l d mX0_checked 5 [vR a1, vI a2, vI v1, vI v2] [] N F A (jpI N F A Q) := by
    intro nI4
    induction nI4 with
    | zero =>
      intro v1 v2 hmu
      exact absurd hmu (Nat.not_lt_zero _)
    | succ nI4 ihI4 =>
      intro v1 v2 hmuI4 rv1 rv2 hI
      have h := hs v1 v2 hI
      refine j_iload_n dX0_checked_5 rfl ?_
      refine j_iload_n dX0_checked_6 rfl ?_
      obtain ⟨h1, h2⟩ := h
      refine j_icmp_ge 32 dX0_checked_7 rfl rv2 ra2 (fun q6 => ?_) (fun q6 => ?_)
      · have h := h1 q6
        clear h1 h2
        refine j_iload_n dX0_checked_32 rfl ?_
        exact j_iret dX0_checked_33 rfl ⟨_, rfl, rfl, rfl, rfl, h, rv1⟩
      · have h := h2 q6
        clear h1 h2
        refine j_iconst dX0_checked_10 ?_
        refine j_iload_n dX0_checked_11 rfl ?_
        refine j_imul dX0_checked_12 ?_
        refine r_aload_n dX0_checked_13 rfl ?_
        refine j_iload_n dX0_checked_14 rfl ?_
        obtain ⟨b7, hz8, h⟩ := h
        obtain ⟨P9, hp10, h⟩ := h
        refine r_ifChar (d2 := 6) rfl dX0_checked_15 hz8 (hp10.imp (fun w => ⟨w.1, vJ4_charAt (Nat.le_of_ble_eq_true rfl) hW w.1 rv2 w.2⟩) (fun w => ⟨w.1, vJ5_charAt (Nat.le_of_ble_eq_true rfl) hW w.1 rv2 w.2⟩)) (Nat.le_of_ble_eq_true rfl) (Nat.le_trans (Nat.le_of_ble_eq_true rfl) hd) fun z11 p12 r13 => ?_
        have h := h z11 p12
        refine j_iadd dX0_checked_20 ?_
        refine j_sipush dX0_checked_21 ?_
        obtain ⟨c14, h⟩ := h
        refine j_irem dX0_checked_24 c14.1 c14.2 ?_
        obtain ⟨r15, h⟩ := h
        obtain ⟨v16, ev16⟩ : ∃ x : Int, x = ((3 * v1) + z11) % 253 := ⟨_, rfl⟩
        have h := h v16 ev16
        refine jnmI (e := ev16) ?_
        refine j_istore_n dX0_checked_25 rfl ?_
        obtain ⟨r17, h⟩ := h
        refine j_iinc dX0_checked_26 rfl rfl ?_
        refine j_goto 5 dX0_checked_29 rfl ?_
        exact J.wk (((((jWk.nil).eq).eq).eq).eq) (ihI4 _ _ (Nat.lt_of_lt_of_le h.2 (Nat.le_of_lt_succ hmuI4)) (ev16 ▸ r15) r17 h.1)
  exact J.wk (((((jWk.nil).eq).eq).eq).eq) (lp _ _ _ (Nat.lt_succ_self _) (by decide) (by decide) h0)
/-- ChildSays.child(II)I -/
def wqX0_child (o : Nat) (a1 : Int) (a2 : Int) (N : jSh) (F : jFl) (A : jAr) (Q : Int → jFl → jAr → Prop) : Prop :=
  ∃ (P1 : Int → Prop), wqX0_childOf o a1 N F A P1 ∧
  ∀ z3, P1 z3 →
  ((¬ z3 < 0) →
    ∃ (I15 : Int → Int → jFl → jAr → Prop) (m16 : Int → Int → jFl → jAr → Nat), I15 0 0 F A ∧ ∀ (v9 : Int) (v10 : Int) (F11 : jFl) (A12 : jAr), I15 v9 v10 F11 A12 →
      ∃ b17 : Nat, F11 311 o = (b17 : Int) ∧
      jtg N b17 = 2 ∧
      ∃ b20 : Nat, jfn N 626 b17 = (b20 : Int) ∧
      jtg N b20 = 20 ∧
      ∃ (P23 : Int → Prop), wqJ2_size b20 N F11 A12 P23 ∧
      ∀ z25, P23 z25 →
      ((z25 ≤ v10) →
        (a2 = 0 →
          ∃ b31 : Nat, z3 = (b31 : Int) ∧
          jtg N b31 = 16 ∧
          ∃ b34 : Nat, jfn N 4802 b31 = (b34 : Int) ∧
          jtg N b34 = 15 ∧
          Q (jfn N 3903 b34) F11 A12) ∧
        (a2 = 1 →
          ∃ b37 : Nat, z3 = (b37 : Int) ∧
          jtg N b37 = 16 ∧
          Q (F11 4803 b37) F11 A12) ∧
        (a2 = 2 →
          ∃ b40 : Nat, z3 = (b40 : Int) ∧
          jtg N b40 = 16 ∧
          Q (F11 4806 b40) F11 A12) ∧
        (a2 = 3 →
          Q v9 F11 A12) ∧
        (¬ a2 = 0 → ¬ a2 = 1 → ¬ a2 = 2 → ¬ a2 = 3 →
          Q (-1) F11 A12)) ∧
      ((¬ (z25 ≤ v10)) →
        ∃ (P47 : Int → Prop), wqJ2_get b20 v10 N F11 A12 P47 ∧
        ∀ z49, P47 z49 →
        jcst N "ChildSays$Law" z49 ∧
        ∃ (P55 : Int → jFl → jAr → Prop), wqX0_stands o z49 z3 N F11 A12 P55 ∧
        ∀ z57 F58 A59, P55 z57 F58 A59 →
        ((z57 = 0) →
          jR (v10 + 1) ∧
          I15 v9 (v10 + 1) F58 A59 ∧ m16 v9 (v10 + 1) F58 A59 < m16 v9 v10 F11 A12) ∧
        ((¬ (z57 = 0)) →
          jR (v9 + 1) ∧
          jR (v10 + 1) ∧
          I15 (v9 + 1) (v10 + 1) F58 A59 ∧ m16 (v9 + 1) (v10 + 1) F58 A59 < m16 v9 v10 F11 A12))) ∧
  ((z3 < 0) →
    Q (-1) F A)
theorem vX0_child {G : jG} {l : Launch} [jOff l] {d : Nat} {N : jSh} {F : jFl} {A : jAr} {o : Nat} {a1 a2 : Int} {Q : Int → jFl → jAr → Prop} (hd : 7 ≤ d) (hW : jWg G N F A) (ht : jtg N o = 1) (ra1 : jR a1) (ra2 : jR a2) (h : wqX0_child o a1 a2 N F A Q) : jCall G l d mX0_child [vR (o : Int), vI a1, vI a2] N F A (cmI G N Q) := by
  unfold wqX0_child at h
  refine jCall.of (by decide) rfl (ls := [vR (o : Int), vI a1, vI a2, jD, jD, jD]) (by simp only [jent_R, jent_I, jent_L, jent_nil]; exact Nat.le_of_ble_eq_true rfl) (by simp only [jloc, jent_R, jent_I, jent_L, jent_nil]; rfl) ?_
  refine r_aload_n dX0_child_0 rfl ?_
  refine j_iload_n dX0_child_1 rfl ?_
  obtain ⟨P1, hp2, h⟩ := h
  refine r_invV (ci := 1) (As := [vI a1]) (rest := []) dX0_child_2 lkX0_273 rfl ht rfl rfl (vX0_childOf (d := 5) (Nat.le_of_ble_eq_true rfl) hW ht ra1 hp2) rfl rfl (Nat.le_of_ble_eq_true rfl) (Nat.le_trans (Nat.le_of_ble_eq_true rfl) hd) (jkpR fun z3 p6 r7 => ?_)
  have h := h z3 p6
  refine r_astore_n dX0_child_5 rfl ?_
  refine r_aload_n dX0_child_6 rfl ?_
  obtain ⟨h1, h2⟩ := h
  refine r_ifnonnull 12 dX0_child_7 rfl (fun q8 => ?_) (fun q8 => ?_)
  · have h := h1 q8
    clear h1 h2
    refine j_iconst dX0_child_12 ?_
    refine j_istore dX0_child_13 (jokR rfl (Nat.le_of_ble_eq_true rfl)) ?_
    refine j_iconst dX0_child_15 ?_
    refine j_istore dX0_child_16 rfl ?_
    obtain ⟨I15, m16, h0, hs⟩ := h
    have lp : ∀ (n : Nat) (v9 : Int) (v10 : Int) (F11 : jFl) (A12 : jAr), m16 v9 v10 F11 A12 < n → jWg G N F11 A12 → jR v9 → jR v10 → I15 v9 v10 F11 A12 → J G l d mX0_child 18 [vR (o : Int), jD, vI a2, vR z3, vI v9, vI v10] [] N F11 A12 (cmI G N Q) := by
      intro nI15
      induction nI15 with
      | zero =>
        intro v9 v10 F11 A12 hmu
        exact absurd hmu (Nat.not_lt_zero _)
      | succ nI15 ihI15 =>
        intro v9 v10 F11 A12 hmuI15 hW13 rv9 rv10 hI
        have h := hs v9 v10 F11 A12 hI
        refine j_iload dX0_child_18 rfl ?_
        refine r_aload_n dX0_child_20 rfl ?_
        refine r_gR dX0_child_21 flX0_20_1 rfl ht rfl ?_
        obtain ⟨b17, hz18, h⟩ := h
        obtain ⟨t19, h⟩ := h
        refine r_gRF dX0_child_24 flX0_206_2 hz18 t19 rfl ?_
        obtain ⟨b20, hz21, h⟩ := h
        obtain ⟨t22, h⟩ := h
        obtain ⟨P23, hp24, h⟩ := h
        refine r_invV (ci := 20) (As := []) (rest := [vI v10]) dX0_child_27 lkX0_128 hz21 t22 rfl rfl (vJ2_size (d := 2) (Nat.le_of_ble_eq_true rfl) hW13 t22  hp24) rfl rfl (Nat.le_of_ble_eq_true rfl) (Nat.le_trans (Nat.le_of_ble_eq_true rfl) hd) (jkpI fun z25 p28 r29 => ?_)
        have h := h z25 p28
        obtain ⟨h1, h2⟩ := h
        refine j_icmp_ge 65 dX0_child_30 rfl rv10 r29 (fun q30 => ?_) (fun q30 => ?_)
        · have h := h1 q30
          clear h1 h2
          refine j_iload_n dX0_child_65 rfl ?_
          obtain ⟨h1, h⟩ := h
          by_cases q43 : a2 = 0
          · refine j_tableIn (off := 30) 96 dX0_child_66 ra2 (by rw [q43]; decide) (by rw [q43]; decide) (by rw [q43]; rfl) rfl ?_
            have h := h1 q43
            clear h1
            refine r_aload_n dX0_child_96 rfl ?_
            obtain ⟨b31, hz32, h⟩ := h
            obtain ⟨t33, h⟩ := h
            refine r_gRF dX0_child_97 flX0_281_16 hz32 t33 rfl ?_
            obtain ⟨b34, hz35, h⟩ := h
            obtain ⟨t36, h⟩ := h
            refine r_gIF dX0_child_100 flX0_285_15 hz35 t36 rfl ?_
            exact j_iret dX0_child_103 rfl ⟨_, rfl, rfl, hW13, h, (hW13.ni rfl (by decide))⟩
          clear h1
          obtain ⟨h1, h⟩ := h
          by_cases q44 : a2 = 1
          · refine j_tableIn (off := 38) 104 dX0_child_66 ra2 (by rw [q44]; decide) (by rw [q44]; decide) (by rw [q44]; rfl) rfl ?_
            have h := h1 q44
            clear h1
            refine r_aload_n dX0_child_104 rfl ?_
            obtain ⟨b37, hz38, h⟩ := h
            obtain ⟨t39, h⟩ := h
            refine r_gI dX0_child_105 flX0_290_16 hz38 t39 rfl ?_
            exact j_iret dX0_child_108 rfl ⟨_, rfl, rfl, hW13, h, (hW13.fi rfl)⟩
          clear h1
          obtain ⟨h1, h⟩ := h
          by_cases q45 : a2 = 2
          · refine j_tableIn (off := 43) 109 dX0_child_66 ra2 (by rw [q45]; decide) (by rw [q45]; decide) (by rw [q45]; rfl) rfl ?_
            have h := h1 q45
            clear h1
            refine r_aload_n dX0_child_109 rfl ?_
            obtain ⟨b40, hz41, h⟩ := h
            obtain ⟨t42, h⟩ := h
            refine r_gI dX0_child_110 flX0_293_16 hz41 t42 rfl ?_
            exact j_iret dX0_child_113 rfl ⟨_, rfl, rfl, hW13, h, (hW13.fi rfl)⟩
          clear h1
          obtain ⟨h1, h⟩ := h
          by_cases q46 : a2 = 3
          · refine j_tableIn (off := 48) 114 dX0_child_66 ra2 (by rw [q46]; decide) (by rw [q46]; decide) (by rw [q46]; rfl) rfl ?_
            have h := h1 q46
            clear h1
            refine j_iload dX0_child_114 rfl ?_
            exact j_iret dX0_child_116 rfl ⟨_, rfl, rfl, hW13, h, rv9⟩
          clear h1
          have h := h q43 q44 q45 q46
          refine j_tableOut 117 dX0_child_66 ra2 (by omega) rfl ?_
          refine j_iconst dX0_child_117 ?_
          exact j_iret dX0_child_118 rfl ⟨_, rfl, rfl, hW13, h, (by decide)⟩
        · have h := h2 q30
          clear h1 h2
          refine r_aload_n dX0_child_33 rfl ?_
          refine r_aload_n dX0_child_34 rfl ?_
          refine r_gR dX0_child_35 flX0_20_1 rfl ht rfl ?_
          refine r_gRF dX0_child_38 flX0_206_2 hz18 t19 rfl ?_
          refine j_iload dX0_child_41 rfl ?_
          obtain ⟨P47, hp48, h⟩ := h
          refine r_invV (ci := 20) (As := [vI v10]) (rest := [vR (o : Int)]) dX0_child_43 lkX0_132 hz21 t22 rfl rfl (vJ2_get (d := 4) (Nat.le_of_ble_eq_true rfl) hW13 t22 rv10 hp48) rfl rfl (Nat.le_of_ble_eq_true rfl) (Nat.le_trans (Nat.le_of_ble_eq_true rfl) hd) (jkpR fun z49 p52 r53 => ?_)
          have h := h z49 p52
          obtain ⟨j54, h⟩ := h
          refine r_chk dX0_child_46 q1295 j54 ?_
          refine r_aload_n dX0_child_49 rfl ?_
          obtain ⟨P55, hp56, h⟩ := h
          refine r_invV (ci := 1) (As := [vR z49, vR z3]) (rest := []) dX0_child_50 lkX0_277 rfl ht rfl rfl (vX0_stands (d := 6) (Nat.le_of_ble_eq_true rfl) hW13 ht  hp56) rfl rfl (Nat.le_of_ble_eq_true rfl) (Nat.le_trans (Nat.le_of_ble_eq_true rfl) hd) (ckmB fun z57 F58 A59 hW60 p62 r63 => ?_)
          have h := h z57 F58 A59 p62
          obtain ⟨h1, h2⟩ := h
          refine j_if_eq 59 dX0_child_53 rfl (jR_b r63) (fun q64 => ?_) (fun q64 => ?_)
          · have h := h1 q64
            clear h1 h2
            obtain ⟨r65, h⟩ := h
            refine j_iinc dX0_child_59 rfl rfl ?_
            refine j_goto 18 dX0_child_62 rfl ?_
            exact J.wk (((((((jWk.nil).eq).eq).eq).eq).no).eq) (ihI15 _ _ _ _ (Nat.lt_of_lt_of_le h.2 (Nat.le_of_lt_succ hmuI15)) hW60 rv9 r65 h.1)
          · have h := h2 q64
            clear h1 h2
            obtain ⟨r66, h⟩ := h
            refine j_iinc dX0_child_56 rfl (jokR rfl (Nat.le_of_ble_eq_true rfl)) ?_
            obtain ⟨r67, h⟩ := h
            refine j_iinc dX0_child_59 rfl rfl ?_
            refine j_goto 18 dX0_child_62 rfl ?_
            exact J.wk (((((((jWk.nil).eq).eq).eq).eq).no).eq) (ihI15 _ _ _ _ (Nat.lt_of_lt_of_le h.2 (Nat.le_of_lt_succ hmuI15)) hW60 r66 r67 h.1)
    exact J.wk (((((((jWk.nil).eq).eq).eq).eq).no).eq) (lp _ _ _ _ _ (Nat.lt_succ_self _) hW (by decide) (by decide) h0)
  · have h := h2 q8
    clear h1 h2
    refine j_iconst dX0_child_10 ?_
    exact j_iret dX0_child_11 rfl ⟨_, rfl, rfl, hW, h, (by decide)⟩
/-- ChildSays.digitsOf(Ljava/lang/String;)I -/
def wqX0_digitsOf (S : Nat → Nat) (a1 : Int) (N : jSh) (F : jFl) (A : jAr) (Q : Int → Prop) : Prop :=
  ∃ (I4 : Int → Int → Prop) (m5 : Int → Int → Nat), I4 0 0 ∧ ∀ (v1 : Int) (v2 : Int), I4 v1 v2 →
    ∃ b6 : Nat, a1 = (b6 : Int) ∧
    jtg N b6 = 22 ∧
    ∃ (P9 : Int → Prop), wqJ5_length S b6 N F A P9 ∧
    ∀ z11, P9 z11 →
    ((z11 ≤ v2) →
      Q v1) ∧
    ((¬ (z11 ≤ v2)) →
      ∃ (P17 : Int → Prop), wqJ5_charAt S b6 v2 N F A P17 ∧
      ∀ z19, P17 z19 →
      jR (((10 * v1) + z19) - 48) ∧
      ∀ v25 : Int, v25 = ((10 * v1) + z19) - 48 →
      jR (v2 + 1) ∧
      I4 v25 (v2 + 1) ∧ m5 v25 (v2 + 1) < m5 v1 v2)
theorem vX0_digitsOf {G : jG} {l : Launch} [jOff l] {d : Nat} {N : jSh} {F : jFl} {A : jAr} {a1 : Int} {Q : Int → Prop} (hd : 7 ≤ d) (hW : jWg G N F A) (h : wqX0_digitsOf (gS G) a1 N F A Q) : jCall G l d mX0_digitsOf [vR a1] N F A (jpI N F A Q) := by
  unfold wqX0_digitsOf at h
  refine jCall.of (by decide) rfl (ls := [vR a1, jD, jD]) (by simp only [jent_R, jent_I, jent_L, jent_nil]; exact Nat.le_of_ble_eq_true rfl) (by simp only [jloc, jent_R, jent_I, jent_L, jent_nil]; rfl) ?_
  refine j_iconst dX0_digitsOf_0 ?_
  refine j_istore_n dX0_digitsOf_1 (jokR rfl (Nat.le_of_ble_eq_true rfl)) ?_
  refine j_iconst dX0_digitsOf_2 ?_
  refine j_istore_n dX0_digitsOf_3 rfl ?_
  obtain ⟨I4, m5, h0, hs⟩ := h
  have lp : ∀ (n : Nat) (v1 : Int) (v2 : Int), m5 v1 v2 < n → jR v1 → jR v2 → I4 v1 v2 → J G l d mX0_digitsOf 4 [vR a1, vI v1, vI v2] [] N F A (jpI N F A Q) := by
    intro nI4
    induction nI4 with
    | zero =>
      intro v1 v2 hmu
      exact absurd hmu (Nat.not_lt_zero _)
    | succ nI4 ihI4 =>
      intro v1 v2 hmuI4 rv1 rv2 hI
      have h := hs v1 v2 hI
      refine j_iload_n dX0_digitsOf_4 rfl ?_
      refine r_aload_n dX0_digitsOf_5 rfl ?_
      obtain ⟨b6, hz7, h⟩ := h
      obtain ⟨t8, h⟩ := h
      obtain ⟨P9, hp10, h⟩ := h
      refine r_invV (ci := 22) (As := []) (rest := [vI v2]) dX0_digitsOf_6 lkX0_142 hz7 t8 rfl rfl (vJ5_length (d := 3) (Nat.le_of_ble_eq_true rfl) hW t8  hp10) rfl rfl (Nat.le_of_ble_eq_true rfl) (Nat.le_trans (Nat.le_of_ble_eq_true rfl) hd) (jkpI fun z11 p14 r15 => ?_)
      have h := h z11 p14
      obtain ⟨h1, h2⟩ := h
      refine j_icmp_ge 32 dX0_digitsOf_9 rfl rv2 r15 (fun q16 => ?_) (fun q16 => ?_)
      · have h := h1 q16
        clear h1 h2
        refine j_iload_n dX0_digitsOf_32 rfl ?_
        exact j_iret dX0_digitsOf_33 rfl ⟨_, rfl, rfl, rfl, rfl, h, rv1⟩
      · have h := h2 q16
        clear h1 h2
        refine j_bipush dX0_digitsOf_12 ?_
        refine j_iload_n dX0_digitsOf_14 rfl ?_
        refine j_imul dX0_digitsOf_15 ?_
        refine r_aload_n dX0_digitsOf_16 rfl ?_
        refine j_iload_n dX0_digitsOf_17 rfl ?_
        obtain ⟨P17, hp18, h⟩ := h
        refine r_invV (ci := 22) (As := [vI v2]) (rest := [vI (10 * v1)]) dX0_digitsOf_18 lkX0_145 hz7 t8 rfl rfl (vJ5_charAt (d := 6) (Nat.le_of_ble_eq_true rfl) hW t8 rv2 hp18) rfl rfl (Nat.le_of_ble_eq_true rfl) (Nat.le_trans (Nat.le_of_ble_eq_true rfl) hd) (jkpC fun z19 p22 r23 => ?_)
        have h := h z19 p22
        refine j_iadd dX0_digitsOf_21 ?_
        refine j_bipush dX0_digitsOf_22 ?_
        refine j_isub dX0_digitsOf_24 ?_
        obtain ⟨r24, h⟩ := h
        obtain ⟨v25, ev25⟩ : ∃ x : Int, x = ((10 * v1) + z19) - 48 := ⟨_, rfl⟩
        have h := h v25 ev25
        refine jnmI (e := ev25) ?_
        refine j_istore_n dX0_digitsOf_25 (jokR rfl (Nat.le_of_ble_eq_true rfl)) ?_
        obtain ⟨r26, h⟩ := h
        refine j_iinc dX0_digitsOf_26 rfl rfl ?_
        refine j_goto 4 dX0_digitsOf_29 rfl ?_
        exact J.wk ((((jWk.nil).eq).eq).eq) (ihI4 _ _ (Nat.lt_of_lt_of_le h.2 (Nat.le_of_lt_succ hmuI4)) (ev25 ▸ r24) r26 h.1)
  exact J.wk ((((jWk.nil).eq).eq).eq) (lp _ _ _ (Nat.lt_succ_self _) (by decide) (by decide) h0)
