set_option maxRecDepth 100000
set_option linter.unusedVariables false
/-! walks of ChildSaysModel: printed by gen/walk.py -/
/-- streeting()V -/
def wpX9_streeting (o : Nat) (F : jFl) (A : jAr) (Q : jFl → jAr → Prop) : Prop :=
  (0 ≤ F 3114 o ∧ F 3114 o < 2) ∧
  ∀ z3 : Int, z3 = (if ¬ (A (o + 9) (F 3114 o)) = 6 then 0 else 1) →
  ∃ P5 : Int → jFl → jAr → Prop, wpX9_counts o z3 F A P5 ∧ ∀ z7 F8 A9, P5 z7 F8 A9 →
  ((¬ z7 = 0) →
    (0 ≤ F8 3114 o ∧ F8 3114 o < 2) ∧
    jR ((6 * (F8 3114 o)) + (A9 (o + 9) (F8 3114 o))) ∧
    ∀ v16 : Int, v16 = (6 * (F8 3114 o)) + (A9 (o + 9) (F8 3114 o)) →
    ∃ P17 : Int → jFl → jAr → Prop, wpX9_fresh o F8 A9 P17 ∧ ∀ z19 F20 A21, P17 z19 F20 A21 →
    (0 ≤ v16 ∧ v16 < 12) ∧
    ∀ A26 : jAr, A26 = upA A21 (o + 10) v16 z19 →
    ∃ (I31 : Int → jAr → Prop) (m32 : Int → jAr → Nat), I31 0 A26 ∧ ∀ (v28 : Int) (A29 : jAr), I31 v28 A29 →
      ((24 ≤ v28) →
        ∃ (I37 : jFl → jAr → Prop) (m38 : jFl → jAr → Nat), I37 F20 A29 ∧ ∀ (F34 : jFl) (A35 : jAr), I37 F34 A35 →
          ∃ K40 : Prop, (
            K40 →
            ((¬ (F34 3024 o) = 0) →
              Q F34 A35) ∧
            (¬ (¬ (F34 3024 o) = 0) →
              (0 ≤ F34 3114 o ∧ F34 3114 o < 2) ∧
              (0 ≤ F34 3114 o ∧ F34 3114 o < 2) ∧
              jR ((A35 (o + 9) (F34 3114 o)) + 1) ∧
              ∀ A47 : jAr, A47 = upA A35 (o + 9) (F34 3114 o) ((A35 (o + 9) (F34 3114 o)) + 1) →
              Q F34 A47)) ∧
          ((¬ (F34 3024 o) = 0) →
            K40 ) ∧
          (¬ (¬ (F34 3024 o) = 0) →
            ((¬ (F34 3009 o) = 1) →
              K40 ) ∧
            (¬ (¬ (F34 3009 o) = 1) →
              ∃ P50 : Int → jFl → jAr → Prop, wpX9_looked o 0 F34 A35 P50 ∧ ∀ z52 F53 A54, P50 z52 F53 A54 →
              ((¬ (F53 3024 o) = 0) →
                ((¬ (F53 3024 o) = 0) →
                  ∃ P60 : jFl → jAr → Prop, wpX9_must o 24947 F53 A54 P60 ∧ ∀ F63 A64, P60 F63 A64 →
                  ∃ P68 : Int → jFl → jAr → Prop, wpX9_asked o 0 F63 A64 P68 ∧ ∀ z70 F71 A72, P68 z70 F71 A72 →
                  ((¬ (F71 3024 o) = 0) →
                    I37 F71 A72 ∧ m38 F71 A72 < m38 F34 A35) ∧
                  (¬ (¬ (F71 3024 o) = 0) →
                    (0 ≤ (24 * v16) + z52 ∧ (24 * v16) + z52 < 288) ∧
                    ∀ A78 : jAr, A78 = upA A72 (o + 11) ((24 * v16) + z52) z70 →
                    I37 F71 A78 ∧ m38 F71 A78 < m38 F34 A35)) ∧
                (¬ (¬ (F53 3024 o) = 0) →
                  ∃ P80 : jFl → jAr → Prop, wpX9_ahead o F53 A54 P80 ∧ ∀ F83 A84, P80 F83 A84 →
                  ∃ P88 : jFl → jAr → Prop, wpX9_must o 24947 F83 A84 P88 ∧ ∀ F91 A92, P88 F91 A92 →
                  ∃ P96 : Int → jFl → jAr → Prop, wpX9_asked o 0 F91 A92 P96 ∧ ∀ z98 F99 A100, P96 z98 F99 A100 →
                  ((¬ (F99 3024 o) = 0) →
                    I37 F99 A100 ∧ m38 F99 A100 < m38 F34 A35) ∧
                  (¬ (¬ (F99 3024 o) = 0) →
                    (0 ≤ (24 * v16) + z52 ∧ (24 * v16) + z52 < 288) ∧
                    ∀ A106 : jAr, A106 = upA A100 (o + 11) ((24 * v16) + z52) z98 →
                    I37 F99 A106 ∧ m38 F99 A106 < m38 F34 A35))) ∧
              (¬ (¬ (F53 3024 o) = 0) →
                (0 ≤ (24 * v16) + z52 ∧ (24 * v16) + z52 < 288) ∧
                (((A54 (o + 11) ((24 * v16) + z52)) = (-1)) →
                  ((¬ (F53 3024 o) = 0) →
                    ∃ P111 : jFl → jAr → Prop, wpX9_must o 24947 F53 A54 P111 ∧ ∀ F114 A115, P111 F114 A115 →
                    ∃ P119 : Int → jFl → jAr → Prop, wpX9_asked o 0 F114 A115 P119 ∧ ∀ z121 F122 A123, P119 z121 F122 A123 →
                    ((¬ (F122 3024 o) = 0) →
                      I37 F122 A123 ∧ m38 F122 A123 < m38 F34 A35) ∧
                    (¬ (¬ (F122 3024 o) = 0) →
                      (0 ≤ (24 * v16) + z52 ∧ (24 * v16) + z52 < 288) ∧
                      ∀ A129 : jAr, A129 = upA A123 (o + 11) ((24 * v16) + z52) z121 →
                      I37 F122 A129 ∧ m38 F122 A129 < m38 F34 A35)) ∧
                  (¬ (¬ (F53 3024 o) = 0) →
                    ∃ P131 : jFl → jAr → Prop, wpX9_ahead o F53 A54 P131 ∧ ∀ F134 A135, P131 F134 A135 →
                    ∃ P139 : jFl → jAr → Prop, wpX9_must o 24947 F134 A135 P139 ∧ ∀ F142 A143, P139 F142 A143 →
                    ∃ P147 : Int → jFl → jAr → Prop, wpX9_asked o 0 F142 A143 P147 ∧ ∀ z149 F150 A151, P147 z149 F150 A151 →
                    ((¬ (F150 3024 o) = 0) →
                      I37 F150 A151 ∧ m38 F150 A151 < m38 F34 A35) ∧
                    (¬ (¬ (F150 3024 o) = 0) →
                      (0 ≤ (24 * v16) + z52 ∧ (24 * v16) + z52 < 288) ∧
                      ∀ A157 : jAr, A157 = upA A151 (o + 11) ((24 * v16) + z52) z149 →
                      I37 F150 A157 ∧ m38 F150 A157 < m38 F34 A35))) ∧
                (¬ ((A54 (o + 11) ((24 * v16) + z52)) = (-1)) →
                  ∃ P159 : jFl → jAr → Prop, wpX9_blame o 3 (F53 3012 o) F53 A54 P159 ∧ ∀ F162 A163, P159 F162 A163 →
                  ((¬ (F162 3024 o) = 0) →
                    ∃ P168 : jFl → jAr → Prop, wpX9_must o 24947 F162 A163 P168 ∧ ∀ F171 A172, P168 F171 A172 →
                    ∃ P176 : Int → jFl → jAr → Prop, wpX9_asked o 0 F171 A172 P176 ∧ ∀ z178 F179 A180, P176 z178 F179 A180 →
                    ((¬ (F179 3024 o) = 0) →
                      I37 F179 A180 ∧ m38 F179 A180 < m38 F34 A35) ∧
                    (¬ (¬ (F179 3024 o) = 0) →
                      (0 ≤ (24 * v16) + z52 ∧ (24 * v16) + z52 < 288) ∧
                      ∀ A186 : jAr, A186 = upA A180 (o + 11) ((24 * v16) + z52) z178 →
                      I37 F179 A186 ∧ m38 F179 A186 < m38 F34 A35)) ∧
                  (¬ (¬ (F162 3024 o) = 0) →
                    ∃ P188 : jFl → jAr → Prop, wpX9_ahead o F162 A163 P188 ∧ ∀ F191 A192, P188 F191 A192 →
                    ∃ P196 : jFl → jAr → Prop, wpX9_must o 24947 F191 A192 P196 ∧ ∀ F199 A200, P196 F199 A200 →
                    ∃ P204 : Int → jFl → jAr → Prop, wpX9_asked o 0 F199 A200 P204 ∧ ∀ z206 F207 A208, P204 z206 F207 A208 →
                    ((¬ (F207 3024 o) = 0) →
                      I37 F207 A208 ∧ m38 F207 A208 < m38 F34 A35) ∧
                    (¬ (¬ (F207 3024 o) = 0) →
                      (0 ≤ (24 * v16) + z52 ∧ (24 * v16) + z52 < 288) ∧
                      ∀ A214 : jAr, A214 = upA A208 (o + 11) ((24 * v16) + z52) z206 →
                      I37 F207 A214 ∧ m38 F207 A214 < m38 F34 A35))))))) ∧
      (¬ (24 ≤ v28) →
        (0 ≤ (24 * v16) + v28 ∧ (24 * v16) + v28 < 288) ∧
        ∀ A217 : jAr, A217 = upA A29 (o + 11) ((24 * v16) + v28) (-1) →
        jR (v28 + 1) ∧
        I31 (v28 + 1) A217 ∧ m32 (v28 + 1) A217 < m32 v28 A29)) ∧
  (¬ (¬ z7 = 0) →
    Q F8 A9)
theorem wX9_streeting {G : jG} {l : Launch} {d : Nat} {N : jSh} {o : Nat} {F : jFl} {A : jAr} {Q : jFl → jAr → Prop} (hd : 5 ≤ d) (hM : mShape G N o) (hW : jWf N F A) (h : wpX9_streeting o F A Q) : jCall G l d mX9_streeting [.ref o] N F A (jmV N Q) := by
  refine jCall.of (ls := [.ref o, jD, jD, jD]) (by decide) rfl (Nat.le_of_ble_eq_true rfl) rfl ?_
  unfold wpX9_streeting at h
  refine j_aload_n dX9_streeting_0 rfl ?_
  refine j_aload_n dX9_streeting_1 rfl ?_
  refine j_getFR dX9_streeting_2 flX9_76_10 hM.1 rfl (mf_streets hM) ?_
  refine j_aload_n dX9_streeting_5 rfl ?_
  refine j_getI dX9_streeting_6 flX9_127_10 hM.1 rfl ?_
  obtain ⟨c1, h⟩ := h
  refine j_iald (n := 2) dX9_streeting_9 (mt_streets hM) (ml_streets hM) c1 ?_
  refine j_bipush dX9_streeting_10 ?_
  have jn4 : ∀ z3 : Int, z3 = (if ¬ (A (o + 9) (F 3114 o)) = 6 then 0 else 1) → J G l d mX9_streeting 20 [.ref o, jD, jD, jD] [vI z3, .ref o] N F A (jmV N Q) := by
    intro z3 ez3
    have h := h z3 ez3
    obtain ⟨P5, hp6, h⟩ := h
    refine j_invV (As := [vI z3]) (rest := []) dX9_streeting_20 lkX9_342 hM.1 rfl rfl (wX9_counts (d := 3) (Nat.le_of_ble_eq_true rfl) hM hW (ez3 ▸ (jB_ite (by decide) (by decide))) hp6) rfl rfl (Nat.le_of_ble_eq_true rfl) (Nat.le_trans (Nat.le_of_ble_eq_true rfl) hd) (jkmB fun z7 F8 A9 hW10 p11 r12 => ?_)
    have h := h z7 F8 A9 p11
    obtain ⟨h1, h2⟩ := h
    refine j_if_ne 27 dX9_streeting_23 rfl (jR_b r12) (fun q13 => ?_) (fun q13 => ?_)
    · have h := h1 q13
      clear h1 h2
      refine j_bipush dX9_streeting_27 ?_
      refine j_aload_n dX9_streeting_29 rfl ?_
      refine j_getI dX9_streeting_30 flX9_127_10 hM.1 rfl ?_
      refine j_imul dX9_streeting_33 ?_
      refine j_aload_n dX9_streeting_34 rfl ?_
      refine j_getFR dX9_streeting_35 flX9_76_10 hM.1 rfl (mf_streets hM) ?_
      refine j_aload_n dX9_streeting_38 rfl ?_
      refine j_getI dX9_streeting_39 flX9_127_10 hM.1 rfl ?_
      obtain ⟨c14, h⟩ := h
      refine j_iald (n := 2) dX9_streeting_42 (mt_streets hM) (ml_streets hM) c14 ?_
      refine j_iadd dX9_streeting_43 ?_
      obtain ⟨r15, h⟩ := h
      obtain ⟨v16, ev16⟩ : ∃ x : Int, x = (6 * (F8 3114 o)) + (A9 (o + 9) (F8 3114 o)) := ⟨_, rfl⟩
      have h := h v16 ev16
      refine jnmI (e := ev16) ?_
      refine j_istore_n dX9_streeting_44 rfl ?_
      refine j_aload_n dX9_streeting_45 rfl ?_
      refine j_getFR dX9_streeting_46 flX9_79_10 hM.1 rfl (mf_streetName hM) ?_
      refine j_iload_n dX9_streeting_49 rfl ?_
      refine j_aload_n dX9_streeting_50 rfl ?_
      obtain ⟨P17, hp18, h⟩ := h
      refine j_invV (As := []) (rest := [vI v16, .ref (o + 10)]) dX9_streeting_51 lkX9_346 hM.1 rfl rfl (wX9_fresh (d := 3) (Nat.le_of_ble_eq_true rfl) hM hW10  hp18) rfl rfl (Nat.le_of_ble_eq_true rfl) (Nat.le_trans (Nat.le_of_ble_eq_true rfl) hd) (jkmL fun z19 F20 A21 hW22 p23 r24 => ?_)
      have h := h z19 F20 A21 p23
      obtain ⟨c25, h⟩ := h
      refine j_last (n := 12) dX9_streeting_54 (mt_streetName hM) (Nat.le_trans hM.2.1 (Nat.le_add_right _ _)) (ml_streetName hM) c25 ?_
      obtain ⟨A26, eA26⟩ : ∃ x : jAr, x = upA A21 (o + 10) v16 z19 := ⟨_, rfl⟩
      have hW27 : jWf N F20 A26 := eA26 ▸ jWf_A (i := v16) (z := z19) hW22 (mt_streetName hM) (jRk_1 rfl r24)
      refine jnmA (e := eA26) ?_
      have h := h A26 eA26
      refine j_iconst dX9_streeting_55 ?_
      refine j_istore_n dX9_streeting_56 rfl ?_
      obtain ⟨I31, m32, h0, hs⟩ := h
      have lp : ∀ (n : Nat) (v28 : Int) (A29 : jAr), m32 v28 A29 < n → jWf N F20 A29 → jR v28 → I31 v28 A29 → J G l d mX9_streeting 57 [.ref o, vI v16, vI v28, jD] [] N F20 A29 (jmV N Q) := by
        intro nI31
        induction nI31 with
        | zero =>
          intro v28 A29 hmu
          exact absurd hmu (Nat.not_lt_zero _)
        | succ nI31 ihI31 =>
          intro v28 A29 hmuI31 hW30 rv28 hI
          have h := hs v28 A29 hI
          refine j_iload_n dX9_streeting_57 rfl ?_
          refine j_bipush dX9_streeting_58 ?_
          obtain ⟨h1, h2⟩ := h
          refine j_icmp_ge 81 dX9_streeting_60 rfl rv28 (by decide) (fun q33 => ?_) (fun q33 => ?_)
          · have h := h1 q33
            clear h1 h2
            obtain ⟨I37, m38, h0, hs⟩ := h
            have lp : ∀ (n : Nat) (F34 : jFl) (A35 : jAr), m38 F34 A35 < n → jWf N F34 A35 → I37 F34 A35 → J G l d mX9_streeting 81 [.ref o, vI v16, jD, jD] [] N F34 A35 (jmV N Q) := by
              intro nI37
              induction nI37 with
              | zero =>
                intro F34 A35 hmu
                exact absurd hmu (Nat.not_lt_zero _)
              | succ nI37 ihI37 =>
                intro F34 A35 hmuI37 hW36  hI
                have h := hs F34 A35 hI
                refine j_aload_n dX9_streeting_81 rfl ?_
                refine j_getI dX9_streeting_82 flX9_36_10 hM.1 rfl ?_
                obtain ⟨K40, hK42, h⟩ := h
                have jn41 : K40  → J G l d mX9_streeting 179 [.ref o, jD, jD, jD] [] N F34 A35 (jmV N Q) := by
                  intro   h
                  have h := hK42  h
                  refine j_aload_n dX9_streeting_179 rfl ?_
                  refine j_getI dX9_streeting_180 flX9_36_10 hM.1 rfl ?_
                  obtain ⟨h1, h2⟩ := h
                  refine j_if_ne 199 dX9_streeting_183 rfl (hW36.fi rfl) (fun q43 => ?_) (fun q43 => ?_)
                  · have h := h1 q43
                    clear h1 h2
                    exact j_vret dX9_streeting_199 rfl ⟨rfl, rfl, hW36, h⟩
                  · have h := h2 q43
                    clear h1 h2
                    refine j_aload_n dX9_streeting_186 rfl ?_
                    refine j_getFR dX9_streeting_187 flX9_76_10 hM.1 rfl (mf_streets hM) ?_
                    refine j_aload_n dX9_streeting_190 rfl ?_
                    refine j_getI dX9_streeting_191 flX9_127_10 hM.1 rfl ?_
                    refine j_dup2 dX9_streeting_194 rfl rfl ?_
                    obtain ⟨c44, h⟩ := h
                    refine j_iald (n := 2) dX9_streeting_195 (mt_streets hM) (ml_streets hM) c44 ?_
                    refine j_iconst dX9_streeting_196 ?_
                    refine j_iadd dX9_streeting_197 ?_
                    obtain ⟨c45, h⟩ := h
                    obtain ⟨r46, h⟩ := h
                    refine j_iast (n := 2) dX9_streeting_198 (mt_streets hM) (Nat.le_trans hM.2.1 (Nat.le_add_right _ _)) (ml_streets hM) c45 ?_
                    obtain ⟨A47, eA47⟩ : ∃ x : jAr, x = upA A35 (o + 9) (F34 3114 o) ((A35 (o + 9) (F34 3114 o)) + 1) := ⟨_, rfl⟩
                    have hW48 : jWf N F34 A47 := eA47 ▸ jWf_A (i := F34 3114 o) (z := (A35 (o + 9) (F34 3114 o)) + 1) hW36 (mt_streets hM) (jRk_0 rfl r46)
                    refine jnmA (e := eA47) ?_
                    have h := h A47 eA47
                    exact j_vret dX9_streeting_199 rfl ⟨rfl, rfl, hW48, h⟩
                obtain ⟨h1, h2⟩ := h
                refine j_if_ne 179 dX9_streeting_85 rfl (hW36.fi rfl) (fun q39 => ?_) (fun q39 => ?_)
                · have h := h1 q39
                  clear h1 h2
                  exact J.wk (((((jWk.nil).no).no).no).eq) (jn41   h)
                · have h := h2 q39
                  clear h1 h2
                  refine j_aload_n dX9_streeting_88 rfl ?_
                  refine j_getI dX9_streeting_89 flX9_20_10 hM.1 rfl ?_
                  refine j_iconst dX9_streeting_92 ?_
                  obtain ⟨h1, h2⟩ := h
                  refine j_icmp_ne 179 dX9_streeting_93 rfl (hW36.fi rfl) (by decide) (fun q49 => ?_) (fun q49 => ?_)
                  · have h := h1 q49
                    clear h1 h2
                    exact J.wk (((((jWk.nil).no).no).no).eq) (jn41   h)
                  · have h := h2 q49
                    clear h1 h2
                    refine j_aload_n dX9_streeting_96 rfl ?_
                    refine j_iconst dX9_streeting_97 ?_
                    obtain ⟨P50, hp51, h⟩ := h
                    refine j_invV (As := [vI 0]) (rest := []) dX9_streeting_98 lkX9_339 hM.1 rfl rfl (wX9_looked (d := 3) (Nat.le_of_ble_eq_true rfl) hM hW36 (by decide) hp51) rfl rfl (Nat.le_of_ble_eq_true rfl) (Nat.le_trans (Nat.le_of_ble_eq_true rfl) hd) (jkmI fun z52 F53 A54 hW55 p56 r57 => ?_)
                    have h := h z52 F53 A54 p56
                    refine j_istore_n dX9_streeting_101 rfl ?_
                    refine j_aload_n dX9_streeting_102 rfl ?_
                    refine j_getI dX9_streeting_103 flX9_36_10 hM.1 rfl ?_
                    obtain ⟨h1, h2⟩ := h
                    refine j_if_ne 133 dX9_streeting_106 rfl (hW55.fi rfl) (fun q58 => ?_) (fun q58 => ?_)
                    · have h := h1 q58
                      clear h1 h2
                      refine j_aload_n dX9_streeting_133 rfl ?_
                      refine j_getI dX9_streeting_134 flX9_36_10 hM.1 rfl ?_
                      obtain ⟨h1, h2⟩ := h
                      refine j_if_ne 144 dX9_streeting_137 rfl (hW55.fi rfl) (fun q59 => ?_) (fun q59 => ?_)
                      · have h := h1 q59
                        clear h1 h2
                        refine j_aload_n dX9_streeting_144 rfl ?_
                        refine j_ldc2 (n := 24947) dX9_streeting_145 q2243 ?_
                        obtain ⟨P60, hp61, h⟩ := h
                        refine j_invV (As := [vL 24947]) (rest := []) dX9_streeting_148 lkX9_350 hM.1 rfl rfl (wX9_must (d := 3) (Nat.le_of_ble_eq_true rfl) hM hW55 (by decide) hp61) rfl rfl (Nat.le_of_ble_eq_true rfl) (Nat.le_trans (Nat.le_of_ble_eq_true rfl) hd) (jkmV fun F63 A64 hW65 p66 => ?_)
                        have h := h F63 A64 p66
                        refine j_aload_n dX9_streeting_151 rfl ?_
                        refine j_iconst dX9_streeting_152 ?_
                        obtain ⟨P68, hp69, h⟩ := h
                        refine j_invV (As := [vI 0]) (rest := []) dX9_streeting_153 lkX9_357 hM.1 rfl rfl (wX9_asked (d := 4) (Nat.le_of_ble_eq_true rfl) hM hW65 (by decide) hp69) rfl rfl (Nat.le_of_ble_eq_true rfl) (Nat.le_trans (Nat.le_of_ble_eq_true rfl) hd) (jkmI fun z70 F71 A72 hW73 p74 r75 => ?_)
                        have h := h z70 F71 A72 p74
                        refine j_istore_n dX9_streeting_156 rfl ?_
                        refine j_aload_n dX9_streeting_157 rfl ?_
                        refine j_getI dX9_streeting_158 flX9_36_10 hM.1 rfl ?_
                        obtain ⟨h1, h2⟩ := h
                        refine j_if_ne 176 dX9_streeting_161 rfl (hW73.fi rfl) (fun q76 => ?_) (fun q76 => ?_)
                        · have h := h1 q76
                          clear h1 h2
                          refine j_goto 81 dX9_streeting_176 rfl ?_
                          exact J.wk (((((jWk.nil).no).no).eq).eq) (ihI37 _ _ (Nat.lt_of_lt_of_le h.2 (Nat.le_of_lt_succ hmuI37)) hW73  h.1)
                        · have h := h2 q76
                          clear h1 h2
                          refine j_aload_n dX9_streeting_164 rfl ?_
                          refine j_getFR dX9_streeting_165 flX9_82_10 hM.1 rfl (mf_heardAs hM) ?_
                          refine j_bipush dX9_streeting_168 ?_
                          refine j_iload_n dX9_streeting_170 rfl ?_
                          refine j_imul dX9_streeting_171 ?_
                          refine j_iload_n dX9_streeting_172 rfl ?_
                          refine j_iadd dX9_streeting_173 ?_
                          refine j_iload_n dX9_streeting_174 rfl ?_
                          obtain ⟨c77, h⟩ := h
                          refine j_iast (n := 288) dX9_streeting_175 (mt_heardAs hM) (Nat.le_trans hM.2.1 (Nat.le_add_right _ _)) (ml_heardAs hM) c77 ?_
                          obtain ⟨A78, eA78⟩ : ∃ x : jAr, x = upA A72 (o + 11) ((24 * v16) + z52) z70 := ⟨_, rfl⟩
                          have hW79 : jWf N F71 A78 := eA78 ▸ jWf_A (i := (24 * v16) + z52) (z := z70) hW73 (mt_heardAs hM) (jRk_0 rfl r75)
                          refine jnmA (e := eA78) ?_
                          have h := h A78 eA78
                          refine j_goto 81 dX9_streeting_176 rfl ?_
                          exact J.wk (((((jWk.nil).no).no).eq).eq) (ihI37 _ _ (Nat.lt_of_lt_of_le h.2 (Nat.le_of_lt_succ hmuI37)) hW79  h.1)
                      · have h := h2 q59
                        clear h1 h2
                        refine j_aload_n dX9_streeting_140 rfl ?_
                        obtain ⟨P80, hp81, h⟩ := h
                        refine j_invV (As := []) (rest := []) dX9_streeting_141 lkX9_279 hM.1 rfl rfl (wX9_ahead (d := 2) (Nat.le_of_ble_eq_true rfl) hM hW55  hp81) rfl rfl (Nat.le_of_ble_eq_true rfl) (Nat.le_trans (Nat.le_of_ble_eq_true rfl) hd) (jkmV fun F83 A84 hW85 p86 => ?_)
                        have h := h F83 A84 p86
                        refine j_aload_n dX9_streeting_144 rfl ?_
                        refine j_ldc2 (n := 24947) dX9_streeting_145 q2243 ?_
                        obtain ⟨P88, hp89, h⟩ := h
                        refine j_invV (As := [vL 24947]) (rest := []) dX9_streeting_148 lkX9_350 hM.1 rfl rfl (wX9_must (d := 3) (Nat.le_of_ble_eq_true rfl) hM hW85 (by decide) hp89) rfl rfl (Nat.le_of_ble_eq_true rfl) (Nat.le_trans (Nat.le_of_ble_eq_true rfl) hd) (jkmV fun F91 A92 hW93 p94 => ?_)
                        have h := h F91 A92 p94
                        refine j_aload_n dX9_streeting_151 rfl ?_
                        refine j_iconst dX9_streeting_152 ?_
                        obtain ⟨P96, hp97, h⟩ := h
                        refine j_invV (As := [vI 0]) (rest := []) dX9_streeting_153 lkX9_357 hM.1 rfl rfl (wX9_asked (d := 4) (Nat.le_of_ble_eq_true rfl) hM hW93 (by decide) hp97) rfl rfl (Nat.le_of_ble_eq_true rfl) (Nat.le_trans (Nat.le_of_ble_eq_true rfl) hd) (jkmI fun z98 F99 A100 hW101 p102 r103 => ?_)
                        have h := h z98 F99 A100 p102
                        refine j_istore_n dX9_streeting_156 rfl ?_
                        refine j_aload_n dX9_streeting_157 rfl ?_
                        refine j_getI dX9_streeting_158 flX9_36_10 hM.1 rfl ?_
                        obtain ⟨h1, h2⟩ := h
                        refine j_if_ne 176 dX9_streeting_161 rfl (hW101.fi rfl) (fun q104 => ?_) (fun q104 => ?_)
                        · have h := h1 q104
                          clear h1 h2
                          refine j_goto 81 dX9_streeting_176 rfl ?_
                          exact J.wk (((((jWk.nil).no).no).eq).eq) (ihI37 _ _ (Nat.lt_of_lt_of_le h.2 (Nat.le_of_lt_succ hmuI37)) hW101  h.1)
                        · have h := h2 q104
                          clear h1 h2
                          refine j_aload_n dX9_streeting_164 rfl ?_
                          refine j_getFR dX9_streeting_165 flX9_82_10 hM.1 rfl (mf_heardAs hM) ?_
                          refine j_bipush dX9_streeting_168 ?_
                          refine j_iload_n dX9_streeting_170 rfl ?_
                          refine j_imul dX9_streeting_171 ?_
                          refine j_iload_n dX9_streeting_172 rfl ?_
                          refine j_iadd dX9_streeting_173 ?_
                          refine j_iload_n dX9_streeting_174 rfl ?_
                          obtain ⟨c105, h⟩ := h
                          refine j_iast (n := 288) dX9_streeting_175 (mt_heardAs hM) (Nat.le_trans hM.2.1 (Nat.le_add_right _ _)) (ml_heardAs hM) c105 ?_
                          obtain ⟨A106, eA106⟩ : ∃ x : jAr, x = upA A100 (o + 11) ((24 * v16) + z52) z98 := ⟨_, rfl⟩
                          have hW107 : jWf N F99 A106 := eA106 ▸ jWf_A (i := (24 * v16) + z52) (z := z98) hW101 (mt_heardAs hM) (jRk_0 rfl r103)
                          refine jnmA (e := eA106) ?_
                          have h := h A106 eA106
                          refine j_goto 81 dX9_streeting_176 rfl ?_
                          exact J.wk (((((jWk.nil).no).no).eq).eq) (ihI37 _ _ (Nat.lt_of_lt_of_le h.2 (Nat.le_of_lt_succ hmuI37)) hW107  h.1)
                    · have h := h2 q58
                      clear h1 h2
                      refine j_aload_n dX9_streeting_109 rfl ?_
                      refine j_getFR dX9_streeting_110 flX9_82_10 hM.1 rfl (mf_heardAs hM) ?_
                      refine j_bipush dX9_streeting_113 ?_
                      refine j_iload_n dX9_streeting_115 rfl ?_
                      refine j_imul dX9_streeting_116 ?_
                      refine j_iload_n dX9_streeting_117 rfl ?_
                      refine j_iadd dX9_streeting_118 ?_
                      obtain ⟨c108, h⟩ := h
                      refine j_iald (n := 288) dX9_streeting_119 (mt_heardAs hM) (ml_heardAs hM) c108 ?_
                      refine j_iconst dX9_streeting_120 ?_
                      obtain ⟨h1, h2⟩ := h
                      refine j_icmp_eq 133 dX9_streeting_121 rfl (hW55.ai (mt_heardAs hM) rfl) (by decide) (fun q109 => ?_) (fun q109 => ?_)
                      · have h := h1 q109
                        clear h1 h2
                        refine j_aload_n dX9_streeting_133 rfl ?_
                        refine j_getI dX9_streeting_134 flX9_36_10 hM.1 rfl ?_
                        obtain ⟨h1, h2⟩ := h
                        refine j_if_ne 144 dX9_streeting_137 rfl (hW55.fi rfl) (fun q110 => ?_) (fun q110 => ?_)
                        · have h := h1 q110
                          clear h1 h2
                          refine j_aload_n dX9_streeting_144 rfl ?_
                          refine j_ldc2 (n := 24947) dX9_streeting_145 q2243 ?_
                          obtain ⟨P111, hp112, h⟩ := h
                          refine j_invV (As := [vL 24947]) (rest := []) dX9_streeting_148 lkX9_350 hM.1 rfl rfl (wX9_must (d := 3) (Nat.le_of_ble_eq_true rfl) hM hW55 (by decide) hp112) rfl rfl (Nat.le_of_ble_eq_true rfl) (Nat.le_trans (Nat.le_of_ble_eq_true rfl) hd) (jkmV fun F114 A115 hW116 p117 => ?_)
                          have h := h F114 A115 p117
                          refine j_aload_n dX9_streeting_151 rfl ?_
                          refine j_iconst dX9_streeting_152 ?_
                          obtain ⟨P119, hp120, h⟩ := h
                          refine j_invV (As := [vI 0]) (rest := []) dX9_streeting_153 lkX9_357 hM.1 rfl rfl (wX9_asked (d := 4) (Nat.le_of_ble_eq_true rfl) hM hW116 (by decide) hp120) rfl rfl (Nat.le_of_ble_eq_true rfl) (Nat.le_trans (Nat.le_of_ble_eq_true rfl) hd) (jkmI fun z121 F122 A123 hW124 p125 r126 => ?_)
                          have h := h z121 F122 A123 p125
                          refine j_istore_n dX9_streeting_156 rfl ?_
                          refine j_aload_n dX9_streeting_157 rfl ?_
                          refine j_getI dX9_streeting_158 flX9_36_10 hM.1 rfl ?_
                          obtain ⟨h1, h2⟩ := h
                          refine j_if_ne 176 dX9_streeting_161 rfl (hW124.fi rfl) (fun q127 => ?_) (fun q127 => ?_)
                          · have h := h1 q127
                            clear h1 h2
                            refine j_goto 81 dX9_streeting_176 rfl ?_
                            exact J.wk (((((jWk.nil).no).no).eq).eq) (ihI37 _ _ (Nat.lt_of_lt_of_le h.2 (Nat.le_of_lt_succ hmuI37)) hW124  h.1)
                          · have h := h2 q127
                            clear h1 h2
                            refine j_aload_n dX9_streeting_164 rfl ?_
                            refine j_getFR dX9_streeting_165 flX9_82_10 hM.1 rfl (mf_heardAs hM) ?_
                            refine j_bipush dX9_streeting_168 ?_
                            refine j_iload_n dX9_streeting_170 rfl ?_
                            refine j_imul dX9_streeting_171 ?_
                            refine j_iload_n dX9_streeting_172 rfl ?_
                            refine j_iadd dX9_streeting_173 ?_
                            refine j_iload_n dX9_streeting_174 rfl ?_
                            obtain ⟨c128, h⟩ := h
                            refine j_iast (n := 288) dX9_streeting_175 (mt_heardAs hM) (Nat.le_trans hM.2.1 (Nat.le_add_right _ _)) (ml_heardAs hM) c128 ?_
                            obtain ⟨A129, eA129⟩ : ∃ x : jAr, x = upA A123 (o + 11) ((24 * v16) + z52) z121 := ⟨_, rfl⟩
                            have hW130 : jWf N F122 A129 := eA129 ▸ jWf_A (i := (24 * v16) + z52) (z := z121) hW124 (mt_heardAs hM) (jRk_0 rfl r126)
                            refine jnmA (e := eA129) ?_
                            have h := h A129 eA129
                            refine j_goto 81 dX9_streeting_176 rfl ?_
                            exact J.wk (((((jWk.nil).no).no).eq).eq) (ihI37 _ _ (Nat.lt_of_lt_of_le h.2 (Nat.le_of_lt_succ hmuI37)) hW130  h.1)
                        · have h := h2 q110
                          clear h1 h2
                          refine j_aload_n dX9_streeting_140 rfl ?_
                          obtain ⟨P131, hp132, h⟩ := h
                          refine j_invV (As := []) (rest := []) dX9_streeting_141 lkX9_279 hM.1 rfl rfl (wX9_ahead (d := 2) (Nat.le_of_ble_eq_true rfl) hM hW55  hp132) rfl rfl (Nat.le_of_ble_eq_true rfl) (Nat.le_trans (Nat.le_of_ble_eq_true rfl) hd) (jkmV fun F134 A135 hW136 p137 => ?_)
                          have h := h F134 A135 p137
                          refine j_aload_n dX9_streeting_144 rfl ?_
                          refine j_ldc2 (n := 24947) dX9_streeting_145 q2243 ?_
                          obtain ⟨P139, hp140, h⟩ := h
                          refine j_invV (As := [vL 24947]) (rest := []) dX9_streeting_148 lkX9_350 hM.1 rfl rfl (wX9_must (d := 3) (Nat.le_of_ble_eq_true rfl) hM hW136 (by decide) hp140) rfl rfl (Nat.le_of_ble_eq_true rfl) (Nat.le_trans (Nat.le_of_ble_eq_true rfl) hd) (jkmV fun F142 A143 hW144 p145 => ?_)
                          have h := h F142 A143 p145
                          refine j_aload_n dX9_streeting_151 rfl ?_
                          refine j_iconst dX9_streeting_152 ?_
                          obtain ⟨P147, hp148, h⟩ := h
                          refine j_invV (As := [vI 0]) (rest := []) dX9_streeting_153 lkX9_357 hM.1 rfl rfl (wX9_asked (d := 4) (Nat.le_of_ble_eq_true rfl) hM hW144 (by decide) hp148) rfl rfl (Nat.le_of_ble_eq_true rfl) (Nat.le_trans (Nat.le_of_ble_eq_true rfl) hd) (jkmI fun z149 F150 A151 hW152 p153 r154 => ?_)
                          have h := h z149 F150 A151 p153
                          refine j_istore_n dX9_streeting_156 rfl ?_
                          refine j_aload_n dX9_streeting_157 rfl ?_
                          refine j_getI dX9_streeting_158 flX9_36_10 hM.1 rfl ?_
                          obtain ⟨h1, h2⟩ := h
                          refine j_if_ne 176 dX9_streeting_161 rfl (hW152.fi rfl) (fun q155 => ?_) (fun q155 => ?_)
                          · have h := h1 q155
                            clear h1 h2
                            refine j_goto 81 dX9_streeting_176 rfl ?_
                            exact J.wk (((((jWk.nil).no).no).eq).eq) (ihI37 _ _ (Nat.lt_of_lt_of_le h.2 (Nat.le_of_lt_succ hmuI37)) hW152  h.1)
                          · have h := h2 q155
                            clear h1 h2
                            refine j_aload_n dX9_streeting_164 rfl ?_
                            refine j_getFR dX9_streeting_165 flX9_82_10 hM.1 rfl (mf_heardAs hM) ?_
                            refine j_bipush dX9_streeting_168 ?_
                            refine j_iload_n dX9_streeting_170 rfl ?_
                            refine j_imul dX9_streeting_171 ?_
                            refine j_iload_n dX9_streeting_172 rfl ?_
                            refine j_iadd dX9_streeting_173 ?_
                            refine j_iload_n dX9_streeting_174 rfl ?_
                            obtain ⟨c156, h⟩ := h
                            refine j_iast (n := 288) dX9_streeting_175 (mt_heardAs hM) (Nat.le_trans hM.2.1 (Nat.le_add_right _ _)) (ml_heardAs hM) c156 ?_
                            obtain ⟨A157, eA157⟩ : ∃ x : jAr, x = upA A151 (o + 11) ((24 * v16) + z52) z149 := ⟨_, rfl⟩
                            have hW158 : jWf N F150 A157 := eA157 ▸ jWf_A (i := (24 * v16) + z52) (z := z149) hW152 (mt_heardAs hM) (jRk_0 rfl r154)
                            refine jnmA (e := eA157) ?_
                            have h := h A157 eA157
                            refine j_goto 81 dX9_streeting_176 rfl ?_
                            exact J.wk (((((jWk.nil).no).no).eq).eq) (ihI37 _ _ (Nat.lt_of_lt_of_le h.2 (Nat.le_of_lt_succ hmuI37)) hW158  h.1)
                      · have h := h2 q109
                        clear h1 h2
                        refine j_aload_n dX9_streeting_124 rfl ?_
                        refine j_iconst dX9_streeting_125 ?_
                        refine j_aload_n dX9_streeting_126 rfl ?_
                        refine j_getI dX9_streeting_127 flX9_23_10 hM.1 rfl ?_
                        obtain ⟨P159, hp160, h⟩ := h
                        refine j_invV (As := [vI 3, vI (F53 3012 o)]) (rest := []) dX9_streeting_130 lkX9_262 hM.1 rfl rfl (wX9_blame (d := 1) (Nat.le_of_ble_eq_true rfl) hM hW55 (by decide) (hW55.fi rfl) hp160) rfl rfl (Nat.le_of_ble_eq_true rfl) (Nat.le_trans (Nat.le_of_ble_eq_true rfl) hd) (jkmV fun F162 A163 hW164 p165 => ?_)
                        have h := h F162 A163 p165
                        refine j_aload_n dX9_streeting_133 rfl ?_
                        refine j_getI dX9_streeting_134 flX9_36_10 hM.1 rfl ?_
                        obtain ⟨h1, h2⟩ := h
                        refine j_if_ne 144 dX9_streeting_137 rfl (hW164.fi rfl) (fun q167 => ?_) (fun q167 => ?_)
                        · have h := h1 q167
                          clear h1 h2
                          refine j_aload_n dX9_streeting_144 rfl ?_
                          refine j_ldc2 (n := 24947) dX9_streeting_145 q2243 ?_
                          obtain ⟨P168, hp169, h⟩ := h
                          refine j_invV (As := [vL 24947]) (rest := []) dX9_streeting_148 lkX9_350 hM.1 rfl rfl (wX9_must (d := 3) (Nat.le_of_ble_eq_true rfl) hM hW164 (by decide) hp169) rfl rfl (Nat.le_of_ble_eq_true rfl) (Nat.le_trans (Nat.le_of_ble_eq_true rfl) hd) (jkmV fun F171 A172 hW173 p174 => ?_)
                          have h := h F171 A172 p174
                          refine j_aload_n dX9_streeting_151 rfl ?_
                          refine j_iconst dX9_streeting_152 ?_
                          obtain ⟨P176, hp177, h⟩ := h
                          refine j_invV (As := [vI 0]) (rest := []) dX9_streeting_153 lkX9_357 hM.1 rfl rfl (wX9_asked (d := 4) (Nat.le_of_ble_eq_true rfl) hM hW173 (by decide) hp177) rfl rfl (Nat.le_of_ble_eq_true rfl) (Nat.le_trans (Nat.le_of_ble_eq_true rfl) hd) (jkmI fun z178 F179 A180 hW181 p182 r183 => ?_)
                          have h := h z178 F179 A180 p182
                          refine j_istore_n dX9_streeting_156 rfl ?_
                          refine j_aload_n dX9_streeting_157 rfl ?_
                          refine j_getI dX9_streeting_158 flX9_36_10 hM.1 rfl ?_
                          obtain ⟨h1, h2⟩ := h
                          refine j_if_ne 176 dX9_streeting_161 rfl (hW181.fi rfl) (fun q184 => ?_) (fun q184 => ?_)
                          · have h := h1 q184
                            clear h1 h2
                            refine j_goto 81 dX9_streeting_176 rfl ?_
                            exact J.wk (((((jWk.nil).no).no).eq).eq) (ihI37 _ _ (Nat.lt_of_lt_of_le h.2 (Nat.le_of_lt_succ hmuI37)) hW181  h.1)
                          · have h := h2 q184
                            clear h1 h2
                            refine j_aload_n dX9_streeting_164 rfl ?_
                            refine j_getFR dX9_streeting_165 flX9_82_10 hM.1 rfl (mf_heardAs hM) ?_
                            refine j_bipush dX9_streeting_168 ?_
                            refine j_iload_n dX9_streeting_170 rfl ?_
                            refine j_imul dX9_streeting_171 ?_
                            refine j_iload_n dX9_streeting_172 rfl ?_
                            refine j_iadd dX9_streeting_173 ?_
                            refine j_iload_n dX9_streeting_174 rfl ?_
                            obtain ⟨c185, h⟩ := h
                            refine j_iast (n := 288) dX9_streeting_175 (mt_heardAs hM) (Nat.le_trans hM.2.1 (Nat.le_add_right _ _)) (ml_heardAs hM) c185 ?_
                            obtain ⟨A186, eA186⟩ : ∃ x : jAr, x = upA A180 (o + 11) ((24 * v16) + z52) z178 := ⟨_, rfl⟩
                            have hW187 : jWf N F179 A186 := eA186 ▸ jWf_A (i := (24 * v16) + z52) (z := z178) hW181 (mt_heardAs hM) (jRk_0 rfl r183)
                            refine jnmA (e := eA186) ?_
                            have h := h A186 eA186
                            refine j_goto 81 dX9_streeting_176 rfl ?_
                            exact J.wk (((((jWk.nil).no).no).eq).eq) (ihI37 _ _ (Nat.lt_of_lt_of_le h.2 (Nat.le_of_lt_succ hmuI37)) hW187  h.1)
                        · have h := h2 q167
                          clear h1 h2
                          refine j_aload_n dX9_streeting_140 rfl ?_
                          obtain ⟨P188, hp189, h⟩ := h
                          refine j_invV (As := []) (rest := []) dX9_streeting_141 lkX9_279 hM.1 rfl rfl (wX9_ahead (d := 2) (Nat.le_of_ble_eq_true rfl) hM hW164  hp189) rfl rfl (Nat.le_of_ble_eq_true rfl) (Nat.le_trans (Nat.le_of_ble_eq_true rfl) hd) (jkmV fun F191 A192 hW193 p194 => ?_)
                          have h := h F191 A192 p194
                          refine j_aload_n dX9_streeting_144 rfl ?_
                          refine j_ldc2 (n := 24947) dX9_streeting_145 q2243 ?_
                          obtain ⟨P196, hp197, h⟩ := h
                          refine j_invV (As := [vL 24947]) (rest := []) dX9_streeting_148 lkX9_350 hM.1 rfl rfl (wX9_must (d := 3) (Nat.le_of_ble_eq_true rfl) hM hW193 (by decide) hp197) rfl rfl (Nat.le_of_ble_eq_true rfl) (Nat.le_trans (Nat.le_of_ble_eq_true rfl) hd) (jkmV fun F199 A200 hW201 p202 => ?_)
                          have h := h F199 A200 p202
                          refine j_aload_n dX9_streeting_151 rfl ?_
                          refine j_iconst dX9_streeting_152 ?_
                          obtain ⟨P204, hp205, h⟩ := h
                          refine j_invV (As := [vI 0]) (rest := []) dX9_streeting_153 lkX9_357 hM.1 rfl rfl (wX9_asked (d := 4) (Nat.le_of_ble_eq_true rfl) hM hW201 (by decide) hp205) rfl rfl (Nat.le_of_ble_eq_true rfl) (Nat.le_trans (Nat.le_of_ble_eq_true rfl) hd) (jkmI fun z206 F207 A208 hW209 p210 r211 => ?_)
                          have h := h z206 F207 A208 p210
                          refine j_istore_n dX9_streeting_156 rfl ?_
                          refine j_aload_n dX9_streeting_157 rfl ?_
                          refine j_getI dX9_streeting_158 flX9_36_10 hM.1 rfl ?_
                          obtain ⟨h1, h2⟩ := h
                          refine j_if_ne 176 dX9_streeting_161 rfl (hW209.fi rfl) (fun q212 => ?_) (fun q212 => ?_)
                          · have h := h1 q212
                            clear h1 h2
                            refine j_goto 81 dX9_streeting_176 rfl ?_
                            exact J.wk (((((jWk.nil).no).no).eq).eq) (ihI37 _ _ (Nat.lt_of_lt_of_le h.2 (Nat.le_of_lt_succ hmuI37)) hW209  h.1)
                          · have h := h2 q212
                            clear h1 h2
                            refine j_aload_n dX9_streeting_164 rfl ?_
                            refine j_getFR dX9_streeting_165 flX9_82_10 hM.1 rfl (mf_heardAs hM) ?_
                            refine j_bipush dX9_streeting_168 ?_
                            refine j_iload_n dX9_streeting_170 rfl ?_
                            refine j_imul dX9_streeting_171 ?_
                            refine j_iload_n dX9_streeting_172 rfl ?_
                            refine j_iadd dX9_streeting_173 ?_
                            refine j_iload_n dX9_streeting_174 rfl ?_
                            obtain ⟨c213, h⟩ := h
                            refine j_iast (n := 288) dX9_streeting_175 (mt_heardAs hM) (Nat.le_trans hM.2.1 (Nat.le_add_right _ _)) (ml_heardAs hM) c213 ?_
                            obtain ⟨A214, eA214⟩ : ∃ x : jAr, x = upA A208 (o + 11) ((24 * v16) + z52) z206 := ⟨_, rfl⟩
                            have hW215 : jWf N F207 A214 := eA214 ▸ jWf_A (i := (24 * v16) + z52) (z := z206) hW209 (mt_heardAs hM) (jRk_0 rfl r211)
                            refine jnmA (e := eA214) ?_
                            have h := h A214 eA214
                            refine j_goto 81 dX9_streeting_176 rfl ?_
                            exact J.wk (((((jWk.nil).no).no).eq).eq) (ihI37 _ _ (Nat.lt_of_lt_of_le h.2 (Nat.le_of_lt_succ hmuI37)) hW215  h.1)
            exact J.wk (((((jWk.nil).no).no).eq).eq) (lp _ _ _ (Nat.lt_succ_self _) hW30  h0)
          · have h := h2 q33
            clear h1 h2
            refine j_aload_n dX9_streeting_63 rfl ?_
            refine j_getFR dX9_streeting_64 flX9_82_10 hM.1 rfl (mf_heardAs hM) ?_
            refine j_bipush dX9_streeting_67 ?_
            refine j_iload_n dX9_streeting_69 rfl ?_
            refine j_imul dX9_streeting_70 ?_
            refine j_iload_n dX9_streeting_71 rfl ?_
            refine j_iadd dX9_streeting_72 ?_
            refine j_iconst dX9_streeting_73 ?_
            obtain ⟨c216, h⟩ := h
            refine j_iast (n := 288) dX9_streeting_74 (mt_heardAs hM) (Nat.le_trans hM.2.1 (Nat.le_add_right _ _)) (ml_heardAs hM) c216 ?_
            obtain ⟨A217, eA217⟩ : ∃ x : jAr, x = upA A29 (o + 11) ((24 * v16) + v28) (-1) := ⟨_, rfl⟩
            have hW218 : jWf N F20 A217 := eA217 ▸ jWf_A (i := (24 * v16) + v28) (z := (-1)) hW30 (mt_heardAs hM) (jRk_0 rfl (by decide))
            refine jnmA (e := eA217) ?_
            have h := h A217 eA217
            obtain ⟨r219, h⟩ := h
            refine j_iinc dX9_streeting_75 rfl rfl ?_
            refine j_goto 57 dX9_streeting_78 rfl ?_
            exact J.wk (((((jWk.nil).no).eq).eq).eq) (ihI31 _ _ (Nat.lt_of_lt_of_le h.2 (Nat.le_of_lt_succ hmuI31)) hW218 r219 h.1)
      exact J.wk (((((jWk.nil).no).eq).eq).eq) (lp _ _ _ (Nat.lt_succ_self _) hW27 (by decide) h0)
    · have h := h2 q13
      clear h1 h2
      exact j_vret dX9_streeting_26 rfl ⟨rfl, rfl, hW10, h⟩
  clear h
  refine j_icmp_ne 19 dX9_streeting_12 rfl (hW.ai (mt_streets hM) rfl) (by decide) (fun q2 => ?_) (fun q2 => ?_)
  · refine j_iconst dX9_streeting_19 ?_
    exact jn4 _ ((if_pos q2).symm)
  · refine j_iconst dX9_streeting_15 ?_
    refine j_goto 20 dX9_streeting_16 rfl ?_
    exact jn4 _ ((if_neg q2).symm)
/-- anew(I)I -/
def wpX9_anew (o : Nat) (a1 : Int) (F : jFl) (A : jAr) (Q : Int → jFl → jAr → Prop) : Prop :=
  ∃ P1 : Int → Prop, wpX9_isChild o a1 F A P1 ∧ ∀ z3, P1 z3 →
  ((¬ z3 = 0) →
    ∃ P7 : jFl → jAr → Prop, wpX9_keeps o F A P7 ∧ ∀ F10 A11, P7 F10 A11 →
    ∃ P15 : jFl → jAr → Prop, wpX9_renews o 0 a1 F10 A11 P15 ∧ ∀ F18 A19, P15 F18 A19 →
    ∃ P23 : Int → Prop, wpX9_standing o 0 F18 A19 P23 ∧ ∀ z25, P23 z25 →
    Q z25 F18 A19) ∧
  (¬ (¬ z3 = 0) →
    ∃ P28 : Int → jFl → jAr → Prop, wpX9_refuses o 2 F A P28 ∧ ∀ z30 F31 A32, P28 z30 F31 A32 →
    Q z30 F31 A32)
theorem wX9_anew {G : jG} {l : Launch} {d : Nat} {N : jSh} {o : Nat} {F : jFl} {A : jAr} {a1 : Int} {Q : Int → jFl → jAr → Prop} (hd : 6 ≤ d) (hM : mShape G N o) (hW : jWf N F A) (ra1 : jR a1) (h : wpX9_anew o a1 F A Q) : jCall G l d mX9_anew [.ref o, vI a1] N F A (jmI N Q) := by
  refine jCall.of (ls := [.ref o, vI a1]) (by decide) rfl (Nat.le_of_ble_eq_true rfl) rfl ?_
  unfold wpX9_anew at h
  refine j_aload_n dX9_anew_0 rfl ?_
  refine j_iload_n dX9_anew_1 rfl ?_
  obtain ⟨P1, hp2, h⟩ := h
  refine j_invV (As := [vI a1]) (rest := []) dX9_anew_2 lkX9_420 hM.1 rfl rfl (wX9_isChild (d := 1) (Nat.le_of_ble_eq_true rfl) hM hW ra1 hp2) rfl rfl (Nat.le_of_ble_eq_true rfl) (Nat.le_trans (Nat.le_of_ble_eq_true rfl) hd) (jkpB fun z3 p4 r5 => ?_)
  have h := h z3 p4
  obtain ⟨h1, h2⟩ := h
  refine j_if_ne 14 dX9_anew_5 rfl (jR_b r5) (fun q6 => ?_) (fun q6 => ?_)
  · have h := h1 q6
    clear h1 h2
    refine j_aload_n dX9_anew_14 rfl ?_
    obtain ⟨P7, hp8, h⟩ := h
    refine j_invV (As := []) (rest := []) dX9_anew_15 lkX9_457 hM.1 rfl rfl (wX9_keeps (d := 2) (Nat.le_of_ble_eq_true rfl) hM hW  hp8) rfl rfl (Nat.le_of_ble_eq_true rfl) (Nat.le_trans (Nat.le_of_ble_eq_true rfl) hd) (jkmV fun F10 A11 hW12 p13 => ?_)
    have h := h F10 A11 p13
    refine j_aload_n dX9_anew_18 rfl ?_
    refine j_iconst dX9_anew_19 ?_
    refine j_iload_n dX9_anew_20 rfl ?_
    obtain ⟨P15, hp16, h⟩ := h
    refine j_invV (As := [vI 0, vI a1]) (rest := []) dX9_anew_21 lkX9_460 hM.1 rfl rfl (wX9_renews (d := 5) (Nat.le_of_ble_eq_true rfl) hM hW12 (by decide) ra1 hp16) rfl rfl (Nat.le_of_ble_eq_true rfl) (Nat.le_trans (Nat.le_of_ble_eq_true rfl) hd) (jkmV fun F18 A19 hW20 p21 => ?_)
    have h := h F18 A19 p21
    refine j_aload_n dX9_anew_24 rfl ?_
    refine j_iconst dX9_anew_25 ?_
    obtain ⟨P23, hp24, h⟩ := h
    refine j_invV (As := [vI 0]) (rest := []) dX9_anew_26 lkX9_463 hM.1 rfl rfl (wX9_standing (d := 2) (Nat.le_of_ble_eq_true rfl) hM hW20 (by decide) hp24) rfl rfl (Nat.le_of_ble_eq_true rfl) (Nat.le_trans (Nat.le_of_ble_eq_true rfl) hd) (jkpI fun z25 p26 r27 => ?_)
    have h := h z25 p26
    exact j_iret dX9_anew_29 rfl ⟨_, rfl, rfl, hW20, h, r27⟩
  · have h := h2 q6
    clear h1 h2
    refine j_aload_n dX9_anew_8 rfl ?_
    refine j_iconst dX9_anew_9 ?_
    obtain ⟨P28, hp29, h⟩ := h
    refine j_invV (As := [vI 2]) (rest := []) dX9_anew_10 lkX9_254 hM.1 rfl rfl (wX9_refuses (d := 1) (Nat.le_of_ble_eq_true rfl) hM hW (by decide) hp29) rfl rfl (Nat.le_of_ble_eq_true rfl) (Nat.le_trans (Nat.le_of_ble_eq_true rfl) hd) (jkmI fun z30 F31 A32 hW33 p34 r35 => ?_)
    have h := h z30 F31 A32 p34
    exact j_iret dX9_anew_13 rfl ⟨_, rfl, rfl, hW33, h, r35⟩
/-- rowing()V -/
def wpX9_rowing (o : Nat) (F : jFl) (A : jAr) (Q : jFl → jAr → Prop) : Prop :=
  ∀ F1 : jFl, F1 = upF F 3120 o 0 →
  ∀ F3 : jFl, F3 = upF F1 3123 o 0 →
  ∃ (I9 : Int → jFl → jAr → Prop) (m10 : Int → jFl → jAr → Nat), I9 1 F3 A ∧ ∀ (v5 : Int) (F6 : jFl) (A7 : jAr), I9 v5 F6 A7 →
    ((v5 = 0) →
      ((0 < (F6 3024 o)) →
        Q F6 A7) ∧
      (¬ (0 < (F6 3024 o)) →
        (((F6 3009 o) = 1) →
          ∃ P14 : jFl → jAr → Prop, wpX9_ahead o F6 A7 P14 ∧ ∀ F17 A18, P14 F17 A18 →
          ∃ (I26 : Int → jFl → jAr → Prop) (m27 : Int → jFl → jAr → Nat), I26 1 F17 A18 ∧ ∀ (v22 : Int) (F23 : jFl) (A24 : jAr), I26 v22 F23 A24 →
            ((v22 = 0) →
              Q F23 A24) ∧
            (¬ (v22 = 0) →
              ∀ z30 : Int, z30 = (if ¬ (F23 3123 o) = 4 then 0 else 1) →
              ∃ P32 : jFl → jAr → Prop, wpX9_onePut o z30 F23 A24 P32 ∧ ∀ F35 A36, P32 F35 A36 →
              ∀ z41 : Int, z41 = (if ¬ (F35 3024 o) = 0 then 0 else 1) →
              jR ((F35 3123 o) + z41) ∧
              ∀ F44 : jFl, F44 = upF F35 3123 o ((F35 3123 o) + z41) →
              ((¬ (F44 3024 o) = 0) →
                I26 0 F44 A36 ∧ m27 0 F44 A36 < m27 v22 F23 A24) ∧
              (¬ (¬ (F44 3024 o) = 0) →
                ∀ z48 : Int, z48 = (if ¬ (F44 3009 o) = 1 then 0 else 1) →
                I26 z48 F44 A36 ∧ m27 z48 F44 A36 < m27 v22 F23 A24))) ∧
        (¬ ((F6 3009 o) = 1) →
          Q F6 A7))) ∧
    (¬ (v5 = 0) →
      ∀ z51 : Int, z51 = (if ¬ (F6 3120 o) = 8 then 0 else 1) →
      ∃ P53 : jFl → jAr → Prop, wpX9_onePut o z51 F6 A7 P53 ∧ ∀ F56 A57, P53 F56 A57 →
      ∀ z62 : Int, z62 = (if ¬ (F56 3024 o) = 0 then 0 else 1) →
      jR ((F56 3120 o) + z62) ∧
      ∀ F65 : jFl, F65 = upF F56 3120 o ((F56 3120 o) + z62) →
      ((¬ (F65 3024 o) = 0) →
        I9 0 F65 A57 ∧ m10 0 F65 A57 < m10 v5 F6 A7) ∧
      (¬ (¬ (F65 3024 o) = 0) →
        ((¬ (F65 3009 o) = 1) →
          I9 0 F65 A57 ∧ m10 0 F65 A57 < m10 v5 F6 A7) ∧
        (¬ (¬ (F65 3009 o) = 1) →
          ((¬ (F65 3036 o) = (-1)) →
            I9 1 F65 A57 ∧ m10 1 F65 A57 < m10 v5 F6 A7) ∧
          (¬ (¬ (F65 3036 o) = (-1)) →
            ∃ P70 : Int → Prop, wpX9_isWord o 6452596 F65 A57 P70 ∧ ∀ z72, P70 z72 →
            ∀ z76 : Int, z76 = (if ¬ z72 = 0 then 0 else 1) →
            I9 z76 F65 A57 ∧ m10 z76 F65 A57 < m10 v5 F6 A7))))
theorem wX9_rowing {G : jG} {l : Launch} {d : Nat} {N : jSh} {o : Nat} {F : jFl} {A : jAr} {Q : jFl → jAr → Prop} (hd : 6 ≤ d) (hM : mShape G N o) (hW : jWf N F A) (h : wpX9_rowing o F A Q) : jCall G l d mX9_rowing [.ref o] N F A (jmV N Q) := by
  refine jCall.of (ls := [.ref o, jD]) (by decide) rfl (Nat.le_of_ble_eq_true rfl) rfl ?_
  unfold wpX9_rowing at h
  refine j_aload_n dX9_rowing_0 rfl ?_
  refine j_iconst dX9_rowing_1 ?_
  refine j_putI dX9_rowing_2 flX9_133_10 hM.1 hM.2.1 rfl ?_
  obtain ⟨F1, eF1⟩ : ∃ x : jFl, x = upF F 3120 o 0 := ⟨_, rfl⟩
  have hW2 : jWf N F1 A := eF1 ▸ jWf_F (f := 3120) (a := o) (z := 0) hW (jRk_0 rfl (by decide))
  refine jnmF (e := eF1) ?_
  have h := h F1 eF1
  refine j_aload_n dX9_rowing_5 rfl ?_
  refine j_iconst dX9_rowing_6 ?_
  refine j_putI dX9_rowing_7 flX9_136_10 hM.1 hM.2.1 rfl ?_
  obtain ⟨F3, eF3⟩ : ∃ x : jFl, x = upF F1 3123 o 0 := ⟨_, rfl⟩
  have hW4 : jWf N F3 A := eF3 ▸ jWf_F (f := 3123) (a := o) (z := 0) hW2 (jRk_0 rfl (by decide))
  refine jnmF (e := eF3) ?_
  have h := h F3 eF3
  refine j_iconst dX9_rowing_10 ?_
  refine j_istore_n dX9_rowing_11 rfl ?_
  obtain ⟨I9, m10, h0, hs⟩ := h
  have lp : ∀ (n : Nat) (v5 : Int) (F6 : jFl) (A7 : jAr), m10 v5 F6 A7 < n → jWf N F6 A7 → jR v5 → I9 v5 F6 A7 → J G l d mX9_rowing 12 [.ref o, vI v5] [] N F6 A7 (jmV N Q) := by
    intro nI9
    induction nI9 with
    | zero =>
      intro v5 F6 A7 hmu
      exact absurd hmu (Nat.not_lt_zero _)
    | succ nI9 ihI9 =>
      intro v5 F6 A7 hmuI9 hW8 rv5 hI
      have h := hs v5 F6 A7 hI
      refine j_iload_n dX9_rowing_12 rfl ?_
      obtain ⟨h1, h2⟩ := h
      refine j_if_eq 97 dX9_rowing_13 rfl rv5 (fun q11 => ?_) (fun q11 => ?_)
      · have h := h1 q11
        clear h1 h2
        refine j_aload_n dX9_rowing_97 rfl ?_
        refine j_getI dX9_rowing_98 flX9_36_10 hM.1 rfl ?_
        obtain ⟨h1, h2⟩ := h
        refine j_if_gt 112 dX9_rowing_101 rfl (hW8.fi rfl) (fun q12 => ?_) (fun q12 => ?_)
        · have h := h1 q12
          clear h1 h2
          exact j_vret dX9_rowing_112 rfl ⟨rfl, rfl, hW8, h⟩
        · have h := h2 q12
          clear h1 h2
          refine j_aload_n dX9_rowing_104 rfl ?_
          refine j_getI dX9_rowing_105 flX9_20_10 hM.1 rfl ?_
          refine j_iconst dX9_rowing_108 ?_
          obtain ⟨h1, h2⟩ := h
          refine j_icmp_eq 113 dX9_rowing_109 rfl (hW8.fi rfl) (by decide) (fun q13 => ?_) (fun q13 => ?_)
          · have h := h1 q13
            clear h1 h2
            refine j_aload_n dX9_rowing_113 rfl ?_
            obtain ⟨P14, hp15, h⟩ := h
            refine j_invV (As := []) (rest := []) dX9_rowing_114 lkX9_279 hM.1 rfl rfl (wX9_ahead (d := 2) (Nat.le_of_ble_eq_true rfl) hM hW8  hp15) rfl rfl (Nat.le_of_ble_eq_true rfl) (Nat.le_trans (Nat.le_of_ble_eq_true rfl) hd) (jkmV fun F17 A18 hW19 p20 => ?_)
            have h := h F17 A18 p20
            refine j_iconst dX9_rowing_117 ?_
            refine j_istore_n dX9_rowing_118 rfl ?_
            obtain ⟨I26, m27, h0, hs⟩ := h
            have lp : ∀ (n : Nat) (v22 : Int) (F23 : jFl) (A24 : jAr), m27 v22 F23 A24 < n → jWf N F23 A24 → jR v22 → I26 v22 F23 A24 → J G l d mX9_rowing 119 [.ref o, vI v22] [] N F23 A24 (jmV N Q) := by
              intro nI26
              induction nI26 with
              | zero =>
                intro v22 F23 A24 hmu
                exact absurd hmu (Nat.not_lt_zero _)
              | succ nI26 ihI26 =>
                intro v22 F23 A24 hmuI26 hW25 rv22 hI
                have h := hs v22 F23 A24 hI
                refine j_iload_n dX9_rowing_119 rfl ?_
                obtain ⟨h1, h2⟩ := h
                refine j_if_eq 185 dX9_rowing_120 rfl rv22 (fun q28 => ?_) (fun q28 => ?_)
                · have h := h1 q28
                  clear h1 h2
                  exact j_vret dX9_rowing_185 rfl ⟨rfl, rfl, hW25, h⟩
                · have h := h2 q28
                  clear h1 h2
                  refine j_aload_n dX9_rowing_123 rfl ?_
                  refine j_aload_n dX9_rowing_124 rfl ?_
                  refine j_getI dX9_rowing_125 flX9_136_10 hM.1 rfl ?_
                  refine j_iconst dX9_rowing_128 ?_
                  have jn31 : ∀ z30 : Int, z30 = (if ¬ (F23 3123 o) = 4 then 0 else 1) → J G l d mX9_rowing 137 [.ref o, vI v22] [vI z30, .ref o] N F23 A24 (jmV N Q) := by
                    intro z30 ez30
                    have h := h z30 ez30
                    obtain ⟨P32, hp33, h⟩ := h
                    refine j_invV (As := [vI z30]) (rest := []) dX9_rowing_137 lkX9_360 hM.1 rfl rfl (wX9_onePut (d := 5) (Nat.le_of_ble_eq_true rfl) hM hW25 (ez30 ▸ (jB_ite (by decide) (by decide))) hp33) rfl rfl (Nat.le_of_ble_eq_true rfl) (Nat.le_trans (Nat.le_of_ble_eq_true rfl) hd) (jkmV fun F35 A36 hW37 p38 => ?_)
                    have h := h F35 A36 p38
                    refine j_aload_n dX9_rowing_140 rfl ?_
                    refine j_dup dX9_rowing_141 rfl ?_
                    refine j_getI dX9_rowing_142 flX9_136_10 hM.1 rfl ?_
                    refine j_aload_n dX9_rowing_145 rfl ?_
                    refine j_getI dX9_rowing_146 flX9_36_10 hM.1 rfl ?_
                    have jn42 : ∀ z41 : Int, z41 = (if ¬ (F35 3024 o) = 0 then 0 else 1) → J G l d mX9_rowing 157 [.ref o, vI v22] [vI z41, vI (F35 3123 o), .ref o] N F35 A36 (jmV N Q) := by
                      intro z41 ez41
                      have h := h z41 ez41
                      refine j_iadd dX9_rowing_157 ?_
                      obtain ⟨r43, h⟩ := h
                      refine j_putI dX9_rowing_158 flX9_136_10 hM.1 hM.2.1 rfl ?_
                      obtain ⟨F44, eF44⟩ : ∃ x : jFl, x = upF F35 3123 o ((F35 3123 o) + z41) := ⟨_, rfl⟩
                      have hW45 : jWf N F44 A36 := eF44 ▸ jWf_F (f := 3123) (a := o) (z := (F35 3123 o) + z41) hW37 (jRk_0 rfl r43)
                      refine jnmF (e := eF44) ?_
                      have h := h F44 eF44
                      refine j_aload_n dX9_rowing_161 rfl ?_
                      refine j_getI dX9_rowing_162 flX9_36_10 hM.1 rfl ?_
                      obtain ⟨h1, h2⟩ := h
                      refine j_if_ne 180 dX9_rowing_165 rfl (hW45.fi rfl) (fun q46 => ?_) (fun q46 => ?_)
                      · have h := h1 q46
                        clear h1 h2
                        refine j_iconst dX9_rowing_180 ?_
                        refine j_istore_n dX9_rowing_181 rfl ?_
                        refine j_goto 119 dX9_rowing_182 rfl ?_
                        exact J.wk (((jWk.nil).eq).eq) (ihI26 _ _ _ (Nat.lt_of_lt_of_le h.2 (Nat.le_of_lt_succ hmuI26)) hW45 (by decide) h.1)
                      · have h := h2 q46
                        clear h1 h2
                        refine j_aload_n dX9_rowing_168 rfl ?_
                        refine j_getI dX9_rowing_169 flX9_20_10 hM.1 rfl ?_
                        refine j_iconst dX9_rowing_172 ?_
                        have jn49 : ∀ z48 : Int, z48 = (if ¬ (F44 3009 o) = 1 then 0 else 1) → J G l d mX9_rowing 181 [.ref o, vI v22] [vI z48] N F44 A36 (jmV N Q) := by
                          intro z48 ez48
                          have h := h z48 ez48
                          refine j_istore_n dX9_rowing_181 rfl ?_
                          refine j_goto 119 dX9_rowing_182 rfl ?_
                          exact J.wk (((jWk.nil).eq).eq) (ihI26 _ _ _ (Nat.lt_of_lt_of_le h.2 (Nat.le_of_lt_succ hmuI26)) hW45 (ez48 ▸ (jR_ite (by decide) (by decide))) h.1)
                        clear h
                        refine j_icmp_ne 180 dX9_rowing_173 rfl (hW45.fi rfl) (by decide) (fun q47 => ?_) (fun q47 => ?_)
                        · refine j_iconst dX9_rowing_180 ?_
                          exact jn49 _ ((if_pos q47).symm)
                        · refine j_iconst dX9_rowing_176 ?_
                          refine j_goto 181 dX9_rowing_177 rfl ?_
                          exact jn49 _ ((if_neg q47).symm)
                    clear h
                    refine j_if_ne 156 dX9_rowing_149 rfl (hW37.fi rfl) (fun q40 => ?_) (fun q40 => ?_)
                    · refine j_iconst dX9_rowing_156 ?_
                      exact jn42 _ ((if_pos q40).symm)
                    · refine j_iconst dX9_rowing_152 ?_
                      refine j_goto 157 dX9_rowing_153 rfl ?_
                      exact jn42 _ ((if_neg q40).symm)
                  clear h
                  refine j_icmp_ne 136 dX9_rowing_129 rfl (hW25.fi rfl) (by decide) (fun q29 => ?_) (fun q29 => ?_)
                  · refine j_iconst dX9_rowing_136 ?_
                    exact jn31 _ ((if_pos q29).symm)
                  · refine j_iconst dX9_rowing_132 ?_
                    refine j_goto 137 dX9_rowing_133 rfl ?_
                    exact jn31 _ ((if_neg q29).symm)
            exact J.wk (((jWk.nil).eq).eq) (lp _ _ _ _ (Nat.lt_succ_self _) hW19 (by decide) h0)
          · have h := h2 q13
            clear h1 h2
            exact j_vret dX9_rowing_112 rfl ⟨rfl, rfl, hW8, h⟩
      · have h := h2 q11
        clear h1 h2
        refine j_aload_n dX9_rowing_16 rfl ?_
        refine j_aload_n dX9_rowing_17 rfl ?_
        refine j_getI dX9_rowing_18 flX9_133_10 hM.1 rfl ?_
        refine j_bipush dX9_rowing_21 ?_
        have jn52 : ∀ z51 : Int, z51 = (if ¬ (F6 3120 o) = 8 then 0 else 1) → J G l d mX9_rowing 31 [.ref o, vI v5] [vI z51, .ref o] N F6 A7 (jmV N Q) := by
          intro z51 ez51
          have h := h z51 ez51
          obtain ⟨P53, hp54, h⟩ := h
          refine j_invV (As := [vI z51]) (rest := []) dX9_rowing_31 lkX9_360 hM.1 rfl rfl (wX9_onePut (d := 5) (Nat.le_of_ble_eq_true rfl) hM hW8 (ez51 ▸ (jB_ite (by decide) (by decide))) hp54) rfl rfl (Nat.le_of_ble_eq_true rfl) (Nat.le_trans (Nat.le_of_ble_eq_true rfl) hd) (jkmV fun F56 A57 hW58 p59 => ?_)
          have h := h F56 A57 p59
          refine j_aload_n dX9_rowing_34 rfl ?_
          refine j_dup dX9_rowing_35 rfl ?_
          refine j_getI dX9_rowing_36 flX9_133_10 hM.1 rfl ?_
          refine j_aload_n dX9_rowing_39 rfl ?_
          refine j_getI dX9_rowing_40 flX9_36_10 hM.1 rfl ?_
          have jn63 : ∀ z62 : Int, z62 = (if ¬ (F56 3024 o) = 0 then 0 else 1) → J G l d mX9_rowing 51 [.ref o, vI v5] [vI z62, vI (F56 3120 o), .ref o] N F56 A57 (jmV N Q) := by
            intro z62 ez62
            have h := h z62 ez62
            refine j_iadd dX9_rowing_51 ?_
            obtain ⟨r64, h⟩ := h
            refine j_putI dX9_rowing_52 flX9_133_10 hM.1 hM.2.1 rfl ?_
            obtain ⟨F65, eF65⟩ : ∃ x : jFl, x = upF F56 3120 o ((F56 3120 o) + z62) := ⟨_, rfl⟩
            have hW66 : jWf N F65 A57 := eF65 ▸ jWf_F (f := 3120) (a := o) (z := (F56 3120 o) + z62) hW58 (jRk_0 rfl r64)
            refine jnmF (e := eF65) ?_
            have h := h F65 eF65
            refine j_aload_n dX9_rowing_55 rfl ?_
            refine j_getI dX9_rowing_56 flX9_36_10 hM.1 rfl ?_
            obtain ⟨h1, h2⟩ := h
            refine j_if_ne 92 dX9_rowing_59 rfl (hW66.fi rfl) (fun q67 => ?_) (fun q67 => ?_)
            · have h := h1 q67
              clear h1 h2
              refine j_iconst dX9_rowing_92 ?_
              refine j_istore_n dX9_rowing_93 rfl ?_
              refine j_goto 12 dX9_rowing_94 rfl ?_
              exact J.wk (((jWk.nil).eq).eq) (ihI9 _ _ _ (Nat.lt_of_lt_of_le h.2 (Nat.le_of_lt_succ hmuI9)) hW66 (by decide) h.1)
            · have h := h2 q67
              clear h1 h2
              refine j_aload_n dX9_rowing_62 rfl ?_
              refine j_getI dX9_rowing_63 flX9_20_10 hM.1 rfl ?_
              refine j_iconst dX9_rowing_66 ?_
              obtain ⟨h1, h2⟩ := h
              refine j_icmp_ne 92 dX9_rowing_67 rfl (hW66.fi rfl) (by decide) (fun q68 => ?_) (fun q68 => ?_)
              · have h := h1 q68
                clear h1 h2
                refine j_iconst dX9_rowing_92 ?_
                refine j_istore_n dX9_rowing_93 rfl ?_
                refine j_goto 12 dX9_rowing_94 rfl ?_
                exact J.wk (((jWk.nil).eq).eq) (ihI9 _ _ _ (Nat.lt_of_lt_of_le h.2 (Nat.le_of_lt_succ hmuI9)) hW66 (by decide) h.1)
              · have h := h2 q68
                clear h1 h2
                refine j_aload_n dX9_rowing_70 rfl ?_
                refine j_getI dX9_rowing_71 flX9_48_10 hM.1 rfl ?_
                refine j_iconst dX9_rowing_74 ?_
                obtain ⟨h1, h2⟩ := h
                refine j_icmp_ne 88 dX9_rowing_75 rfl (hW66.fi rfl) (by decide) (fun q69 => ?_) (fun q69 => ?_)
                · have h := h1 q69
                  clear h1 h2
                  refine j_iconst dX9_rowing_88 ?_
                  refine j_goto 93 dX9_rowing_89 rfl ?_
                  refine j_istore_n dX9_rowing_93 rfl ?_
                  refine j_goto 12 dX9_rowing_94 rfl ?_
                  exact J.wk (((jWk.nil).eq).eq) (ihI9 _ _ _ (Nat.lt_of_lt_of_le h.2 (Nat.le_of_lt_succ hmuI9)) hW66 (by decide) h.1)
                · have h := h2 q69
                  clear h1 h2
                  refine j_aload_n dX9_rowing_78 rfl ?_
                  refine j_ldc2 (n := 6452596) dX9_rowing_79 q2250 ?_
                  obtain ⟨P70, hp71, h⟩ := h
                  refine j_invV (As := [vL 6452596]) (rest := []) dX9_rowing_82 lkX9_328 hM.1 rfl rfl (wX9_isWord (d := 1) (Nat.le_of_ble_eq_true rfl) hM hW66 (by decide) hp71) rfl rfl (Nat.le_of_ble_eq_true rfl) (Nat.le_trans (Nat.le_of_ble_eq_true rfl) hd) (jkpB fun z72 p73 r74 => ?_)
                  have h := h z72 p73
                  have jn77 : ∀ z76 : Int, z76 = (if ¬ z72 = 0 then 0 else 1) → J G l d mX9_rowing 93 [.ref o, vI v5] [vI z76] N F65 A57 (jmV N Q) := by
                    intro z76 ez76
                    have h := h z76 ez76
                    refine j_istore_n dX9_rowing_93 rfl ?_
                    refine j_goto 12 dX9_rowing_94 rfl ?_
                    exact J.wk (((jWk.nil).eq).eq) (ihI9 _ _ _ (Nat.lt_of_lt_of_le h.2 (Nat.le_of_lt_succ hmuI9)) hW66 (ez76 ▸ (jR_ite (by decide) (by decide))) h.1)
                  clear h
                  refine j_if_ne 92 dX9_rowing_85 rfl (jR_b r74) (fun q75 => ?_) (fun q75 => ?_)
                  · refine j_iconst dX9_rowing_92 ?_
                    exact jn77 _ ((if_pos q75).symm)
                  · refine j_iconst dX9_rowing_88 ?_
                    refine j_goto 93 dX9_rowing_89 rfl ?_
                    exact jn77 _ ((if_neg q75).symm)
          clear h
          refine j_if_ne 50 dX9_rowing_43 rfl (hW58.fi rfl) (fun q61 => ?_) (fun q61 => ?_)
          · refine j_iconst dX9_rowing_50 ?_
            exact jn63 _ ((if_pos q61).symm)
          · refine j_iconst dX9_rowing_46 ?_
            refine j_goto 51 dX9_rowing_47 rfl ?_
            exact jn63 _ ((if_neg q61).symm)
        clear h
        refine j_icmp_ne 30 dX9_rowing_23 rfl (hW8.fi rfl) (by decide) (fun q50 => ?_) (fun q50 => ?_)
        · refine j_iconst dX9_rowing_30 ?_
          exact jn52 _ ((if_pos q50).symm)
        · refine j_iconst dX9_rowing_26 ?_
          refine j_goto 31 dX9_rowing_27 rfl ?_
          exact jn52 _ ((if_neg q50).symm)
  exact J.wk (((jWk.nil).eq).eq) (lp _ _ _ _ (Nat.lt_succ_self _) hW4 (by decide) h0)
/-- goodness()I -/
def wpX9_goodness (o : Nat) (F : jFl) (A : jAr) (Q : Int → jFl → jAr → Prop) : Prop :=
  ((¬ (F 3225 o) = 0) →
    ∃ P2 : Int → jFl → jAr → Prop, wpX9_wholeOf o (F 3228 o) F A P2 ∧ ∀ z4 F5 A6, P2 z4 F5 A6 →
    Q z4 F5 A6) ∧
  (¬ (¬ (F 3225 o) = 0) →
    ∃ P10 : Int → jFl → jAr → Prop, wpX9_wholeBy o (F 3228 o) F A P10 ∧ ∀ z12 F13 A14, P10 z12 F13 A14 →
    Q z12 F13 A14)
theorem wX9_goodness {G : jG} {l : Launch} {d : Nat} {N : jSh} {o : Nat} {F : jFl} {A : jAr} {Q : Int → jFl → jAr → Prop} (hd : 6 ≤ d) (hM : mShape G N o) (hW : jWf N F A) (h : wpX9_goodness o F A Q) : jCall G l d mX9_goodness [.ref o] N F A (jmI N Q) := by
  refine jCall.of (ls := [.ref o]) (by decide) rfl (Nat.le_of_ble_eq_true rfl) rfl ?_
  unfold wpX9_goodness at h
  refine j_aload_n dX9_goodness_0 rfl ?_
  refine j_getI dX9_goodness_1 flX9_239_10 hM.1 rfl ?_
  obtain ⟨h1, h2⟩ := h
  refine j_if_ne 18 dX9_goodness_4 rfl (hW.fi rfl) (fun q1 => ?_) (fun q1 => ?_)
  · have h := h1 q1
    clear h1 h2
    refine j_aload_n dX9_goodness_18 rfl ?_
    refine j_aload_n dX9_goodness_19 rfl ?_
    refine j_getI dX9_goodness_20 flX9_242_10 hM.1 rfl ?_
    obtain ⟨P2, hp3, h⟩ := h
    refine j_invV (As := [vI (F 3228 o)]) (rest := []) dX9_goodness_23 lkX9_519 hM.1 rfl rfl (wX9_wholeOf (d := 5) (Nat.le_of_ble_eq_true rfl) hM hW (hW.fi rfl) hp3) rfl rfl (Nat.le_of_ble_eq_true rfl) (Nat.le_trans (Nat.le_of_ble_eq_true rfl) hd) (jkmI fun z4 F5 A6 hW7 p8 r9 => ?_)
    have h := h z4 F5 A6 p8
    exact j_iret dX9_goodness_26 rfl ⟨_, rfl, rfl, hW7, h, r9⟩
  · have h := h2 q1
    clear h1 h2
    refine j_aload_n dX9_goodness_7 rfl ?_
    refine j_aload_n dX9_goodness_8 rfl ?_
    refine j_getI dX9_goodness_9 flX9_242_10 hM.1 rfl ?_
    obtain ⟨P10, hp11, h⟩ := h
    refine j_invV (As := [vI (F 3228 o)]) (rest := []) dX9_goodness_12 lkX9_512 hM.1 rfl rfl (wX9_wholeBy (d := 4) (Nat.le_of_ble_eq_true rfl) hM hW (hW.fi rfl) hp11) rfl rfl (Nat.le_of_ble_eq_true rfl) (Nat.le_trans (Nat.le_of_ble_eq_true rfl) hd) (jkmI fun z12 F13 A14 hW15 p16 r17 => ?_)
    have h := h z12 F13 A14 p16
    refine j_goto 26 dX9_goodness_15 rfl ?_
    exact j_iret dX9_goodness_26 rfl ⟨_, rfl, rfl, hW15, h, r17⟩
/-- forty(II)I -/
def wpX9_forty (o : Nat) (a1 : Int) (a2 : Int) (F : jFl) (A : jAr) (Q : Int → jFl → jAr → Prop) : Prop :=
  ∃ P1 : Int → Prop, wpX9_standing o 0 F A P1 ∧ ∀ z3, P1 z3 →
  ∃ P6 : Int → Prop, wpX9_isChild o a1 F A P6 ∧ ∀ z8, P6 z8 →
  ((z8 = 0) →
    Q (-1) F A) ∧
  (¬ (z8 = 0) →
    ∃ P12 : Int → Prop, wpX9_is o z3 1 6 F A P12 ∧ ∀ z14, P12 z14 →
    ((z14 = 0) →
      Q (-1) F A) ∧
    (¬ (z14 = 0) →
      ((a2 = (-1)) →
        ∀ F19 : jFl, F19 = upF F 3222 o 0 →
        ∃ (I25 : Int → jFl → jAr → Prop) (m26 : Int → jFl → jAr → Nat), I25 0 F19 A ∧ ∀ (v21 : Int) (F22 : jFl) (A23 : jAr), I25 v21 F22 A23 →
          (0 ≤ F22 3039 o ∧ F22 3039 o < 2) ∧
          (((A23 (o + 17) (F22 3039 o)) ≤ v21) →
            ∃ (I34 : Int → Int → jFl → jAr → Prop) (m35 : Int → Int → jFl → jAr → Nat), I34 (-1) 1 F22 A23 ∧ ∀ (v29 : Int) (v30 : Int) (F31 : jFl) (A32 : jAr), I34 v29 v30 F31 A32 →
              ((v30 = 0) →
                ((¬ a2 = (-1)) →
                  (0 ≤ a2 ∧ a2 < 12) ∧
                  Q (A32 (o + 47) a2) F31 A32) ∧
                (¬ (¬ a2 = (-1)) →
                  Q v29 F31 A32)) ∧
              (¬ (v30 = 0) →
                ∃ P39 : Int → jFl → jAr → Prop, wpX9_wholeOf o a1 F31 A32 P39 ∧ ∀ z41 F42 A43, P39 z41 F42 A43 →
                ((z41 ≤ v29) →
                  ∃ P48 : Int → jFl → jAr → Prop, wpX9_nextPerm o F42 A43 P48 ∧ ∀ z50 F51 A52, P48 z50 F51 A52 →
                  I34 v29 z50 F51 A52 ∧ m35 v29 z50 F51 A52 < m35 v29 v30 F31 A32) ∧
                (¬ (z41 ≤ v29) →
                  ∃ (I59 : Int → jAr → Prop) (m60 : Int → jAr → Nat), I59 0 A43 ∧ ∀ (v56 : Int) (A57 : jAr), I59 v56 A57 →
                    (((F42 3222 o) ≤ v56) →
                      ∃ P62 : Int → jFl → jAr → Prop, wpX9_nextPerm o F42 A57 P62 ∧ ∀ z64 F65 A66, P62 z64 F65 A66 →
                      I34 z41 z64 F65 A66 ∧ m35 z41 z64 F65 A66 < m35 v29 v30 F31 A32) ∧
                    (¬ ((F42 3222 o) ≤ v56) →
                      (0 ≤ v56 ∧ v56 < 12) ∧
                      (0 ≤ v56 ∧ v56 < 12) ∧
                      ∀ A72 : jAr, A72 = upA A57 (o + 47) v56 (A57 (o + 46) v56) →
                      jR (v56 + 1) ∧
                      I59 (v56 + 1) A72 ∧ m60 (v56 + 1) A72 < m60 v56 A57)))) ∧
          (¬ ((A23 (o + 17) (F22 3039 o)) ≤ v21) →
            ∃ P75 : Int → Prop, wpX9_stands o 0 v21 F22 A23 P75 ∧ ∀ z77, P75 z77 →
            ((¬ z77 = 0) →
              (0 ≤ F22 3222 o ∧ F22 3222 o < 12) ∧
              ∀ A82 : jAr, A82 = upA A23 (o + 46) (F22 3222 o) v21 →
              jR ((F22 3222 o) + 1) ∧
              ∀ F85 : jFl, F85 = upF F22 3222 o ((F22 3222 o) + 1) →
              jR (v21 + 1) ∧
              I25 (v21 + 1) F85 A82 ∧ m26 (v21 + 1) F85 A82 < m26 v21 F22 A23) ∧
            (¬ (¬ z77 = 0) →
              jR (v21 + 1) ∧
              I25 (v21 + 1) F22 A23 ∧ m26 (v21 + 1) F22 A23 < m26 v21 F22 A23))) ∧
      (¬ (a2 = (-1)) →
        jR (z3 - 1) ∧
        ∃ P90 : Int → Prop, wpX9_is o a2 0 (z3 - 1) F A P90 ∧ ∀ z92, P90 z92 →
        ((¬ z92 = 0) →
          ∀ F96 : jFl, F96 = upF F 3222 o 0 →
          ∃ (I102 : Int → jFl → jAr → Prop) (m103 : Int → jFl → jAr → Nat), I102 0 F96 A ∧ ∀ (v98 : Int) (F99 : jFl) (A100 : jAr), I102 v98 F99 A100 →
            (0 ≤ F99 3039 o ∧ F99 3039 o < 2) ∧
            (((A100 (o + 17) (F99 3039 o)) ≤ v98) →
              ∃ (I111 : Int → Int → jFl → jAr → Prop) (m112 : Int → Int → jFl → jAr → Nat), I111 (-1) 1 F99 A100 ∧ ∀ (v106 : Int) (v107 : Int) (F108 : jFl) (A109 : jAr), I111 v106 v107 F108 A109 →
                ((v107 = 0) →
                  ((¬ a2 = (-1)) →
                    (0 ≤ a2 ∧ a2 < 12) ∧
                    Q (A109 (o + 47) a2) F108 A109) ∧
                  (¬ (¬ a2 = (-1)) →
                    Q v106 F108 A109)) ∧
                (¬ (v107 = 0) →
                  ∃ P116 : Int → jFl → jAr → Prop, wpX9_wholeOf o a1 F108 A109 P116 ∧ ∀ z118 F119 A120, P116 z118 F119 A120 →
                  ((z118 ≤ v106) →
                    ∃ P125 : Int → jFl → jAr → Prop, wpX9_nextPerm o F119 A120 P125 ∧ ∀ z127 F128 A129, P125 z127 F128 A129 →
                    I111 v106 z127 F128 A129 ∧ m112 v106 z127 F128 A129 < m112 v106 v107 F108 A109) ∧
                  (¬ (z118 ≤ v106) →
                    ∃ (I136 : Int → jAr → Prop) (m137 : Int → jAr → Nat), I136 0 A120 ∧ ∀ (v133 : Int) (A134 : jAr), I136 v133 A134 →
                      (((F119 3222 o) ≤ v133) →
                        ∃ P139 : Int → jFl → jAr → Prop, wpX9_nextPerm o F119 A134 P139 ∧ ∀ z141 F142 A143, P139 z141 F142 A143 →
                        I111 z118 z141 F142 A143 ∧ m112 z118 z141 F142 A143 < m112 v106 v107 F108 A109) ∧
                      (¬ ((F119 3222 o) ≤ v133) →
                        (0 ≤ v133 ∧ v133 < 12) ∧
                        (0 ≤ v133 ∧ v133 < 12) ∧
                        ∀ A149 : jAr, A149 = upA A134 (o + 47) v133 (A134 (o + 46) v133) →
                        jR (v133 + 1) ∧
                        I136 (v133 + 1) A149 ∧ m137 (v133 + 1) A149 < m137 v133 A134)))) ∧
            (¬ ((A100 (o + 17) (F99 3039 o)) ≤ v98) →
              ∃ P152 : Int → Prop, wpX9_stands o 0 v98 F99 A100 P152 ∧ ∀ z154, P152 z154 →
              ((¬ z154 = 0) →
                (0 ≤ F99 3222 o ∧ F99 3222 o < 12) ∧
                ∀ A159 : jAr, A159 = upA A100 (o + 46) (F99 3222 o) v98 →
                jR ((F99 3222 o) + 1) ∧
                ∀ F162 : jFl, F162 = upF F99 3222 o ((F99 3222 o) + 1) →
                jR (v98 + 1) ∧
                I102 (v98 + 1) F162 A159 ∧ m103 (v98 + 1) F162 A159 < m103 v98 F99 A100) ∧
              (¬ (¬ z154 = 0) →
                jR (v98 + 1) ∧
                I102 (v98 + 1) F99 A100 ∧ m103 (v98 + 1) F99 A100 < m103 v98 F99 A100))) ∧
        (¬ (¬ z92 = 0) →
          Q (-1) F A))))
theorem wX9_forty {G : jG} {l : Launch} {d : Nat} {N : jSh} {o : Nat} {F : jFl} {A : jAr} {a1 a2 : Int} {Q : Int → jFl → jAr → Prop} (hd : 6 ≤ d) (hM : mShape G N o) (hW : jWf N F A) (ra1 : jR a1) (ra2 : jR a2) (h : wpX9_forty o a1 a2 F A Q) : jCall G l d mX9_forty [.ref o, vI a1, vI a2] N F A (jmI N Q) := by
  refine jCall.of (ls := [.ref o, vI a1, vI a2, jD, jD, jD, jD, jD]) (by decide) rfl (Nat.le_of_ble_eq_true rfl) rfl ?_
  unfold wpX9_forty at h
  refine j_aload_n dX9_forty_0 rfl ?_
  refine j_iconst dX9_forty_1 ?_
  obtain ⟨P1, hp2, h⟩ := h
  refine j_invV (As := [vI 0]) (rest := []) dX9_forty_2 lkX9_463 hM.1 rfl rfl (wX9_standing (d := 2) (Nat.le_of_ble_eq_true rfl) hM hW (by decide) hp2) rfl rfl (Nat.le_of_ble_eq_true rfl) (Nat.le_trans (Nat.le_of_ble_eq_true rfl) hd) (jkpI fun z3 p4 r5 => ?_)
  have h := h z3 p4
  refine j_istore_n dX9_forty_5 rfl ?_
  refine j_aload_n dX9_forty_6 rfl ?_
  refine j_iload_n dX9_forty_7 rfl ?_
  obtain ⟨P6, hp7, h⟩ := h
  refine j_invV (As := [vI a1]) (rest := []) dX9_forty_8 lkX9_420 hM.1 rfl rfl (wX9_isChild (d := 1) (Nat.le_of_ble_eq_true rfl) hM hW ra1 hp7) rfl rfl (Nat.le_of_ble_eq_true rfl) (Nat.le_trans (Nat.le_of_ble_eq_true rfl) hd) (jkpB fun z8 p9 r10 => ?_)
  have h := h z8 p9
  obtain ⟨h1, h2⟩ := h
  refine j_if_eq 40 dX9_forty_11 rfl (jR_b r10) (fun q11 => ?_) (fun q11 => ?_)
  · have h := h1 q11
    clear h1 h2
    refine j_iconst dX9_forty_40 ?_
    exact j_iret dX9_forty_41 rfl ⟨_, rfl, rfl, hW, h, (by decide)⟩
  · have h := h2 q11
    clear h1 h2
    refine j_iload_n dX9_forty_14 rfl ?_
    refine j_iconst dX9_forty_15 ?_
    refine j_bipush dX9_forty_16 ?_
    obtain ⟨P12, hp13, h⟩ := h
    refine j_invS (As := [vI z3, vI 1, vI 6]) (rest := []) dX9_forty_18 lkX9_324 (wX9_is (d := 1) (Nat.le_of_ble_eq_true rfl) hM hW r5 (by decide) (by decide) hp13) rfl rfl (Nat.le_of_ble_eq_true rfl) (Nat.le_trans (Nat.le_of_ble_eq_true rfl) hd) (jkpB fun z14 p15 r16 => ?_)
    have h := h z14 p15
    obtain ⟨h1, h2⟩ := h
    refine j_if_eq 40 dX9_forty_21 rfl (jR_b r16) (fun q17 => ?_) (fun q17 => ?_)
    · have h := h1 q17
      clear h1 h2
      refine j_iconst dX9_forty_40 ?_
      exact j_iret dX9_forty_41 rfl ⟨_, rfl, rfl, hW, h, (by decide)⟩
    · have h := h2 q17
      clear h1 h2
      refine j_iload_n dX9_forty_24 rfl ?_
      refine j_iconst dX9_forty_25 ?_
      obtain ⟨h1, h2⟩ := h
      refine j_icmp_eq 42 dX9_forty_26 rfl ra2 (by decide) (fun q18 => ?_) (fun q18 => ?_)
      · have h := h1 q18
        clear h1 h2
        refine j_aload_n dX9_forty_42 rfl ?_
        refine j_iconst dX9_forty_43 ?_
        refine j_putI dX9_forty_44 flX9_236_10 hM.1 hM.2.1 rfl ?_
        obtain ⟨F19, eF19⟩ : ∃ x : jFl, x = upF F 3222 o 0 := ⟨_, rfl⟩
        have hW20 : jWf N F19 A := eF19 ▸ jWf_F (f := 3222) (a := o) (z := 0) hW (jRk_0 rfl (by decide))
        refine jnmF (e := eF19) ?_
        have h := h F19 eF19
        refine j_iconst dX9_forty_47 ?_
        refine j_istore dX9_forty_48 rfl ?_
        obtain ⟨I25, m26, h0, hs⟩ := h
        have lp : ∀ (n : Nat) (v21 : Int) (F22 : jFl) (A23 : jAr), m26 v21 F22 A23 < n → jWf N F22 A23 → jR v21 → I25 v21 F22 A23 → J G l d mX9_forty 50 [.ref o, vI a1, vI a2, jD, vI v21, jD, jD, jD] [] N F22 A23 (jmI N Q) := by
          intro nI25
          induction nI25 with
          | zero =>
            intro v21 F22 A23 hmu
            exact absurd hmu (Nat.not_lt_zero _)
          | succ nI25 ihI25 =>
            intro v21 F22 A23 hmuI25 hW24 rv21 hI
            have h := hs v21 F22 A23 hI
            refine j_iload dX9_forty_50 rfl ?_
            refine j_aload_n dX9_forty_52 rfl ?_
            refine j_getFR dX9_forty_53 flX9_100_10 hM.1 rfl (mf_laws hM) ?_
            refine j_aload_n dX9_forty_56 rfl ?_
            refine j_getI dX9_forty_57 flX9_51_10 hM.1 rfl ?_
            obtain ⟨c27, h⟩ := h
            refine j_iald (n := 2) dX9_forty_60 (mt_laws hM) (ml_laws hM) c27 ?_
            obtain ⟨h1, h2⟩ := h
            refine j_icmp_ge 104 dX9_forty_61 rfl rv21 (hW24.ai (mt_laws hM) rfl) (fun q28 => ?_) (fun q28 => ?_)
            · have h := h1 q28
              clear h1 h2
              refine j_iconst dX9_forty_104 ?_
              refine j_istore dX9_forty_105 rfl ?_
              refine j_iconst dX9_forty_107 ?_
              refine j_istore dX9_forty_108 rfl ?_
              obtain ⟨I34, m35, h0, hs⟩ := h
              have lp : ∀ (n : Nat) (v29 : Int) (v30 : Int) (F31 : jFl) (A32 : jAr), m35 v29 v30 F31 A32 < n → jWf N F31 A32 → jR v29 → jR v30 → I34 v29 v30 F31 A32 → J G l d mX9_forty 110 [.ref o, vI a1, vI a2, jD, vI v29, vI v30, jD, jD] [] N F31 A32 (jmI N Q) := by
                intro nI34
                induction nI34 with
                | zero =>
                  intro v29 v30 F31 A32 hmu
                  exact absurd hmu (Nat.not_lt_zero _)
                | succ nI34 ihI34 =>
                  intro v29 v30 F31 A32 hmuI34 hW33 rv29 rv30 hI
                  have h := hs v29 v30 F31 A32 hI
                  refine j_iload dX9_forty_110 rfl ?_
                  obtain ⟨h1, h2⟩ := h
                  refine j_if_eq 174 dX9_forty_112 rfl rv30 (fun q36 => ?_) (fun q36 => ?_)
                  · have h := h1 q36
                    clear h1 h2
                    refine j_iload_n dX9_forty_174 rfl ?_
                    refine j_iconst dX9_forty_175 ?_
                    obtain ⟨h1, h2⟩ := h
                    refine j_icmp_ne 184 dX9_forty_176 rfl ra2 (by decide) (fun q37 => ?_) (fun q37 => ?_)
                    · have h := h1 q37
                      clear h1 h2
                      refine j_aload_n dX9_forty_184 rfl ?_
                      refine j_getFR dX9_forty_185 flX9_233_10 hM.1 rfl (mf_bestPerm hM) ?_
                      refine j_iload_n dX9_forty_188 rfl ?_
                      obtain ⟨c38, h⟩ := h
                      refine j_iald (n := 12) dX9_forty_189 (mt_bestPerm hM) (ml_bestPerm hM) c38 ?_
                      exact j_iret dX9_forty_190 rfl ⟨_, rfl, rfl, hW33, h, (hW33.ai (mt_bestPerm hM) rfl)⟩
                    · have h := h2 q37
                      clear h1 h2
                      refine j_iload dX9_forty_179 rfl ?_
                      refine j_goto 190 dX9_forty_181 rfl ?_
                      exact j_iret dX9_forty_190 rfl ⟨_, rfl, rfl, hW33, h, rv29⟩
                  · have h := h2 q36
                    clear h1 h2
                    refine j_aload_n dX9_forty_115 rfl ?_
                    refine j_iload_n dX9_forty_116 rfl ?_
                    obtain ⟨P39, hp40, h⟩ := h
                    refine j_invV (As := [vI a1]) (rest := []) dX9_forty_117 lkX9_519 hM.1 rfl rfl (wX9_wholeOf (d := 5) (Nat.le_of_ble_eq_true rfl) hM hW33 ra1 hp40) rfl rfl (Nat.le_of_ble_eq_true rfl) (Nat.le_trans (Nat.le_of_ble_eq_true rfl) hd) (jkmI fun z41 F42 A43 hW44 p45 r46 => ?_)
                    have h := h z41 F42 A43 p45
                    refine j_istore dX9_forty_120 rfl ?_
                    refine j_iload dX9_forty_122 rfl ?_
                    refine j_iload dX9_forty_124 rfl ?_
                    obtain ⟨h1, h2⟩ := h
                    refine j_icmp_le 165 dX9_forty_126 rfl r46 rv29 (fun q47 => ?_) (fun q47 => ?_)
                    · have h := h1 q47
                      clear h1 h2
                      refine j_aload_n dX9_forty_165 rfl ?_
                      obtain ⟨P48, hp49, h⟩ := h
                      refine j_invV (As := []) (rest := []) dX9_forty_166 lkX9_515 hM.1 rfl rfl (wX9_nextPerm (d := 2) (Nat.le_of_ble_eq_true rfl) hM hW44  hp49) rfl rfl (Nat.le_of_ble_eq_true rfl) (Nat.le_trans (Nat.le_of_ble_eq_true rfl) hd) (jkmB fun z50 F51 A52 hW53 p54 r55 => ?_)
                      have h := h z50 F51 A52 p54
                      refine j_istore dX9_forty_169 rfl ?_
                      refine j_goto 110 dX9_forty_171 rfl ?_
                      exact J.wk (((((((((jWk.nil).no).no).eq).eq).no).eq).eq).eq) (ihI34 _ _ _ _ (Nat.lt_of_lt_of_le h.2 (Nat.le_of_lt_succ hmuI34)) hW53 rv29 (jR_b r55) h.1)
                    · have h := h2 q47
                      clear h1 h2
                      refine j_iload dX9_forty_129 rfl ?_
                      refine j_istore dX9_forty_131 rfl ?_
                      refine j_iconst dX9_forty_133 ?_
                      refine j_istore dX9_forty_134 rfl ?_
                      obtain ⟨I59, m60, h0, hs⟩ := h
                      have lp : ∀ (n : Nat) (v56 : Int) (A57 : jAr), m60 v56 A57 < n → jWf N F42 A57 → jR v56 → I59 v56 A57 → J G l d mX9_forty 136 [.ref o, vI a1, vI a2, jD, vI z41, jD, jD, vI v56] [] N F42 A57 (jmI N Q) := by
                        intro nI59
                        induction nI59 with
                        | zero =>
                          intro v56 A57 hmu
                          exact absurd hmu (Nat.not_lt_zero _)
                        | succ nI59 ihI59 =>
                          intro v56 A57 hmuI59 hW58 rv56 hI
                          have h := hs v56 A57 hI
                          refine j_iload dX9_forty_136 rfl ?_
                          refine j_aload_n dX9_forty_138 rfl ?_
                          refine j_getI dX9_forty_139 flX9_236_10 hM.1 rfl ?_
                          obtain ⟨h1, h2⟩ := h
                          refine j_icmp_ge 165 dX9_forty_142 rfl rv56 (hW58.fi rfl) (fun q61 => ?_) (fun q61 => ?_)
                          · have h := h1 q61
                            clear h1 h2
                            refine j_aload_n dX9_forty_165 rfl ?_
                            obtain ⟨P62, hp63, h⟩ := h
                            refine j_invV (As := []) (rest := []) dX9_forty_166 lkX9_515 hM.1 rfl rfl (wX9_nextPerm (d := 2) (Nat.le_of_ble_eq_true rfl) hM hW58  hp63) rfl rfl (Nat.le_of_ble_eq_true rfl) (Nat.le_trans (Nat.le_of_ble_eq_true rfl) hd) (jkmB fun z64 F65 A66 hW67 p68 r69 => ?_)
                            have h := h z64 F65 A66 p68
                            refine j_istore dX9_forty_169 rfl ?_
                            refine j_goto 110 dX9_forty_171 rfl ?_
                            exact J.wk (((((((((jWk.nil).no).no).eq).eq).no).eq).eq).eq) (ihI34 _ _ _ _ (Nat.lt_of_lt_of_le h.2 (Nat.le_of_lt_succ hmuI34)) hW67 r46 (jR_b r69) h.1)
                          · have h := h2 q61
                            clear h1 h2
                            refine j_aload_n dX9_forty_145 rfl ?_
                            refine j_getFR dX9_forty_146 flX9_233_10 hM.1 rfl (mf_bestPerm hM) ?_
                            refine j_iload dX9_forty_149 rfl ?_
                            refine j_aload_n dX9_forty_151 rfl ?_
                            refine j_getFR dX9_forty_152 flX9_230_10 hM.1 rfl (mf_perm hM) ?_
                            refine j_iload dX9_forty_155 rfl ?_
                            obtain ⟨c70, h⟩ := h
                            refine j_iald (n := 12) dX9_forty_157 (mt_perm hM) (ml_perm hM) c70 ?_
                            obtain ⟨c71, h⟩ := h
                            refine j_iast (n := 12) dX9_forty_158 (mt_bestPerm hM) (Nat.le_trans hM.2.1 (Nat.le_add_right _ _)) (ml_bestPerm hM) c71 ?_
                            obtain ⟨A72, eA72⟩ : ∃ x : jAr, x = upA A57 (o + 47) v56 (A57 (o + 46) v56) := ⟨_, rfl⟩
                            have hW73 : jWf N F42 A72 := eA72 ▸ jWf_A (i := v56) (z := A57 (o + 46) v56) hW58 (mt_bestPerm hM) (jRk_0 rfl (hW58.ai (mt_perm hM) rfl))
                            refine jnmA (e := eA72) ?_
                            have h := h A72 eA72
                            obtain ⟨r74, h⟩ := h
                            refine j_iinc dX9_forty_159 rfl rfl ?_
                            refine j_goto 136 dX9_forty_162 rfl ?_
                            exact J.wk (((((((((jWk.nil).eq).no).no).eq).no).eq).eq).eq) (ihI59 _ _ (Nat.lt_of_lt_of_le h.2 (Nat.le_of_lt_succ hmuI59)) hW73 r74 h.1)
                      exact J.wk (((((((((jWk.nil).eq).no).no).eq).no).eq).eq).eq) (lp _ _ _ (Nat.lt_succ_self _) hW44 (by decide) h0)
              exact J.wk (((((((((jWk.nil).no).no).eq).eq).no).eq).eq).eq) (lp _ _ _ _ _ (Nat.lt_succ_self _) hW24 (by decide) (by decide) h0)
            · have h := h2 q28
              clear h1 h2
              refine j_aload_n dX9_forty_64 rfl ?_
              refine j_iconst dX9_forty_65 ?_
              refine j_iload dX9_forty_66 rfl ?_
              obtain ⟨P75, hp76, h⟩ := h
              refine j_invV (As := [vI 0, vI v21]) (rest := []) dX9_forty_68 lkX9_399 hM.1 rfl rfl (wX9_stands (d := 1) (Nat.le_of_ble_eq_true rfl) hM hW24 (by decide) rv21 hp76) rfl rfl (Nat.le_of_ble_eq_true rfl) (Nat.le_trans (Nat.le_of_ble_eq_true rfl) hd) (jkpB fun z77 p78 r79 => ?_)
              have h := h z77 p78
              obtain ⟨h1, h2⟩ := h
              refine j_if_ne 77 dX9_forty_71 rfl (jR_b r79) (fun q80 => ?_) (fun q80 => ?_)
              · have h := h1 q80
                clear h1 h2
                refine j_aload_n dX9_forty_77 rfl ?_
                refine j_getFR dX9_forty_78 flX9_230_10 hM.1 rfl (mf_perm hM) ?_
                refine j_aload_n dX9_forty_81 rfl ?_
                refine j_getI dX9_forty_82 flX9_236_10 hM.1 rfl ?_
                refine j_iload dX9_forty_85 rfl ?_
                obtain ⟨c81, h⟩ := h
                refine j_iast (n := 12) dX9_forty_87 (mt_perm hM) (Nat.le_trans hM.2.1 (Nat.le_add_right _ _)) (ml_perm hM) c81 ?_
                obtain ⟨A82, eA82⟩ : ∃ x : jAr, x = upA A23 (o + 46) (F22 3222 o) v21 := ⟨_, rfl⟩
                have hW83 : jWf N F22 A82 := eA82 ▸ jWf_A (i := F22 3222 o) (z := v21) hW24 (mt_perm hM) (jRk_0 rfl rv21)
                refine jnmA (e := eA82) ?_
                have h := h A82 eA82
                refine j_aload_n dX9_forty_88 rfl ?_
                refine j_dup dX9_forty_89 rfl ?_
                refine j_getI dX9_forty_90 flX9_236_10 hM.1 rfl ?_
                refine j_iconst dX9_forty_93 ?_
                refine j_iadd dX9_forty_94 ?_
                obtain ⟨r84, h⟩ := h
                refine j_putI dX9_forty_95 flX9_236_10 hM.1 hM.2.1 rfl ?_
                obtain ⟨F85, eF85⟩ : ∃ x : jFl, x = upF F22 3222 o ((F22 3222 o) + 1) := ⟨_, rfl⟩
                have hW86 : jWf N F85 A82 := eF85 ▸ jWf_F (f := 3222) (a := o) (z := (F22 3222 o) + 1) hW83 (jRk_0 rfl r84)
                refine jnmF (e := eF85) ?_
                have h := h F85 eF85
                obtain ⟨r87, h⟩ := h
                refine j_iinc dX9_forty_98 rfl rfl ?_
                refine j_goto 50 dX9_forty_101 rfl ?_
                exact J.wk (((((((((jWk.nil).no).no).no).eq).no).eq).eq).eq) (ihI25 _ _ _ (Nat.lt_of_lt_of_le h.2 (Nat.le_of_lt_succ hmuI25)) hW86 r87 h.1)
              · have h := h2 q80
                clear h1 h2
                refine j_goto 98 dX9_forty_74 rfl ?_
                obtain ⟨r88, h⟩ := h
                refine j_iinc dX9_forty_98 rfl rfl ?_
                refine j_goto 50 dX9_forty_101 rfl ?_
                exact J.wk (((((((((jWk.nil).no).no).no).eq).no).eq).eq).eq) (ihI25 _ _ _ (Nat.lt_of_lt_of_le h.2 (Nat.le_of_lt_succ hmuI25)) hW24 r88 h.1)
        exact J.wk (((((((((jWk.nil).no).no).no).eq).no).eq).eq).eq) (lp _ _ _ _ (Nat.lt_succ_self _) hW20 (by decide) h0)
      · have h := h2 q18
        clear h1 h2
        refine j_iload_n dX9_forty_29 rfl ?_
        refine j_iconst dX9_forty_30 ?_
        refine j_iload_n dX9_forty_31 rfl ?_
        refine j_iconst dX9_forty_32 ?_
        refine j_isub dX9_forty_33 ?_
        obtain ⟨r89, h⟩ := h
        obtain ⟨P90, hp91, h⟩ := h
        refine j_invS (As := [vI a2, vI 0, vI (z3 - 1)]) (rest := []) dX9_forty_34 lkX9_324 (wX9_is (d := 1) (Nat.le_of_ble_eq_true rfl) hM hW ra2 (by decide) r89 hp91) rfl rfl (Nat.le_of_ble_eq_true rfl) (Nat.le_trans (Nat.le_of_ble_eq_true rfl) hd) (jkpB fun z92 p93 r94 => ?_)
        have h := h z92 p93
        obtain ⟨h1, h2⟩ := h
        refine j_if_ne 42 dX9_forty_37 rfl (jR_b r94) (fun q95 => ?_) (fun q95 => ?_)
        · have h := h1 q95
          clear h1 h2
          refine j_aload_n dX9_forty_42 rfl ?_
          refine j_iconst dX9_forty_43 ?_
          refine j_putI dX9_forty_44 flX9_236_10 hM.1 hM.2.1 rfl ?_
          obtain ⟨F96, eF96⟩ : ∃ x : jFl, x = upF F 3222 o 0 := ⟨_, rfl⟩
          have hW97 : jWf N F96 A := eF96 ▸ jWf_F (f := 3222) (a := o) (z := 0) hW (jRk_0 rfl (by decide))
          refine jnmF (e := eF96) ?_
          have h := h F96 eF96
          refine j_iconst dX9_forty_47 ?_
          refine j_istore dX9_forty_48 rfl ?_
          obtain ⟨I102, m103, h0, hs⟩ := h
          have lp : ∀ (n : Nat) (v98 : Int) (F99 : jFl) (A100 : jAr), m103 v98 F99 A100 < n → jWf N F99 A100 → jR v98 → I102 v98 F99 A100 → J G l d mX9_forty 50 [.ref o, vI a1, vI a2, jD, vI v98, jD, jD, jD] [] N F99 A100 (jmI N Q) := by
            intro nI102
            induction nI102 with
            | zero =>
              intro v98 F99 A100 hmu
              exact absurd hmu (Nat.not_lt_zero _)
            | succ nI102 ihI102 =>
              intro v98 F99 A100 hmuI102 hW101 rv98 hI
              have h := hs v98 F99 A100 hI
              refine j_iload dX9_forty_50 rfl ?_
              refine j_aload_n dX9_forty_52 rfl ?_
              refine j_getFR dX9_forty_53 flX9_100_10 hM.1 rfl (mf_laws hM) ?_
              refine j_aload_n dX9_forty_56 rfl ?_
              refine j_getI dX9_forty_57 flX9_51_10 hM.1 rfl ?_
              obtain ⟨c104, h⟩ := h
              refine j_iald (n := 2) dX9_forty_60 (mt_laws hM) (ml_laws hM) c104 ?_
              obtain ⟨h1, h2⟩ := h
              refine j_icmp_ge 104 dX9_forty_61 rfl rv98 (hW101.ai (mt_laws hM) rfl) (fun q105 => ?_) (fun q105 => ?_)
              · have h := h1 q105
                clear h1 h2
                refine j_iconst dX9_forty_104 ?_
                refine j_istore dX9_forty_105 rfl ?_
                refine j_iconst dX9_forty_107 ?_
                refine j_istore dX9_forty_108 rfl ?_
                obtain ⟨I111, m112, h0, hs⟩ := h
                have lp : ∀ (n : Nat) (v106 : Int) (v107 : Int) (F108 : jFl) (A109 : jAr), m112 v106 v107 F108 A109 < n → jWf N F108 A109 → jR v106 → jR v107 → I111 v106 v107 F108 A109 → J G l d mX9_forty 110 [.ref o, vI a1, vI a2, jD, vI v106, vI v107, jD, jD] [] N F108 A109 (jmI N Q) := by
                  intro nI111
                  induction nI111 with
                  | zero =>
                    intro v106 v107 F108 A109 hmu
                    exact absurd hmu (Nat.not_lt_zero _)
                  | succ nI111 ihI111 =>
                    intro v106 v107 F108 A109 hmuI111 hW110 rv106 rv107 hI
                    have h := hs v106 v107 F108 A109 hI
                    refine j_iload dX9_forty_110 rfl ?_
                    obtain ⟨h1, h2⟩ := h
                    refine j_if_eq 174 dX9_forty_112 rfl rv107 (fun q113 => ?_) (fun q113 => ?_)
                    · have h := h1 q113
                      clear h1 h2
                      refine j_iload_n dX9_forty_174 rfl ?_
                      refine j_iconst dX9_forty_175 ?_
                      obtain ⟨h1, h2⟩ := h
                      refine j_icmp_ne 184 dX9_forty_176 rfl ra2 (by decide) (fun q114 => ?_) (fun q114 => ?_)
                      · have h := h1 q114
                        clear h1 h2
                        refine j_aload_n dX9_forty_184 rfl ?_
                        refine j_getFR dX9_forty_185 flX9_233_10 hM.1 rfl (mf_bestPerm hM) ?_
                        refine j_iload_n dX9_forty_188 rfl ?_
                        obtain ⟨c115, h⟩ := h
                        refine j_iald (n := 12) dX9_forty_189 (mt_bestPerm hM) (ml_bestPerm hM) c115 ?_
                        exact j_iret dX9_forty_190 rfl ⟨_, rfl, rfl, hW110, h, (hW110.ai (mt_bestPerm hM) rfl)⟩
                      · have h := h2 q114
                        clear h1 h2
                        refine j_iload dX9_forty_179 rfl ?_
                        refine j_goto 190 dX9_forty_181 rfl ?_
                        exact j_iret dX9_forty_190 rfl ⟨_, rfl, rfl, hW110, h, rv106⟩
                    · have h := h2 q113
                      clear h1 h2
                      refine j_aload_n dX9_forty_115 rfl ?_
                      refine j_iload_n dX9_forty_116 rfl ?_
                      obtain ⟨P116, hp117, h⟩ := h
                      refine j_invV (As := [vI a1]) (rest := []) dX9_forty_117 lkX9_519 hM.1 rfl rfl (wX9_wholeOf (d := 5) (Nat.le_of_ble_eq_true rfl) hM hW110 ra1 hp117) rfl rfl (Nat.le_of_ble_eq_true rfl) (Nat.le_trans (Nat.le_of_ble_eq_true rfl) hd) (jkmI fun z118 F119 A120 hW121 p122 r123 => ?_)
                      have h := h z118 F119 A120 p122
                      refine j_istore dX9_forty_120 rfl ?_
                      refine j_iload dX9_forty_122 rfl ?_
                      refine j_iload dX9_forty_124 rfl ?_
                      obtain ⟨h1, h2⟩ := h
                      refine j_icmp_le 165 dX9_forty_126 rfl r123 rv106 (fun q124 => ?_) (fun q124 => ?_)
                      · have h := h1 q124
                        clear h1 h2
                        refine j_aload_n dX9_forty_165 rfl ?_
                        obtain ⟨P125, hp126, h⟩ := h
                        refine j_invV (As := []) (rest := []) dX9_forty_166 lkX9_515 hM.1 rfl rfl (wX9_nextPerm (d := 2) (Nat.le_of_ble_eq_true rfl) hM hW121  hp126) rfl rfl (Nat.le_of_ble_eq_true rfl) (Nat.le_trans (Nat.le_of_ble_eq_true rfl) hd) (jkmB fun z127 F128 A129 hW130 p131 r132 => ?_)
                        have h := h z127 F128 A129 p131
                        refine j_istore dX9_forty_169 rfl ?_
                        refine j_goto 110 dX9_forty_171 rfl ?_
                        exact J.wk (((((((((jWk.nil).no).no).eq).eq).no).eq).eq).eq) (ihI111 _ _ _ _ (Nat.lt_of_lt_of_le h.2 (Nat.le_of_lt_succ hmuI111)) hW130 rv106 (jR_b r132) h.1)
                      · have h := h2 q124
                        clear h1 h2
                        refine j_iload dX9_forty_129 rfl ?_
                        refine j_istore dX9_forty_131 rfl ?_
                        refine j_iconst dX9_forty_133 ?_
                        refine j_istore dX9_forty_134 rfl ?_
                        obtain ⟨I136, m137, h0, hs⟩ := h
                        have lp : ∀ (n : Nat) (v133 : Int) (A134 : jAr), m137 v133 A134 < n → jWf N F119 A134 → jR v133 → I136 v133 A134 → J G l d mX9_forty 136 [.ref o, vI a1, vI a2, jD, vI z118, jD, jD, vI v133] [] N F119 A134 (jmI N Q) := by
                          intro nI136
                          induction nI136 with
                          | zero =>
                            intro v133 A134 hmu
                            exact absurd hmu (Nat.not_lt_zero _)
                          | succ nI136 ihI136 =>
                            intro v133 A134 hmuI136 hW135 rv133 hI
                            have h := hs v133 A134 hI
                            refine j_iload dX9_forty_136 rfl ?_
                            refine j_aload_n dX9_forty_138 rfl ?_
                            refine j_getI dX9_forty_139 flX9_236_10 hM.1 rfl ?_
                            obtain ⟨h1, h2⟩ := h
                            refine j_icmp_ge 165 dX9_forty_142 rfl rv133 (hW135.fi rfl) (fun q138 => ?_) (fun q138 => ?_)
                            · have h := h1 q138
                              clear h1 h2
                              refine j_aload_n dX9_forty_165 rfl ?_
                              obtain ⟨P139, hp140, h⟩ := h
                              refine j_invV (As := []) (rest := []) dX9_forty_166 lkX9_515 hM.1 rfl rfl (wX9_nextPerm (d := 2) (Nat.le_of_ble_eq_true rfl) hM hW135  hp140) rfl rfl (Nat.le_of_ble_eq_true rfl) (Nat.le_trans (Nat.le_of_ble_eq_true rfl) hd) (jkmB fun z141 F142 A143 hW144 p145 r146 => ?_)
                              have h := h z141 F142 A143 p145
                              refine j_istore dX9_forty_169 rfl ?_
                              refine j_goto 110 dX9_forty_171 rfl ?_
                              exact J.wk (((((((((jWk.nil).no).no).eq).eq).no).eq).eq).eq) (ihI111 _ _ _ _ (Nat.lt_of_lt_of_le h.2 (Nat.le_of_lt_succ hmuI111)) hW144 r123 (jR_b r146) h.1)
                            · have h := h2 q138
                              clear h1 h2
                              refine j_aload_n dX9_forty_145 rfl ?_
                              refine j_getFR dX9_forty_146 flX9_233_10 hM.1 rfl (mf_bestPerm hM) ?_
                              refine j_iload dX9_forty_149 rfl ?_
                              refine j_aload_n dX9_forty_151 rfl ?_
                              refine j_getFR dX9_forty_152 flX9_230_10 hM.1 rfl (mf_perm hM) ?_
                              refine j_iload dX9_forty_155 rfl ?_
                              obtain ⟨c147, h⟩ := h
                              refine j_iald (n := 12) dX9_forty_157 (mt_perm hM) (ml_perm hM) c147 ?_
                              obtain ⟨c148, h⟩ := h
                              refine j_iast (n := 12) dX9_forty_158 (mt_bestPerm hM) (Nat.le_trans hM.2.1 (Nat.le_add_right _ _)) (ml_bestPerm hM) c148 ?_
                              obtain ⟨A149, eA149⟩ : ∃ x : jAr, x = upA A134 (o + 47) v133 (A134 (o + 46) v133) := ⟨_, rfl⟩
                              have hW150 : jWf N F119 A149 := eA149 ▸ jWf_A (i := v133) (z := A134 (o + 46) v133) hW135 (mt_bestPerm hM) (jRk_0 rfl (hW135.ai (mt_perm hM) rfl))
                              refine jnmA (e := eA149) ?_
                              have h := h A149 eA149
                              obtain ⟨r151, h⟩ := h
                              refine j_iinc dX9_forty_159 rfl rfl ?_
                              refine j_goto 136 dX9_forty_162 rfl ?_
                              exact J.wk (((((((((jWk.nil).eq).no).no).eq).no).eq).eq).eq) (ihI136 _ _ (Nat.lt_of_lt_of_le h.2 (Nat.le_of_lt_succ hmuI136)) hW150 r151 h.1)
                        exact J.wk (((((((((jWk.nil).eq).no).no).eq).no).eq).eq).eq) (lp _ _ _ (Nat.lt_succ_self _) hW121 (by decide) h0)
                exact J.wk (((((((((jWk.nil).no).no).eq).eq).no).eq).eq).eq) (lp _ _ _ _ _ (Nat.lt_succ_self _) hW101 (by decide) (by decide) h0)
              · have h := h2 q105
                clear h1 h2
                refine j_aload_n dX9_forty_64 rfl ?_
                refine j_iconst dX9_forty_65 ?_
                refine j_iload dX9_forty_66 rfl ?_
                obtain ⟨P152, hp153, h⟩ := h
                refine j_invV (As := [vI 0, vI v98]) (rest := []) dX9_forty_68 lkX9_399 hM.1 rfl rfl (wX9_stands (d := 1) (Nat.le_of_ble_eq_true rfl) hM hW101 (by decide) rv98 hp153) rfl rfl (Nat.le_of_ble_eq_true rfl) (Nat.le_trans (Nat.le_of_ble_eq_true rfl) hd) (jkpB fun z154 p155 r156 => ?_)
                have h := h z154 p155
                obtain ⟨h1, h2⟩ := h
                refine j_if_ne 77 dX9_forty_71 rfl (jR_b r156) (fun q157 => ?_) (fun q157 => ?_)
                · have h := h1 q157
                  clear h1 h2
                  refine j_aload_n dX9_forty_77 rfl ?_
                  refine j_getFR dX9_forty_78 flX9_230_10 hM.1 rfl (mf_perm hM) ?_
                  refine j_aload_n dX9_forty_81 rfl ?_
                  refine j_getI dX9_forty_82 flX9_236_10 hM.1 rfl ?_
                  refine j_iload dX9_forty_85 rfl ?_
                  obtain ⟨c158, h⟩ := h
                  refine j_iast (n := 12) dX9_forty_87 (mt_perm hM) (Nat.le_trans hM.2.1 (Nat.le_add_right _ _)) (ml_perm hM) c158 ?_
                  obtain ⟨A159, eA159⟩ : ∃ x : jAr, x = upA A100 (o + 46) (F99 3222 o) v98 := ⟨_, rfl⟩
                  have hW160 : jWf N F99 A159 := eA159 ▸ jWf_A (i := F99 3222 o) (z := v98) hW101 (mt_perm hM) (jRk_0 rfl rv98)
                  refine jnmA (e := eA159) ?_
                  have h := h A159 eA159
                  refine j_aload_n dX9_forty_88 rfl ?_
                  refine j_dup dX9_forty_89 rfl ?_
                  refine j_getI dX9_forty_90 flX9_236_10 hM.1 rfl ?_
                  refine j_iconst dX9_forty_93 ?_
                  refine j_iadd dX9_forty_94 ?_
                  obtain ⟨r161, h⟩ := h
                  refine j_putI dX9_forty_95 flX9_236_10 hM.1 hM.2.1 rfl ?_
                  obtain ⟨F162, eF162⟩ : ∃ x : jFl, x = upF F99 3222 o ((F99 3222 o) + 1) := ⟨_, rfl⟩
                  have hW163 : jWf N F162 A159 := eF162 ▸ jWf_F (f := 3222) (a := o) (z := (F99 3222 o) + 1) hW160 (jRk_0 rfl r161)
                  refine jnmF (e := eF162) ?_
                  have h := h F162 eF162
                  obtain ⟨r164, h⟩ := h
                  refine j_iinc dX9_forty_98 rfl rfl ?_
                  refine j_goto 50 dX9_forty_101 rfl ?_
                  exact J.wk (((((((((jWk.nil).no).no).no).eq).no).eq).eq).eq) (ihI102 _ _ _ (Nat.lt_of_lt_of_le h.2 (Nat.le_of_lt_succ hmuI102)) hW163 r164 h.1)
                · have h := h2 q157
                  clear h1 h2
                  refine j_goto 98 dX9_forty_74 rfl ?_
                  obtain ⟨r165, h⟩ := h
                  refine j_iinc dX9_forty_98 rfl rfl ?_
                  refine j_goto 50 dX9_forty_101 rfl ?_
                  exact J.wk (((((((((jWk.nil).no).no).no).eq).no).eq).eq).eq) (ihI102 _ _ _ (Nat.lt_of_lt_of_le h.2 (Nat.le_of_lt_succ hmuI102)) hW101 r165 h.1)
          exact J.wk (((((((((jWk.nil).no).no).no).eq).no).eq).eq).eq) (lp _ _ _ _ (Nat.lt_succ_self _) hW97 (by decide) h0)
        · have h := h2 q95
          clear h1 h2
          refine j_iconst dX9_forty_40 ?_
          exact j_iret dX9_forty_41 rfl ⟨_, rfl, rfl, hW, h, (by decide)⟩
