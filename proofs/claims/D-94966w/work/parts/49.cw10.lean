set_option maxRecDepth 100000
set_option linter.unusedVariables false
/-! walks of the component and of JDK methods: printed by gen/walkc.py -/
/-- java/util/ArrayList.add(Ljava/lang/Object;)Z -/
def wqJ2_add (S : Nat → Nat) (o : Nat) (a1 : Int) (N : jSh) (F : jFl) (A : jAr) (Q : Int → jSh → jFl → jAr → Prop) : Prop :=
  jfn N 0 o = 1 ∧
  jR ((F 6900 o) + 1) ∧
  ∀ F4 : jFl, F4 = upF F 6900 o ((F 6900 o) + 1) →
  ∃ (P5 : jSh → jFl → jAr → Prop), wqJ2_add_2 S o a1 (F4 6002 o) (F4 6003 o) N F4 A P5 ∧
  ∀ N10 F8 A9, P5 N10 F8 A9 →
  Q 1 N10 F8 A9
theorem vJ2_add {G : jG} {l : Launch} [jOff l] {d : Nat} {N : jSh} {F : jFl} {A : jAr} {o : Nat} {a1 : Int} {Q : Int → jSh → jFl → jAr → Prop} (hd : 8 ≤ d) (hW : jWg G N F A) (ht : jtg N o = 20) (h : wqJ2_add (gS G) o a1 N F A Q) : jCall G l d mJ2_add [vR (o : Int), vR a1] N F A (cnB G N Q) := by
  unfold wqJ2_add at h
  refine jCall.of (by decide) rfl (ls := [vR (o : Int), vR a1]) (by simp only [jent_R, jent_I, jent_L, jent_nil]; exact Nat.le_of_ble_eq_true rfl) (by simp only [jloc, jent_R, jent_I, jent_L, jent_nil]; rfl) ?_
  refine r_aload_n dJ2_add_0 rfl ?_
  refine j_dup dJ2_add_1 (vR_cat _) ?_
  refine r_gI dJ2_add_2 flJ2_63_20 rfl ht rfl ?_
  refine j_iconst dJ2_add_5 ?_
  refine j_iadd dJ2_add_6 ?_
  obtain ⟨w1, h⟩ := h
  obtain ⟨r2, h⟩ := h
  refine c_pI hW dJ2_add_7 flJ2_63_20 rfl ht w1 rfl r2 fun F4 eF4 hW3 => ?_
  have h := h F4 eF4
  refine r_aload_n dJ2_add_10 rfl ?_
  refine r_aload_n dJ2_add_11 rfl ?_
  refine r_aload_n dJ2_add_12 rfl ?_
  refine r_gR dJ2_add_13 flJ2_9_20 rfl ht rfl ?_
  refine r_aload_n dJ2_add_16 rfl ?_
  refine r_gI dJ2_add_17 flJ2_48_20 rfl ht rfl ?_
  obtain ⟨P5, hp6, h⟩ := h
  refine r_invV (ci := 20) (As := [vR a1, vR (F4 6002 o), vI (F4 6003 o)]) (rest := []) dJ2_add_20 lkJ2_131 rfl ht rfl rfl (vJ2_add_2 (d := 7) (Nat.le_of_ble_eq_true rfl) hW3 ht (hW3.fi rfl) hp6) rfl rfl (Nat.le_of_ble_eq_true rfl) (Nat.le_trans (Nat.le_of_ble_eq_true rfl) hd) (cknV fun N10 F8 A9 hW11 hT12 p13 => ?_)
  have h := h N10 F8 A9 p13
  refine j_iconst dJ2_add_23 ?_
  exact j_zret dJ2_add_24 rfl (nr_bool (by decide)) ⟨_, rfl, hW11, hT12, h, (by decide)⟩
/-- java/lang/String.<init>([CII)V -/
def wqJ5_init (S : Nat → Nat) (o : Nat) (a1 : Int) (a2 : Int) (a3 : Int) (N : jSh) (F : jFl) (A : jAr) (Q : jSh → jFl → jAr → Prop) : Prop :=
  ∃ (P1 : Int → Prop), wqJ5_rangeCheck S a1 a2 a3 N F A P1 ∧
  ∀ z3, P1 z3 →
  ∃ (P8 : jSh → jFl → jAr → Prop), wqJ5_init_2 S o a1 a2 a3 z3 N F A P8 ∧
  ∀ N13 F11 A12, P8 N13 F11 A12 →
  Q N13 F11 A12
theorem vJ5_init {G : jG} {l : Launch} [jOff l] {d : Nat} {N : jSh} {F : jFl} {A : jAr} {o : Nat} {a1 a2 a3 : Int} {Q : jSh → jFl → jAr → Prop} (hd : 8 ≤ d) (hW : jWg G N F A) (ht : jtg N o = 22) (ra2 : jR a2) (ra3 : jR a3) (h : wqJ5_init (gS G) o a1 a2 a3 N F A Q) : jCall G l d mJ5_init [vR (o : Int), vR a1, vI a2, vI a3] N F A (cnV G N Q) := by
  unfold wqJ5_init at h
  refine jCall.of (by decide) rfl (ls := [vR (o : Int), vR a1, vI a2, vI a3]) (by simp only [jent_R, jent_I, jent_L, jent_nil]; exact Nat.le_of_ble_eq_true rfl) (by simp only [jloc, jent_R, jent_I, jent_L, jent_nil]; rfl) ?_
  refine r_aload_n dJ5_init_0 rfl ?_
  refine r_aload_n dJ5_init_1 rfl ?_
  refine j_iload_n dJ5_init_2 rfl ?_
  refine j_iload_n dJ5_init_3 rfl ?_
  refine r_aload_n dJ5_init_4 rfl ?_
  refine j_iload_n dJ5_init_5 rfl ?_
  refine j_iload_n dJ5_init_6 rfl ?_
  obtain ⟨P1, hp2, h⟩ := h
  refine r_invS (As := [vR a1, vI a2, vI a3]) (rest := [vI a3, vI a2, vR a1, vR (o : Int)]) dJ5_init_7 lkJ5_30 (vJ5_rangeCheck (d := 4) (Nat.le_of_ble_eq_true rfl) hW ra2 ra3 hp2) rfl rfl (Nat.le_of_ble_eq_true rfl) (Nat.le_trans (Nat.le_of_ble_eq_true rfl) hd) (jkpR fun z3 p6 r7 => ?_)
  have h := h z3 p6
  obtain ⟨P8, hp9, h⟩ := h
  refine r_invI (As := [vR a1, vI a2, vI a3, vR z3]) (rest := []) dJ5_init_10 lkJ5_27 rfl (vJ5_init_2 (d := 7) (Nat.le_of_ble_eq_true rfl) hW ht ra2 ra3 hp9) rfl rfl (Nat.le_of_ble_eq_true rfl) (Nat.le_trans (Nat.le_of_ble_eq_true rfl) hd) (cknV fun N13 F11 A12 hW14 hT15 p16 => ?_)
  have h := h N13 F11 A12 p16
  exact j_vret dJ5_init_13 rfl ⟨rfl, hW14, hT15, h⟩
/-- ChildSays.isTold(Ljava/lang/String;)Z -/
def wqX0_isTold (S : Nat → Nat) (o : Nat) (a1 : Int) (N : jSh) (F : jFl) (A : jAr) (Q : Int → Prop) : Prop :=
  ∃ b1 : Nat, F 311 o = (b1 : Int) ∧
  jtg N b1 = 2 ∧
  ∃ b4 : Nat, jfn N 626 b1 = (b4 : Int) ∧
  jtg N b4 = 20 ∧
  ∃ (P7 : Int → Prop), wqJ2_size b4 N F A P7 ∧
  ∀ z9, P7 z9 →
  ∃ b14 : Nat, a1 = (b14 : Int) ∧
  jtg N b14 = 22 ∧
  ∃ (P17 : Int → Prop), wqJ5_length S b14 N F A P17 ∧
  ∀ z19, P17 z19 →
  jR (z19 - 1) ∧
  ∀ v25 : Int, v25 = z19 - 1 →
  jR (3 + z9) ∧
  ∀ v27 : Int, v27 = 3 + z9 →
  ((v25 < v27) →
    Q 0) ∧
  ((¬ (v25 < v27)) →
    ∃ (P29 : Int → Prop), wqJ5_charAt S b14 v25 N F A P29 ∧
    ∀ z31, P29 z31 →
    ∃ (P36 : Int → Prop), wqX0_checked S a1 v25 N F A P36 ∧
    ∀ z38, P36 z38 →
    ((¬ z31 = z38) →
      Q 0) ∧
    ((z31 = z38) →
      ∃ (P44 : Int → Prop), wqJ5_charAt S b14 0 N F A P44 ∧
      ∀ z46, P44 z46 →
      ∃ (P51 : Int → Prop), wqJ5_charAt S b14 1 N F A P51 ∧
      ∀ z53, P51 z53 →
      jR ((256 * z46) + z53) ∧
      ((9999 < ((256 * z46) + z53)) →
        Q 0) ∧
      ((¬ (9999 < ((256 * z46) + z53))) →
        ∃ (P60 : Int → Prop), wqJ5_charAt S b14 2 N F A P60 ∧
        ∀ z62, P60 z62 →
        ((z62 = z9) →
          ∃ (I71 : Int → Int → Prop) (m72 : Int → Int → Nat), I71 0 0 ∧ ∀ (v68 : Int) (v69 : Int), I71 v68 v69 →
            ((z9 ≤ v69) →
              ((0 : Int) ≤ z9 ∧ (z9 : Int) < 32) ∧
              jR ((1 * 2 ^ z9.toNat) - 1) ∧
              ((v68 = ((1 * 2 ^ z9.toNat) - 1)) →
                ∃ (I80 : Int → Int → Prop) (m81 : Int → Int → Nat), I80 v27 0 ∧ ∀ (v77 : Int) (v78 : Int), I80 v77 v78 →
                  ∃ K84 : Prop, (
                    K84  →
                    ∀ z88 : Int, z88 = (if ¬ v77 = v25 then (0 : Int) else 1) →
                    Q z88) ∧
                  ((z9 ≤ v78) →
                    K84 ) ∧
                  ((¬ (z9 ≤ v78)) →
                    ((v77 = (-1)) →
                      K84 ) ∧
                    ((¬ (v77 = (-1))) →
                      ∃ (P91 : Int → Prop), wqX0_behind S o a1 v77 v25 N F A P91 ∧
                      ∀ z93, P91 z93 →
                      jR (v78 + 1) ∧
                      I80 z93 (v78 + 1) ∧ m81 z93 (v78 + 1) < m81 v77 v78))) ∧
              ((¬ (v68 = ((1 * 2 ^ z9.toNat) - 1))) →
                Q 0)) ∧
            ((¬ (z9 ≤ v69)) →
              jR (3 + v69) ∧
              ∃ (P100 : Int → Prop), wqJ5_charAt S b14 (3 + v69) N F A P100 ∧
              ∀ z102, P100 z102 →
              ((z9 ≤ z102) →
                jR (v69 + 1) ∧
                I71 v68 (v69 + 1) ∧ m72 v68 (v69 + 1) < m72 v68 v69) ∧
              ((¬ (z9 ≤ z102)) →
                jR (3 + v69) ∧
                ∃ (P110 : Int → Prop), wqJ5_charAt S b14 (3 + v69) N F A P110 ∧
                ∀ z112, P110 z112 →
                ((0 : Int) ≤ z112 ∧ (z112 : Int) < 32) ∧
                (((0 : Int) ≤ v68 ∧ (v68 : Int) ≤ 2147483647) ∧ ((0 : Int) ≤ 1 * 2 ^ z112.toNat ∧ (1 * 2 ^ z112.toNat : Int) ≤ 2147483647)) ∧
                jR (jor v68 (1 * 2 ^ z112.toNat)) ∧
                ∀ v120 : Int, v120 = jor v68 (1 * 2 ^ z112.toNat) →
                jR (v69 + 1) ∧
                I71 v120 (v69 + 1) ∧ m72 v120 (v69 + 1) < m72 v68 v69))) ∧
        ((¬ (z62 = z9)) →
          Q 0))))
theorem vX0_isTold {G : jG} {l : Launch} [jOff l] {d : Nat} {N : jSh} {F : jFl} {A : jAr} {o : Nat} {a1 : Int} {Q : Int → Prop} (hd : 8 ≤ d) (hW : jWg G N F A) (ht : jtg N o = 1) (h : wqX0_isTold (gS G) o a1 N F A Q) : jCall G l d mX0_isTold [vR (o : Int), vR a1] N F A (jpB N F A Q) := by
  unfold wqX0_isTold at h
  refine jCall.of (by decide) rfl (ls := [vR (o : Int), vR a1, jD, jD, jD, jD, jD]) (by simp only [jent_R, jent_I, jent_L, jent_nil]; exact Nat.le_of_ble_eq_true rfl) (by simp only [jloc, jent_R, jent_I, jent_L, jent_nil]; rfl) ?_
  refine r_aload_n dX0_isTold_0 rfl ?_
  refine r_gR dX0_isTold_1 flX0_20_1 rfl ht rfl ?_
  obtain ⟨b1, hz2, h⟩ := h
  obtain ⟨t3, h⟩ := h
  refine r_gRF dX0_isTold_4 flX0_206_2 hz2 t3 rfl ?_
  obtain ⟨b4, hz5, h⟩ := h
  obtain ⟨t6, h⟩ := h
  obtain ⟨P7, hp8, h⟩ := h
  refine r_invV (ci := 20) (As := []) (rest := []) dX0_isTold_7 lkX0_128 hz5 t6 rfl rfl (vJ2_size (d := 2) (Nat.le_of_ble_eq_true rfl) hW t6  hp8) rfl rfl (Nat.le_of_ble_eq_true rfl) (Nat.le_trans (Nat.le_of_ble_eq_true rfl) hd) (jkpI fun z9 p12 r13 => ?_)
  have h := h z9 p12
  refine j_istore_n dX0_isTold_10 (jokR rfl (Nat.le_of_ble_eq_true rfl)) ?_
  refine r_aload_n dX0_isTold_11 rfl ?_
  obtain ⟨b14, hz15, h⟩ := h
  obtain ⟨t16, h⟩ := h
  obtain ⟨P17, hp18, h⟩ := h
  refine r_invV (ci := 22) (As := []) (rest := []) dX0_isTold_12 lkX0_142 hz15 t16 rfl rfl (vJ5_length (d := 3) (Nat.le_of_ble_eq_true rfl) hW t16  hp18) rfl rfl (Nat.le_of_ble_eq_true rfl) (Nat.le_trans (Nat.le_of_ble_eq_true rfl) hd) (jkpI fun z19 p22 r23 => ?_)
  have h := h z19 p22
  refine j_iconst dX0_isTold_15 ?_
  refine j_isub dX0_isTold_16 ?_
  obtain ⟨r24, h⟩ := h
  obtain ⟨v25, ev25⟩ : ∃ x : Int, x = z19 - 1 := ⟨_, rfl⟩
  have h := h v25 ev25
  refine jnmI (e := ev25) ?_
  refine j_istore_n dX0_isTold_17 rfl ?_
  refine j_iconst dX0_isTold_18 ?_
  refine j_iload_n dX0_isTold_19 rfl ?_
  refine j_iadd dX0_isTold_20 ?_
  obtain ⟨r26, h⟩ := h
  obtain ⟨v27, ev27⟩ : ∃ x : Int, x = 3 + z9 := ⟨_, rfl⟩
  have h := h v27 ev27
  refine jnmI (e := ev27) ?_
  refine j_istore dX0_isTold_21 rfl ?_
  refine j_iconst dX0_isTold_23 ?_
  refine j_istore dX0_isTold_24 rfl ?_
  refine j_iload_n dX0_isTold_26 rfl ?_
  refine j_iload dX0_isTold_27 rfl ?_
  obtain ⟨h1, h2⟩ := h
  refine j_icmp_lt 75 dX0_isTold_29 rfl (ev25 ▸ r24) (ev27 ▸ r26) (fun q28 => ?_) (fun q28 => ?_)
  · have h := h1 q28
    clear h1 h2
    refine j_iconst dX0_isTold_75 ?_
    exact j_zret dX0_isTold_76 rfl (nr_bool (by decide)) ⟨_, rfl, rfl, rfl, rfl, h, (by decide)⟩
  · have h := h2 q28
    clear h1 h2
    refine r_aload_n dX0_isTold_32 rfl ?_
    refine j_iload_n dX0_isTold_33 rfl ?_
    obtain ⟨P29, hp30, h⟩ := h
    refine r_invV (ci := 22) (As := [vI v25]) (rest := []) dX0_isTold_34 lkX0_145 hz15 t16 rfl rfl (vJ5_charAt (d := 6) (Nat.le_of_ble_eq_true rfl) hW t16 (ev25 ▸ r24) hp30) rfl rfl (Nat.le_of_ble_eq_true rfl) (Nat.le_trans (Nat.le_of_ble_eq_true rfl) hd) (jkpC fun z31 p34 r35 => ?_)
    have h := h z31 p34
    refine r_aload_n dX0_isTold_37 rfl ?_
    refine j_iload_n dX0_isTold_38 rfl ?_
    obtain ⟨P36, hp37, h⟩ := h
    refine r_invS (As := [vR a1, vI v25]) (rest := [vI z31]) dX0_isTold_39 lkX0_531 (vX0_checked (d := 7) (Nat.le_of_ble_eq_true rfl) hW (ev25 ▸ r24) hp37) rfl rfl (Nat.le_of_ble_eq_true rfl) (Nat.le_trans (Nat.le_of_ble_eq_true rfl) hd) (jkpI fun z38 p41 r42 => ?_)
    have h := h z38 p41
    obtain ⟨h1, h2⟩ := h
    refine j_icmp_ne 75 dX0_isTold_42 rfl (jR_c r35) r42 (fun q43 => ?_) (fun q43 => ?_)
    · have h := h1 q43
      clear h1 h2
      refine j_iconst dX0_isTold_75 ?_
      exact j_zret dX0_isTold_76 rfl (nr_bool (by decide)) ⟨_, rfl, rfl, rfl, rfl, h, (by decide)⟩
    · have h := h2 (Classical.not_not.mp q43)
      clear h1 h2
      refine j_sipush dX0_isTold_45 ?_
      refine r_aload_n dX0_isTold_48 rfl ?_
      refine j_iconst dX0_isTold_49 ?_
      obtain ⟨P44, hp45, h⟩ := h
      refine r_invV (ci := 22) (As := [vI 0]) (rest := [vI 256]) dX0_isTold_50 lkX0_145 hz15 t16 rfl rfl (vJ5_charAt (d := 6) (Nat.le_of_ble_eq_true rfl) hW t16 (by decide) hp45) rfl rfl (Nat.le_of_ble_eq_true rfl) (Nat.le_trans (Nat.le_of_ble_eq_true rfl) hd) (jkpC fun z46 p49 r50 => ?_)
      have h := h z46 p49
      refine j_imul dX0_isTold_53 ?_
      refine r_aload_n dX0_isTold_54 rfl ?_
      refine j_iconst dX0_isTold_55 ?_
      obtain ⟨P51, hp52, h⟩ := h
      refine r_invV (ci := 22) (As := [vI 1]) (rest := [vI (256 * z46)]) dX0_isTold_56 lkX0_145 hz15 t16 rfl rfl (vJ5_charAt (d := 6) (Nat.le_of_ble_eq_true rfl) hW t16 (by decide) hp52) rfl rfl (Nat.le_of_ble_eq_true rfl) (Nat.le_trans (Nat.le_of_ble_eq_true rfl) hd) (jkpC fun z53 p56 r57 => ?_)
      have h := h z53 p56
      refine j_iadd dX0_isTold_59 ?_
      refine j_sipush dX0_isTold_60 ?_
      obtain ⟨r58, h⟩ := h
      obtain ⟨h1, h2⟩ := h
      refine j_icmp_gt 75 dX0_isTold_63 rfl r58 (by decide) (fun q59 => ?_) (fun q59 => ?_)
      · have h := h1 q59
        clear h1 h2
        refine j_iconst dX0_isTold_75 ?_
        exact j_zret dX0_isTold_76 rfl (nr_bool (by decide)) ⟨_, rfl, rfl, rfl, rfl, h, (by decide)⟩
      · have h := h2 q59
        clear h1 h2
        refine r_aload_n dX0_isTold_66 rfl ?_
        refine j_iconst dX0_isTold_67 ?_
        obtain ⟨P60, hp61, h⟩ := h
        refine r_invV (ci := 22) (As := [vI 2]) (rest := []) dX0_isTold_68 lkX0_145 hz15 t16 rfl rfl (vJ5_charAt (d := 6) (Nat.le_of_ble_eq_true rfl) hW t16 (by decide) hp61) rfl rfl (Nat.le_of_ble_eq_true rfl) (Nat.le_trans (Nat.le_of_ble_eq_true rfl) hd) (jkpC fun z62 p65 r66 => ?_)
        have h := h z62 p65
        refine j_iload_n dX0_isTold_71 rfl ?_
        obtain ⟨h1, h2⟩ := h
        refine j_icmp_eq 77 dX0_isTold_72 rfl (jR_c r66) r13 (fun q67 => ?_) (fun q67 => ?_)
        · have h := h1 q67
          clear h1 h2
          refine j_iconst dX0_isTold_77 ?_
          refine j_istore dX0_isTold_78 rfl ?_
          obtain ⟨I71, m72, h0, hs⟩ := h
          have lp : ∀ (n : Nat) (v68 : Int) (v69 : Int), m72 v68 v69 < n → jR v68 → jR v69 → I71 v68 v69 → J G l d mX0_isTold 80 [vR (o : Int), vR a1, vI z9, vI v25, vI v27, vI v68, vI v69] [] N F A (jpB N F A Q) := by
            intro nI71
            induction nI71 with
            | zero =>
              intro v68 v69 hmu
              exact absurd hmu (Nat.not_lt_zero _)
            | succ nI71 ihI71 =>
              intro v68 v69 hmuI71 rv68 rv69 hI
              have h := hs v68 v69 hI
              refine j_iload dX0_isTold_80 rfl ?_
              refine j_iload_n dX0_isTold_82 rfl ?_
              obtain ⟨h1, h2⟩ := h
              refine j_icmp_ge 119 dX0_isTold_83 rfl rv69 r13 (fun q73 => ?_) (fun q73 => ?_)
              · have h := h1 q73
                clear h1 h2
                refine j_iload dX0_isTold_119 rfl ?_
                refine j_iconst dX0_isTold_121 ?_
                refine j_iload_n dX0_isTold_122 rfl ?_
                obtain ⟨c74, h⟩ := h
                refine j_ishl dX0_isTold_123 c74 ?_
                refine j_iconst dX0_isTold_124 ?_
                refine j_isub dX0_isTold_125 ?_
                obtain ⟨r75, h⟩ := h
                obtain ⟨h1, h2⟩ := h
                refine j_icmp_eq 131 dX0_isTold_126 rfl rv68 r75 (fun q76 => ?_) (fun q76 => ?_)
                · have h := h1 q76
                  clear h1 h2
                  refine j_iconst dX0_isTold_131 ?_
                  refine j_istore dX0_isTold_132 rfl ?_
                  obtain ⟨I80, m81, h0, hs⟩ := h
                  have lp : ∀ (n : Nat) (v77 : Int) (v78 : Int), m81 v77 v78 < n → jR v77 → jR v78 → I80 v77 v78 → J G l d mX0_isTold 134 [vR (o : Int), vR a1, vI z9, vI v25, vI v77, jD, vI v78] [] N F A (jpB N F A Q) := by
                    intro nI80
                    induction nI80 with
                    | zero =>
                      intro v77 v78 hmu
                      exact absurd hmu (Nat.not_lt_zero _)
                    | succ nI80 ihI80 =>
                      intro v77 v78 hmuI80 rv77 rv78 hI
                      have h := hs v77 v78 hI
                      refine j_iload dX0_isTold_134 rfl ?_
                      refine j_iload_n dX0_isTold_136 rfl ?_
                      obtain ⟨K84, hK86, h⟩ := h
                      have jn85 : K84  → J G l d mX0_isTold 162 [vR (o : Int), jD, jD, vI v25, vI v77, jD, jD] [] N F A (jpB N F A Q) := by
                        intro   h
                        have h := hK86  h
                        refine j_iload dX0_isTold_162 rfl ?_
                        refine j_iload_n dX0_isTold_164 rfl ?_
                        have jn89 : ∀ z88 : Int, z88 = (if ¬ v77 = v25 then (0 : Int) else 1) → J G l d mX0_isTold 173 [vR (o : Int), jD, jD, vI v25, vI v77, jD, jD] [vI z88] N F A (jpB N F A Q) := by
                          intro z88 ez88
                          have h := h z88 ez88
                          exact j_zret dX0_isTold_173 rfl (nr_bool (ez88 ▸ jB_ite (by decide) (by decide))) ⟨_, rfl, rfl, rfl, rfl, h, (ez88 ▸ jB_ite (by decide) (by decide))⟩
                        clear h
                        refine j_icmp_ne 172 dX0_isTold_165 rfl rv77 (ev25 ▸ r24) (fun q87 => ?_) (fun q87 => ?_)
                        · refine j_iconst dX0_isTold_172 ?_
                          exact jn89 _ (if_pos q87).symm
                        · refine j_iconst dX0_isTold_168 ?_
                          refine j_goto 173 dX0_isTold_169 rfl ?_
                          exact jn89 _ (if_neg q87).symm
                      obtain ⟨h1, h2⟩ := h
                      refine j_icmp_ge 162 dX0_isTold_137 rfl rv78 r13 (fun q82 => ?_) (fun q82 => ?_)
                      · have h := h1 q82
                        clear h1 h2
                        exact J.wk ((((((((jWk.nil).no).no).eq).eq).no).no).eq) (jn85   h)
                      · have h := h2 q82
                        clear h1 h2
                        refine j_iload dX0_isTold_140 rfl ?_
                        refine j_iconst dX0_isTold_142 ?_
                        obtain ⟨h1, h2⟩ := h
                        refine j_icmp_eq 162 dX0_isTold_143 rfl rv77 (by decide) (fun q90 => ?_) (fun q90 => ?_)
                        · have h := h1 q90
                          clear h1 h2
                          exact J.wk ((((((((jWk.nil).no).no).eq).eq).no).no).eq) (jn85   h)
                        · have h := h2 q90
                          clear h1 h2
                          refine r_aload_n dX0_isTold_146 rfl ?_
                          refine r_aload_n dX0_isTold_147 rfl ?_
                          refine j_iload dX0_isTold_148 rfl ?_
                          refine j_iload_n dX0_isTold_150 rfl ?_
                          obtain ⟨P91, hp92, h⟩ := h
                          refine r_invV (ci := 1) (As := [vR a1, vI v77, vI v25]) (rest := []) dX0_isTold_151 lkX0_536 rfl ht rfl rfl (vX0_behind (d := 7) (Nat.le_of_ble_eq_true rfl) hW ht rv77 (ev25 ▸ r24) hp92) rfl rfl (Nat.le_of_ble_eq_true rfl) (Nat.le_trans (Nat.le_of_ble_eq_true rfl) hd) (jkpI fun z93 p96 r97 => ?_)
                          have h := h z93 p96
                          refine j_istore dX0_isTold_154 rfl ?_
                          obtain ⟨r98, h⟩ := h
                          refine j_iinc dX0_isTold_156 rfl rfl ?_
                          refine j_goto 134 dX0_isTold_159 rfl ?_
                          exact J.wk ((((((((jWk.nil).eq).no).eq).eq).eq).eq).eq) (ihI80 _ _ (Nat.lt_of_lt_of_le h.2 (Nat.le_of_lt_succ hmuI80)) r97 r98 h.1)
                  exact J.wk ((((((((jWk.nil).eq).no).eq).eq).eq).eq).eq) (lp _ _ _ (Nat.lt_succ_self _) (ev27 ▸ r26) (by decide) h0)
                · have h := h2 q76
                  clear h1 h2
                  refine j_iconst dX0_isTold_129 ?_
                  exact j_zret dX0_isTold_130 rfl (nr_bool (by decide)) ⟨_, rfl, rfl, rfl, rfl, h, (by decide)⟩
              · have h := h2 q73
                clear h1 h2
                refine r_aload_n dX0_isTold_86 rfl ?_
                refine j_iconst dX0_isTold_87 ?_
                refine j_iload dX0_isTold_88 rfl ?_
                refine j_iadd dX0_isTold_90 ?_
                obtain ⟨r99, h⟩ := h
                obtain ⟨P100, hp101, h⟩ := h
                refine r_invV (ci := 22) (As := [vI (3 + v69)]) (rest := []) dX0_isTold_91 lkX0_145 hz15 t16 rfl rfl (vJ5_charAt (d := 6) (Nat.le_of_ble_eq_true rfl) hW t16 r99 hp101) rfl rfl (Nat.le_of_ble_eq_true rfl) (Nat.le_trans (Nat.le_of_ble_eq_true rfl) hd) (jkpC fun z102 p105 r106 => ?_)
                have h := h z102 p105
                refine j_iload_n dX0_isTold_94 rfl ?_
                obtain ⟨h1, h2⟩ := h
                refine j_icmp_ge 113 dX0_isTold_95 rfl (jR_c r106) r13 (fun q107 => ?_) (fun q107 => ?_)
                · have h := h1 q107
                  clear h1 h2
                  obtain ⟨r108, h⟩ := h
                  refine j_iinc dX0_isTold_113 rfl rfl ?_
                  refine j_goto 80 dX0_isTold_116 rfl ?_
                  exact J.wk ((((((((jWk.nil).eq).eq).eq).eq).eq).eq).eq) (ihI71 _ _ (Nat.lt_of_lt_of_le h.2 (Nat.le_of_lt_succ hmuI71)) rv68 r108 h.1)
                · have h := h2 q107
                  clear h1 h2
                  refine j_iload dX0_isTold_98 rfl ?_
                  refine j_iconst dX0_isTold_100 ?_
                  refine r_aload_n dX0_isTold_101 rfl ?_
                  refine j_iconst dX0_isTold_102 ?_
                  refine j_iload dX0_isTold_103 rfl ?_
                  refine j_iadd dX0_isTold_105 ?_
                  obtain ⟨r109, h⟩ := h
                  obtain ⟨P110, hp111, h⟩ := h
                  refine r_invV (ci := 22) (As := [vI (3 + v69)]) (rest := [vI 1, vI v68]) dX0_isTold_106 lkX0_145 hz15 t16 rfl rfl (vJ5_charAt (d := 6) (Nat.le_of_ble_eq_true rfl) hW t16 r109 hp111) rfl rfl (Nat.le_of_ble_eq_true rfl) (Nat.le_trans (Nat.le_of_ble_eq_true rfl) hd) (jkpC fun z112 p115 r116 => ?_)
                  have h := h z112 p115
                  obtain ⟨c117, h⟩ := h
                  refine j_ishl dX0_isTold_109 c117 ?_
                  obtain ⟨c118, h⟩ := h
                  refine j_ior dX0_isTold_110 c118.1 c118.2 ?_
                  obtain ⟨r119, h⟩ := h
                  obtain ⟨v120, ev120⟩ : ∃ x : Int, x = jor v68 (1 * 2 ^ z112.toNat) := ⟨_, rfl⟩
                  have h := h v120 ev120
                  refine jnmI (e := ev120) ?_
                  refine j_istore dX0_isTold_111 rfl ?_
                  obtain ⟨r121, h⟩ := h
                  refine j_iinc dX0_isTold_113 rfl rfl ?_
                  refine j_goto 80 dX0_isTold_116 rfl ?_
                  exact J.wk ((((((((jWk.nil).eq).eq).eq).eq).eq).eq).eq) (ihI71 _ _ (Nat.lt_of_lt_of_le h.2 (Nat.le_of_lt_succ hmuI71)) (ev120 ▸ r119) r121 h.1)
          exact J.wk ((((((((jWk.nil).eq).eq).eq).eq).eq).eq).eq) (lp _ _ _ (Nat.lt_succ_self _) (by decide) (by decide) h0)
        · have h := h2 q67
          clear h1 h2
          refine j_iconst dX0_isTold_75 ?_
          exact j_zret dX0_isTold_76 rfl (nr_bool (by decide)) ⟨_, rfl, rfl, rfl, rfl, h, (by decide)⟩
/-- ChildSays.round(III)I -/
def wqX0_round (S : Nat → Nat) (o : Nat) (a1 : Int) (a2 : Int) (a3 : Int) (N : jSh) (F : jFl) (A : jAr) (Q : Int → jFl → jAr → Prop) : Prop :=
  ∃ (P1 : Int → Prop), wqX0_childOf o a2 N F A P1 ∧
  ∀ z3, P1 z3 →
  ∃ (P8 : Int → Prop), wqX0_standingOf o a1 N F A P8 ∧
  ∀ z10, P8 z10 →
  ((z3 < 0) →
    Q (-1) F A) ∧
  ((¬ (z3 < 0)) →
    ((z10 < 0) →
      Q (-1) F A) ∧
    ((¬ (z10 < 0)) →
      ∃ (P17 : Int → Prop), wqX0_isIn a3 0 2 N F A P17 ∧
      ∀ z19, P17 z19 →
      ((¬ z19 = 0) →
        ∃ b25 : Nat, jfn N 338 o = (b25 : Int) ∧
        jtg N b25 = 7 ∧
        ∃ (P28 : Int → jFl → jAr → Prop), wqX6_of b25 z3 z10 N F A P28 ∧
        ∀ z30 F31 A32, P28 z30 F31 A32 →
        ((¬ a3 = 0) →
          ((¬ a3 = 1) →
            Q (F31 2112 b25) F31 A32) ∧
          ((a3 = 1) →
            Q (F31 2109 b25) F31 A32)) ∧
        ((a3 = 0) →
          Q (F31 2106 b25) F31 A32)) ∧
      ((z19 = 0) →
        Q (-1) F A)))
theorem vX0_round {G : jG} {l : Launch} [jOff l] {d : Nat} {N : jSh} {F : jFl} {A : jAr} {o : Nat} {a1 a2 a3 : Int} {Q : Int → jFl → jAr → Prop} (hd : 8 ≤ d) (hW : jWg G N F A) (ht : jtg N o = 1) (ra1 : jR a1) (ra2 : jR a2) (ra3 : jR a3) (h : wqX0_round (gS G) o a1 a2 a3 N F A Q) : jCall G l d mX0_round [vR (o : Int), vI a1, vI a2, vI a3] N F A (cmI G N Q) := by
  unfold wqX0_round at h
  refine jCall.of (by decide) rfl (ls := [vR (o : Int), vI a1, vI a2, vI a3, jD, jD]) (by simp only [jent_R, jent_I, jent_L, jent_nil]; exact Nat.le_of_ble_eq_true rfl) (by simp only [jloc, jent_R, jent_I, jent_L, jent_nil]; rfl) ?_
  refine r_aload_n dX0_round_0 rfl ?_
  refine j_iload_n dX0_round_1 rfl ?_
  obtain ⟨P1, hp2, h⟩ := h
  refine r_invV (ci := 1) (As := [vI a2]) (rest := []) dX0_round_2 lkX0_273 rfl ht rfl rfl (vX0_childOf (d := 5) (Nat.le_of_ble_eq_true rfl) hW ht ra2 hp2) rfl rfl (Nat.le_of_ble_eq_true rfl) (Nat.le_trans (Nat.le_of_ble_eq_true rfl) hd) (jkpR fun z3 p6 r7 => ?_)
  have h := h z3 p6
  refine r_astore dX0_round_5 rfl ?_
  refine r_aload_n dX0_round_7 rfl ?_
  refine j_iload_n dX0_round_8 rfl ?_
  obtain ⟨P8, hp9, h⟩ := h
  refine r_invV (ci := 1) (As := [vI a1]) (rest := []) dX0_round_9 lkX0_347 rfl ht rfl rfl (vX0_standingOf (d := 6) (Nat.le_of_ble_eq_true rfl) hW ht ra1 hp9) rfl rfl (Nat.le_of_ble_eq_true rfl) (Nat.le_trans (Nat.le_of_ble_eq_true rfl) hd) (jkpR fun z10 p13 r14 => ?_)
  have h := h z10 p13
  refine r_astore dX0_round_12 (jokR rfl (Nat.le_of_ble_eq_true rfl)) ?_
  refine r_aload dX0_round_14 rfl ?_
  obtain ⟨h1, h2⟩ := h
  refine r_ifnull 36 dX0_round_16 rfl (fun q15 => ?_) (fun q15 => ?_)
  · have h := h1 q15
    clear h1 h2
    refine j_iconst dX0_round_36 ?_
    exact j_iret dX0_round_37 rfl ⟨_, rfl, rfl, hW, h, (by decide)⟩
  · have h := h2 q15
    clear h1 h2
    refine r_aload dX0_round_19 rfl ?_
    obtain ⟨h1, h2⟩ := h
    refine r_ifnull 36 dX0_round_21 rfl (fun q16 => ?_) (fun q16 => ?_)
    · have h := h1 q16
      clear h1 h2
      refine j_iconst dX0_round_36 ?_
      exact j_iret dX0_round_37 rfl ⟨_, rfl, rfl, hW, h, (by decide)⟩
    · have h := h2 q16
      clear h1 h2
      refine j_iload_n dX0_round_24 rfl ?_
      refine j_i2l dX0_round_25 ra3 ?_
      refine j_lconst 0 rfl dX0_round_26 ?_
      refine j_ldc2 (n := 2) dX0_round_27 q1613 ?_
      obtain ⟨P17, hp18, h⟩ := h
      refine r_invS (As := [vL a3, vL 0, vL 2]) (rest := []) dX0_round_30 lkX0_124 (vX0_isIn (d := 2) (Nat.le_of_ble_eq_true rfl) hW (jR_L ra3) (by decide) (by decide) hp18) rfl rfl (Nat.le_of_ble_eq_true rfl) (Nat.le_trans (Nat.le_of_ble_eq_true rfl) hd) (jkpB fun z19 p22 r23 => ?_)
      have h := h z19 p22
      obtain ⟨h1, h2⟩ := h
      refine j_if_ne 38 dX0_round_33 rfl (jR_b r23) (fun q24 => ?_) (fun q24 => ?_)
      · have h := h1 q24
        clear h1 h2
        refine r_aload_n dX0_round_38 rfl ?_
        refine r_gRF dX0_round_39 flX0_65_1 rfl ht rfl ?_
        refine r_aload dX0_round_42 rfl ?_
        refine r_aload dX0_round_44 rfl ?_
        obtain ⟨b25, hz26, h⟩ := h
        obtain ⟨t27, h⟩ := h
        obtain ⟨P28, hp29, h⟩ := h
        refine r_invV (ci := 7) (As := [vR z3, vR z10]) (rest := []) dX0_round_46 lkX0_447 hz26 t27 rfl rfl (vX6_of (d := 7) (Nat.le_of_ble_eq_true rfl) hW t27  hp29) rfl rfl (Nat.le_of_ble_eq_true rfl) (Nat.le_trans (Nat.le_of_ble_eq_true rfl) hd) (ckmR fun z30 F31 A32 hW33 p35 r36 => ?_)
        have h := h z30 F31 A32 p35
        refine j_pop dX0_round_49 (vR_cat _) ?_
        refine j_iload_n dX0_round_50 rfl ?_
        obtain ⟨h1, h2⟩ := h
        refine j_if_ne 64 dX0_round_51 rfl ra3 (fun q37 => ?_) (fun q37 => ?_)
        · have h := h1 q37
          clear h1 h2
          refine j_iload_n dX0_round_64 rfl ?_
          refine j_iconst dX0_round_65 ?_
          obtain ⟨h1, h2⟩ := h
          refine j_icmp_ne 79 dX0_round_66 rfl ra3 (by decide) (fun q38 => ?_) (fun q38 => ?_)
          · have h := h1 q38
            clear h1 h2
            refine r_aload_n dX0_round_79 rfl ?_
            refine r_gRF dX0_round_80 flX0_65_1 rfl ht rfl ?_
            refine r_gIN dX0_round_83 flX0_456_7 hz26 t27 rfl ?_
            exact j_iret dX0_round_86 rfl ⟨_, rfl, rfl, hW33, h, (hW33.fi rfl)⟩
          · have h := h2 (Classical.not_not.mp q38)
            clear h1 h2
            refine r_aload_n dX0_round_69 rfl ?_
            refine r_gRF dX0_round_70 flX0_65_1 rfl ht rfl ?_
            refine r_gIN dX0_round_73 flX0_453_7 hz26 t27 rfl ?_
            refine j_goto 86 dX0_round_76 rfl ?_
            exact j_iret dX0_round_86 rfl ⟨_, rfl, rfl, hW33, h, (hW33.fi rfl)⟩
        · have h := h2 (Classical.not_not.mp q37)
          clear h1 h2
          refine r_aload_n dX0_round_54 rfl ?_
          refine r_gRF dX0_round_55 flX0_65_1 rfl ht rfl ?_
          refine r_gIN dX0_round_58 flX0_450_7 hz26 t27 rfl ?_
          refine j_goto 86 dX0_round_61 rfl ?_
          exact j_iret dX0_round_86 rfl ⟨_, rfl, rfl, hW33, h, (hW33.fi rfl)⟩
      · have h := h2 (Classical.not_not.mp q24)
        clear h1 h2
        refine j_iconst dX0_round_36 ?_
        exact j_iret dX0_round_37 rfl ⟨_, rfl, rfl, hW, h, (by decide)⟩
/-- ChildSays.writes(I)V -/
def wqX0_writes (S : Nat → Nat) (o : Nat) (a1 : Int) (N : jSh) (F : jFl) (A : jAr) (Q : jSh → jFl → jAr → Prop) : Prop :=
  (0 ≤ a1 ∧ a1 ≤ 65535) ∧
  ∃ b2 : Nat, jfn N 350 o = (b2 : Int) ∧
  jtg N b2 = 21 ∧
  ∃ (P5 : Int → jSh → jFl → jAr → Prop), wqJ4_append S b2 a1 N F A P5 ∧
  ∀ z7 N10 F8 A9, P5 z7 N10 F8 A9 →
  Q N10 F8 A9
theorem vX0_writes {G : jG} {l : Launch} [jOff l] {d : Nat} {N : jSh} {F : jFl} {A : jAr} {o : Nat} {a1 : Int} {Q : jSh → jFl → jAr → Prop} (hd : 8 ≤ d) (hW : jWg G N F A) (ht : jtg N o = 1) (ra1 : jR a1) (h : wqX0_writes (gS G) o a1 N F A Q) : jCall G l d mX0_writes [vR (o : Int), vI a1] N F A (cnV G N Q) := by
  unfold wqX0_writes at h
  refine jCall.of (by decide) rfl (ls := [vR (o : Int), vI a1]) (by simp only [jent_R, jent_I, jent_L, jent_nil]; exact Nat.le_of_ble_eq_true rfl) (by simp only [jloc, jent_R, jent_I, jent_L, jent_nil]; rfl) ?_
  refine r_aload_n dX0_writes_0 rfl ?_
  refine r_gRF dX0_writes_1 flX0_93_1 rfl ht rfl ?_
  refine j_iload_n dX0_writes_4 rfl ?_
  obtain ⟨c1, h⟩ := h
  refine r_i2c dX0_writes_5 c1 ?_
  obtain ⟨b2, hz3, h⟩ := h
  obtain ⟨t4, h⟩ := h
  obtain ⟨P5, hp6, h⟩ := h
  refine r_invV (ci := 21) (As := [vI a1]) (rest := []) dX0_writes_6 lkX0_517 hz3 t4 rfl rfl (vJ4_append (d := 7) (Nat.le_of_ble_eq_true rfl) hW t4 (jR_c c1) hp6) rfl rfl (Nat.le_of_ble_eq_true rfl) (Nat.le_trans (Nat.le_of_ble_eq_true rfl) hd) (cknR fun z7 N10 F8 A9 hW11 hT12 p13 r14 => ?_)
  have h := h z7 N10 F8 A9 p13
  refine j_pop dX0_writes_9 (vR_cat _) ?_
  exact j_vret dX0_writes_10 rfl ⟨rfl, hW11, hT12, h⟩
/-- ChildSays$Fault.<init>(II)V -/
def wqX11_init (o : Nat) (a1 : Int) (a2 : Int) (N : jSh) (F : jFl) (A : jAr) (Q : jSh → jFl → jAr → Prop) : Prop :=
  ∃ (P1 : jFl → jAr → Prop), wqJ8_init o N F A P1 ∧
  ∀ F4 A5, P1 F4 A5 →
  jfn N 0 o = 1 ∧
  ∀ N12 : jSh, N12 = jpF N 3600 o a1 →
  ∀ N17 : jSh, N17 = jpF N12 3603 o a2 →
  Q N17 F4 A5
theorem vX11_init {G : jG} {l : Launch} [jOff l] {d : Nat} {N : jSh} {F : jFl} {A : jAr} {o : Nat} {a1 a2 : Int} {Q : jSh → jFl → jAr → Prop} (hd : 8 ≤ d) (hW : jWg G N F A) (ht : jtg N o = 12) (ra1 : jR a1) (ra2 : jR a2) (h : wqX11_init o a1 a2 N F A Q) : jCall G l d mX11_init [vR (o : Int), vI a1, vI a2] N F A (cnV G N Q) := by
  unfold wqX11_init at h
  refine jCall.of (by decide) rfl (ls := [vR (o : Int), vI a1, vI a2]) (by simp only [jent_R, jent_I, jent_L, jent_nil]; exact Nat.le_of_ble_eq_true rfl) (by simp only [jloc, jent_R, jent_I, jent_L, jent_nil]; rfl) ?_
  refine r_aload_n dX11_init_0 rfl ?_
  obtain ⟨P1, hp2, h⟩ := h
  refine r_invI (As := []) (rest := []) dX11_init_1 lkX11_1 rfl (vJ8_init (d := 7) (Nat.le_of_ble_eq_true rfl) hW ht  hp2) rfl rfl (Nat.le_of_ble_eq_true rfl) (Nat.le_trans (Nat.le_of_ble_eq_true rfl) hd) (ckmV fun F4 A5 hW6 p8 => ?_)
  have h := h F4 A5 p8
  refine r_aload_n dX11_init_4 rfl ?_
  refine j_iload_n dX11_init_5 rfl ?_
  obtain ⟨w10, h⟩ := h
  refine c_pIF hW6 dX11_init_6 flX11_7_12 rfl ht w10 rfl ra1 rfl (by intro c hc; cases hc; rfl) (by decide) fun N12 eN12 hT13 hW11 => ?_
  have h := h N12 eN12
  refine r_aload_n dX11_init_9 rfl ?_
  refine j_iload_n dX11_init_10 rfl ?_
  have t14 : jtg N12 o = 12 := (hT13.tg hW6 ht)
  have w15 : jfn N12 0 o = 1 := (hT13.ow hW6 ht w10)
  refine c_pIF hW11 dX11_init_11 flX11_13_12 rfl t14 w15 rfl ra2 rfl (by intro c hc; cases hc; rfl) (by decide) fun N17 eN17 hT18 hW16 => ?_
  have h := h N17 eN17
  exact j_vret dX11_init_14 rfl ⟨rfl, hW16, (hT13.trans hT18), h⟩
/-- ChildSays$Put.mends()LChildSays$Put; -/
def wqX7_mends (o : Nat) (N : jSh) (F : jFl) (A : jAr) (Q : Int → jFl → jAr → Prop) : Prop :=
  ∃ (P1 : Int → jFl → jAr → Prop), wqX7_many o N F A P1 ∧
  ∀ z3 F4 A5, P1 z3 F4 A5 →
  jfn N 0 o = 1 ∧
  ∀ F12 : jFl, F12 = upF F4 2412 o z3 →
  ∃ (I17 : jFl → jAr → Prop) (m18 : jFl → jAr → Nat), I17 F12 A5 ∧ ∀ (F13 : jFl) (A14 : jAr), I17 F13 A14 →
    ∃ (P19 : Int → jFl → jAr → Prop), wqX7_isBetter o N F13 A14 P19 ∧
    ∀ z21 F22 A23, P19 z21 F22 A23 →
    ((z21 = 0) →
      ∃ (I33 : Int → jAr → Prop) (m34 : Int → jAr → Nat), I33 0 A23 ∧ ∀ (v29 : Int) (A30 : jAr), I33 v29 A30 →
        ∃ b35 : Nat, jfn N 2402 o = (b35 : Int) ∧
        jtg N b35 = 4 ∧
        (((F22 1203 b35) ≤ v29) →
          Q (o : Int) F22 A30) ∧
        ((¬ ((F22 1203 b35) ≤ v29)) →
          ∃ b39 : Nat, jfn N 2405 o = (b39 : Int) ∧
          jtg N b39 = 102 ∧
          ((0 : Int) ≤ v29 ∧ (v29 : Int) < (jln N b39 : Int)) ∧
          ∃ b43 : Nat, jfn N 2408 o = (b43 : Int) ∧
          jtg N b43 = 102 ∧
          jfn N 0 b43 = 1 ∧
          ((0 : Int) ≤ v29 ∧ (v29 : Int) < (jln N b43 : Int)) ∧
          ∀ A48 : jAr, A48 = upA A30 b43 v29 (A30 b39 v29) →
          jR (v29 + 1) ∧
          I33 (v29 + 1) A48 ∧ m34 (v29 + 1) A48 < m34 v29 A30)) ∧
    ((¬ (z21 = 0)) →
      jR ((F22 2415 o) + 1) ∧
      ∀ F53 : jFl, F53 = upF F22 2415 o ((F22 2415 o) + 1) →
      I17 F53 A23 ∧ m18 F53 A23 < m18 F13 A14)
theorem vX7_mends {G : jG} {l : Launch} [jOff l] {d : Nat} {N : jSh} {F : jFl} {A : jAr} {o : Nat} {Q : Int → jFl → jAr → Prop} (hd : 8 ≤ d) (hW : jWg G N F A) (ht : jtg N o = 8) (h : wqX7_mends o N F A Q) : jCall G l d mX7_mends [vR (o : Int)] N F A (cmR G N Q) := by
  unfold wqX7_mends at h
  refine jCall.of (by decide) rfl (ls := [vR (o : Int), jD]) (by simp only [jent_R, jent_I, jent_L, jent_nil]; exact Nat.le_of_ble_eq_true rfl) (by simp only [jloc, jent_R, jent_I, jent_L, jent_nil]; rfl) ?_
  refine r_aload_n dX7_mends_0 rfl ?_
  refine r_aload_n dX7_mends_1 rfl ?_
  obtain ⟨P1, hp2, h⟩ := h
  refine r_invV (ci := 8) (As := []) (rest := [vR (o : Int)]) dX7_mends_2 lkX7_62 rfl ht rfl rfl (vX7_many (d := 6) (Nat.le_of_ble_eq_true rfl) hW ht  hp2) rfl rfl (Nat.le_of_ble_eq_true rfl) (Nat.le_trans (Nat.le_of_ble_eq_true rfl) hd) (ckmI fun z3 F4 A5 hW6 p8 r9 => ?_)
  have h := h z3 F4 A5 p8
  obtain ⟨w10, h⟩ := h
  refine c_pI hW6 dX7_mends_5 flX7_33_8 rfl ht w10 rfl r9 fun F12 eF12 hW11 => ?_
  have h := h F12 eF12
  obtain ⟨I17, m18, h0, hs⟩ := h
  have lp : ∀ (n : Nat) (F13 : jFl) (A14 : jAr), m18 F13 A14 < n → jWg G N F13 A14 → I17 F13 A14 → J G l d mX7_mends 8 [vR (o : Int), jD] [] N F13 A14 (cmR G N Q) := by
    intro nI17
    induction nI17 with
    | zero =>
      intro F13 A14 hmu
      exact absurd hmu (Nat.not_lt_zero _)
    | succ nI17 ihI17 =>
      intro F13 A14 hmuI17 hW15  hI
      have h := hs F13 A14 hI
      refine r_aload_n dX7_mends_8 rfl ?_
      obtain ⟨P19, hp20, h⟩ := h
      refine r_invV (ci := 8) (As := []) (rest := []) dX7_mends_9 lkX7_77 rfl ht rfl rfl (vX7_isBetter (d := 7) (Nat.le_of_ble_eq_true rfl) hW15 ht  hp20) rfl rfl (Nat.le_of_ble_eq_true rfl) (Nat.le_trans (Nat.le_of_ble_eq_true rfl) hd) (ckmB fun z21 F22 A23 hW24 p26 r27 => ?_)
      have h := h z21 F22 A23 p26
      obtain ⟨h1, h2⟩ := h
      refine j_if_eq 28 dX7_mends_12 rfl (jR_b r27) (fun q28 => ?_) (fun q28 => ?_)
      · have h := h1 q28
        clear h1 h2
        refine j_iconst dX7_mends_28 ?_
        refine j_istore_n dX7_mends_29 (jokR rfl (Nat.le_of_ble_eq_true rfl)) ?_
        obtain ⟨I33, m34, h0, hs⟩ := h
        have lp : ∀ (n : Nat) (v29 : Int) (A30 : jAr), m34 v29 A30 < n → jWg G N F22 A30 → jR v29 → I33 v29 A30 → J G l d mX7_mends 30 [vR (o : Int), vI v29] [] N F22 A30 (cmR G N Q) := by
          intro nI33
          induction nI33 with
          | zero =>
            intro v29 A30 hmu
            exact absurd hmu (Nat.not_lt_zero _)
          | succ nI33 ihI33 =>
            intro v29 A30 hmuI33 hW31 rv29 hI
            have h := hs v29 A30 hI
            refine j_iload_n dX7_mends_30 rfl ?_
            refine r_aload_n dX7_mends_31 rfl ?_
            refine r_gRF dX7_mends_32 flX7_18_8 rfl ht rfl ?_
            obtain ⟨b35, hz36, h⟩ := h
            obtain ⟨t37, h⟩ := h
            refine r_gI dX7_mends_35 flX7_47_4 hz36 t37 rfl ?_
            obtain ⟨h1, h2⟩ := h
            refine j_icmp_ge 59 dX7_mends_38 rfl rv29 (hW31.fi rfl) (fun q38 => ?_) (fun q38 => ?_)
            · have h := h1 q38
              clear h1 h2
              refine r_aload_n dX7_mends_59 rfl ?_
              exact r_aret dX7_mends_60 rfl (Or.inl ⟨_, rfl⟩) ⟨_, rfl, rfl, hW31, h, trivial⟩
            · have h := h2 q38
              clear h1 h2
              refine r_aload_n dX7_mends_41 rfl ?_
              refine r_gRF dX7_mends_42 flX7_26_8 rfl ht rfl ?_
              refine j_iload_n dX7_mends_45 rfl ?_
              refine r_aload_n dX7_mends_46 rfl ?_
              refine r_gRF dX7_mends_47 flX7_22_8 rfl ht rfl ?_
              refine j_iload_n dX7_mends_50 rfl ?_
              obtain ⟨b39, hz40, h⟩ := h
              obtain ⟨t41, h⟩ := h
              obtain ⟨c42, h⟩ := h
              refine r_iald dX7_mends_51 hz40 t41 c42 ?_
              obtain ⟨b43, hz44, h⟩ := h
              obtain ⟨t45, h⟩ := h
              obtain ⟨w46, h⟩ := h
              obtain ⟨c47, h⟩ := h
              refine c_iast hW31 dX7_mends_52 hz44 t45 w46 c47 (hW31.ai t41 rfl) fun A48 eA48 hW49 => ?_
              have h := h A48 eA48
              obtain ⟨r50, h⟩ := h
              refine j_iinc dX7_mends_53 rfl (jokR rfl (Nat.le_of_ble_eq_true rfl)) ?_
              refine j_goto 30 dX7_mends_56 rfl ?_
              exact J.wk (((jWk.nil).eq).eq) (ihI33 _ _ (Nat.lt_of_lt_of_le h.2 (Nat.le_of_lt_succ hmuI33)) hW49 r50 h.1)
        exact J.wk (((jWk.nil).eq).eq) (lp _ _ _ (Nat.lt_succ_self _) hW24 (by decide) h0)
      · have h := h2 q28
        clear h1 h2
        refine r_aload_n dX7_mends_15 rfl ?_
        refine j_dup dX7_mends_16 (vR_cat _) ?_
        refine r_gI dX7_mends_17 flX7_37_8 rfl ht rfl ?_
        refine j_iconst dX7_mends_20 ?_
        refine j_iadd dX7_mends_21 ?_
        obtain ⟨r51, h⟩ := h
        refine c_pI hW24 dX7_mends_22 flX7_37_8 rfl ht w10 rfl r51 fun F53 eF53 hW52 => ?_
        have h := h F53 eF53
        refine j_goto 8 dX7_mends_25 rfl ?_
        exact J.wk (((jWk.nil).no).eq) (ihI17 _ _ (Nat.lt_of_lt_of_le h.2 (Nat.le_of_lt_succ hmuI17)) hW52 h.1)
  exact J.wk (((jWk.nil).no).eq) (lp _ _ _ (Nat.lt_succ_self _) hW11 h0)
/-- ChildSays$Order.isBetter(LChildSays$Child;)Z -/
def wqX8_isBetter (o : Nat) (a1 : Int) (N : jSh) (F : jFl) (A : jAr) (Q : Int → jFl → jAr → Prop) : Prop :=
  ∀ v1 : Int, v1 = F 2706 o →
  ∃ (I10 : Int → Int → Int → Int → jFl → jAr → Prop) (m11 : Int → Int → Int → Int → jFl → jAr → Nat), I10 (-1) (-1) v1 0 F A ∧ ∀ (v2 : Int) (v3 : Int) (v4 : Int) (v5 : Int) (F6 : jFl) (A7 : jAr), I10 v2 v3 v4 v5 F6 A7 →
    ∃ b12 : Nat, jfn N 2702 o = (b12 : Int) ∧
    jtg N b12 = 5 ∧
    (((F6 1506 b12) ≤ v5) →
      ((¬ v2 = (-1)) →
        ∃ (P17 : jFl → jAr → Prop), wqX4_swaps b12 v2 v3 N F6 A7 P17 ∧
        ∀ F20 A21, P17 F20 A21 →
        jfn N 0 o = 1 ∧
        ∀ F28 : jFl, F28 = upF F20 2706 o v4 →
        Q 1 F28 A21) ∧
      ((v2 = (-1)) →
        Q 0 F6 A7)) ∧
    ((¬ ((F6 1506 b12) ≤ v5)) →
      jR (v5 + 1) ∧
      ∀ v30 : Int, v30 = v5 + 1 →
      ∃ (I39 : Int → Int → Int → Int → jFl → jAr → Prop) (m40 : Int → Int → Int → Int → jFl → jAr → Nat), I39 v2 v3 v4 v30 F6 A7 ∧ ∀ (v31 : Int) (v32 : Int) (v33 : Int) (v34 : Int) (F35 : jFl) (A36 : jAr), I39 v31 v32 v33 v34 F35 A36 →
        (((F35 1506 b12) ≤ v34) →
          jR (v5 + 1) ∧
          I10 v31 v32 v33 (v5 + 1) F35 A36 ∧ m11 v31 v32 v33 (v5 + 1) F35 A36 < m11 v2 v3 v4 v5 F6 A7) ∧
        ((¬ ((F35 1506 b12) ≤ v34)) →
          ∃ (P43 : jFl → jAr → Prop), wqX4_swaps b12 v5 v34 N F35 A36 P43 ∧
          ∀ F46 A47, P43 F46 A47 →
          ∃ (P52 : Int → jFl → jAr → Prop), wqX8_whole o a1 N F46 A47 P52 ∧
          ∀ z54 F55 A56, P52 z54 F55 A56 →
          ∃ (P61 : jFl → jAr → Prop), wqX4_swaps b12 v5 v34 N F55 A56 P61 ∧
          ∀ F64 A65, P61 F64 A65 →
          ((v33 < z54) →
            jR (v34 + 1) ∧
            I39 v5 v34 z54 (v34 + 1) F64 A65 ∧ m40 v5 v34 z54 (v34 + 1) F64 A65 < m40 v31 v32 v33 v34 F35 A36) ∧
          ((¬ (v33 < z54)) →
            jR (v34 + 1) ∧
            I39 v31 v32 v33 (v34 + 1) F64 A65 ∧ m40 v31 v32 v33 (v34 + 1) F64 A65 < m40 v31 v32 v33 v34 F35 A36)))
theorem vX8_isBetter {G : jG} {l : Launch} [jOff l] {d : Nat} {N : jSh} {F : jFl} {A : jAr} {o : Nat} {a1 : Int} {Q : Int → jFl → jAr → Prop} (hd : 8 ≤ d) (hW : jWg G N F A) (ht : jtg N o = 9) (h : wqX8_isBetter o a1 N F A Q) : jCall G l d mX8_isBetter [vR (o : Int), vR a1] N F A (cmB G N Q) := by
  unfold wqX8_isBetter at h
  refine jCall.of (by decide) rfl (ls := [vR (o : Int), vR a1, jD, jD, jD, jD, jD, jD]) (by simp only [jent_R, jent_I, jent_L, jent_nil]; exact Nat.le_of_ble_eq_true rfl) (by simp only [jloc, jent_R, jent_I, jent_L, jent_nil]; rfl) ?_
  refine j_iconst dX8_isBetter_0 ?_
  refine j_istore_n dX8_isBetter_1 (jokR rfl (Nat.le_of_ble_eq_true rfl)) ?_
  refine j_iconst dX8_isBetter_2 ?_
  refine j_istore_n dX8_isBetter_3 rfl ?_
  refine r_aload_n dX8_isBetter_4 rfl ?_
  refine r_gI dX8_isBetter_5 flX8_49_9 rfl ht rfl ?_
  obtain ⟨v1, ev1⟩ : ∃ x : Int, x = F 2706 o := ⟨_, rfl⟩
  have h := h v1 ev1
  refine jnmI (e := ev1) ?_
  refine j_istore dX8_isBetter_8 rfl ?_
  refine j_iconst dX8_isBetter_10 ?_
  refine j_istore dX8_isBetter_11 rfl ?_
  obtain ⟨I10, m11, h0, hs⟩ := h
  have lp : ∀ (n : Nat) (v2 : Int) (v3 : Int) (v4 : Int) (v5 : Int) (F6 : jFl) (A7 : jAr), m11 v2 v3 v4 v5 F6 A7 < n → jWg G N F6 A7 → jR v2 → jR v3 → jR v4 → jR v5 → I10 v2 v3 v4 v5 F6 A7 → J G l d mX8_isBetter 13 [vR (o : Int), vR a1, vI v2, vI v3, vI v4, vI v5, jD, jD] [] N F6 A7 (cmB G N Q) := by
    intro nI10
    induction nI10 with
    | zero =>
      intro v2 v3 v4 v5 F6 A7 hmu
      exact absurd hmu (Nat.not_lt_zero _)
    | succ nI10 ihI10 =>
      intro v2 v3 v4 v5 F6 A7 hmuI10 hW8 rv2 rv3 rv4 rv5 hI
      have h := hs v2 v3 v4 v5 F6 A7 hI
      refine j_iload dX8_isBetter_13 rfl ?_
      refine r_aload_n dX8_isBetter_15 rfl ?_
      refine r_gRF dX8_isBetter_16 flX8_20_9 rfl ht rfl ?_
      obtain ⟨b12, hz13, h⟩ := h
      obtain ⟨t14, h⟩ := h
      refine r_gIN dX8_isBetter_19 flX8_38_5 hz13 t14 rfl ?_
      obtain ⟨h1, h2⟩ := h
      refine j_icmp_ge 104 dX8_isBetter_22 rfl rv5 (hW8.fi rfl) (fun q15 => ?_) (fun q15 => ?_)
      · have h := h1 q15
        clear h1 h2
        refine j_iload_n dX8_isBetter_104 rfl ?_
        refine j_iconst dX8_isBetter_105 ?_
        obtain ⟨h1, h2⟩ := h
        refine j_icmp_ne 111 dX8_isBetter_106 rfl rv2 (by decide) (fun q16 => ?_) (fun q16 => ?_)
        · have h := h1 q16
          clear h1 h2
          refine r_aload_n dX8_isBetter_111 rfl ?_
          refine r_gRF dX8_isBetter_112 flX8_20_9 rfl ht rfl ?_
          refine j_iload_n dX8_isBetter_115 rfl ?_
          refine j_iload_n dX8_isBetter_116 rfl ?_
          obtain ⟨P17, hp18, h⟩ := h
          refine r_invV (ci := 5) (As := [vI v2, vI v3]) (rest := []) dX8_isBetter_117 lkX8_95 hz13 t14 rfl rfl (vX4_swaps (d := 2) (Nat.le_of_ble_eq_true rfl) hW8 t14 rv2 rv3 hp18) rfl rfl (Nat.le_of_ble_eq_true rfl) (Nat.le_trans (Nat.le_of_ble_eq_true rfl) hd) (ckmV fun F20 A21 hW22 p24 => ?_)
          have h := h F20 A21 p24
          refine r_aload_n dX8_isBetter_120 rfl ?_
          refine j_iload dX8_isBetter_121 rfl ?_
          obtain ⟨w26, h⟩ := h
          refine c_pI hW22 dX8_isBetter_123 flX8_49_9 rfl ht w26 rfl rv4 fun F28 eF28 hW27 => ?_
          have h := h F28 eF28
          refine j_iconst dX8_isBetter_126 ?_
          exact j_zret dX8_isBetter_127 rfl (nr_bool (by decide)) ⟨_, rfl, rfl, hW27, h, (by decide)⟩
        · have h := h2 (Classical.not_not.mp q16)
          clear h1 h2
          refine j_iconst dX8_isBetter_109 ?_
          exact j_zret dX8_isBetter_110 rfl (nr_bool (by decide)) ⟨_, rfl, rfl, hW8, h, (by decide)⟩
      · have h := h2 q15
        clear h1 h2
        refine j_iload dX8_isBetter_25 rfl ?_
        refine j_iconst dX8_isBetter_27 ?_
        refine j_iadd dX8_isBetter_28 ?_
        obtain ⟨r29, h⟩ := h
        obtain ⟨v30, ev30⟩ : ∃ x : Int, x = v5 + 1 := ⟨_, rfl⟩
        have h := h v30 ev30
        refine jnmI (e := ev30) ?_
        refine j_istore dX8_isBetter_29 rfl ?_
        obtain ⟨I39, m40, h0, hs⟩ := h
        have lp : ∀ (n : Nat) (v31 : Int) (v32 : Int) (v33 : Int) (v34 : Int) (F35 : jFl) (A36 : jAr), m40 v31 v32 v33 v34 F35 A36 < n → jWg G N F35 A36 → jR v31 → jR v32 → jR v33 → jR v34 → I39 v31 v32 v33 v34 F35 A36 → J G l d mX8_isBetter 31 [vR (o : Int), vR a1, vI v31, vI v32, vI v33, vI v5, vI v34, jD] [] N F35 A36 (cmB G N Q) := by
          intro nI39
          induction nI39 with
          | zero =>
            intro v31 v32 v33 v34 F35 A36 hmu
            exact absurd hmu (Nat.not_lt_zero _)
          | succ nI39 ihI39 =>
            intro v31 v32 v33 v34 F35 A36 hmuI39 hW37 rv31 rv32 rv33 rv34 hI
            have h := hs v31 v32 v33 v34 F35 A36 hI
            refine j_iload dX8_isBetter_31 rfl ?_
            refine r_aload_n dX8_isBetter_33 rfl ?_
            refine r_gRF dX8_isBetter_34 flX8_20_9 rfl ht rfl ?_
            refine r_gIN dX8_isBetter_37 flX8_38_5 hz13 t14 rfl ?_
            obtain ⟨h1, h2⟩ := h
            refine j_icmp_ge 98 dX8_isBetter_40 rfl rv34 (hW37.fi rfl) (fun q41 => ?_) (fun q41 => ?_)
            · have h := h1 q41
              clear h1 h2
              obtain ⟨r42, h⟩ := h
              refine j_iinc dX8_isBetter_98 rfl rfl ?_
              refine j_goto 13 dX8_isBetter_101 rfl ?_
              exact J.wk (((((((((jWk.nil).no).no).eq).eq).eq).eq).eq).eq) (ihI10 _ _ _ _ _ _ (Nat.lt_of_lt_of_le h.2 (Nat.le_of_lt_succ hmuI10)) hW37 rv31 rv32 rv33 r42 h.1)
            · have h := h2 q41
              clear h1 h2
              refine r_aload_n dX8_isBetter_43 rfl ?_
              refine r_gRF dX8_isBetter_44 flX8_20_9 rfl ht rfl ?_
              refine j_iload dX8_isBetter_47 rfl ?_
              refine j_iload dX8_isBetter_49 rfl ?_
              obtain ⟨P43, hp44, h⟩ := h
              refine r_invV (ci := 5) (As := [vI v5, vI v34]) (rest := []) dX8_isBetter_51 lkX8_95 hz13 t14 rfl rfl (vX4_swaps (d := 2) (Nat.le_of_ble_eq_true rfl) hW37 t14 rv5 rv34 hp44) rfl rfl (Nat.le_of_ble_eq_true rfl) (Nat.le_trans (Nat.le_of_ble_eq_true rfl) hd) (ckmV fun F46 A47 hW48 p50 => ?_)
              have h := h F46 A47 p50
              refine r_aload_n dX8_isBetter_54 rfl ?_
              refine r_aload_n dX8_isBetter_55 rfl ?_
              obtain ⟨P52, hp53, h⟩ := h
              refine r_invV (ci := 9) (As := [vR a1]) (rest := []) dX8_isBetter_56 lkX8_45 rfl ht rfl rfl (vX8_whole (d := 7) (Nat.le_of_ble_eq_true rfl) hW48 ht  hp53) rfl rfl (Nat.le_of_ble_eq_true rfl) (Nat.le_trans (Nat.le_of_ble_eq_true rfl) hd) (ckmI fun z54 F55 A56 hW57 p59 r60 => ?_)
              have h := h z54 F55 A56 p59
              refine j_istore dX8_isBetter_59 rfl ?_
              refine r_aload_n dX8_isBetter_61 rfl ?_
              refine r_gRF dX8_isBetter_62 flX8_20_9 rfl ht rfl ?_
              refine j_iload dX8_isBetter_65 rfl ?_
              refine j_iload dX8_isBetter_67 rfl ?_
              obtain ⟨P61, hp62, h⟩ := h
              refine r_invV (ci := 5) (As := [vI v5, vI v34]) (rest := []) dX8_isBetter_69 lkX8_95 hz13 t14 rfl rfl (vX4_swaps (d := 2) (Nat.le_of_ble_eq_true rfl) hW57 t14 rv5 rv34 hp62) rfl rfl (Nat.le_of_ble_eq_true rfl) (Nat.le_trans (Nat.le_of_ble_eq_true rfl) hd) (ckmV fun F64 A65 hW66 p68 => ?_)
              have h := h F64 A65 p68
              refine j_iload dX8_isBetter_72 rfl ?_
              refine j_iload dX8_isBetter_74 rfl ?_
              obtain ⟨h1, h2⟩ := h
              refine j_icmp_gt 82 dX8_isBetter_76 rfl r60 rv33 (fun q70 => ?_) (fun q70 => ?_)
              · have h := h1 q70
                clear h1 h2
                refine j_iload dX8_isBetter_82 rfl ?_
                refine j_istore dX8_isBetter_84 rfl ?_
                refine j_iload dX8_isBetter_86 rfl ?_
                refine j_istore_n dX8_isBetter_88 (jokR rfl (Nat.le_of_ble_eq_true rfl)) ?_
                refine j_iload dX8_isBetter_89 rfl ?_
                refine j_istore_n dX8_isBetter_91 rfl ?_
                obtain ⟨r71, h⟩ := h
                refine j_iinc dX8_isBetter_92 rfl rfl ?_
                refine j_goto 31 dX8_isBetter_95 rfl ?_
                exact J.wk (((((((((jWk.nil).no).eq).eq).eq).eq).eq).eq).eq) (ihI39 _ _ _ _ _ _ (Nat.lt_of_lt_of_le h.2 (Nat.le_of_lt_succ hmuI39)) hW66 rv5 rv34 r60 r71 h.1)
              · have h := h2 q70
                clear h1 h2
                refine j_goto 92 dX8_isBetter_79 rfl ?_
                obtain ⟨r72, h⟩ := h
                refine j_iinc dX8_isBetter_92 rfl rfl ?_
                refine j_goto 31 dX8_isBetter_95 rfl ?_
                exact J.wk (((((((((jWk.nil).no).eq).eq).eq).eq).eq).eq).eq) (ihI39 _ _ _ _ _ _ (Nat.lt_of_lt_of_le h.2 (Nat.le_of_lt_succ hmuI39)) hW66 rv31 rv32 rv33 r72 h.1)
        exact J.wk (((((((((jWk.nil).no).eq).eq).eq).eq).eq).eq).eq) (lp _ _ _ _ _ _ _ (Nat.lt_succ_self _) hW8 rv2 rv3 rv4 (ev30 ▸ r29) h0)
  exact J.wk (((((((((jWk.nil).no).no).eq).eq).eq).eq).eq).eq) (lp _ _ _ _ _ _ _ (Nat.lt_succ_self _) hW (by decide) (by decide) (ev1 ▸ (hW.fi rfl)) (by decide) h0)
/-- ChildSays$Order.search(LChildSays$Child;II)V -/
def wqX8_search : Nat → Nat → Int → Int → Int → jSh → jFl → jAr → (jFl → jAr → Prop) → Prop
  | 0, _, _, _, _, _, _, _, _ => False
  | n + 1, o, a1, a2, a3, N, F, A, Q =>
  ((¬ a3 = 0) →
    ∃ (I7 : Int → jFl → jAr → Prop) (m8 : Int → jFl → jAr → Nat), I7 0 F A ∧ ∀ (v2 : Int) (F3 : jFl) (A4 : jAr), I7 v2 F3 A4 →
      ∃ b9 : Nat, jfn N 2714 o = (b9 : Int) ∧
      jtg N b9 = 1 ∧
      ∃ b12 : Nat, F3 311 b9 = (b12 : Int) ∧
      jtg N b12 = 2 ∧
      ∃ b15 : Nat, jfn N 626 b12 = (b15 : Int) ∧
      jtg N b15 = 20 ∧
      ∃ (P18 : Int → Prop), wqJ2_size b15 N F3 A4 P18 ∧
      ∀ z20, P18 z20 →
      ((z20 ≤ v2) →
        Q F3 A4) ∧
      ((¬ (z20 ≤ v2)) →
        ((0 : Int) ≤ v2 ∧ (v2 : Int) < 32) ∧
        ((((a2 / 2 ^ v2.toNat) % 2) = 1) →
          jR (v2 + 1) ∧
          I7 (v2 + 1) F3 A4 ∧ m8 (v2 + 1) F3 A4 < m8 v2 F3 A4) ∧
        ((¬ (((a2 / 2 ^ v2.toNat) % 2) = 1)) →
          ∃ (P29 : Int → Prop), wqJ2_get b15 v2 N F3 A4 P29 ∧
          ∀ z31, P29 z31 →
          jcst N "ChildSays$Law" z31 ∧
          ∃ b37 : Nat, z31 = (b37 : Int) ∧
          jtg N b37 = 17 ∧
          ∃ b40 : Nat, jfn N 5102 b37 = (b40 : Int) ∧
          jtg N b40 = 4 ∧
          ∃ (P43 : Int → Prop), wqX3_isOne b40 N F3 A4 P43 ∧
          ∀ z45, P43 z45 →
          ((¬ z45 = 0) →
            ∃ (P51 : Int → Prop), wqJ2_get b15 v2 N F3 A4 P51 ∧
            ∀ z53, P51 z53 →
            jcst N "ChildSays$Law" z53 ∧
            ∃ b59 : Nat, jfn N 2702 o = (b59 : Int) ∧
            jtg N b59 = 5 ∧
            ∃ (P62 : jFl → jAr → Prop), wqX4_comes b59 z53 N F3 A4 P62 ∧
            ∀ F65 A66, P62 F65 A66 →
            ((0 : Int) ≤ v2 ∧ (v2 : Int) < 32) ∧
            (((0 : Int) ≤ a2 ∧ (a2 : Int) ≤ 2147483647) ∧ ((0 : Int) ≤ 1 * 2 ^ v2.toNat ∧ (1 * 2 ^ v2.toNat : Int) ≤ 2147483647)) ∧
            jR (jor a2 (1 * 2 ^ v2.toNat)) ∧
            jR (a3 - 1) ∧
            ∃ (P75 : jFl → jAr → Prop), wqX8_search n o a1 (jor a2 (1 * 2 ^ v2.toNat)) (a3 - 1) N F65 A66 P75 ∧
            ∀ F78 A79, P75 F78 A79 →
            jfn N 0 b59 = 1 ∧
            jR ((F78 1506 b59) - 1) ∧
            ∀ F87 : jFl, F87 = upF F78 1506 b59 ((F78 1506 b59) - 1) →
            jR (v2 + 1) ∧
            I7 (v2 + 1) F87 A79 ∧ m8 (v2 + 1) F87 A79 < m8 v2 F3 A4) ∧
          ((z45 = 0) →
            jR (v2 + 1) ∧
            I7 (v2 + 1) F3 A4 ∧ m8 (v2 + 1) F3 A4 < m8 v2 F3 A4)))) ∧
  ((a3 = 0) →
    ∃ (P90 : Int → jFl → jAr → Prop), wqX8_whole o a1 N F A P90 ∧
    ∀ z92 F93 A94, P90 z92 F93 A94 →
    (((F93 2706 o) < z92) →
      jfn N 0 o = 1 ∧
      ∀ F102 : jFl, F102 = upF F93 2706 o z92 →
      ∃ (P103 : jFl → jAr → Prop), wqX8_isFirst o N F102 A94 P103 ∧
      ∀ F106 A107, P103 F106 A107 →
      Q F106 A107) ∧
    ((¬ ((F93 2706 o) < z92)) →
      Q F93 A94))
theorem vX8_search {G : jG} {l : Launch} [jOff l] : ∀ (n : Nat) {d : Nat} {N : jSh} {F : jFl} {A : jAr} {o : Nat} {a1 a2 a3 : Int} {Q : jFl → jAr → Prop}, 8 + n ≤ d → jWg G N F A → jtg N o = 9 → jR a2 → jR a3 → wqX8_search n o a1 a2 a3 N F A Q → jCall G l d mX8_search [vR (o : Int), vR a1, vI a2, vI a3] N F A (cmV G N Q) := by
  intro n
  induction n with
  | zero => intros; rename_i h; exact absurd h (by unfold wqX8_search; exact id)
  | succ n ihn =>
    intro d N F A o a1 a2 a3 Q hd hW ht ra2 ra3 h
    unfold wqX8_search at h
    refine jCall.of (by decide) rfl (ls := [vR (o : Int), vR a1, vI a2, vI a3, jD]) (by simp only [jent_R, jent_I, jent_L, jent_nil]; exact Nat.le_of_ble_eq_true rfl) (by simp only [jloc, jent_R, jent_I, jent_L, jent_nil]; rfl) ?_
    refine j_iload_n dX8_search_0 rfl ?_
    obtain ⟨h1, h2⟩ := h
    refine j_if_ne 32 dX8_search_1 rfl ra3 (fun q1 => ?_) (fun q1 => ?_)
    · have h := h1 q1
      clear h1 h2
      refine j_iconst dX8_search_32 ?_
      refine j_istore dX8_search_33 rfl ?_
      obtain ⟨I7, m8, h0, hs⟩ := h
      have lp : ∀ (n : Nat) (v2 : Int) (F3 : jFl) (A4 : jAr), m8 v2 F3 A4 < n → jWg G N F3 A4 → jR v2 → I7 v2 F3 A4 → J G l d mX8_search 35 [vR (o : Int), vR a1, vI a2, vI a3, vI v2] [] N F3 A4 (cmV G N Q) := by
        intro nI7
        induction nI7 with
        | zero =>
          intro v2 F3 A4 hmu
          exact absurd hmu (Nat.not_lt_zero _)
        | succ nI7 ihI7 =>
          intro v2 F3 A4 hmuI7 hW5 rv2 hI
          have h := hs v2 F3 A4 hI
          refine j_iload dX8_search_35 rfl ?_
          refine r_aload_n dX8_search_37 rfl ?_
          refine r_gRF dX8_search_38 flX8_3_9 rfl ht rfl ?_
          obtain ⟨b9, hz10, h⟩ := h
          obtain ⟨t11, h⟩ := h
          refine r_gRN dX8_search_41 flX8_55_1 hz10 t11 rfl ?_
          obtain ⟨b12, hz13, h⟩ := h
          obtain ⟨t14, h⟩ := h
          refine r_gRF dX8_search_44 flX8_59_2 hz13 t14 rfl ?_
          obtain ⟨b15, hz16, h⟩ := h
          obtain ⟨t17, h⟩ := h
          obtain ⟨P18, hp19, h⟩ := h
          refine r_invV (ci := 20) (As := []) (rest := [vI v2]) dX8_search_47 lkX8_65 hz16 t17 rfl rfl (vJ2_size (d := 2) (Nat.le_of_ble_eq_true rfl) hW5 t17  hp19) rfl rfl (Nat.le_of_ble_eq_true rfl) (by omega) (jkpI fun z20 p23 r24 => ?_)
          have h := h z20 p23
          obtain ⟨h1, h2⟩ := h
          refine j_icmp_ge 151 dX8_search_50 rfl rv2 r24 (fun q25 => ?_) (fun q25 => ?_)
          · have h := h1 q25
            clear h1 h2
            exact j_vret dX8_search_151 rfl ⟨rfl, rfl, hW5, h⟩
          · have h := h2 q25
            clear h1 h2
            refine j_iload_n dX8_search_53 rfl ?_
            refine j_iload dX8_search_54 rfl ?_
            obtain ⟨c26, h⟩ := h
            refine j_ishr dX8_search_56 ra2 c26 ?_
            refine j_iconst dX8_search_57 ?_
            refine j_iand 1 (by decide) (by decide +kernel) dX8_search_58 ?_
            rw [show ((2 ^ 1 : Nat) : Int) = 2 from rfl]
            refine j_iconst dX8_search_59 ?_
            obtain ⟨h1, h2⟩ := h
            refine j_icmp_eq 145 dX8_search_60 rfl (jR_mod (x := a2 / 2 ^ v2.toNat) (m := 2) (by decide)) (by decide) (fun q27 => ?_) (fun q27 => ?_)
            · have h := h1 q27
              clear h1 h2
              obtain ⟨r28, h⟩ := h
              refine j_iinc dX8_search_145 rfl rfl ?_
              refine j_goto 35 dX8_search_148 rfl ?_
              exact J.wk ((((((jWk.nil).eq).eq).eq).eq).eq) (ihI7 _ _ _ (Nat.lt_of_lt_of_le h.2 (Nat.le_of_lt_succ hmuI7)) hW5 r28 h.1)
            · have h := h2 q27
              clear h1 h2
              refine r_aload_n dX8_search_63 rfl ?_
              refine r_gRF dX8_search_64 flX8_3_9 rfl ht rfl ?_
              refine r_gRN dX8_search_67 flX8_55_1 hz10 t11 rfl ?_
              refine r_gRF dX8_search_70 flX8_59_2 hz13 t14 rfl ?_
              refine j_iload dX8_search_73 rfl ?_
              obtain ⟨P29, hp30, h⟩ := h
              refine r_invV (ci := 20) (As := [vI v2]) (rest := []) dX8_search_75 lkX8_71 hz16 t17 rfl rfl (vJ2_get (d := 4) (Nat.le_of_ble_eq_true rfl) hW5 t17 rv2 hp30) rfl rfl (Nat.le_of_ble_eq_true rfl) (by omega) (jkpR fun z31 p34 r35 => ?_)
              have h := h z31 p34
              obtain ⟨j36, h⟩ := h
              refine r_chk dX8_search_78 q469 j36 ?_
              obtain ⟨b37, hz38, h⟩ := h
              obtain ⟨t39, h⟩ := h
              refine r_gRF dX8_search_81 flX8_75_17 hz38 t39 rfl ?_
              obtain ⟨b40, hz41, h⟩ := h
              obtain ⟨t42, h⟩ := h
              obtain ⟨P43, hp44, h⟩ := h
              refine r_invV (ci := 4) (As := []) (rest := []) dX8_search_84 lkX8_78 hz41 t42 rfl rfl (vX3_isOne (d := 2) (Nat.le_of_ble_eq_true rfl) hW5 t42  hp44) rfl rfl (Nat.le_of_ble_eq_true rfl) (by omega) (jkpB fun z45 p48 r49 => ?_)
              have h := h z45 p48
              obtain ⟨h1, h2⟩ := h
              refine j_if_ne 93 dX8_search_87 rfl (jR_b r49) (fun q50 => ?_) (fun q50 => ?_)
              · have h := h1 q50
                clear h1 h2
                refine r_aload_n dX8_search_93 rfl ?_
                refine r_gRF dX8_search_94 flX8_20_9 rfl ht rfl ?_
                refine r_aload_n dX8_search_97 rfl ?_
                refine r_gRF dX8_search_98 flX8_3_9 rfl ht rfl ?_
                refine r_gRN dX8_search_101 flX8_55_1 hz10 t11 rfl ?_
                refine r_gRF dX8_search_104 flX8_59_2 hz13 t14 rfl ?_
                refine j_iload dX8_search_107 rfl ?_
                obtain ⟨P51, hp52, h⟩ := h
                refine r_invV (ci := 20) (As := [vI v2]) (rest := [vR (jfn N 2702 o)]) dX8_search_109 lkX8_71 hz16 t17 rfl rfl (vJ2_get (d := 4) (Nat.le_of_ble_eq_true rfl) hW5 t17 rv2 hp52) rfl rfl (Nat.le_of_ble_eq_true rfl) (by omega) (jkpR fun z53 p56 r57 => ?_)
                have h := h z53 p56
                obtain ⟨j58, h⟩ := h
                refine r_chk dX8_search_112 q469 j58 ?_
                obtain ⟨b59, hz60, h⟩ := h
                obtain ⟨t61, h⟩ := h
                obtain ⟨P62, hp63, h⟩ := h
                refine r_invV (ci := 5) (As := [vR z53]) (rest := []) dX8_search_115 lkX8_84 hz60 t61 rfl rfl (vX4_comes (d := 2) (Nat.le_of_ble_eq_true rfl) hW5 t61  hp63) rfl rfl (Nat.le_of_ble_eq_true rfl) (by omega) (ckmV fun F65 A66 hW67 p69 => ?_)
                have h := h F65 A66 p69
                refine r_aload_n dX8_search_118 rfl ?_
                refine r_aload_n dX8_search_119 rfl ?_
                refine j_iload_n dX8_search_120 rfl ?_
                refine j_iconst dX8_search_121 ?_
                refine j_iload dX8_search_122 rfl ?_
                obtain ⟨c71, h⟩ := h
                refine j_ishl dX8_search_124 c71 ?_
                obtain ⟨c72, h⟩ := h
                refine j_ior dX8_search_125 c72.1 c72.2 ?_
                refine j_iload_n dX8_search_126 rfl ?_
                refine j_iconst dX8_search_127 ?_
                refine j_isub dX8_search_128 ?_
                obtain ⟨r73, h⟩ := h
                obtain ⟨r74, h⟩ := h
                obtain ⟨P75, hp76, h⟩ := h
                refine r_invV (ci := 9) (As := [vR a1, vI (jor a2 (1 * 2 ^ v2.toNat)), vI (a3 - 1)]) (rest := []) dX8_search_129 lkX8_88 rfl ht rfl rfl (ihn (d := 8 + n) (Nat.le_refl _) hW67 ht r73 r74 hp76) rfl rfl (Nat.le_of_ble_eq_true rfl) hd (ckmV fun F78 A79 hW80 p82 => ?_)
                have h := h F78 A79 p82
                refine r_aload_n dX8_search_132 rfl ?_
                refine r_gRF dX8_search_133 flX8_20_9 rfl ht rfl ?_
                refine j_dup dX8_search_136 (vR_cat _) ?_
                refine r_gIN dX8_search_137 flX8_38_5 hz60 t61 rfl ?_
                refine j_iconst dX8_search_140 ?_
                refine j_isub dX8_search_141 ?_
                obtain ⟨w84, h⟩ := h
                obtain ⟨r85, h⟩ := h
                refine c_pIN hW80 dX8_search_142 flX8_38_5 hz60 t61 w84 rfl r85 fun F87 eF87 hW86 => ?_
                have h := h F87 eF87
                obtain ⟨r88, h⟩ := h
                refine j_iinc dX8_search_145 rfl rfl ?_
                refine j_goto 35 dX8_search_148 rfl ?_
                exact J.wk ((((((jWk.nil).eq).eq).eq).eq).eq) (ihI7 _ _ _ (Nat.lt_of_lt_of_le h.2 (Nat.le_of_lt_succ hmuI7)) hW86 r88 h.1)
              · have h := h2 (Classical.not_not.mp q50)
                clear h1 h2
                refine j_goto 145 dX8_search_90 rfl ?_
                obtain ⟨r89, h⟩ := h
                refine j_iinc dX8_search_145 rfl rfl ?_
                refine j_goto 35 dX8_search_148 rfl ?_
                exact J.wk ((((((jWk.nil).eq).eq).eq).eq).eq) (ihI7 _ _ _ (Nat.lt_of_lt_of_le h.2 (Nat.le_of_lt_succ hmuI7)) hW5 r89 h.1)
      exact J.wk ((((((jWk.nil).eq).eq).eq).eq).eq) (lp _ _ _ _ (Nat.lt_succ_self _) hW (by decide) h0)
    · have h := h2 (Classical.not_not.mp q1)
      clear h1 h2
      refine r_aload_n dX8_search_4 rfl ?_
      refine r_aload_n dX8_search_5 rfl ?_
      obtain ⟨P90, hp91, h⟩ := h
      refine r_invV (ci := 9) (As := [vR a1]) (rest := []) dX8_search_6 lkX8_45 rfl ht rfl rfl (vX8_whole (d := 7) (Nat.le_of_ble_eq_true rfl) hW ht  hp91) rfl rfl (Nat.le_of_ble_eq_true rfl) (by omega) (ckmI fun z92 F93 A94 hW95 p97 r98 => ?_)
      have h := h z92 F93 A94 p97
      refine j_istore dX8_search_9 rfl ?_
      refine j_iload dX8_search_11 rfl ?_
      refine r_aload_n dX8_search_13 rfl ?_
      refine r_gI dX8_search_14 flX8_49_9 rfl ht rfl ?_
      obtain ⟨h1, h2⟩ := h
      refine j_icmp_gt 21 dX8_search_17 rfl r98 (hW95.fi rfl) (fun q99 => ?_) (fun q99 => ?_)
      · have h := h1 q99
        clear h1 h2
        refine r_aload_n dX8_search_21 rfl ?_
        refine j_iload dX8_search_22 rfl ?_
        obtain ⟨w100, h⟩ := h
        refine c_pI hW95 dX8_search_24 flX8_49_9 rfl ht w100 rfl r98 fun F102 eF102 hW101 => ?_
        have h := h F102 eF102
        refine r_aload_n dX8_search_27 rfl ?_
        obtain ⟨P103, hp104, h⟩ := h
        refine r_invV (ci := 9) (As := []) (rest := []) dX8_search_28 lkX8_52 rfl ht rfl rfl (vX8_isFirst (d := 2) (Nat.le_of_ble_eq_true rfl) hW101 ht  hp104) rfl rfl (Nat.le_of_ble_eq_true rfl) (by omega) (ckmV fun F106 A107 hW108 p110 => ?_)
        have h := h F106 A107 p110
        exact j_vret dX8_search_31 rfl ⟨rfl, rfl, hW108, h⟩
      · have h := h2 q99
        clear h1 h2
        exact j_vret dX8_search_20 rfl ⟨rfl, rfl, hW95, h⟩
/-- ChildSays.becomes(LChildSays$Law;LChildSays$Saying;LChildSays$Child;)V -/
def wqX0_becomes (S : Nat → Nat) (o : Nat) (a1 : Int) (a2 : Int) (a3 : Int) (N : jSh) (F : jFl) (A : jAr) (Q : jSh → jFl → jAr → Prop) : Prop :=
  ∃ b1 : Nat, a1 = (b1 : Int) ∧
  jtg N b1 = 17 ∧
  ∃ b4 : Nat, a2 = (b4 : Int) ∧
  jtg N b4 = 3 ∧
  ∃ b7 : Nat, jfn N 5102 b1 = (b7 : Int) ∧
  jtg N b7 = 4 ∧
  ∃ (P10 : Int → Prop), wqX3_isLike b7 (jfn N 902 b4) N F A P10 ∧
  ∀ z12, P10 z12 →
  ((z12 = 0) →
    ∃ (P18 : Int → jFl → jAr → Prop), wqX3_like b7 (jfn N 902 b4) N F A P18 ∧
    ∀ z20 F21 A22, P18 z20 F21 A22 →
    (((F21 330 o) = 0) →
      ∃ b28 : Nat, F21 311 o = (b28 : Int) ∧
      jtg N b28 = 2 ∧
      ∃ b31 : Nat, jfn N 632 b28 = (b31 : Int) ∧
      jtg N b31 = 20 ∧
      ∃ (P34 : Int → Prop), wqJ2_size b31 N F21 A22 P34 ∧
      ∀ z36, P34 z36 →
      ∃ K46 : jFl → jAr → Prop, (
        ∀ (F42 : jFl) (A43 : jAr), K46 F42 A43 →
        ∃ b49 : Nat, F42 311 o = (b49 : Int) ∧
        jtg N b49 = 2 ∧
        ∀ (b52 : Nat) (N53 : jSh) (F54 : jFl), b52 = jnx N → N53 = jnew N 19 0 4 1 → F54 = nwF N F42 →
        ∃ b60 : Nat, F54 311 o = (b60 : Int) ∧
        jtg N53 b60 = 2 ∧
        ∃ b64 : Nat, a3 = (b64 : Int) ∧
        jtg N53 b64 = 16 ∧
        ∃ (P68 : jSh → jFl → jAr → Prop), wqX18_init b52 (F54 612 b60) (jfn N53 3903 b1) (jfn N53 3903 b64) (F54 903 b4) N53 F54 A43 P68 ∧
        ∀ N73 F71 A72, P68 N73 F71 A72 →
        ∃ b78 : Nat, jfn N 632 b49 = (b78 : Int) ∧
        jtg N73 b78 = 20 ∧
        ∃ (P81 : Int → jSh → jFl → jAr → Prop), wqJ2_add S b78 (b52 : Int) N73 F71 A72 P81 ∧
        ∀ z83 N86 F84 A85, P81 z83 N86 F84 A85 →
        Q N86 F84 A85) ∧
      ((¬ z36 = 100) →
        K46 F21 A22) ∧
      ((z36 = 100) →
        ∃ (P91 : Int → jFl → jAr → Prop), wqJ2_remove b31 0 N F21 A22 P91 ∧
        ∀ z93 F94 A95, P91 z93 F94 A95 →
        K46 F94 A95)) ∧
    ((¬ ((F21 330 o) = 0)) →
      Q N F21 A22)) ∧
  ((¬ (z12 = 0)) →
    Q N F A)
theorem vX0_becomes {G : jG} {l : Launch} [jOff l] {d : Nat} {N : jSh} {F : jFl} {A : jAr} {o : Nat} {a1 a2 a3 : Int} {Q : jSh → jFl → jAr → Prop} (hd : 9 ≤ d) (hW : jWg G N F A) (ht : jtg N o = 1) (h : wqX0_becomes (gS G) o a1 a2 a3 N F A Q) : jCall G l d mX0_becomes [vR (o : Int), vR a1, vR a2, vR a3] N F A (cnV G N Q) := by
  unfold wqX0_becomes at h
  refine jCall.of (by decide) rfl (ls := [vR (o : Int), vR a1, vR a2, vR a3]) (by simp only [jent_R, jent_I, jent_L, jent_nil]; exact Nat.le_of_ble_eq_true rfl) (by simp only [jloc, jent_R, jent_I, jent_L, jent_nil]; rfl) ?_
  refine r_aload_n dX0_becomes_0 rfl ?_
  obtain ⟨b1, hz2, h⟩ := h
  obtain ⟨t3, h⟩ := h
  refine r_gRF dX0_becomes_1 flX0_243_17 hz2 t3 rfl ?_
  refine r_aload_n dX0_becomes_4 rfl ?_
  obtain ⟨b4, hz5, h⟩ := h
  obtain ⟨t6, h⟩ := h
  refine r_gRF dX0_becomes_5 flX0_369_3 hz5 t6 rfl ?_
  obtain ⟨b7, hz8, h⟩ := h
  obtain ⟨t9, h⟩ := h
  obtain ⟨P10, hp11, h⟩ := h
  refine r_invV (ci := 4) (As := [vR (jfn N 902 b4)]) (rest := []) dX0_becomes_8 lkX0_370 hz8 t9 rfl rfl (vX3_isLike (d := 3) (Nat.le_of_ble_eq_true rfl) hW t9  hp11) rfl rfl (Nat.le_of_ble_eq_true rfl) (Nat.le_trans (Nat.le_of_ble_eq_true rfl) hd) (jkpB fun z12 p15 r16 => ?_)
  have h := h z12 p15
  obtain ⟨h1, h2⟩ := h
  refine j_if_eq 15 dX0_becomes_11 rfl (jR_b r16) (fun q17 => ?_) (fun q17 => ?_)
  · have h := h1 q17
    clear h1 h2
    refine r_aload_n dX0_becomes_15 rfl ?_
    refine r_gRF dX0_becomes_16 flX0_243_17 hz2 t3 rfl ?_
    refine r_aload_n dX0_becomes_19 rfl ?_
    refine r_gRF dX0_becomes_20 flX0_369_3 hz5 t6 rfl ?_
    obtain ⟨P18, hp19, h⟩ := h
    refine r_invV (ci := 4) (As := [vR (jfn N 902 b4)]) (rest := []) dX0_becomes_23 lkX0_374 hz8 t9 rfl rfl (vX3_like (d := 3) (Nat.le_of_ble_eq_true rfl) hW t9  hp19) rfl rfl (Nat.le_of_ble_eq_true rfl) (Nat.le_trans (Nat.le_of_ble_eq_true rfl) hd) (ckmR fun z20 F21 A22 hW23 p25 r26 => ?_)
    have h := h z20 F21 A22 p25
    refine j_pop dX0_becomes_26 (vR_cat _) ?_
    refine r_aload_n dX0_becomes_27 rfl ?_
    refine r_gI dX0_becomes_28 flX0_378_1 rfl ht rfl ?_
    obtain ⟨h1, h2⟩ := h
    refine j_if_eq 35 dX0_becomes_31 rfl (hW23.fi rfl) (fun q27 => ?_) (fun q27 => ?_)
    · have h := h1 q27
      clear h1 h2
      refine r_aload_n dX0_becomes_35 rfl ?_
      refine r_gR dX0_becomes_36 flX0_20_1 rfl ht rfl ?_
      obtain ⟨b28, hz29, h⟩ := h
      obtain ⟨t30, h⟩ := h
      refine r_gRF dX0_becomes_39 flX0_224_2 hz29 t30 rfl ?_
      obtain ⟨b31, hz32, h⟩ := h
      obtain ⟨t33, h⟩ := h
      obtain ⟨P34, hp35, h⟩ := h
      refine r_invV (ci := 20) (As := []) (rest := []) dX0_becomes_42 lkX0_128 hz32 t33 rfl rfl (vJ2_size (d := 2) (Nat.le_of_ble_eq_true rfl) hW23 t33  hp35) rfl rfl (Nat.le_of_ble_eq_true rfl) (Nat.le_trans (Nat.le_of_ble_eq_true rfl) hd) (jkpI fun z36 p39 r40 => ?_)
      have h := h z36 p39
      refine j_bipush dX0_becomes_45 ?_
      obtain ⟨K46, hK48, h⟩ := h
      have jn47 : ∀ (F42 : jFl) (A43 : jAr), jWg G N F42 A43 → K46 F42 A43 → J G l d mX0_becomes 62 [vR (o : Int), vR a1, vR a2, vR a3] [] N F42 A43 (cnV G N Q) := by
        intro F42 A43 hW44  h
        have h := hK48 F42 A43 h
        refine r_aload_n dX0_becomes_62 rfl ?_
        refine r_gR dX0_becomes_63 flX0_20_1 rfl ht rfl ?_
        obtain ⟨b49, hz50, h⟩ := h
        obtain ⟨t51, h⟩ := h
        refine r_gRF dX0_becomes_66 flX0_224_2 hz50 t51 rfl ?_
        refine c_new (ci := 19) hW44 dX0_becomes_69 rfl q1519 rfl rfl fun b52 N53 F54 eb52 eN53 eF54 t55 w56 hT57 hW58 => ?_
        have h := h b52 N53 F54 eb52 eN53 eF54
        refine j_dup dX0_becomes_72 (vR_cat _) ?_
        refine r_aload_n dX0_becomes_73 rfl ?_
        have t59 : jtg N53 o = 1 := (hT57.tg hW44 ht)
        refine r_gR dX0_becomes_74 flX0_20_1 rfl t59 rfl ?_
        obtain ⟨b60, hz61, h⟩ := h
        obtain ⟨t62, h⟩ := h
        refine r_gI dX0_becomes_77 flX0_221_2 hz61 t62 rfl ?_
        refine r_aload_n dX0_becomes_80 rfl ?_
        have t63 : jtg N53 b1 = 17 := (hT57.tg hW44 t3)
        refine r_gIF dX0_becomes_81 flX0_327_17 hz2 t63 rfl ?_
        refine r_aload_n dX0_becomes_84 rfl ?_
        obtain ⟨b64, hz65, h⟩ := h
        obtain ⟨t66, h⟩ := h
        refine r_gIF dX0_becomes_85 flX0_383_16 hz65 t66 rfl ?_
        refine r_aload_n dX0_becomes_88 rfl ?_
        have t67 : jtg N53 b4 = 3 := (hT57.tg hW44 t6)
        refine r_gI dX0_becomes_89 flX0_343_3 hz5 t67 rfl ?_
        obtain ⟨P68, hp69, h⟩ := h
        refine r_invI (As := [vI (F54 612 b60), vI (jfn N53 3903 b1), vI (jfn N53 3903 b64), vI (F54 903 b4)]) (rest := [vR (b52 : Int), vR (jfn N 632 b49)]) dX0_becomes_92 lkX0_384 rfl (vX18_init (d := 2) (Nat.le_of_ble_eq_true rfl) hW58 t55 (hW58.fi rfl) (hW58.ni rfl (by decide)) (hW58.ni rfl (by decide)) (hW58.fi rfl) hp69) rfl rfl (Nat.le_of_ble_eq_true rfl) (Nat.le_trans (Nat.le_of_ble_eq_true rfl) hd) (cknV fun N73 F71 A72 hW74 hT75 p76 => ?_)
        have h := h N73 F71 A72 p76
        obtain ⟨b78, hz79, h⟩ := h
        obtain ⟨t80, h⟩ := h
        obtain ⟨P81, hp82, h⟩ := h
        refine r_invV (ci := 20) (As := [vR (b52 : Int)]) (rest := []) dX0_becomes_95 lkX0_187 hz79 t80 rfl rfl (vJ2_add (d := 8) (Nat.le_of_ble_eq_true rfl) hW74 t80  hp82) rfl rfl (Nat.le_of_ble_eq_true rfl) (Nat.le_trans (Nat.le_of_ble_eq_true rfl) hd) (cknB fun z83 N86 F84 A85 hW87 hT88 p89 r90 => ?_)
        have h := h z83 N86 F84 A85 p89
        refine j_pop dX0_becomes_98 rfl ?_
        exact j_vret dX0_becomes_99 rfl ⟨rfl, hW87, ((hT57.trans hT75).trans hT88), h⟩
      obtain ⟨h1, h2⟩ := h
      refine j_icmp_ne 62 dX0_becomes_47 rfl r40 (by decide) (fun q41 => ?_) (fun q41 => ?_)
      · have h := h1 q41
        clear h1 h2
        exact J.wk (((((jWk.nil).eq).eq).eq).eq) (jn47 _ _ hW23 h)
      · have h := h2 (Classical.not_not.mp q41)
        clear h1 h2
        refine r_aload_n dX0_becomes_50 rfl ?_
        refine r_gR dX0_becomes_51 flX0_20_1 rfl ht rfl ?_
        refine r_gRF dX0_becomes_54 flX0_224_2 hz29 t30 rfl ?_
        refine j_iconst dX0_becomes_57 ?_
        obtain ⟨P91, hp92, h⟩ := h
        refine r_invV (ci := 20) (As := [vI 0]) (rest := []) dX0_becomes_58 lkX0_181 hz32 t33 rfl rfl (vJ2_remove (d := 4) (Nat.le_of_ble_eq_true rfl) hW23 t33 (by decide) hp92) rfl rfl (Nat.le_of_ble_eq_true rfl) (Nat.le_trans (Nat.le_of_ble_eq_true rfl) hd) (ckmR fun z93 F94 A95 hW96 p98 r99 => ?_)
        have h := h z93 F94 A95 p98
        refine j_pop dX0_becomes_61 (vR_cat _) ?_
        exact J.wk (((((jWk.nil).eq).eq).eq).eq) (jn47 _ _ hW96 h)
    · have h := h2 q27
      clear h1 h2
      exact j_vret dX0_becomes_34 rfl ⟨rfl, hW23, (jTx.refl N), h⟩
  · have h := h2 q17
    clear h1 h2
    exact j_vret dX0_becomes_14 rfl ⟨rfl, hW, (jTx.refl N), h⟩
