set_option maxRecDepth 100000
set_option linter.unusedVariables false
/-! walks of the component and of JDK methods: printed by gen/walkc.py -/
/-- ChildSays.image()I -/
def wqX0_image (S : Nat → Nat) (o : Nat) (N : jSh) (F : jFl) (A : jAr) (Q : Int → jSh → jFl → jAr → Prop) : Prop :=
  ∃ b1 : Nat, jfn N 350 o = (b1 : Int) ∧
  jtg N b1 = 21 ∧
  ∃ (P4 : jSh → jFl → jAr → Prop), wqJ4_setLength S b1 0 N F A P4 ∧
  ∀ N9 F7 A8, P4 N9 F7 A8 →
  ∃ b15 : Nat, F7 311 o = (b15 : Int) ∧
  jtg N9 b15 = 2 ∧
  (((0 : Int) ≤ F7 612 b15 ∧ (F7 612 b15 : Int) ≤ 2147483647) ∧ ((0 : Int) < 256 ∧ (256 : Int) ≤ 2147483647)) ∧
  jR ((F7 612 b15) / 256) ∧
  ∃ (P20 : jSh → jFl → jAr → Prop), wqX0_writes S o ((F7 612 b15) / 256) N9 F7 A8 P20 ∧
  ∀ N25 F23 A24, P20 N25 F23 A24 →
  ∃ b31 : Nat, F23 311 o = (b31 : Int) ∧
  jtg N25 b31 = 2 ∧
  (((0 : Int) ≤ F23 612 b31 ∧ (F23 612 b31 : Int) ≤ 2147483647) ∧ ((0 : Int) < 256 ∧ (256 : Int) ≤ 2147483647)) ∧
  jR ((F23 612 b31) % 256) ∧
  ∃ (P36 : jSh → jFl → jAr → Prop), wqX0_writes S o ((F23 612 b31) % 256) N25 F23 A24 P36 ∧
  ∀ N41 F39 A40, P36 N41 F39 A40 →
  ∃ b47 : Nat, F39 311 o = (b47 : Int) ∧
  jtg N41 b47 = 2 ∧
  ∃ b50 : Nat, jfn N41 626 b47 = (b50 : Int) ∧
  jtg N41 b50 = 20 ∧
  ∃ (P53 : Int → Prop), wqJ2_size b50 N41 F39 A40 P53 ∧
  ∀ z55, P53 z55 →
  ∃ (P60 : jSh → jFl → jAr → Prop), wqX0_writes S o z55 N41 F39 A40 P60 ∧
  ∀ N65 F63 A64, P60 N65 F63 A64 →
  ∃ (I76 : Int → jSh → jFl → jAr → Prop) (m77 : Int → jSh → jFl → jAr → Nat), I76 0 N65 F63 A64 ∧ ∀ (v70 : Int) (N71 : jSh) (F72 : jFl) (A73 : jAr), I76 v70 N71 F72 A73 →
    ∃ b79 : Nat, F72 311 o = (b79 : Int) ∧
    jtg N71 b79 = 2 ∧
    ∃ b82 : Nat, jfn N71 629 b79 = (b82 : Int) ∧
    jtg N71 b82 = 20 ∧
    ∃ (P85 : Int → Prop), wqJ2_size b82 N71 F72 A73 P85 ∧
    ∀ z87, P85 z87 →
    ((z87 ≤ v70) →
      ∃ (I99 : Int → jSh → jFl → jAr → Prop) (m100 : Int → jSh → jFl → jAr → Nat), I99 0 N71 F72 A73 ∧ ∀ (v93 : Int) (N94 : jSh) (F95 : jFl) (A96 : jAr), I99 v93 N94 F95 A96 →
        ∃ b102 : Nat, F95 311 o = (b102 : Int) ∧
        jtg N94 b102 = 2 ∧
        ∃ b105 : Nat, jfn N94 626 b102 = (b105 : Int) ∧
        jtg N94 b105 = 20 ∧
        ∃ (P108 : Int → Prop), wqJ2_size b105 N94 F95 A96 P108 ∧
        ∀ z110, P108 z110 →
        ((z110 ≤ v93) →
          ∃ b116 : Nat, jfn N94 350 o = (b116 : Int) ∧
          jtg N94 b116 = 21 ∧
          ∃ (P119 : Int → Prop), wqJ4_length b116 N94 F95 A96 P119 ∧
          ∀ z121, P119 z121 →
          ∃ (P126 : Int → Prop), wqX0_checked S (jfn N94 350 o) z121 N94 F95 A96 P126 ∧
          ∀ z128, P126 z128 →
          ∃ (P133 : jSh → jFl → jAr → Prop), wqX0_writes S o z128 N94 F95 A96 P133 ∧
          ∀ N138 F136 A137, P133 N138 F136 A137 →
          ∃ b144 : Nat, jfn N138 350 o = (b144 : Int) ∧
          jtg N138 b144 = 21 ∧
          ∃ (P147 : Int → Prop), wqJ4_length b144 N138 F136 A137 P147 ∧
          ∀ z149, P147 z149 →
          Q z149 N138 F136 A137) ∧
        ((¬ (z110 ≤ v93)) →
          ∃ (P154 : Int → Prop), wqJ2_get b105 v93 N94 F95 A96 P154 ∧
          ∀ z156, P154 z156 →
          jcst N94 "ChildSays$Law" z156 ∧
          ∃ b162 : Nat, z156 = (b162 : Int) ∧
          jtg N94 b162 = 17 ∧
          ∀ z166 : Int, z166 = (if (F95 5103 b162) = 0 then (0 : Int) else 1) →
          ∃ (P168 : jSh → jFl → jAr → Prop), wqX0_writes S o z166 N94 F95 A96 P168 ∧
          ∀ N173 F171 A172, P168 N173 F171 A172 →
          ∃ b179 : Nat, jfn N173 5102 b162 = (b179 : Int) ∧
          jtg N173 b179 = 4 ∧
          ∃ (P183 : jSh → jFl → jAr → Prop), wqX0_writes S o (F171 1203 b179) N173 F171 A172 P183 ∧
          ∀ N188 F186 A187, P183 N188 F186 A187 →
          ∃ b194 : Nat, jfn N188 5102 b162 = (b194 : Int) ∧
          jtg N188 b194 = 4 ∧
          ∃ (P198 : jSh → jFl → jAr → Prop), wqX0_writes S o (F186 1206 b194) N188 F186 A187 P198 ∧
          ∀ N203 F201 A202, P198 N203 F201 A202 →
          ∃ (I214 : Int → jSh → jFl → jAr → Prop) (m215 : Int → jSh → jFl → jAr → Nat), I214 0 N203 F201 A202 ∧ ∀ (v208 : Int) (N209 : jSh) (F210 : jFl) (A211 : jAr), I214 v208 N209 F210 A211 →
            ∃ b217 : Nat, jfn N209 5102 b162 = (b217 : Int) ∧
            jtg N209 b217 = 4 ∧
            ∃ (P220 : Int → Prop), wqX3_size b217 N209 F210 A211 P220 ∧
            ∀ z222, P220 z222 →
            ((z222 ≤ v208) →
              jR (v93 + 1) ∧
              I99 (v93 + 1) N209 F210 A211 ∧ m100 (v93 + 1) N209 F210 A211 < m100 v93 N94 F95 A96) ∧
            ((¬ (z222 ≤ v208)) →
              ∃ b229 : Nat, jfn N209 1202 b217 = (b229 : Int) ∧
              jtg N209 b229 = 107 ∧
              ((0 : Int) ≤ v208 ∧ (v208 : Int) < (jln N209 b229 : Int)) ∧
              ∃ b233 : Nat, A211 b229 v208 = (b233 : Int) ∧
              jtg N209 b233 = 14 ∧
              ∃ (P237 : jSh → jFl → jAr → Prop), wqX0_writes S o (jfn N209 3903 b233) N209 F210 A211 P237 ∧
              ∀ N242 F240 A241, P237 N242 F240 A241 →
              jR (v208 + 1) ∧
              I214 (v208 + 1) N242 F240 A241 ∧ m215 (v208 + 1) N242 F240 A241 < m215 v208 N209 F210 A211))) ∧
    ((¬ (z87 ≤ v70)) →
      ∃ (P248 : Int → Prop), wqJ2_get b82 v70 N71 F72 A73 P248 ∧
      ∀ z250, P248 z250 →
      jcst N71 "ChildSays$Law" z250 ∧
      ∃ b256 : Nat, z250 = (b256 : Int) ∧
      jtg N71 b256 = 17 ∧
      ∃ (P259 : jSh → jFl → jAr → Prop), wqX0_writes S o (jfn N71 3903 b256) N71 F72 A73 P259 ∧
      ∀ N264 F262 A263, P259 N264 F262 A263 →
      jR (v70 + 1) ∧
      I76 (v70 + 1) N264 F262 A263 ∧ m77 (v70 + 1) N264 F262 A263 < m77 v70 N71 F72 A73)
theorem vX0_image {G : jG} {l : Launch} [jOff l] {d : Nat} {N : jSh} {F : jFl} {A : jAr} {o : Nat} {Q : Int → jSh → jFl → jAr → Prop} (hd : 9 ≤ d) (hW : jWg G N F A) (ht : jtg N o = 1) (h : wqX0_image (gS G) o N F A Q) : jCall G l d mX0_image [vR (o : Int)] N F A (cnI G N Q) := by
  unfold wqX0_image at h
  refine jCall.of (by decide) rfl (ls := [vR (o : Int), jD, jD, jD]) (by simp only [jent_R, jent_I, jent_L, jent_nil]; exact Nat.le_of_ble_eq_true rfl) (by simp only [jloc, jent_R, jent_I, jent_L, jent_nil]; rfl) ?_
  refine r_aload_n dX0_image_0 rfl ?_
  refine r_gRF dX0_image_1 flX0_93_1 rfl ht rfl ?_
  refine j_iconst dX0_image_4 ?_
  obtain ⟨b1, hz2, h⟩ := h
  obtain ⟨t3, h⟩ := h
  obtain ⟨P4, hp5, h⟩ := h
  refine r_invV (ci := 21) (As := [vI 0]) (rest := []) dX0_image_5 lkX0_524 hz2 t3 rfl rfl (vJ4_setLength (d := 7) (Nat.le_of_ble_eq_true rfl) hW t3 (by decide) hp5) rfl rfl (Nat.le_of_ble_eq_true rfl) (Nat.le_trans (Nat.le_of_ble_eq_true rfl) hd) (cknV fun N9 F7 A8 hW10 hT11 p12 => ?_)
  have h := h N9 F7 A8 p12
  refine r_aload_n dX0_image_8 rfl ?_
  refine r_aload_n dX0_image_9 rfl ?_
  have t14 : jtg N9 o = 1 := (hT11.tg hW ht)
  refine r_gR dX0_image_10 flX0_20_1 rfl t14 rfl ?_
  obtain ⟨b15, hz16, h⟩ := h
  obtain ⟨t17, h⟩ := h
  refine r_gI dX0_image_13 flX0_221_2 hz16 t17 rfl ?_
  refine j_sipush dX0_image_16 ?_
  obtain ⟨c18, h⟩ := h
  refine j_idiv dX0_image_19 c18.1 c18.2 ?_
  obtain ⟨r19, h⟩ := h
  obtain ⟨P20, hp21, h⟩ := h
  refine r_invV (ci := 1) (As := [vI ((F7 612 b15) / 256)]) (rest := []) dX0_image_20 lkX0_527 rfl t14 rfl rfl (vX0_writes (d := 8) (Nat.le_of_ble_eq_true rfl) hW10 t14 r19 hp21) rfl rfl (Nat.le_of_ble_eq_true rfl) (Nat.le_trans (Nat.le_of_ble_eq_true rfl) hd) (cknV fun N25 F23 A24 hW26 hT27 p28 => ?_)
  have h := h N25 F23 A24 p28
  refine r_aload_n dX0_image_23 rfl ?_
  refine r_aload_n dX0_image_24 rfl ?_
  have t30 : jtg N25 o = 1 := (hT27.tg hW10 t14)
  refine r_gR dX0_image_25 flX0_20_1 rfl t30 rfl ?_
  obtain ⟨b31, hz32, h⟩ := h
  obtain ⟨t33, h⟩ := h
  refine r_gI dX0_image_28 flX0_221_2 hz32 t33 rfl ?_
  refine j_sipush dX0_image_31 ?_
  obtain ⟨c34, h⟩ := h
  refine j_irem dX0_image_34 c34.1 c34.2 ?_
  obtain ⟨r35, h⟩ := h
  obtain ⟨P36, hp37, h⟩ := h
  refine r_invV (ci := 1) (As := [vI ((F23 612 b31) % 256)]) (rest := []) dX0_image_35 lkX0_527 rfl t30 rfl rfl (vX0_writes (d := 8) (Nat.le_of_ble_eq_true rfl) hW26 t30 r35 hp37) rfl rfl (Nat.le_of_ble_eq_true rfl) (Nat.le_trans (Nat.le_of_ble_eq_true rfl) hd) (cknV fun N41 F39 A40 hW42 hT43 p44 => ?_)
  have h := h N41 F39 A40 p44
  refine r_aload_n dX0_image_38 rfl ?_
  refine r_aload_n dX0_image_39 rfl ?_
  have t46 : jtg N41 o = 1 := (hT43.tg hW26 t30)
  refine r_gR dX0_image_40 flX0_20_1 rfl t46 rfl ?_
  obtain ⟨b47, hz48, h⟩ := h
  obtain ⟨t49, h⟩ := h
  refine r_gRF dX0_image_43 flX0_206_2 hz48 t49 rfl ?_
  obtain ⟨b50, hz51, h⟩ := h
  obtain ⟨t52, h⟩ := h
  obtain ⟨P53, hp54, h⟩ := h
  refine r_invV (ci := 20) (As := []) (rest := [vR (o : Int)]) dX0_image_46 lkX0_128 hz51 t52 rfl rfl (vJ2_size (d := 2) (Nat.le_of_ble_eq_true rfl) hW42 t52  hp54) rfl rfl (Nat.le_of_ble_eq_true rfl) (Nat.le_trans (Nat.le_of_ble_eq_true rfl) hd) (jkpI fun z55 p58 r59 => ?_)
  have h := h z55 p58
  obtain ⟨P60, hp61, h⟩ := h
  refine r_invV (ci := 1) (As := [vI z55]) (rest := []) dX0_image_49 lkX0_527 rfl t46 rfl rfl (vX0_writes (d := 8) (Nat.le_of_ble_eq_true rfl) hW42 t46 r59 hp61) rfl rfl (Nat.le_of_ble_eq_true rfl) (Nat.le_trans (Nat.le_of_ble_eq_true rfl) hd) (cknV fun N65 F63 A64 hW66 hT67 p68 => ?_)
  have h := h N65 F63 A64 p68
  refine j_iconst dX0_image_52 ?_
  refine j_istore_n dX0_image_53 (jokR rfl (Nat.le_of_ble_eq_true rfl)) ?_
  obtain ⟨I76, m77, h0, hs⟩ := h
  have lp : ∀ (n : Nat) (v70 : Int) (N71 : jSh) (F72 : jFl) (A73 : jAr), m77 v70 N71 F72 A73 < n → jWg G N71 F72 A73 → jTx N65 N71 → jR v70 → I76 v70 N71 F72 A73 → J G l d mX0_image 54 [vR (o : Int), vI v70, jD, jD] [] N71 F72 A73 (cnI G N Q) := by
    intro nI76
    induction nI76 with
    | zero =>
      intro v70 N71 F72 A73 hmu
      exact absurd hmu (Nat.not_lt_zero _)
    | succ nI76 ihI76 =>
      intro v70 N71 F72 A73 hmuI76 hW74 hT75 rv70 hI
      have h := hs v70 N71 F72 A73 hI
      refine j_iload_n dX0_image_54 rfl ?_
      refine r_aload_n dX0_image_55 rfl ?_
      have t78 : jtg N71 o = 1 := (hT75.tg hW66 (hT67.tg hW42 t46))
      refine r_gR dX0_image_56 flX0_20_1 rfl t78 rfl ?_
      obtain ⟨b79, hz80, h⟩ := h
      obtain ⟨t81, h⟩ := h
      refine r_gRF dX0_image_59 flX0_305_2 hz80 t81 rfl ?_
      obtain ⟨b82, hz83, h⟩ := h
      obtain ⟨t84, h⟩ := h
      obtain ⟨P85, hp86, h⟩ := h
      refine r_invV (ci := 20) (As := []) (rest := [vI v70]) dX0_image_62 lkX0_128 hz83 t84 rfl rfl (vJ2_size (d := 2) (Nat.le_of_ble_eq_true rfl) hW74 t84  hp86) rfl rfl (Nat.le_of_ble_eq_true rfl) (Nat.le_trans (Nat.le_of_ble_eq_true rfl) hd) (jkpI fun z87 p90 r91 => ?_)
      have h := h z87 p90
      obtain ⟨h1, h2⟩ := h
      refine j_icmp_ge 95 dX0_image_65 rfl rv70 r91 (fun q92 => ?_) (fun q92 => ?_)
      · have h := h1 q92
        clear h1 h2
        refine j_iconst dX0_image_95 ?_
        refine j_istore_n dX0_image_96 (jokR rfl (Nat.le_of_ble_eq_true rfl)) ?_
        obtain ⟨I99, m100, h0, hs⟩ := h
        have lp : ∀ (n : Nat) (v93 : Int) (N94 : jSh) (F95 : jFl) (A96 : jAr), m100 v93 N94 F95 A96 < n → jWg G N94 F95 A96 → jTx N71 N94 → jR v93 → I99 v93 N94 F95 A96 → J G l d mX0_image 97 [vR (o : Int), vI v93, jD, jD] [] N94 F95 A96 (cnI G N Q) := by
          intro nI99
          induction nI99 with
          | zero =>
            intro v93 N94 F95 A96 hmu
            exact absurd hmu (Nat.not_lt_zero _)
          | succ nI99 ihI99 =>
            intro v93 N94 F95 A96 hmuI99 hW97 hT98 rv93 hI
            have h := hs v93 N94 F95 A96 hI
            refine j_iload_n dX0_image_97 rfl ?_
            refine r_aload_n dX0_image_98 rfl ?_
            have t101 : jtg N94 o = 1 := (hT98.tg hW74 t78)
            refine r_gR dX0_image_99 flX0_20_1 rfl t101 rfl ?_
            obtain ⟨b102, hz103, h⟩ := h
            obtain ⟨t104, h⟩ := h
            refine r_gRF dX0_image_102 flX0_206_2 hz103 t104 rfl ?_
            obtain ⟨b105, hz106, h⟩ := h
            obtain ⟨t107, h⟩ := h
            obtain ⟨P108, hp109, h⟩ := h
            refine r_invV (ci := 20) (As := []) (rest := [vI v93]) dX0_image_105 lkX0_128 hz106 t107 rfl rfl (vJ2_size (d := 2) (Nat.le_of_ble_eq_true rfl) hW97 t107  hp109) rfl rfl (Nat.le_of_ble_eq_true rfl) (Nat.le_trans (Nat.le_of_ble_eq_true rfl) hd) (jkpI fun z110 p113 r114 => ?_)
            have h := h z110 p113
            obtain ⟨h1, h2⟩ := h
            refine j_icmp_ge 205 dX0_image_108 rfl rv93 r114 (fun q115 => ?_) (fun q115 => ?_)
            · have h := h1 q115
              clear h1 h2
              refine r_aload_n dX0_image_205 rfl ?_
              refine r_aload_n dX0_image_206 rfl ?_
              refine r_gRF dX0_image_207 flX0_93_1 rfl t101 rfl ?_
              refine r_aload_n dX0_image_210 rfl ?_
              refine r_gRF dX0_image_211 flX0_93_1 rfl t101 rfl ?_
              obtain ⟨b116, hz117, h⟩ := h
              obtain ⟨t118, h⟩ := h
              obtain ⟨P119, hp120, h⟩ := h
              refine r_invV (ci := 21) (As := []) (rest := [vR (jfn N94 350 o), vR (o : Int)]) dX0_image_214 lkX0_530 hz117 t118 rfl rfl (vJ4_length (d := 3) (Nat.le_of_ble_eq_true rfl) hW97 t118  hp120) rfl rfl (Nat.le_of_ble_eq_true rfl) (Nat.le_trans (Nat.le_of_ble_eq_true rfl) hd) (jkpI fun z121 p124 r125 => ?_)
              have h := h z121 p124
              obtain ⟨P126, hp127, h⟩ := h
              refine r_invS (As := [vR (jfn N94 350 o), vI z121]) (rest := [vR (o : Int)]) dX0_image_217 lkX0_531 (vX0_checked (d := 7) (Nat.le_of_ble_eq_true rfl) hW97 r125 hp127) rfl rfl (Nat.le_of_ble_eq_true rfl) (Nat.le_trans (Nat.le_of_ble_eq_true rfl) hd) (jkpI fun z128 p131 r132 => ?_)
              have h := h z128 p131
              obtain ⟨P133, hp134, h⟩ := h
              refine r_invV (ci := 1) (As := [vI z128]) (rest := []) dX0_image_220 lkX0_527 rfl t101 rfl rfl (vX0_writes (d := 8) (Nat.le_of_ble_eq_true rfl) hW97 t101 r132 hp134) rfl rfl (Nat.le_of_ble_eq_true rfl) (Nat.le_trans (Nat.le_of_ble_eq_true rfl) hd) (cknV fun N138 F136 A137 hW139 hT140 p141 => ?_)
              have h := h N138 F136 A137 p141
              refine r_aload_n dX0_image_223 rfl ?_
              have t143 : jtg N138 o = 1 := (hT140.tg hW97 t101)
              refine r_gRF dX0_image_224 flX0_93_1 rfl t143 rfl ?_
              obtain ⟨b144, hz145, h⟩ := h
              obtain ⟨t146, h⟩ := h
              obtain ⟨P147, hp148, h⟩ := h
              refine r_invV (ci := 21) (As := []) (rest := []) dX0_image_227 lkX0_530 hz145 t146 rfl rfl (vJ4_length (d := 3) (Nat.le_of_ble_eq_true rfl) hW139 t146  hp148) rfl rfl (Nat.le_of_ble_eq_true rfl) (Nat.le_trans (Nat.le_of_ble_eq_true rfl) hd) (jkpI fun z149 p152 r153 => ?_)
              have h := h z149 p152
              exact j_iret dX0_image_230 rfl ⟨_, rfl, hW139, ((((((hT11.trans hT27).trans hT43).trans hT67).trans hT75).trans hT98).trans hT140), h, r153⟩
            · have h := h2 q115
              clear h1 h2
              refine r_aload_n dX0_image_111 rfl ?_
              refine r_gR dX0_image_112 flX0_20_1 rfl t101 rfl ?_
              refine r_gRF dX0_image_115 flX0_206_2 hz103 t104 rfl ?_
              refine j_iload_n dX0_image_118 rfl ?_
              obtain ⟨P154, hp155, h⟩ := h
              refine r_invV (ci := 20) (As := [vI v93]) (rest := []) dX0_image_119 lkX0_132 hz106 t107 rfl rfl (vJ2_get (d := 4) (Nat.le_of_ble_eq_true rfl) hW97 t107 rv93 hp155) rfl rfl (Nat.le_of_ble_eq_true rfl) (Nat.le_trans (Nat.le_of_ble_eq_true rfl) hd) (jkpR fun z156 p159 r160 => ?_)
              have h := h z156 p159
              obtain ⟨j161, h⟩ := h
              refine r_chk dX0_image_122 q1295 j161 ?_
              refine r_astore_n dX0_image_125 rfl ?_
              refine r_aload_n dX0_image_126 rfl ?_
              refine r_aload_n dX0_image_127 rfl ?_
              obtain ⟨b162, hz163, h⟩ := h
              obtain ⟨t164, h⟩ := h
              refine r_gI dX0_image_128 flX0_302_17 hz163 t164 rfl ?_
              have jn167 : ∀ z166 : Int, z166 = (if (F95 5103 b162) = 0 then (0 : Int) else 1) → J G l d mX0_image 139 [vR (o : Int), vI v93, vR z156, jD] [vI z166, vR (o : Int)] N94 F95 A96 (cnI G N Q) := by
                intro z166 ez166
                have h := h z166 ez166
                obtain ⟨P168, hp169, h⟩ := h
                refine r_invV (ci := 1) (As := [vI z166]) (rest := []) dX0_image_139 lkX0_527 rfl t101 rfl rfl (vX0_writes (d := 8) (Nat.le_of_ble_eq_true rfl) hW97 t101 (ez166 ▸ jR_ite (by decide) (by decide)) hp169) rfl rfl (Nat.le_of_ble_eq_true rfl) (Nat.le_trans (Nat.le_of_ble_eq_true rfl) hd) (cknV fun N173 F171 A172 hW174 hT175 p176 => ?_)
                have h := h N173 F171 A172 p176
                refine r_aload_n dX0_image_142 rfl ?_
                refine r_aload_n dX0_image_143 rfl ?_
                have t178 : jtg N173 b162 = 17 := (hT175.tg hW97 t164)
                refine r_gRF dX0_image_144 flX0_243_17 hz163 t178 rfl ?_
                obtain ⟨b179, hz180, h⟩ := h
                obtain ⟨t181, h⟩ := h
                refine r_gI dX0_image_147 flX0_296_4 hz180 t181 rfl ?_
                have t182 : jtg N173 o = 1 := (hT175.tg hW97 t101)
                obtain ⟨P183, hp184, h⟩ := h
                refine r_invV (ci := 1) (As := [vI (F171 1203 b179)]) (rest := []) dX0_image_150 lkX0_527 rfl t182 rfl rfl (vX0_writes (d := 8) (Nat.le_of_ble_eq_true rfl) hW174 t182 (hW174.fi rfl) hp184) rfl rfl (Nat.le_of_ble_eq_true rfl) (Nat.le_trans (Nat.le_of_ble_eq_true rfl) hd) (cknV fun N188 F186 A187 hW189 hT190 p191 => ?_)
                have h := h N188 F186 A187 p191
                refine r_aload_n dX0_image_153 rfl ?_
                refine r_aload_n dX0_image_154 rfl ?_
                have t193 : jtg N188 b162 = 17 := (hT190.tg hW174 t178)
                refine r_gRF dX0_image_155 flX0_243_17 hz163 t193 rfl ?_
                obtain ⟨b194, hz195, h⟩ := h
                obtain ⟨t196, h⟩ := h
                refine r_gI dX0_image_158 flX0_299_4 hz195 t196 rfl ?_
                have t197 : jtg N188 o = 1 := (hT190.tg hW174 t182)
                obtain ⟨P198, hp199, h⟩ := h
                refine r_invV (ci := 1) (As := [vI (F186 1206 b194)]) (rest := []) dX0_image_161 lkX0_527 rfl t197 rfl rfl (vX0_writes (d := 8) (Nat.le_of_ble_eq_true rfl) hW189 t197 (hW189.fi rfl) hp199) rfl rfl (Nat.le_of_ble_eq_true rfl) (Nat.le_trans (Nat.le_of_ble_eq_true rfl) hd) (cknV fun N203 F201 A202 hW204 hT205 p206 => ?_)
                have h := h N203 F201 A202 p206
                refine j_iconst dX0_image_164 ?_
                refine j_istore_n dX0_image_165 (jokR rfl (Nat.le_of_ble_eq_true rfl)) ?_
                obtain ⟨I214, m215, h0, hs⟩ := h
                have lp : ∀ (n : Nat) (v208 : Int) (N209 : jSh) (F210 : jFl) (A211 : jAr), m215 v208 N209 F210 A211 < n → jWg G N209 F210 A211 → jTx N203 N209 → jR v208 → I214 v208 N209 F210 A211 → J G l d mX0_image 166 [vR (o : Int), vI v93, vR z156, vI v208] [] N209 F210 A211 (cnI G N Q) := by
                  intro nI214
                  induction nI214 with
                  | zero =>
                    intro v208 N209 F210 A211 hmu
                    exact absurd hmu (Nat.not_lt_zero _)
                  | succ nI214 ihI214 =>
                    intro v208 N209 F210 A211 hmuI214 hW212 hT213 rv208 hI
                    have h := hs v208 N209 F210 A211 hI
                    refine j_iload_n dX0_image_166 rfl ?_
                    refine r_aload_n dX0_image_167 rfl ?_
                    have t216 : jtg N209 b162 = 17 := (hT213.tg hW204 (hT205.tg hW189 t193))
                    refine r_gRF dX0_image_168 flX0_243_17 hz163 t216 rfl ?_
                    obtain ⟨b217, hz218, h⟩ := h
                    obtain ⟨t219, h⟩ := h
                    obtain ⟨P220, hp221, h⟩ := h
                    refine r_invV (ci := 4) (As := []) (rest := [vI v208]) dX0_image_171 lkX0_318 hz218 t219 rfl rfl (vX3_size (d := 2) (Nat.le_of_ble_eq_true rfl) hW212 t219  hp221) rfl rfl (Nat.le_of_ble_eq_true rfl) (Nat.le_trans (Nat.le_of_ble_eq_true rfl) hd) (jkpI fun z222 p225 r226 => ?_)
                    have h := h z222 p225
                    obtain ⟨h1, h2⟩ := h
                    refine j_icmp_ge 199 dX0_image_174 rfl rv208 r226 (fun q227 => ?_) (fun q227 => ?_)
                    · have h := h1 q227
                      clear h1 h2
                      obtain ⟨r228, h⟩ := h
                      refine j_iinc dX0_image_199 rfl (jokR rfl (Nat.le_of_ble_eq_true rfl)) ?_
                      refine j_goto 97 dX0_image_202 rfl ?_
                      exact J.wk (((((jWk.nil).no).no).eq).eq) (ihI99 _ _ _ _ (Nat.lt_of_lt_of_le h.2 (Nat.le_of_lt_succ hmuI99)) hW212 ((((hT98.trans hT175).trans hT190).trans hT205).trans hT213) r228 h.1)
                    · have h := h2 q227
                      clear h1 h2
                      refine r_aload_n dX0_image_177 rfl ?_
                      refine r_aload_n dX0_image_178 rfl ?_
                      refine r_gRF dX0_image_179 flX0_243_17 hz163 t216 rfl ?_
                      refine r_gRF dX0_image_182 flX0_319_4 hz218 t219 rfl ?_
                      refine j_iload_n dX0_image_185 rfl ?_
                      obtain ⟨b229, hz230, h⟩ := h
                      obtain ⟨t231, h⟩ := h
                      obtain ⟨c232, h⟩ := h
                      refine r_aald dX0_image_186 hz230 t231 rfl rfl c232 ?_
                      obtain ⟨b233, hz234, h⟩ := h
                      obtain ⟨t235, h⟩ := h
                      refine r_gIF dX0_image_187 flX0_323_14 hz234 t235 rfl ?_
                      have t236 : jtg N209 o = 1 := (hT213.tg hW204 (hT205.tg hW189 t197))
                      obtain ⟨P237, hp238, h⟩ := h
                      refine r_invV (ci := 1) (As := [vI (jfn N209 3903 b233)]) (rest := []) dX0_image_190 lkX0_527 rfl t236 rfl rfl (vX0_writes (d := 8) (Nat.le_of_ble_eq_true rfl) hW212 t236 (hW212.ni rfl (by decide)) hp238) rfl rfl (Nat.le_of_ble_eq_true rfl) (Nat.le_trans (Nat.le_of_ble_eq_true rfl) hd) (cknV fun N242 F240 A241 hW243 hT244 p245 => ?_)
                      have h := h N242 F240 A241 p245
                      obtain ⟨r247, h⟩ := h
                      refine j_iinc dX0_image_193 rfl (jokR rfl (Nat.le_of_ble_eq_true rfl)) ?_
                      refine j_goto 166 dX0_image_196 rfl ?_
                      exact J.wk (((((jWk.nil).eq).eq).eq).eq) (ihI214 _ _ _ _ (Nat.lt_of_lt_of_le h.2 (Nat.le_of_lt_succ hmuI214)) hW243 (hT213.trans hT244) r247 h.1)
                exact J.wk (((((jWk.nil).eq).eq).eq).eq) (lp _ _ _ _ _ (Nat.lt_succ_self _) hW204 (jTx.refl _) (by decide) h0)
              clear h
              refine j_if_eq 138 dX0_image_131 rfl (hW97.fi rfl) (fun q165 => ?_) (fun q165 => ?_)
              · refine j_iconst dX0_image_138 ?_
                exact jn167 _ (if_pos q165).symm
              · refine j_iconst dX0_image_134 ?_
                refine j_goto 139 dX0_image_135 rfl ?_
                exact jn167 _ (if_neg q165).symm
        exact J.wk (((((jWk.nil).no).no).eq).eq) (lp _ _ _ _ _ (Nat.lt_succ_self _) hW74 (jTx.refl _) (by decide) h0)
      · have h := h2 q92
        clear h1 h2
        refine r_aload_n dX0_image_68 rfl ?_
        refine r_aload_n dX0_image_69 rfl ?_
        refine r_gR dX0_image_70 flX0_20_1 rfl t78 rfl ?_
        refine r_gRF dX0_image_73 flX0_305_2 hz80 t81 rfl ?_
        refine j_iload_n dX0_image_76 rfl ?_
        obtain ⟨P248, hp249, h⟩ := h
        refine r_invV (ci := 20) (As := [vI v70]) (rest := [vR (o : Int)]) dX0_image_77 lkX0_132 hz83 t84 rfl rfl (vJ2_get (d := 4) (Nat.le_of_ble_eq_true rfl) hW74 t84 rv70 hp249) rfl rfl (Nat.le_of_ble_eq_true rfl) (Nat.le_trans (Nat.le_of_ble_eq_true rfl) hd) (jkpR fun z250 p253 r254 => ?_)
        have h := h z250 p253
        obtain ⟨j255, h⟩ := h
        refine r_chk dX0_image_80 q1295 j255 ?_
        obtain ⟨b256, hz257, h⟩ := h
        obtain ⟨t258, h⟩ := h
        refine r_gIF dX0_image_83 flX0_327_17 hz257 t258 rfl ?_
        obtain ⟨P259, hp260, h⟩ := h
        refine r_invV (ci := 1) (As := [vI (jfn N71 3903 b256)]) (rest := []) dX0_image_86 lkX0_527 rfl t78 rfl rfl (vX0_writes (d := 8) (Nat.le_of_ble_eq_true rfl) hW74 t78 (hW74.ni rfl (by decide)) hp260) rfl rfl (Nat.le_of_ble_eq_true rfl) (Nat.le_trans (Nat.le_of_ble_eq_true rfl) hd) (cknV fun N264 F262 A263 hW265 hT266 p267 => ?_)
        have h := h N264 F262 A263 p267
        obtain ⟨r269, h⟩ := h
        refine j_iinc dX0_image_89 rfl (jokR rfl (Nat.le_of_ble_eq_true rfl)) ?_
        refine j_goto 54 dX0_image_92 rfl ?_
        exact J.wk (((((jWk.nil).no).no).eq).eq) (ihI76 _ _ _ _ (Nat.lt_of_lt_of_le h.2 (Nat.le_of_lt_succ hmuI76)) hW265 (hT75.trans hT266) r269 h.1)
  exact J.wk (((((jWk.nil).no).no).eq).eq) (lp _ _ _ _ _ (Nat.lt_succ_self _) hW66 (jTx.refl _) (by decide) h0)
/-- ChildSays.mended(II)I -/
def wqX0_mended (o : Nat) (a1 : Int) (a2 : Int) (N : jSh) (F : jFl) (A : jAr) (Q : Int → jFl → jAr → Prop) : Prop :=
  ∃ (P1 : Int → Prop), wqX0_standingOf o a1 N F A P1 ∧
  ∀ z3, P1 z3 →
  ((¬ z3 < 0) →
    ∃ b9 : Nat, jfn N 341 o = (b9 : Int) ∧
    jtg N b9 = 8 ∧
    ∃ (P12 : Int → jFl → jAr → Prop), wqX7_of b9 z3 N F A P12 ∧
    ∀ z14 F15 A16, P12 z14 F15 A16 →
    ∃ b21 : Nat, z14 = (b21 : Int) ∧
    jtg N b21 = 8 ∧
    ∃ (P24 : Int → jFl → jAr → Prop), wqX7_mends b21 N F15 A16 P24 ∧
    ∀ z26 F27 A28, P24 z26 F27 A28 →
    ((¬ a2 = 20) →
      ∃ (P34 : Int → Prop), wqX7_tells b9 a2 N F27 A28 P34 ∧
      ∀ z36, P34 z36 →
      Q z36 F27 A28) ∧
    ((a2 = 20) →
      Q (F27 2415 b9) F27 A28)) ∧
  ((z3 < 0) →
    Q (-1) F A)
theorem vX0_mended {G : jG} {l : Launch} [jOff l] {d : Nat} {N : jSh} {F : jFl} {A : jAr} {o : Nat} {a1 a2 : Int} {Q : Int → jFl → jAr → Prop} (hd : 9 ≤ d) (hW : jWg G N F A) (ht : jtg N o = 1) (ra1 : jR a1) (ra2 : jR a2) (h : wqX0_mended o a1 a2 N F A Q) : jCall G l d mX0_mended [vR (o : Int), vI a1, vI a2] N F A (cmI G N Q) := by
  unfold wqX0_mended at h
  refine jCall.of (by decide) rfl (ls := [vR (o : Int), vI a1, vI a2, jD]) (by simp only [jent_R, jent_I, jent_L, jent_nil]; exact Nat.le_of_ble_eq_true rfl) (by simp only [jloc, jent_R, jent_I, jent_L, jent_nil]; rfl) ?_
  refine r_aload_n dX0_mended_0 rfl ?_
  refine j_iload_n dX0_mended_1 rfl ?_
  obtain ⟨P1, hp2, h⟩ := h
  refine r_invV (ci := 1) (As := [vI a1]) (rest := []) dX0_mended_2 lkX0_347 rfl ht rfl rfl (vX0_standingOf (d := 6) (Nat.le_of_ble_eq_true rfl) hW ht ra1 hp2) rfl rfl (Nat.le_of_ble_eq_true rfl) (Nat.le_trans (Nat.le_of_ble_eq_true rfl) hd) (jkpR fun z3 p6 r7 => ?_)
  have h := h z3 p6
  refine r_astore_n dX0_mended_5 rfl ?_
  refine r_aload_n dX0_mended_6 rfl ?_
  obtain ⟨h1, h2⟩ := h
  refine r_ifnonnull 12 dX0_mended_7 rfl (fun q8 => ?_) (fun q8 => ?_)
  · have h := h1 q8
    clear h1 h2
    refine r_aload_n dX0_mended_12 rfl ?_
    refine r_gRF dX0_mended_13 flX0_72_1 rfl ht rfl ?_
    refine r_aload_n dX0_mended_16 rfl ?_
    obtain ⟨b9, hz10, h⟩ := h
    obtain ⟨t11, h⟩ := h
    obtain ⟨P12, hp13, h⟩ := h
    refine r_invV (ci := 8) (As := [vR z3]) (rest := []) dX0_mended_17 lkX0_458 hz10 t11 rfl rfl (vX7_of (d := 4) (Nat.le_of_ble_eq_true rfl) hW t11  hp13) rfl rfl (Nat.le_of_ble_eq_true rfl) (Nat.le_trans (Nat.le_of_ble_eq_true rfl) hd) (ckmR fun z14 F15 A16 hW17 p19 r20 => ?_)
    have h := h z14 F15 A16 p19
    obtain ⟨b21, hz22, h⟩ := h
    obtain ⟨t23, h⟩ := h
    obtain ⟨P24, hp25, h⟩ := h
    refine r_invV (ci := 8) (As := []) (rest := []) dX0_mended_20 lkX0_466 hz22 t23 rfl rfl (vX7_mends (d := 8) (Nat.le_of_ble_eq_true rfl) hW17 t23  hp25) rfl rfl (Nat.le_of_ble_eq_true rfl) (Nat.le_trans (Nat.le_of_ble_eq_true rfl) hd) (ckmR fun z26 F27 A28 hW29 p31 r32 => ?_)
    have h := h z26 F27 A28 p31
    refine j_pop dX0_mended_23 (vR_cat _) ?_
    refine j_iload_n dX0_mended_24 rfl ?_
    refine j_bipush dX0_mended_25 ?_
    obtain ⟨h1, h2⟩ := h
    refine j_icmp_ne 40 dX0_mended_27 rfl ra2 (by decide) (fun q33 => ?_) (fun q33 => ?_)
    · have h := h1 q33
      clear h1 h2
      refine r_aload_n dX0_mended_40 rfl ?_
      refine r_gRF dX0_mended_41 flX0_72_1 rfl ht rfl ?_
      refine j_iload_n dX0_mended_44 rfl ?_
      obtain ⟨P34, hp35, h⟩ := h
      refine r_invV (ci := 8) (As := [vI a2]) (rest := []) dX0_mended_45 lkX0_465 hz10 t11 rfl rfl (vX7_tells (d := 3) (Nat.le_of_ble_eq_true rfl) hW29 t11 ra2 hp35) rfl rfl (Nat.le_of_ble_eq_true rfl) (Nat.le_trans (Nat.le_of_ble_eq_true rfl) hd) (jkpI fun z36 p39 r40 => ?_)
      have h := h z36 p39
      exact j_iret dX0_mended_48 rfl ⟨_, rfl, rfl, hW29, h, r40⟩
    · have h := h2 (Classical.not_not.mp q33)
      clear h1 h2
      refine r_aload_n dX0_mended_30 rfl ?_
      refine r_gRF dX0_mended_31 flX0_72_1 rfl ht rfl ?_
      refine r_gIN dX0_mended_34 flX0_470_8 hz10 t11 rfl ?_
      refine j_goto 48 dX0_mended_37 rfl ?_
      exact j_iret dX0_mended_48 rfl ⟨_, rfl, rfl, hW29, h, (hW29.fi rfl)⟩
  · have h := h2 q8
    clear h1 h2
    refine j_iconst dX0_mended_10 ?_
    exact j_iret dX0_mended_11 rfl ⟨_, rfl, rfl, hW, h, (by decide)⟩
/-- ChildSays.on()Z -/
def wqX0_on (S : Nat → Nat) (o : Nat) (N : jSh) (F : jFl) (A : jAr) (Q : Int → jSh → jFl → jAr → Prop) : Prop :=
  ∀ (b1 : Nat) (N2 : jSh) (F3 : jFl), b1 = jnx N → N2 = jnew N 22 0 4 1 → F3 = nwF N F →
  ∃ (P9 : jSh → jFl → jAr → Prop), wqJ5_init S b1 (jfn N2 302 o) 0 (F3 303 o) N2 F3 A P9 ∧
  ∀ N14 F12 A13, P9 N14 F12 A13 →
  jfn N14 0 o = 1 ∧
  ∀ F22 : jFl, F22 = upF F12 303 o 0 →
  ∃ (P23 : Int → Prop), wqX0_isTold S o (b1 : Int) N14 F22 A13 P23 ∧
  ∀ z25, P23 z25 →
  ((¬ z25 = 0) →
    ∃ b31 : Nat, F22 311 o = (b31 : Int) ∧
    jtg N14 b31 = 2 ∧
    ∃ b34 : Nat, jfn N14 626 b31 = (b34 : Int) ∧
    jtg N14 b34 = 20 ∧
    ∃ (P37 : Int → Prop), wqJ2_size b34 N14 F22 A13 P37 ∧
    ∀ z39, P37 z39 →
    jR (3 + z39) ∧
    ∀ v45 : Int, v45 = 3 + z39 →
    ∃ (P47 : Int → Prop), wqJ5_charAt S b1 0 N14 F22 A13 P47 ∧
    ∀ z49, P47 z49 →
    ∃ (P54 : Int → Prop), wqJ5_charAt S b1 1 N14 F22 A13 P54 ∧
    ∀ z56, P54 z56 →
    jfn N14 0 b31 = 1 ∧
    jR ((256 * z49) + z56) ∧
    ∀ F64 : jFl, F64 = upF F22 612 b31 ((256 * z49) + z56) →
    ∃ (I70 : Int → jFl → jAr → Prop) (m71 : Int → jFl → jAr → Nat), I70 0 F64 A13 ∧ ∀ (v65 : Int) (F66 : jFl) (A67 : jAr), I70 v65 F66 A67 →
      ((z39 ≤ v65) →
        ∃ (I79 : Int → Int → jFl → jAr → Prop) (m80 : Int → Int → jFl → jAr → Nat), I79 v45 0 F66 A67 ∧ ∀ (v73 : Int) (v74 : Int) (F75 : jFl) (A76 : jAr), I79 v73 v74 F75 A76 →
          ((z39 ≤ v74) →
            ∃ b82 : Nat, F75 311 o = (b82 : Int) ∧
            jtg N14 b82 = 2 ∧
            ∃ b85 : Nat, jfn N14 632 b82 = (b85 : Int) ∧
            jtg N14 b85 = 20 ∧
            ∃ (P88 : jFl → jAr → Prop), wqJ2_clear b85 N14 F75 A76 P88 ∧
            ∀ F91 A92, P88 F91 A92 →
            ∃ b97 : Nat, jfn N14 323 o = (b97 : Int) ∧
            jtg N14 b97 = 20 ∧
            ∃ (P100 : jFl → jAr → Prop), wqJ2_clear b97 N14 F91 A92 P100 ∧
            ∀ F103 A104, P100 F103 A104 →
            Q 1 N14 F103 A104) ∧
          ((¬ (z39 ≤ v74)) →
            ∃ b109 : Nat, F75 311 o = (b109 : Int) ∧
            jtg N14 b109 = 2 ∧
            ∃ b112 : Nat, jfn N14 626 b109 = (b112 : Int) ∧
            jtg N14 b112 = 20 ∧
            ∃ (P115 : Int → Prop), wqJ2_get b112 v74 N14 F75 A76 P115 ∧
            ∀ z117, P115 z117 →
            jcst N14 "ChildSays$Law" z117 ∧
            ∃ (P123 : Int → Prop), wqJ5_charAt S b1 v73 N14 F75 A76 P123 ∧
            ∀ z125, P123 z125 →
            ∀ z131 : Int, z131 = (if ¬ z125 = 1 then (0 : Int) else 1) →
            ∃ b133 : Nat, z117 = (b133 : Int) ∧
            jtg N14 b133 = 17 ∧
            jfn N14 0 b133 = 1 ∧
            ∀ F138 : jFl, F138 = upF F75 5103 b133 z131 →
            jR (v73 + 1) ∧
            ∃ (P140 : Int → Prop), wqJ5_charAt S b1 (v73 + 1) N14 F138 A76 P140 ∧
            ∀ z142, P140 z142 →
            ∃ b147 : Nat, jfn N14 5102 b133 = (b147 : Int) ∧
            jtg N14 b147 = 4 ∧
            jfn N14 0 b147 = 1 ∧
            ∀ F152 : jFl, F152 = upF F138 1203 b147 z142 →
            jR (v73 + 2) ∧
            ∃ (P154 : Int → Prop), wqJ5_charAt S b1 (v73 + 2) N14 F152 A76 P154 ∧
            ∀ z156, P154 z156 →
            ∀ F162 : jFl, F162 = upF F152 1206 b147 z156 →
            ∃ (I167 : Int → jAr → Prop) (m168 : Int → jAr → Nat), I167 0 A76 ∧ ∀ (v163 : Int) (A164 : jAr), I167 v163 A164 →
              ∃ (P169 : Int → Prop), wqX3_size b147 N14 F162 A164 P169 ∧
              ∀ z171, P169 z171 →
              ((z171 ≤ v163) →
                ∃ (P177 : Int → Prop), wqX3_size b147 N14 F162 A164 P177 ∧
                ∀ z179, P177 z179 →
                jR (v73 + (3 + z179)) ∧
                ∀ v185 : Int, v185 = v73 + (3 + z179) →
                jR (v74 + 1) ∧
                I79 v185 (v74 + 1) F162 A164 ∧ m80 v185 (v74 + 1) F162 A164 < m80 v73 v74 F75 A76) ∧
              ((¬ (z171 ≤ v163)) →
                ∃ b187 : Nat, F162 311 o = (b187 : Int) ∧
                jtg N14 b187 = 2 ∧
                jR ((v73 + 3) + v163) ∧
                ∃ (P191 : Int → Prop), wqJ5_charAt S b1 ((v73 + 3) + v163) N14 F162 A164 P191 ∧
                ∀ z193, P191 z193 →
                ∃ b198 : Nat, jfn N14 617 b187 = (b198 : Int) ∧
                jtg N14 b198 = 20 ∧
                ∃ (P201 : Int → Prop), wqJ2_get b198 z193 N14 F162 A164 P201 ∧
                ∀ z203, P201 z203 →
                jcst N14 "ChildSays$Word" z203 ∧
                ∃ b209 : Nat, jfn N14 1202 b147 = (b209 : Int) ∧
                jtg N14 b209 = 107 ∧
                jfn N14 0 b209 = 1 ∧
                ((0 : Int) ≤ v163 ∧ (v163 : Int) < (jln N14 b209 : Int)) ∧
                jast N14 "ChildSays$Word" z203 ∧
                ∀ A214 : jAr, A214 = upA A164 b209 v163 z203 →
                jR (v163 + 1) ∧
                I167 (v163 + 1) A214 ∧ m168 (v163 + 1) A214 < m168 v163 A164))) ∧
      ((¬ (z39 ≤ v65)) →
        ∃ b218 : Nat, F66 311 o = (b218 : Int) ∧
        jtg N14 b218 = 2 ∧
        jR (3 + v65) ∧
        ∃ (P222 : Int → Prop), wqJ5_charAt S b1 (3 + v65) N14 F66 A67 P222 ∧
        ∀ z224, P222 z224 →
        ∃ b229 : Nat, jfn N14 626 b218 = (b229 : Int) ∧
        jtg N14 b229 = 20 ∧
        ∃ (P232 : Int → Prop), wqJ2_get b229 z224 N14 F66 A67 P232 ∧
        ∀ z234, P232 z234 →
        jcst N14 "ChildSays$Law" z234 ∧
        ∃ b240 : Nat, jfn N14 629 b218 = (b240 : Int) ∧
        jtg N14 b240 = 20 ∧
        ∃ (P243 : Int → jFl → jAr → Prop), wqJ2_set b240 v65 z234 N14 F66 A67 P243 ∧
        ∀ z245 F246 A247, P243 z245 F246 A247 →
        jR (v65 + 1) ∧
        I70 (v65 + 1) F246 A247 ∧ m71 (v65 + 1) F246 A247 < m71 v65 F66 A67)) ∧
  ((z25 = 0) →
    ∃ (P253 : Int → jFl → jAr → Prop), wqX0_refuses o 5 N14 F22 A13 P253 ∧
    ∀ z255 F256 A257, P253 z255 F256 A257 →
    Q z255 N14 F256 A257)
theorem vX0_on {G : jG} {l : Launch} [jOff l] {d : Nat} {N : jSh} {F : jFl} {A : jAr} {o : Nat} {Q : Int → jSh → jFl → jAr → Prop} (hd : 9 ≤ d) (hW : jWg G N F A) (ht : jtg N o = 1) (h : wqX0_on (gS G) o N F A Q) : jCall G l d mX0_on [vR (o : Int)] N F A (cnB G N Q) := by
  unfold wqX0_on at h
  refine jCall.of (by decide) rfl (ls := [vR (o : Int), jD, jD, jD, jD, jD, jD]) (by simp only [jent_R, jent_I, jent_L, jent_nil]; exact Nat.le_of_ble_eq_true rfl) (by simp only [jloc, jent_R, jent_I, jent_L, jent_nil]; rfl) ?_
  refine c_new (ci := 22) hW dX0_on_0 rfl q1913 rfl rfl fun b1 N2 F3 eb1 eN2 eF3 t4 w5 hT6 hW7 => ?_
  have h := h b1 N2 F3 eb1 eN2 eF3
  refine j_dup dX0_on_3 (vR_cat _) ?_
  refine r_aload_n dX0_on_4 rfl ?_
  have t8 : jtg N2 o = 1 := (hT6.tg hW ht)
  refine r_gRF dX0_on_5 flX0_9_1 rfl t8 rfl ?_
  refine j_iconst dX0_on_8 ?_
  refine r_aload_n dX0_on_9 rfl ?_
  refine r_gI dX0_on_10 flX0_111_1 rfl t8 rfl ?_
  obtain ⟨P9, hp10, h⟩ := h
  refine r_invI (As := [vR (jfn N2 302 o), vI 0, vI (F3 303 o)]) (rest := [vR (b1 : Int)]) dX0_on_13 lkX0_539 rfl (vJ5_init (d := 8) (Nat.le_of_ble_eq_true rfl) hW7 t4 (by decide) (hW7.fi rfl) hp10) rfl rfl (Nat.le_of_ble_eq_true rfl) (Nat.le_trans (Nat.le_of_ble_eq_true rfl) hd) (cknV fun N14 F12 A13 hW15 hT16 p17 => ?_)
  have h := h N14 F12 A13 p17
  refine r_astore_n dX0_on_16 (jokR rfl (Nat.le_of_ble_eq_true rfl)) ?_
  refine r_aload_n dX0_on_17 rfl ?_
  refine j_iconst dX0_on_18 ?_
  have t19 : jtg N14 o = 1 := (hT16.tg hW7 t8)
  obtain ⟨w20, h⟩ := h
  refine c_pI hW15 dX0_on_19 flX0_111_1 rfl t19 w20 rfl (by decide) fun F22 eF22 hW21 => ?_
  have h := h F22 eF22
  refine r_aload_n dX0_on_22 rfl ?_
  refine r_aload_n dX0_on_23 rfl ?_
  obtain ⟨P23, hp24, h⟩ := h
  refine r_invV (ci := 1) (As := [vR (b1 : Int)]) (rest := []) dX0_on_24 lkX0_542 rfl t19 rfl rfl (vX0_isTold (d := 8) (Nat.le_of_ble_eq_true rfl) hW21 t19  hp24) rfl rfl (Nat.le_of_ble_eq_true rfl) (Nat.le_trans (Nat.le_of_ble_eq_true rfl) hd) (jkpB fun z25 p28 r29 => ?_)
  have h := h z25 p28
  obtain ⟨h1, h2⟩ := h
  refine j_if_ne 36 dX0_on_27 rfl (jR_b r29) (fun q30 => ?_) (fun q30 => ?_)
  · have h := h1 q30
    clear h1 h2
    refine r_aload_n dX0_on_36 rfl ?_
    refine r_gR dX0_on_37 flX0_20_1 rfl t19 rfl ?_
    obtain ⟨b31, hz32, h⟩ := h
    obtain ⟨t33, h⟩ := h
    refine r_gRF dX0_on_40 flX0_206_2 hz32 t33 rfl ?_
    obtain ⟨b34, hz35, h⟩ := h
    obtain ⟨t36, h⟩ := h
    obtain ⟨P37, hp38, h⟩ := h
    refine r_invV (ci := 20) (As := []) (rest := []) dX0_on_43 lkX0_128 hz35 t36 rfl rfl (vJ2_size (d := 2) (Nat.le_of_ble_eq_true rfl) hW21 t36  hp38) rfl rfl (Nat.le_of_ble_eq_true rfl) (Nat.le_trans (Nat.le_of_ble_eq_true rfl) hd) (jkpI fun z39 p42 r43 => ?_)
    have h := h z39 p42
    refine j_istore_n dX0_on_46 (jokR rfl (Nat.le_of_ble_eq_true rfl)) ?_
    refine j_iconst dX0_on_47 ?_
    refine j_iload_n dX0_on_48 rfl ?_
    refine j_iadd dX0_on_49 ?_
    obtain ⟨r44, h⟩ := h
    obtain ⟨v45, ev45⟩ : ∃ x : Int, x = 3 + z39 := ⟨_, rfl⟩
    have h := h v45 ev45
    refine jnmI (e := ev45) ?_
    refine j_istore_n dX0_on_50 rfl ?_
    refine r_aload_n dX0_on_51 rfl ?_
    refine r_gR dX0_on_52 flX0_20_1 rfl t19 rfl ?_
    refine j_sipush dX0_on_55 ?_
    refine r_aload_n dX0_on_58 rfl ?_
    refine j_iconst dX0_on_59 ?_
    have t46 : jtg N14 b1 = 22 := (hT16.tg hW7 t4)
    obtain ⟨P47, hp48, h⟩ := h
    refine r_invV (ci := 22) (As := [vI 0]) (rest := [vI 256, vR (F22 311 o)]) dX0_on_60 lkX0_145 rfl t46 rfl rfl (vJ5_charAt (d := 6) (Nat.le_of_ble_eq_true rfl) hW21 t46 (by decide) hp48) rfl rfl (Nat.le_of_ble_eq_true rfl) (Nat.le_trans (Nat.le_of_ble_eq_true rfl) hd) (jkpC fun z49 p52 r53 => ?_)
    have h := h z49 p52
    refine j_imul dX0_on_63 ?_
    refine r_aload_n dX0_on_64 rfl ?_
    refine j_iconst dX0_on_65 ?_
    obtain ⟨P54, hp55, h⟩ := h
    refine r_invV (ci := 22) (As := [vI 1]) (rest := [vI (256 * z49), vR (F22 311 o)]) dX0_on_66 lkX0_145 rfl t46 rfl rfl (vJ5_charAt (d := 6) (Nat.le_of_ble_eq_true rfl) hW21 t46 (by decide) hp55) rfl rfl (Nat.le_of_ble_eq_true rfl) (Nat.le_trans (Nat.le_of_ble_eq_true rfl) hd) (jkpC fun z56 p59 r60 => ?_)
    have h := h z56 p59
    refine j_iadd dX0_on_69 ?_
    obtain ⟨w61, h⟩ := h
    obtain ⟨r62, h⟩ := h
    refine c_pI hW21 dX0_on_70 flX0_221_2 hz32 t33 w61 rfl r62 fun F64 eF64 hW63 => ?_
    have h := h F64 eF64
    refine j_iconst dX0_on_73 ?_
    refine j_istore dX0_on_74 rfl ?_
    obtain ⟨I70, m71, h0, hs⟩ := h
    have lp : ∀ (n : Nat) (v65 : Int) (F66 : jFl) (A67 : jAr), m71 v65 F66 A67 < n → jWg G N14 F66 A67 → jR v65 → I70 v65 F66 A67 → J G l d mX0_on 76 [vR (o : Int), vR (b1 : Int), vI z39, vI v45, vI v65, jD, jD] [] N14 F66 A67 (cnB G N Q) := by
      intro nI70
      induction nI70 with
      | zero =>
        intro v65 F66 A67 hmu
        exact absurd hmu (Nat.not_lt_zero _)
      | succ nI70 ihI70 =>
        intro v65 F66 A67 hmuI70 hW68 rv65 hI
        have h := hs v65 F66 A67 hI
        refine j_iload dX0_on_76 rfl ?_
        refine j_iload_n dX0_on_78 rfl ?_
        obtain ⟨h1, h2⟩ := h
        refine j_icmp_ge 122 dX0_on_79 rfl rv65 r43 (fun q72 => ?_) (fun q72 => ?_)
        · have h := h1 q72
          clear h1 h2
          refine j_iconst dX0_on_122 ?_
          refine j_istore dX0_on_123 rfl ?_
          obtain ⟨I79, m80, h0, hs⟩ := h
          have lp : ∀ (n : Nat) (v73 : Int) (v74 : Int) (F75 : jFl) (A76 : jAr), m80 v73 v74 F75 A76 < n → jWg G N14 F75 A76 → jR v73 → jR v74 → I79 v73 v74 F75 A76 → J G l d mX0_on 125 [vR (o : Int), vR (b1 : Int), vI z39, vI v73, vI v74, jD, jD] [] N14 F75 A76 (cnB G N Q) := by
            intro nI79
            induction nI79 with
            | zero =>
              intro v73 v74 F75 A76 hmu
              exact absurd hmu (Nat.not_lt_zero _)
            | succ nI79 ihI79 =>
              intro v73 v74 F75 A76 hmuI79 hW77 rv73 rv74 hI
              have h := hs v73 v74 F75 A76 hI
              refine j_iload dX0_on_125 rfl ?_
              refine j_iload_n dX0_on_127 rfl ?_
              obtain ⟨h1, h2⟩ := h
              refine j_icmp_ge 272 dX0_on_128 rfl rv74 r43 (fun q81 => ?_) (fun q81 => ?_)
              · have h := h1 q81
                clear h1 h2
                refine r_aload_n dX0_on_272 rfl ?_
                refine r_gR dX0_on_273 flX0_20_1 rfl t19 rfl ?_
                obtain ⟨b82, hz83, h⟩ := h
                obtain ⟨t84, h⟩ := h
                refine r_gRF dX0_on_276 flX0_224_2 hz83 t84 rfl ?_
                obtain ⟨b85, hz86, h⟩ := h
                obtain ⟨t87, h⟩ := h
                obtain ⟨P88, hp89, h⟩ := h
                refine r_invV (ci := 20) (As := []) (rest := []) dX0_on_279 lkX0_175 hz86 t87 rfl rfl (vJ2_clear (d := 2) (Nat.le_of_ble_eq_true rfl) hW77 t87  hp89) rfl rfl (Nat.le_of_ble_eq_true rfl) (Nat.le_trans (Nat.le_of_ble_eq_true rfl) hd) (ckmV fun F91 A92 hW93 p95 => ?_)
                have h := h F91 A92 p95
                refine r_aload_n dX0_on_282 rfl ?_
                refine r_gRF dX0_on_283 flX0_35_1 rfl t19 rfl ?_
                obtain ⟨b97, hz98, h⟩ := h
                obtain ⟨t99, h⟩ := h
                obtain ⟨P100, hp101, h⟩ := h
                refine r_invV (ci := 20) (As := []) (rest := []) dX0_on_286 lkX0_175 hz98 t99 rfl rfl (vJ2_clear (d := 2) (Nat.le_of_ble_eq_true rfl) hW93 t99  hp101) rfl rfl (Nat.le_of_ble_eq_true rfl) (Nat.le_trans (Nat.le_of_ble_eq_true rfl) hd) (ckmV fun F103 A104 hW105 p107 => ?_)
                have h := h F103 A104 p107
                refine j_iconst dX0_on_289 ?_
                exact j_zret dX0_on_290 rfl (nr_bool (by decide)) ⟨_, rfl, hW105, (hT6.trans hT16), h, (by decide)⟩
              · have h := h2 q81
                clear h1 h2
                refine r_aload_n dX0_on_131 rfl ?_
                refine r_gR dX0_on_132 flX0_20_1 rfl t19 rfl ?_
                obtain ⟨b109, hz110, h⟩ := h
                obtain ⟨t111, h⟩ := h
                refine r_gRF dX0_on_135 flX0_206_2 hz110 t111 rfl ?_
                refine j_iload dX0_on_138 rfl ?_
                obtain ⟨b112, hz113, h⟩ := h
                obtain ⟨t114, h⟩ := h
                obtain ⟨P115, hp116, h⟩ := h
                refine r_invV (ci := 20) (As := [vI v74]) (rest := []) dX0_on_140 lkX0_132 hz113 t114 rfl rfl (vJ2_get (d := 4) (Nat.le_of_ble_eq_true rfl) hW77 t114 rv74 hp116) rfl rfl (Nat.le_of_ble_eq_true rfl) (Nat.le_trans (Nat.le_of_ble_eq_true rfl) hd) (jkpR fun z117 p120 r121 => ?_)
                have h := h z117 p120
                obtain ⟨j122, h⟩ := h
                refine r_chk dX0_on_143 q1295 j122 ?_
                refine r_astore dX0_on_146 rfl ?_
                refine r_aload dX0_on_148 rfl ?_
                refine r_aload_n dX0_on_150 rfl ?_
                refine j_iload_n dX0_on_151 rfl ?_
                obtain ⟨P123, hp124, h⟩ := h
                refine r_invV (ci := 22) (As := [vI v73]) (rest := [vR z117]) dX0_on_152 lkX0_145 rfl t46 rfl rfl (vJ5_charAt (d := 6) (Nat.le_of_ble_eq_true rfl) hW77 t46 rv73 hp124) rfl rfl (Nat.le_of_ble_eq_true rfl) (Nat.le_trans (Nat.le_of_ble_eq_true rfl) hd) (jkpC fun z125 p128 r129 => ?_)
                have h := h z125 p128
                refine j_iconst dX0_on_155 ?_
                have jn132 : ∀ z131 : Int, z131 = (if ¬ z125 = 1 then (0 : Int) else 1) → J G l d mX0_on 164 [vR (o : Int), vR (b1 : Int), vI z39, vI v73, vI v74, vR z117, jD] [vI z131, vR z117] N14 F75 A76 (cnB G N Q) := by
                  intro z131 ez131
                  have h := h z131 ez131
                  obtain ⟨b133, hz134, h⟩ := h
                  obtain ⟨t135, h⟩ := h
                  obtain ⟨w136, h⟩ := h
                  refine c_pZ hW77 dX0_on_164 flX0_302_17 hz134 t135 w136 rfl (ez131 ▸ jR_ite (by decide) (by decide)) (ez131 ▸ jB_ite (by decide) (by decide)) fun F138 eF138 hW137 => ?_
                  have h := h F138 eF138
                  refine r_aload dX0_on_167 rfl ?_
                  refine r_gRF dX0_on_169 flX0_243_17 hz134 t135 rfl ?_
                  refine r_aload_n dX0_on_172 rfl ?_
                  refine j_iload_n dX0_on_173 rfl ?_
                  refine j_iconst dX0_on_174 ?_
                  refine j_iadd dX0_on_175 ?_
                  obtain ⟨r139, h⟩ := h
                  obtain ⟨P140, hp141, h⟩ := h
                  refine r_invV (ci := 22) (As := [vI (v73 + 1)]) (rest := [vR (jfn N14 5102 b133)]) dX0_on_176 lkX0_145 rfl t46 rfl rfl (vJ5_charAt (d := 6) (Nat.le_of_ble_eq_true rfl) hW137 t46 r139 hp141) rfl rfl (Nat.le_of_ble_eq_true rfl) (Nat.le_trans (Nat.le_of_ble_eq_true rfl) hd) (jkpC fun z142 p145 r146 => ?_)
                  have h := h z142 p145
                  obtain ⟨b147, hz148, h⟩ := h
                  obtain ⟨t149, h⟩ := h
                  obtain ⟨w150, h⟩ := h
                  refine c_pI hW137 dX0_on_179 flX0_296_4 hz148 t149 w150 rfl (jR_c r146) fun F152 eF152 hW151 => ?_
                  have h := h F152 eF152
                  refine r_aload dX0_on_182 rfl ?_
                  refine r_gRF dX0_on_184 flX0_243_17 hz134 t135 rfl ?_
                  refine r_aload_n dX0_on_187 rfl ?_
                  refine j_iload_n dX0_on_188 rfl ?_
                  refine j_iconst dX0_on_189 ?_
                  refine j_iadd dX0_on_190 ?_
                  obtain ⟨r153, h⟩ := h
                  obtain ⟨P154, hp155, h⟩ := h
                  refine r_invV (ci := 22) (As := [vI (v73 + 2)]) (rest := [vR (jfn N14 5102 b133)]) dX0_on_191 lkX0_145 rfl t46 rfl rfl (vJ5_charAt (d := 6) (Nat.le_of_ble_eq_true rfl) hW151 t46 r153 hp155) rfl rfl (Nat.le_of_ble_eq_true rfl) (Nat.le_trans (Nat.le_of_ble_eq_true rfl) hd) (jkpC fun z156 p159 r160 => ?_)
                  have h := h z156 p159
                  refine c_pI hW151 dX0_on_194 flX0_299_4 hz148 t149 w150 rfl (jR_c r160) fun F162 eF162 hW161 => ?_
                  have h := h F162 eF162
                  refine j_iconst dX0_on_197 ?_
                  refine j_istore dX0_on_198 (jokR rfl (Nat.le_of_ble_eq_true rfl)) ?_
                  obtain ⟨I167, m168, h0, hs⟩ := h
                  have lp : ∀ (n : Nat) (v163 : Int) (A164 : jAr), m168 v163 A164 < n → jWg G N14 F162 A164 → jR v163 → I167 v163 A164 → J G l d mX0_on 200 [vR (o : Int), vR (b1 : Int), vI z39, vI v73, vI v74, vR z117, vI v163] [] N14 F162 A164 (cnB G N Q) := by
                    intro nI167
                    induction nI167 with
                    | zero =>
                      intro v163 A164 hmu
                      exact absurd hmu (Nat.not_lt_zero _)
                    | succ nI167 ihI167 =>
                      intro v163 A164 hmuI167 hW165 rv163 hI
                      have h := hs v163 A164 hI
                      refine j_iload dX0_on_200 rfl ?_
                      refine r_aload dX0_on_202 rfl ?_
                      refine r_gRF dX0_on_204 flX0_243_17 hz134 t135 rfl ?_
                      obtain ⟨P169, hp170, h⟩ := h
                      refine r_invV (ci := 4) (As := []) (rest := [vI v163]) dX0_on_207 lkX0_318 hz148 t149 rfl rfl (vX3_size (d := 2) (Nat.le_of_ble_eq_true rfl) hW165 t149  hp170) rfl rfl (Nat.le_of_ble_eq_true rfl) (Nat.le_trans (Nat.le_of_ble_eq_true rfl) hd) (jkpI fun z171 p174 r175 => ?_)
                      have h := h z171 p174
                      obtain ⟨h1, h2⟩ := h
                      refine j_icmp_ge 253 dX0_on_210 rfl rv163 r175 (fun q176 => ?_) (fun q176 => ?_)
                      · have h := h1 q176
                        clear h1 h2
                        refine j_iload_n dX0_on_253 rfl ?_
                        refine j_iconst dX0_on_254 ?_
                        refine r_aload dX0_on_255 rfl ?_
                        refine r_gRF dX0_on_257 flX0_243_17 hz134 t135 rfl ?_
                        obtain ⟨P177, hp178, h⟩ := h
                        refine r_invV (ci := 4) (As := []) (rest := [vI 3, vI v73]) dX0_on_260 lkX0_318 hz148 t149 rfl rfl (vX3_size (d := 2) (Nat.le_of_ble_eq_true rfl) hW165 t149  hp178) rfl rfl (Nat.le_of_ble_eq_true rfl) (Nat.le_trans (Nat.le_of_ble_eq_true rfl) hd) (jkpI fun z179 p182 r183 => ?_)
                        have h := h z179 p182
                        refine j_iadd dX0_on_263 ?_
                        refine j_iadd dX0_on_264 ?_
                        obtain ⟨r184, h⟩ := h
                        obtain ⟨v185, ev185⟩ : ∃ x : Int, x = v73 + (3 + z179) := ⟨_, rfl⟩
                        have h := h v185 ev185
                        refine jnmI (e := ev185) ?_
                        refine j_istore_n dX0_on_265 rfl ?_
                        obtain ⟨r186, h⟩ := h
                        refine j_iinc dX0_on_266 rfl rfl ?_
                        refine j_goto 125 dX0_on_269 rfl ?_
                        exact J.wk ((((((((jWk.nil).no).no).eq).eq).eq).eq).eq) (ihI79 _ _ _ _ (Nat.lt_of_lt_of_le h.2 (Nat.le_of_lt_succ hmuI79)) hW165 (ev185 ▸ r184) r186 h.1)
                      · have h := h2 q176
                        clear h1 h2
                        refine r_aload dX0_on_213 rfl ?_
                        refine r_gRF dX0_on_215 flX0_243_17 hz134 t135 rfl ?_
                        refine r_gRF dX0_on_218 flX0_319_4 hz148 t149 rfl ?_
                        refine j_iload dX0_on_221 rfl ?_
                        refine r_aload_n dX0_on_223 rfl ?_
                        refine r_gR dX0_on_224 flX0_20_1 rfl t19 rfl ?_
                        obtain ⟨b187, hz188, h⟩ := h
                        obtain ⟨t189, h⟩ := h
                        refine r_gRF dX0_on_227 flX0_197_2 hz188 t189 rfl ?_
                        refine r_aload_n dX0_on_230 rfl ?_
                        refine j_iload_n dX0_on_231 rfl ?_
                        refine j_iconst dX0_on_232 ?_
                        refine j_iadd dX0_on_233 ?_
                        refine j_iload dX0_on_234 rfl ?_
                        refine j_iadd dX0_on_236 ?_
                        obtain ⟨r190, h⟩ := h
                        obtain ⟨P191, hp192, h⟩ := h
                        refine r_invV (ci := 22) (As := [vI ((v73 + 3) + v163)]) (rest := [vR (jfn N14 617 b187), vI v163, vR (jfn N14 1202 b147)]) dX0_on_237 lkX0_145 rfl t46 rfl rfl (vJ5_charAt (d := 6) (Nat.le_of_ble_eq_true rfl) hW165 t46 r190 hp192) rfl rfl (Nat.le_of_ble_eq_true rfl) (Nat.le_trans (Nat.le_of_ble_eq_true rfl) hd) (jkpC fun z193 p196 r197 => ?_)
                        have h := h z193 p196
                        obtain ⟨b198, hz199, h⟩ := h
                        obtain ⟨t200, h⟩ := h
                        obtain ⟨P201, hp202, h⟩ := h
                        refine r_invV (ci := 20) (As := [vI z193]) (rest := [vI v163, vR (jfn N14 1202 b147)]) dX0_on_240 lkX0_132 hz199 t200 rfl rfl (vJ2_get (d := 4) (Nat.le_of_ble_eq_true rfl) hW165 t200 (jR_c r197) hp202) rfl rfl (Nat.le_of_ble_eq_true rfl) (Nat.le_trans (Nat.le_of_ble_eq_true rfl) hd) (jkpR fun z203 p206 r207 => ?_)
                        have h := h z203 p206
                        obtain ⟨j208, h⟩ := h
                        refine r_chk dX0_on_243 q1294 j208 ?_
                        obtain ⟨b209, hz210, h⟩ := h
                        obtain ⟨t211, h⟩ := h
                        obtain ⟨w212, h⟩ := h
                        obtain ⟨c213, h⟩ := h
                        obtain ⟨j216, h⟩ := h
                        refine c_aast hW165 dX0_on_246 hz210 t211 rfl w212 c213 j216 rfl fun A214 eA214 hW215 => ?_
                        have h := h A214 eA214
                        obtain ⟨r217, h⟩ := h
                        refine j_iinc dX0_on_247 rfl (jokR rfl (Nat.le_of_ble_eq_true rfl)) ?_
                        refine j_goto 200 dX0_on_250 rfl ?_
                        exact J.wk ((((((((jWk.nil).eq).eq).eq).eq).eq).eq).eq) (ihI167 _ _ (Nat.lt_of_lt_of_le h.2 (Nat.le_of_lt_succ hmuI167)) hW215 r217 h.1)
                  exact J.wk ((((((((jWk.nil).eq).eq).eq).eq).eq).eq).eq) (lp _ _ _ (Nat.lt_succ_self _) hW161 (by decide) h0)
                clear h
                refine j_icmp_ne 163 dX0_on_156 rfl (jR_c r129) (by decide) (fun q130 => ?_) (fun q130 => ?_)
                · refine j_iconst dX0_on_163 ?_
                  exact jn132 _ (if_pos q130).symm
                · refine j_iconst dX0_on_159 ?_
                  refine j_goto 164 dX0_on_160 rfl ?_
                  exact jn132 _ (if_neg q130).symm
          exact J.wk ((((((((jWk.nil).no).no).eq).eq).eq).eq).eq) (lp _ _ _ _ _ (Nat.lt_succ_self _) hW68 (ev45 ▸ r44) (by decide) h0)
        · have h := h2 q72
          clear h1 h2
          refine r_aload_n dX0_on_82 rfl ?_
          refine r_gR dX0_on_83 flX0_20_1 rfl t19 rfl ?_
          obtain ⟨b218, hz219, h⟩ := h
          obtain ⟨t220, h⟩ := h
          refine r_gRF dX0_on_86 flX0_305_2 hz219 t220 rfl ?_
          refine j_iload dX0_on_89 rfl ?_
          refine r_aload_n dX0_on_91 rfl ?_
          refine r_gR dX0_on_92 flX0_20_1 rfl t19 rfl ?_
          refine r_gRF dX0_on_95 flX0_206_2 hz219 t220 rfl ?_
          refine r_aload_n dX0_on_98 rfl ?_
          refine j_iconst dX0_on_99 ?_
          refine j_iload dX0_on_100 rfl ?_
          refine j_iadd dX0_on_102 ?_
          obtain ⟨r221, h⟩ := h
          obtain ⟨P222, hp223, h⟩ := h
          refine r_invV (ci := 22) (As := [vI (3 + v65)]) (rest := [vR (jfn N14 626 b218), vI v65, vR (jfn N14 629 b218)]) dX0_on_103 lkX0_145 rfl t46 rfl rfl (vJ5_charAt (d := 6) (Nat.le_of_ble_eq_true rfl) hW68 t46 r221 hp223) rfl rfl (Nat.le_of_ble_eq_true rfl) (Nat.le_trans (Nat.le_of_ble_eq_true rfl) hd) (jkpC fun z224 p227 r228 => ?_)
          have h := h z224 p227
          obtain ⟨b229, hz230, h⟩ := h
          obtain ⟨t231, h⟩ := h
          obtain ⟨P232, hp233, h⟩ := h
          refine r_invV (ci := 20) (As := [vI z224]) (rest := [vI v65, vR (jfn N14 629 b218)]) dX0_on_106 lkX0_132 hz230 t231 rfl rfl (vJ2_get (d := 4) (Nat.le_of_ble_eq_true rfl) hW68 t231 (jR_c r228) hp233) rfl rfl (Nat.le_of_ble_eq_true rfl) (Nat.le_trans (Nat.le_of_ble_eq_true rfl) hd) (jkpR fun z234 p237 r238 => ?_)
          have h := h z234 p237
          obtain ⟨j239, h⟩ := h
          refine r_chk dX0_on_109 q1295 j239 ?_
          obtain ⟨b240, hz241, h⟩ := h
          obtain ⟨t242, h⟩ := h
          obtain ⟨P243, hp244, h⟩ := h
          refine r_invV (ci := 20) (As := [vI v65, vR z234]) (rest := []) dX0_on_112 lkX0_407 hz241 t242 rfl rfl (vJ2_set (d := 4) (Nat.le_of_ble_eq_true rfl) hW68 t242 rv65 hp244) rfl rfl (Nat.le_of_ble_eq_true rfl) (Nat.le_trans (Nat.le_of_ble_eq_true rfl) hd) (ckmR fun z245 F246 A247 hW248 p250 r251 => ?_)
          have h := h z245 F246 A247 p250
          refine j_pop dX0_on_115 (vR_cat _) ?_
          obtain ⟨r252, h⟩ := h
          refine j_iinc dX0_on_116 rfl rfl ?_
          refine j_goto 76 dX0_on_119 rfl ?_
          exact J.wk ((((((((jWk.nil).no).no).eq).eq).eq).eq).eq) (ihI70 _ _ _ (Nat.lt_of_lt_of_le h.2 (Nat.le_of_lt_succ hmuI70)) hW248 r252 h.1)
    exact J.wk ((((((((jWk.nil).no).no).eq).eq).eq).eq).eq) (lp _ _ _ _ (Nat.lt_succ_self _) hW63 (by decide) h0)
  · have h := h2 (Classical.not_not.mp q30)
    clear h1 h2
    refine r_aload_n dX0_on_30 rfl ?_
    refine j_iconst dX0_on_31 ?_
    obtain ⟨P253, hp254, h⟩ := h
    refine r_invV (ci := 1) (As := [vI 5]) (rest := []) dX0_on_32 lkX0_118 rfl t19 rfl rfl (vX0_refuses (d := 3) (Nat.le_of_ble_eq_true rfl) hW21 t19 (by decide) hp254) rfl rfl (Nat.le_of_ble_eq_true rfl) (Nat.le_trans (Nat.le_of_ble_eq_true rfl) hd) (ckmB fun z255 F256 A257 hW258 p260 r261 => ?_)
    have h := h z255 F256 A257 p260
    exact j_zret dX0_on_35 rfl (nr_bool r261) ⟨_, rfl, hW258, (hT6.trans hT16), h, r261⟩
/-- ChildSays$Reader.ahead()Ljava/lang/String; -/
def wqX10_ahead (S : Nat → Nat) (o : Nat) (N : jSh) (F : jFl) (A : jAr) (Q : Int → jSh → jFl → jAr → Prop) : Prop :=
  ∀ v1 : Int, v1 = F 3306 o →
  ∃ (I4 : Int → Prop) (m5 : Int → Nat), I4 v1 ∧ ∀ (v2 : Int), I4 v2 →
    ∃ K8 : Prop, (
      K8  →
      ∃ (I13 : Int → Prop) (m14 : Int → Nat), I13 v2 ∧ ∀ (v11 : Int), I13 v11 →
        ∃ K17 : Prop, (
          K17  →
          jfn N 0 o = 1 ∧
          ∀ F22 : jFl, F22 = upF F 3312 o v2 →
          ∀ (b23 : Nat) (N24 : jSh) (F25 : jFl), b23 = jnx N → N24 = jnew N 22 0 4 1 → F25 = nwF N F22 →
          ∃ b31 : Nat, jfn N24 3332 o = (b31 : Int) ∧
          jtg N24 b31 = 1 ∧
          jR (v11 - v2) ∧
          ∃ (P35 : jSh → jFl → jAr → Prop), wqJ5_init S b23 (jfn N24 302 b31) v2 (v11 - v2) N24 F25 A P35 ∧
          ∀ N40 F38 A39, P35 N40 F38 A39 →
          Q (b23 : Int) N40 F38 A39) ∧
        (((jfn N 3300 o) ≤ v11) →
          K17 ) ∧
        ((¬ ((jfn N 3300 o) ≤ v11)) →
          ∃ b45 : Nat, jfn N 3332 o = (b45 : Int) ∧
          jtg N b45 = 1 ∧
          ∃ b48 : Nat, jfn N 302 b45 = (b48 : Int) ∧
          jtg N b48 = 111 ∧
          ((0 : Int) ≤ v11 ∧ (v11 : Int) < (jln N b48 : Int)) ∧
          ∃ (P52 : Int → Prop), wqX10_isLetter o (A b48 v11) N F A P52 ∧
          ∀ z54, P52 z54 →
          ((z54 = 0) →
            K17 ) ∧
          ((¬ (z54 = 0)) →
            jR (v11 + 1) ∧
            I13 (v11 + 1) ∧ m14 (v11 + 1) < m14 v11))) ∧
    (((jfn N 3300 o) ≤ v2) →
      K8 ) ∧
    ((¬ ((jfn N 3300 o) ≤ v2)) →
      ∃ b61 : Nat, jfn N 3332 o = (b61 : Int) ∧
      jtg N b61 = 1 ∧
      ∃ b64 : Nat, jfn N 302 b61 = (b64 : Int) ∧
      jtg N b64 = 111 ∧
      ((0 : Int) ≤ v2 ∧ (v2 : Int) < (jln N b64 : Int)) ∧
      (((A b64 v2) = 32) →
        jR (v2 + 1) ∧
        I4 (v2 + 1) ∧ m5 (v2 + 1) < m5 v2) ∧
      ((¬ ((A b64 v2) = 32)) →
        ((0 : Int) ≤ v2 ∧ (v2 : Int) < (jln N b64 : Int)) ∧
        ((¬ (A b64 v2) = 10) →
          K8 ) ∧
        (((A b64 v2) = 10) →
          jR (v2 + 1) ∧
          I4 (v2 + 1) ∧ m5 (v2 + 1) < m5 v2)))
theorem vX10_ahead {G : jG} {l : Launch} [jOff l] {d : Nat} {N : jSh} {F : jFl} {A : jAr} {o : Nat} {Q : Int → jSh → jFl → jAr → Prop} (hd : 9 ≤ d) (hW : jWg G N F A) (ht : jtg N o = 11) (h : wqX10_ahead (gS G) o N F A Q) : jCall G l d mX10_ahead [vR (o : Int)] N F A (cnR G N Q) := by
  unfold wqX10_ahead at h
  refine jCall.of (by decide) rfl (ls := [vR (o : Int), jD, jD]) (by simp only [jent_R, jent_I, jent_L, jent_nil]; exact Nat.le_of_ble_eq_true rfl) (by simp only [jloc, jent_R, jent_I, jent_L, jent_nil]; rfl) ?_
  refine r_aload_n dX10_ahead_0 rfl ?_
  refine r_gI dX10_ahead_1 flX10_33_11 rfl ht rfl ?_
  obtain ⟨v1, ev1⟩ : ∃ x : Int, x = F 3306 o := ⟨_, rfl⟩
  have h := h v1 ev1
  refine jnmI (e := ev1) ?_
  refine j_istore_n dX10_ahead_4 (jokR rfl (Nat.le_of_ble_eq_true rfl)) ?_
  obtain ⟨I4, m5, h0, hs⟩ := h
  have lp : ∀ (n : Nat) (v2 : Int), m5 v2 < n → jR v2 → I4 v2 → J G l d mX10_ahead 5 [vR (o : Int), vI v2, jD] [] N F A (cnR G N Q) := by
    intro nI4
    induction nI4 with
    | zero =>
      intro v2 hmu
      exact absurd hmu (Nat.not_lt_zero _)
    | succ nI4 ihI4 =>
      intro v2 hmuI4 rv2 hI
      have h := hs v2 hI
      refine j_iload_n dX10_ahead_5 rfl ?_
      refine r_aload_n dX10_ahead_6 rfl ?_
      refine r_gIF dX10_ahead_7 flX10_19_11 rfl ht rfl ?_
      obtain ⟨K8, hK10, h⟩ := h
      have jn9 : K8  → J G l d mX10_ahead 47 [vR (o : Int), vI v2, jD] [] N F A (cnR G N Q) := by
        intro   h
        have h := hK10  h
        refine j_iload_n dX10_ahead_47 rfl ?_
        refine j_istore_n dX10_ahead_48 rfl ?_
        obtain ⟨I13, m14, h0, hs⟩ := h
        have lp : ∀ (n : Nat) (v11 : Int), m14 v11 < n → jR v11 → I13 v11 → J G l d mX10_ahead 49 [vR (o : Int), vI v2, vI v11] [] N F A (cnR G N Q) := by
          intro nI13
          induction nI13 with
          | zero =>
            intro v11 hmu
            exact absurd hmu (Nat.not_lt_zero _)
          | succ nI13 ihI13 =>
            intro v11 hmuI13 rv11 hI
            have h := hs v11 hI
            refine j_iload_n dX10_ahead_49 rfl ?_
            refine r_aload_n dX10_ahead_50 rfl ?_
            refine r_gIF dX10_ahead_51 flX10_19_11 rfl ht rfl ?_
            obtain ⟨K17, hK19, h⟩ := h
            have jn18 : K17  → J G l d mX10_ahead 79 [vR (o : Int), vI v2, vI v11] [] N F A (cnR G N Q) := by
              intro   h
              have h := hK19  h
              refine r_aload_n dX10_ahead_79 rfl ?_
              refine j_iload_n dX10_ahead_80 rfl ?_
              obtain ⟨w20, h⟩ := h
              refine c_pI hW dX10_ahead_81 flX10_40_11 rfl ht w20 rfl rv2 fun F22 eF22 hW21 => ?_
              have h := h F22 eF22
              refine c_new (ci := 22) hW21 dX10_ahead_84 rfl q750 rfl rfl fun b23 N24 F25 eb23 eN24 eF25 t26 w27 hT28 hW29 => ?_
              have h := h b23 N24 F25 eb23 eN24 eF25
              refine j_dup dX10_ahead_87 (vR_cat _) ?_
              refine r_aload_n dX10_ahead_88 rfl ?_
              have t30 : jtg N24 o = 11 := (hT28.tg hW21 ht)
              refine r_gRF dX10_ahead_89 flX10_3_11 rfl t30 rfl ?_
              obtain ⟨b31, hz32, h⟩ := h
              obtain ⟨t33, h⟩ := h
              refine r_gRFN dX10_ahead_92 flX10_36_1 hz32 t33 rfl ?_
              refine j_iload_n dX10_ahead_95 rfl ?_
              refine j_iload_n dX10_ahead_96 rfl ?_
              refine j_iload_n dX10_ahead_97 rfl ?_
              refine j_isub dX10_ahead_98 ?_
              obtain ⟨r34, h⟩ := h
              obtain ⟨P35, hp36, h⟩ := h
              refine r_invI (As := [vR (jfn N24 302 b31), vI v2, vI (v11 - v2)]) (rest := [vR (b23 : Int)]) dX10_ahead_99 lkX10_61 rfl (vJ5_init (d := 8) (Nat.le_of_ble_eq_true rfl) hW29 t26 rv2 r34 hp36) rfl rfl (Nat.le_of_ble_eq_true rfl) (Nat.le_trans (Nat.le_of_ble_eq_true rfl) hd) (cknV fun N40 F38 A39 hW41 hT42 p43 => ?_)
              have h := h N40 F38 A39 p43
              exact r_aret dX10_ahead_102 rfl (Or.inl ⟨_, rfl⟩) ⟨_, rfl, hW41, (hT28.trans hT42), h, trivial⟩
            obtain ⟨h1, h2⟩ := h
            refine j_icmp_ge 79 dX10_ahead_54 rfl rv11 (hW.ni rfl (by decide)) (fun q15 => ?_) (fun q15 => ?_)
            · have h := h1 q15
              clear h1 h2
              exact J.wk ((((jWk.nil).eq).eq).eq) (jn18   h)
            · have h := h2 q15
              clear h1 h2
              refine r_aload_n dX10_ahead_57 rfl ?_
              refine r_aload_n dX10_ahead_58 rfl ?_
              refine r_gRF dX10_ahead_59 flX10_3_11 rfl ht rfl ?_
              obtain ⟨b45, hz46, h⟩ := h
              obtain ⟨t47, h⟩ := h
              refine r_gRFN dX10_ahead_62 flX10_36_1 hz46 t47 rfl ?_
              refine j_iload_n dX10_ahead_65 rfl ?_
              obtain ⟨b48, hz49, h⟩ := h
              obtain ⟨t50, h⟩ := h
              obtain ⟨c51, h⟩ := h
              refine r_cald dX10_ahead_66 hz49 t50 c51 ?_
              obtain ⟨P52, hp53, h⟩ := h
              refine r_invV (ci := 11) (As := [vI (A b48 v11)]) (rest := []) dX10_ahead_67 lkX10_43 rfl ht rfl rfl (vX10_isLetter (d := 2) (Nat.le_of_ble_eq_true rfl) hW ht (hW.ai t50 rfl) hp53) rfl rfl (Nat.le_of_ble_eq_true rfl) (Nat.le_trans (Nat.le_of_ble_eq_true rfl) hd) (jkpB fun z54 p57 r58 => ?_)
              have h := h z54 p57
              obtain ⟨h1, h2⟩ := h
              refine j_if_eq 79 dX10_ahead_70 rfl (jR_b r58) (fun q59 => ?_) (fun q59 => ?_)
              · have h := h1 q59
                clear h1 h2
                exact J.wk ((((jWk.nil).eq).eq).eq) (jn18   h)
              · have h := h2 q59
                clear h1 h2
                obtain ⟨r60, h⟩ := h
                refine j_iinc dX10_ahead_73 rfl rfl ?_
                refine j_goto 49 dX10_ahead_76 rfl ?_
                exact J.wk ((((jWk.nil).eq).eq).eq) (ihI13 _ (Nat.lt_of_lt_of_le h.2 (Nat.le_of_lt_succ hmuI13)) r60 h.1)
        exact J.wk ((((jWk.nil).eq).eq).eq) (lp _ _ (Nat.lt_succ_self _) rv2 h0)
      obtain ⟨h1, h2⟩ := h
      refine j_icmp_ge 47 dX10_ahead_10 rfl rv2 (hW.ni rfl (by decide)) (fun q6 => ?_) (fun q6 => ?_)
      · have h := h1 q6
        clear h1 h2
        exact J.wk ((((jWk.nil).no).eq).eq) (jn9   h)
      · have h := h2 q6
        clear h1 h2
        refine r_aload_n dX10_ahead_13 rfl ?_
        refine r_gRF dX10_ahead_14 flX10_3_11 rfl ht rfl ?_
        obtain ⟨b61, hz62, h⟩ := h
        obtain ⟨t63, h⟩ := h
        refine r_gRFN dX10_ahead_17 flX10_36_1 hz62 t63 rfl ?_
        refine j_iload_n dX10_ahead_20 rfl ?_
        obtain ⟨b64, hz65, h⟩ := h
        obtain ⟨t66, h⟩ := h
        obtain ⟨c67, h⟩ := h
        refine r_cald dX10_ahead_21 hz65 t66 c67 ?_
        refine j_bipush dX10_ahead_22 ?_
        obtain ⟨h1, h2⟩ := h
        refine j_icmp_eq 41 dX10_ahead_24 rfl (hW.ai t66 rfl) (by decide) (fun q68 => ?_) (fun q68 => ?_)
        · have h := h1 q68
          clear h1 h2
          obtain ⟨r69, h⟩ := h
          refine j_iinc dX10_ahead_41 rfl (jokR rfl (Nat.le_of_ble_eq_true rfl)) ?_
          refine j_goto 5 dX10_ahead_44 rfl ?_
          exact J.wk ((((jWk.nil).no).eq).eq) (ihI4 _ (Nat.lt_of_lt_of_le h.2 (Nat.le_of_lt_succ hmuI4)) r69 h.1)
        · have h := h2 q68
          clear h1 h2
          refine r_aload_n dX10_ahead_27 rfl ?_
          refine r_gRF dX10_ahead_28 flX10_3_11 rfl ht rfl ?_
          refine r_gRFN dX10_ahead_31 flX10_36_1 hz62 t63 rfl ?_
          refine j_iload_n dX10_ahead_34 rfl ?_
          obtain ⟨c70, h⟩ := h
          refine r_cald dX10_ahead_35 hz65 t66 c70 ?_
          refine j_bipush dX10_ahead_36 ?_
          obtain ⟨h1, h2⟩ := h
          refine j_icmp_ne 47 dX10_ahead_38 rfl (hW.ai t66 rfl) (by decide) (fun q71 => ?_) (fun q71 => ?_)
          · have h := h1 q71
            clear h1 h2
            exact J.wk ((((jWk.nil).no).eq).eq) (jn9   h)
          · have h := h2 (Classical.not_not.mp q71)
            clear h1 h2
            obtain ⟨r72, h⟩ := h
            refine j_iinc dX10_ahead_41 rfl (jokR rfl (Nat.le_of_ble_eq_true rfl)) ?_
            refine j_goto 5 dX10_ahead_44 rfl ?_
            exact J.wk ((((jWk.nil).no).eq).eq) (ihI4 _ (Nat.lt_of_lt_of_le h.2 (Nat.le_of_lt_succ hmuI4)) r72 h.1)
  exact J.wk ((((jWk.nil).no).eq).eq) (lp _ _ (Nat.lt_succ_self _) (ev1 ▸ (hW.fi rfl)) h0)
