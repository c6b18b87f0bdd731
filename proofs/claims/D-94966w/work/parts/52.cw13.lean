set_option maxRecDepth 100000
set_option linter.unusedVariables false
/-! walks of the component and of JDK methods: printed by gen/walkc.py -/
/-- ChildSays$Was.<init>(LChildSays;)V -/
def wqX17_init (S : Nat → Nat) (o : Nat) (a1 : Int) (N : jSh) (F : jFl) (A : jAr) (Q : jSh → jFl → jAr → Prop) : Prop :=
  jfn N 0 o = 1 ∧
  ∀ N3 : jSh, N3 = jpF N 5420 o a1 →
  ∃ b6 : Nat, jfn N3 5420 o = (b6 : Int) ∧
  jtg N3 b6 = 1 ∧
  ∃ b9 : Nat, F 311 b6 = (b9 : Int) ∧
  jtg N3 b9 = 2 ∧
  ∀ N14 : jSh, N14 = jpF N3 5400 o (F 612 b9) →
  ∃ b17 : Nat, jfn N14 5420 o = (b17 : Int) ∧
  jtg N14 b17 = 1 ∧
  ∃ b20 : Nat, F 311 b17 = (b20 : Int) ∧
  jtg N14 b20 = 2 ∧
  ∃ b23 : Nat, jfn N14 626 b20 = (b23 : Int) ∧
  jtg N14 b23 = 20 ∧
  ∃ (P26 : Int → Prop), wqJ2_size b23 N14 F A P26 ∧
  ∀ z28, P26 z28 →
  ∀ N35 : jSh, N35 = jpF N14 5403 o z28 →
  ∀ (b37 : Nat) (N38 : jSh) (F39 : jFl) (A40 : jAr), b37 = jnx N35 → N38 = jnew N35 116 12 12 1 → F39 = nwF N35 F → A40 = nwA N35 116 A →
  ∀ N48 : jSh, N48 = jpF N38 5408 o (b37 : Int) →
  ∀ (b50 : Nat) (N51 : jSh) (F52 : jFl) (A53 : jAr), b50 = jnx N48 → N51 = jnew N48 113 12 12 1 → F52 = nwF N48 F39 → A53 = nwA N48 113 A40 →
  ∀ N61 : jSh, N61 = jpF N51 5411 o (b50 : Int) →
  ∀ (b63 : Nat) (N64 : jSh) (F65 : jFl) (A66 : jAr), b63 = jnx N61 → N64 = jnew N61 105 12 12 1 → F65 = nwF N61 F52 → A66 = nwA N61 105 A53 →
  ∀ N74 : jSh, N74 = jpF N64 5414 o (b63 : Int) →
  ∀ (b76 : Nat) (N77 : jSh) (F78 : jFl), b76 = jnx N74 → N77 = jnew N74 20 0 3 1 → F78 = nwF N74 F65 →
  ∃ (P83 : jFl → jAr → Prop), wqJ2_init S b76 N77 F78 A66 P83 ∧
  ∀ F86 A87, P83 F86 A87 →
  ∀ N95 : jSh, N95 = jpF N77 5417 o (b76 : Int) →
  ∃ (I103 : Int → jSh → jFl → jAr → Prop) (m104 : Int → jSh → jFl → jAr → Nat), I103 0 N95 F86 A87 ∧ ∀ (v97 : Int) (N98 : jSh) (F99 : jFl) (A100 : jAr), I103 v97 N98 F99 A100 →
    (((jfn N98 5403 o) ≤ v97) →
      ∃ (I113 : Int → jSh → jFl → jAr → Prop) (m114 : Int → jSh → jFl → jAr → Nat), I113 0 N98 F99 A100 ∧ ∀ (v107 : Int) (N108 : jSh) (F109 : jFl) (A110 : jAr), I113 v107 N108 F109 A110 →
        ∃ b115 : Nat, a1 = (b115 : Int) ∧
        jtg N108 b115 = 1 ∧
        ∃ b118 : Nat, F109 311 b115 = (b118 : Int) ∧
        jtg N108 b118 = 2 ∧
        ∃ b121 : Nat, jfn N108 632 b118 = (b121 : Int) ∧
        jtg N108 b121 = 20 ∧
        ∃ (P124 : Int → Prop), wqJ2_size b121 N108 F109 A110 P124 ∧
        ∀ z126, P124 z126 →
        ((z126 ≤ v107) →
          Q N108 F109 A110) ∧
        ((¬ (z126 ≤ v107)) →
          ∃ (P133 : Int → Prop), wqJ2_get b121 v107 N108 F109 A110 P133 ∧
          ∀ z135, P133 z135 →
          jcst N108 "ChildSays$Line" z135 ∧
          ∃ b141 : Nat, jfn N108 5417 o = (b141 : Int) ∧
          jtg N108 b141 = 20 ∧
          ∃ (P144 : Int → jSh → jFl → jAr → Prop), wqJ2_add S b141 z135 N108 F109 A110 P144 ∧
          ∀ z146 N149 F147 A148, P144 z146 N149 F147 A148 →
          jR (v107 + 1) ∧
          I113 (v107 + 1) N149 F147 A148 ∧ m114 (v107 + 1) N149 F147 A148 < m114 v107 N108 F109 A110)) ∧
    ((¬ ((jfn N98 5403 o) ≤ v97)) →
      ∀ (b155 : Nat) (N156 : jSh) (F157 : jFl), b155 = jnx N98 → N156 = jnew N98 4 0 3 1 → F157 = nwF N98 F99 →
      ∃ (P162 : jSh → jFl → jAr → Prop), wqX3_init b155 N156 F157 A100 P162 ∧
      ∀ N167 F165 A166, P162 N167 F165 A166 →
      ∃ b172 : Nat, a1 = (b172 : Int) ∧
      jtg N167 b172 = 1 ∧
      ∃ b175 : Nat, F165 311 b172 = (b175 : Int) ∧
      jtg N167 b175 = 2 ∧
      ∃ b178 : Nat, jfn N167 626 b175 = (b178 : Int) ∧
      jtg N167 b178 = 20 ∧
      ∃ (P181 : Int → Prop), wqJ2_get b178 v97 N167 F165 A166 P181 ∧
      ∀ z183, P181 z183 →
      jcst N167 "ChildSays$Law" z183 ∧
      ∃ b189 : Nat, z183 = (b189 : Int) ∧
      jtg N167 b189 = 17 ∧
      ∃ (P193 : Int → jFl → jAr → Prop), wqX3_like b155 (jfn N167 5102 b189) N167 F165 A166 P193 ∧
      ∀ z195 F196 A197, P193 z195 F196 A197 →
      ∃ b202 : Nat, jfn N98 5408 o = (b202 : Int) ∧
      jtg N167 b202 = 116 ∧
      jfn N167 0 b202 = 1 ∧
      ((0 : Int) ≤ v97 ∧ (v97 : Int) < (jln N167 b202 : Int)) ∧
      jast N167 "ChildSays$Row" z195 ∧
      ∀ A207 : jAr, A207 = upA A197 b202 v97 z195 →
      ∃ b211 : Nat, F196 311 b172 = (b211 : Int) ∧
      jtg N167 b211 = 2 ∧
      ∃ b214 : Nat, jfn N167 629 b211 = (b214 : Int) ∧
      jtg N167 b214 = 20 ∧
      ∃ (P217 : Int → Prop), wqJ2_get b214 v97 N167 F196 A207 P217 ∧
      ∀ z219, P217 z219 →
      jcst N167 "ChildSays$Law" z219 ∧
      ∃ b225 : Nat, jfn N167 5411 o = (b225 : Int) ∧
      jtg N167 b225 = 113 ∧
      jfn N167 0 b225 = 1 ∧
      ((0 : Int) ≤ v97 ∧ (v97 : Int) < (jln N167 b225 : Int)) ∧
      jast N167 "ChildSays$Law" z219 ∧
      ∀ A230 : jAr, A230 = upA A207 b225 v97 z219 →
      ∃ b233 : Nat, jfn N167 626 b211 = (b233 : Int) ∧
      jtg N167 b233 = 20 ∧
      ∃ (P236 : Int → Prop), wqJ2_get b233 v97 N167 F196 A230 P236 ∧
      ∀ z238, P236 z238 →
      jcst N167 "ChildSays$Law" z238 ∧
      ∃ b244 : Nat, z238 = (b244 : Int) ∧
      jtg N167 b244 = 17 ∧
      ∃ b247 : Nat, jfn N167 5414 o = (b247 : Int) ∧
      jtg N167 b247 = 105 ∧
      jfn N167 0 b247 = 1 ∧
      ((0 : Int) ≤ v97 ∧ (v97 : Int) < (jln N167 b247 : Int)) ∧
      (F196 5103 b244 = 0 ∨ F196 5103 b244 = 1) ∧
      ∀ A252 : jAr, A252 = upA A230 b247 v97 (F196 5103 b244) →
      jR (v97 + 1) ∧
      I103 (v97 + 1) N167 F196 A252 ∧ m104 (v97 + 1) N167 F196 A252 < m104 v97 N98 F99 A100)
theorem vX17_init {G : jG} {l : Launch} [jOff l] {d : Nat} {N : jSh} {F : jFl} {A : jAr} {o : Nat} {a1 : Int} {Q : jSh → jFl → jAr → Prop} (hd : 9 ≤ d) (hW : jWg G N F A) (ht : jtg N o = 18) (h : wqX17_init (gS G) o a1 N F A Q) : jCall G l d mX17_init [vR (o : Int), vR a1] N F A (cnV G N Q) := by
  unfold wqX17_init at h
  refine jCall.of (by decide) rfl (ls := [vR (o : Int), vR a1, jD]) (by simp only [jent_R, jent_I, jent_L, jent_nil]; exact Nat.le_of_ble_eq_true rfl) (by simp only [jloc, jent_R, jent_I, jent_L, jent_nil]; rfl) ?_
  refine r_aload_n dX17_init_0 rfl ?_
  refine r_aload_n dX17_init_1 rfl ?_
  obtain ⟨w1, h⟩ := h
  refine c_pRF hW dX17_init_2 flX17_3_18 rfl ht w1 rfl (ty := .object "ChildSays") rfl (by intro c hc; cases hc; rfl) (by decide) (by decide +kernel) (Or.inl ⟨_, rfl⟩) fun N3 eN3 hT4 hW2 => ?_
  have h := h N3 eN3
  refine r_aload_n dX17_init_5 rfl ?_
  refine r_objInit dX17_init_6 q1484 rfl (Nat.le_trans (Nat.le_of_ble_eq_true rfl) hd) (Nat.le_of_ble_eq_true rfl) ?_
  refine r_aload_n dX17_init_9 rfl ?_
  refine r_aload_n dX17_init_10 rfl ?_
  have t5 : jtg N3 o = 18 := (hT4.tg hW ht)
  refine r_gRF dX17_init_11 flX17_3_18 rfl t5 rfl ?_
  obtain ⟨b6, hz7, h⟩ := h
  obtain ⟨t8, h⟩ := h
  refine r_gRN dX17_init_14 flX17_15_1 hz7 t8 rfl ?_
  obtain ⟨b9, hz10, h⟩ := h
  obtain ⟨t11, h⟩ := h
  refine r_gI dX17_init_17 flX17_19_2 hz10 t11 rfl ?_
  have w12 : jfn N3 0 o = 1 := (hT4.ow hW ht w1)
  refine c_pIF hW2 dX17_init_20 flX17_25_18 rfl t5 w12 rfl (hW2.fi rfl) rfl (by intro c hc; cases hc; rfl) (by decide) fun N14 eN14 hT15 hW13 => ?_
  have h := h N14 eN14
  refine r_aload_n dX17_init_23 rfl ?_
  refine r_aload_n dX17_init_24 rfl ?_
  have t16 : jtg N14 o = 18 := (hT15.tg hW2 t5)
  refine r_gRF dX17_init_25 flX17_3_18 rfl t16 rfl ?_
  obtain ⟨b17, hz18, h⟩ := h
  obtain ⟨t19, h⟩ := h
  refine r_gRN dX17_init_28 flX17_15_1 hz18 t19 rfl ?_
  obtain ⟨b20, hz21, h⟩ := h
  obtain ⟨t22, h⟩ := h
  refine r_gRF dX17_init_31 flX17_26_2 hz21 t22 rfl ?_
  obtain ⟨b23, hz24, h⟩ := h
  obtain ⟨t25, h⟩ := h
  obtain ⟨P26, hp27, h⟩ := h
  refine r_invV (ci := 20) (As := []) (rest := [vR (o : Int)]) dX17_init_34 lkX17_30 hz24 t25 rfl rfl (vJ2_size (d := 2) (Nat.le_of_ble_eq_true rfl) hW13 t25  hp27) rfl rfl (Nat.le_of_ble_eq_true rfl) (Nat.le_trans (Nat.le_of_ble_eq_true rfl) hd) (jkpI fun z28 p31 r32 => ?_)
  have h := h z28 p31
  have w33 : jfn N14 0 o = 1 := (hT15.ow hW2 (hT4.tg hW ht) w12)
  refine c_pIF hW13 dX17_init_37 flX17_36_18 rfl t16 w33 rfl r32 rfl (by intro c hc; cases hc; rfl) (by decide) fun N35 eN35 hT36 hW34 => ?_
  have h := h N35 eN35
  refine r_aload_n dX17_init_40 rfl ?_
  refine j_bipush dX17_init_41 ?_
  refine c_anew (t := 116) (n := 12) hW34 dX17_init_43 rfl rfl q1485 (List.mem_of_elem_eq_true (by decide +kernel)) rfl (Nat.le_of_ble_eq_true rfl) fun b37 N38 F39 A40 eb37 eN38 eF39 eA40 t41 w42 hT43 hW44 => ?_
  have h := h b37 N38 F39 A40 eb37 eN38 eF39 eA40
  have t45 : jtg N38 o = 18 := (hT43.tg hW34 (hT36.tg hW13 t16))
  have w46 : jfn N38 0 o = 1 := (hT43.ow hW34 (hT36.tg hW13 (hT15.tg hW2 (hT4.tg hW ht))) (hT36.ow hW13 (hT15.tg hW2 (hT4.tg hW ht)) w33))
  refine c_pRF hW44 dX17_init_46 flX17_41_18 rfl t45 w46 rfl (ty := (.array (.object "ChildSays$Row"))) rfl (by intro c hc; cases hc; rfl) (by decide) (by decide +kernel) (Or.inr ⟨_, rfl⟩) fun N48 eN48 hT49 hW47 => ?_
  have h := h N48 eN48
  refine r_aload_n dX17_init_49 rfl ?_
  refine j_bipush dX17_init_50 ?_
  refine c_anew (t := 113) (n := 12) hW47 dX17_init_52 rfl rfl q1245 (List.mem_of_elem_eq_true (by decide +kernel)) rfl (Nat.le_of_ble_eq_true rfl) fun b50 N51 F52 A53 eb50 eN51 eF52 eA53 t54 w55 hT56 hW57 => ?_
  have h := h b50 N51 F52 A53 eb50 eN51 eF52 eA53
  have t58 : jtg N51 o = 18 := (hT56.tg hW47 (hT49.tg hW44 t45))
  have w59 : jfn N51 0 o = 1 := (hT56.ow hW47 (hT49.tg hW44 (hT43.tg hW34 (hT36.tg hW13 (hT15.tg hW2 (hT4.tg hW ht))))) (hT49.ow hW44 (hT43.tg hW34 (hT36.tg hW13 (hT15.tg hW2 (hT4.tg hW ht)))) w46))
  refine c_pRF hW57 dX17_init_55 flX17_47_18 rfl t58 w59 rfl (ty := (.array (.object "ChildSays$Law"))) rfl (by intro c hc; cases hc; rfl) (by decide) (by decide +kernel) (Or.inr ⟨_, rfl⟩) fun N61 eN61 hT62 hW60 => ?_
  have h := h N61 eN61
  refine r_aload_n dX17_init_58 rfl ?_
  refine j_bipush dX17_init_59 ?_
  refine c_newa (t := 105) (n := 12) hW60 dX17_init_61 rfl rfl rfl (fun _ h => by cases h) q1115 (by decide) rfl (Nat.le_of_ble_eq_true rfl) fun b63 N64 F65 A66 eb63 eN64 eF65 eA66 t67 w68 hT69 hW70 => ?_
  have h := h b63 N64 F65 A66 eb63 eN64 eF65 eA66
  have t71 : jtg N64 o = 18 := (hT69.tg hW60 (hT62.tg hW57 t58))
  have w72 : jfn N64 0 o = 1 := (hT69.ow hW60 (hT62.tg hW57 (hT56.tg hW47 (hT49.tg hW44 (hT43.tg hW34 (hT36.tg hW13 (hT15.tg hW2 (hT4.tg hW ht))))))) (hT62.ow hW57 (hT56.tg hW47 (hT49.tg hW44 (hT43.tg hW34 (hT36.tg hW13 (hT15.tg hW2 (hT4.tg hW ht)))))) w59))
  refine c_pRF hW70 dX17_init_63 flX17_51_18 rfl t71 w72 rfl (ty := (.array .boolean)) rfl (by intro c hc; cases hc; rfl) (by decide) (by decide +kernel) (Or.inr ⟨_, rfl⟩) fun N74 eN74 hT75 hW73 => ?_
  have h := h N74 eN74
  refine r_aload_n dX17_init_66 rfl ?_
  refine c_new (ci := 20) hW73 dX17_init_67 rfl q1487 rfl rfl fun b76 N77 F78 eb76 eN77 eF78 t79 w80 hT81 hW82 => ?_
  have h := h b76 N77 F78 eb76 eN77 eF78
  refine j_dup dX17_init_70 (vR_cat _) ?_
  obtain ⟨P83, hp84, h⟩ := h
  refine r_invI (As := []) (rest := [vR (b76 : Int), vR (o : Int)]) dX17_init_71 lkX17_55 rfl (vJ2_init (d := 4) (Nat.le_of_ble_eq_true rfl) hW82 t79  hp84) rfl rfl (Nat.le_of_ble_eq_true rfl) (Nat.le_trans (Nat.le_of_ble_eq_true rfl) hd) (ckmV fun F86 A87 hW88 p90 => ?_)
  have h := h F86 A87 p90
  have t92 : jtg N77 o = 18 := (hT81.tg hW73 (hT75.tg hW70 t71))
  have w93 : jfn N77 0 o = 1 := (hT81.ow hW73 (hT75.tg hW70 (hT69.tg hW60 (hT62.tg hW57 (hT56.tg hW47 (hT49.tg hW44 (hT43.tg hW34 (hT36.tg hW13 (hT15.tg hW2 (hT4.tg hW ht))))))))) (hT75.ow hW70 (hT69.tg hW60 (hT62.tg hW57 (hT56.tg hW47 (hT49.tg hW44 (hT43.tg hW34 (hT36.tg hW13 (hT15.tg hW2 (hT4.tg hW ht)))))))) w72))
  refine c_pRF hW88 dX17_init_74 flX17_56_18 rfl t92 w93 rfl (ty := .object "java/util/ArrayList") rfl (by intro c hc; cases hc; rfl) (by decide) (by decide +kernel) (Or.inl ⟨_, rfl⟩) fun N95 eN95 hT96 hW94 => ?_
  have h := h N95 eN95
  refine j_iconst dX17_init_77 ?_
  refine j_istore_n dX17_init_78 (jokR rfl (Nat.le_of_ble_eq_true rfl)) ?_
  obtain ⟨I103, m104, h0, hs⟩ := h
  have lp : ∀ (n : Nat) (v97 : Int) (N98 : jSh) (F99 : jFl) (A100 : jAr), m104 v97 N98 F99 A100 < n → jWg G N98 F99 A100 → jTx N95 N98 → jR v97 → I103 v97 N98 F99 A100 → J G l d mX17_init 79 [vR (o : Int), vR a1, vI v97] [] N98 F99 A100 (cnV G N Q) := by
    intro nI103
    induction nI103 with
    | zero =>
      intro v97 N98 F99 A100 hmu
      exact absurd hmu (Nat.not_lt_zero _)
    | succ nI103 ihI103 =>
      intro v97 N98 F99 A100 hmuI103 hW101 hT102 rv97 hI
      have h := hs v97 N98 F99 A100 hI
      refine j_iload_n dX17_init_79 rfl ?_
      refine r_aload_n dX17_init_80 rfl ?_
      have t105 : jtg N98 o = 18 := (hT102.tg hW94 (hT96.tg hW88 t92))
      refine r_gIF dX17_init_81 flX17_36_18 rfl t105 rfl ?_
      obtain ⟨h1, h2⟩ := h
      refine j_icmp_ge 169 dX17_init_84 rfl rv97 (hW101.ni rfl (by decide)) (fun q106 => ?_) (fun q106 => ?_)
      · have h := h1 q106
        clear h1 h2
        refine j_iconst dX17_init_169 ?_
        refine j_istore_n dX17_init_170 (jokR rfl (Nat.le_of_ble_eq_true rfl)) ?_
        obtain ⟨I113, m114, h0, hs⟩ := h
        have lp : ∀ (n : Nat) (v107 : Int) (N108 : jSh) (F109 : jFl) (A110 : jAr), m114 v107 N108 F109 A110 < n → jWg G N108 F109 A110 → jTx N98 N108 → jR v107 → I113 v107 N108 F109 A110 → J G l d mX17_init 171 [vR (o : Int), vR a1, vI v107] [] N108 F109 A110 (cnV G N Q) := by
          intro nI113
          induction nI113 with
          | zero =>
            intro v107 N108 F109 A110 hmu
            exact absurd hmu (Nat.not_lt_zero _)
          | succ nI113 ihI113 =>
            intro v107 N108 F109 A110 hmuI113 hW111 hT112 rv107 hI
            have h := hs v107 N108 F109 A110 hI
            refine j_iload_n dX17_init_171 rfl ?_
            refine r_aload_n dX17_init_172 rfl ?_
            obtain ⟨b115, hz116, h⟩ := h
            obtain ⟨t117, h⟩ := h
            refine r_gRN dX17_init_173 flX17_15_1 hz116 t117 rfl ?_
            obtain ⟨b118, hz119, h⟩ := h
            obtain ⟨t120, h⟩ := h
            refine r_gRF dX17_init_176 flX17_77_2 hz119 t120 rfl ?_
            obtain ⟨b121, hz122, h⟩ := h
            obtain ⟨t123, h⟩ := h
            obtain ⟨P124, hp125, h⟩ := h
            refine r_invV (ci := 20) (As := []) (rest := [vI v107]) dX17_init_179 lkX17_30 hz122 t123 rfl rfl (vJ2_size (d := 2) (Nat.le_of_ble_eq_true rfl) hW111 t123  hp125) rfl rfl (Nat.le_of_ble_eq_true rfl) (Nat.le_trans (Nat.le_of_ble_eq_true rfl) hd) (jkpI fun z126 p129 r130 => ?_)
            have h := h z126 p129
            obtain ⟨h1, h2⟩ := h
            refine j_icmp_ge 213 dX17_init_182 rfl rv107 r130 (fun q131 => ?_) (fun q131 => ?_)
            · have h := h1 q131
              clear h1 h2
              exact j_vret dX17_init_213 rfl ⟨rfl, hW111, ((((((((((((hT4.trans hT15).trans hT36).trans hT43).trans hT49).trans hT56).trans hT62).trans hT69).trans hT75).trans hT81).trans hT96).trans hT102).trans hT112), h⟩
            · have h := h2 q131
              clear h1 h2
              refine r_aload_n dX17_init_185 rfl ?_
              have t132 : jtg N108 o = 18 := (hT112.tg hW101 t105)
              refine r_gRF dX17_init_186 flX17_56_18 rfl t132 rfl ?_
              refine r_aload_n dX17_init_189 rfl ?_
              refine r_gRN dX17_init_190 flX17_15_1 hz116 t117 rfl ?_
              refine r_gRF dX17_init_193 flX17_77_2 hz119 t120 rfl ?_
              refine j_iload_n dX17_init_196 rfl ?_
              obtain ⟨P133, hp134, h⟩ := h
              refine r_invV (ci := 20) (As := [vI v107]) (rest := [vR (jfn N108 5417 o)]) dX17_init_197 lkX17_60 hz122 t123 rfl rfl (vJ2_get (d := 4) (Nat.le_of_ble_eq_true rfl) hW111 t123 rv107 hp134) rfl rfl (Nat.le_of_ble_eq_true rfl) (Nat.le_trans (Nat.le_of_ble_eq_true rfl) hd) (jkpR fun z135 p138 r139 => ?_)
              have h := h z135 p138
              obtain ⟨j140, h⟩ := h
              refine r_chk dX17_init_200 q1260 j140 ?_
              obtain ⟨b141, hz142, h⟩ := h
              obtain ⟨t143, h⟩ := h
              obtain ⟨P144, hp145, h⟩ := h
              refine r_invV (ci := 20) (As := [vR z135]) (rest := []) dX17_init_203 lkX17_80 hz142 t143 rfl rfl (vJ2_add (d := 8) (Nat.le_of_ble_eq_true rfl) hW111 t143  hp145) rfl rfl (Nat.le_of_ble_eq_true rfl) (Nat.le_trans (Nat.le_of_ble_eq_true rfl) hd) (cknB fun z146 N149 F147 A148 hW150 hT151 p152 r153 => ?_)
              have h := h z146 N149 F147 A148 p152
              refine j_pop dX17_init_206 rfl ?_
              obtain ⟨r154, h⟩ := h
              refine j_iinc dX17_init_207 rfl (jokR rfl (Nat.le_of_ble_eq_true rfl)) ?_
              refine j_goto 171 dX17_init_210 rfl ?_
              exact J.wk ((((jWk.nil).eq).eq).eq) (ihI113 _ _ _ _ (Nat.lt_of_lt_of_le h.2 (Nat.le_of_lt_succ hmuI113)) hW150 (hT112.trans hT151) r154 h.1)
        exact J.wk ((((jWk.nil).eq).eq).eq) (lp _ _ _ _ _ (Nat.lt_succ_self _) hW101 (jTx.refl _) (by decide) h0)
      · have h := h2 q106
        clear h1 h2
        refine r_aload_n dX17_init_87 rfl ?_
        refine r_gRF dX17_init_88 flX17_41_18 rfl t105 rfl ?_
        refine j_iload_n dX17_init_91 rfl ?_
        refine c_new (ci := 4) hW101 dX17_init_92 rfl q1485 rfl rfl fun b155 N156 F157 eb155 eN156 eF157 t158 w159 hT160 hW161 => ?_
        have h := h b155 N156 F157 eb155 eN156 eF157
        refine j_dup dX17_init_95 (vR_cat _) ?_
        obtain ⟨P162, hp163, h⟩ := h
        refine r_invIN (As := []) (rest := [vR (b155 : Int), vI v97, vR (jfn N98 5408 o)]) dX17_init_96 lkX17_59 rfl (vX3_init (d := 2) (Nat.le_of_ble_eq_true rfl) hW161 t158  hp163) rfl rfl (Nat.le_of_ble_eq_true rfl) (Nat.le_trans (Nat.le_of_ble_eq_true rfl) hd) (cknV fun N167 F165 A166 hW168 hT169 p170 => ?_)
        have h := h N167 F165 A166 p170
        refine r_aload_n dX17_init_99 rfl ?_
        obtain ⟨b172, hz173, h⟩ := h
        obtain ⟨t174, h⟩ := h
        refine r_gRN dX17_init_100 flX17_15_1 hz173 t174 rfl ?_
        obtain ⟨b175, hz176, h⟩ := h
        obtain ⟨t177, h⟩ := h
        refine r_gRF dX17_init_103 flX17_26_2 hz176 t177 rfl ?_
        refine j_iload_n dX17_init_106 rfl ?_
        obtain ⟨b178, hz179, h⟩ := h
        obtain ⟨t180, h⟩ := h
        obtain ⟨P181, hp182, h⟩ := h
        refine r_invV (ci := 20) (As := [vI v97]) (rest := [vR (b155 : Int), vI v97, vR (jfn N98 5408 o)]) dX17_init_107 lkX17_60 hz179 t180 rfl rfl (vJ2_get (d := 4) (Nat.le_of_ble_eq_true rfl) hW168 t180 rv97 hp182) rfl rfl (Nat.le_of_ble_eq_true rfl) (Nat.le_trans (Nat.le_of_ble_eq_true rfl) hd) (jkpR fun z183 p186 r187 => ?_)
        have h := h z183 p186
        obtain ⟨j188, h⟩ := h
        refine r_chk dX17_init_110 q1245 j188 ?_
        obtain ⟨b189, hz190, h⟩ := h
        obtain ⟨t191, h⟩ := h
        refine r_gRF dX17_init_113 flX17_64_17 hz190 t191 rfl ?_
        have t192 : jtg N167 b155 = 4 := (hT169.tg hW161 t158)
        obtain ⟨P193, hp194, h⟩ := h
        refine r_invV (ci := 4) (As := [vR (jfn N167 5102 b189)]) (rest := [vI v97, vR (jfn N98 5408 o)]) dX17_init_116 lkX17_68 rfl t192 rfl rfl (vX3_like (d := 3) (Nat.le_of_ble_eq_true rfl) hW168 t192  hp194) rfl rfl (Nat.le_of_ble_eq_true rfl) (Nat.le_trans (Nat.le_of_ble_eq_true rfl) hd) (ckmR fun z195 F196 A197 hW198 p200 r201 => ?_)
        have h := h z195 F196 A197 p200
        obtain ⟨b202, hz203, h⟩ := h
        obtain ⟨t204, h⟩ := h
        obtain ⟨w205, h⟩ := h
        obtain ⟨c206, h⟩ := h
        obtain ⟨j209, h⟩ := h
        refine c_aast hW198 dX17_init_119 hz203 t204 rfl w205 c206 j209 rfl fun A207 eA207 hW208 => ?_
        have h := h A207 eA207
        refine r_aload_n dX17_init_120 rfl ?_
        have t210 : jtg N167 o = 18 := (hT169.tg hW161 (hT160.tg hW101 t105))
        refine r_gRF dX17_init_121 flX17_47_18 rfl t210 rfl ?_
        refine j_iload_n dX17_init_124 rfl ?_
        refine r_aload_n dX17_init_125 rfl ?_
        refine r_gRN dX17_init_126 flX17_15_1 hz173 t174 rfl ?_
        obtain ⟨b211, hz212, h⟩ := h
        obtain ⟨t213, h⟩ := h
        refine r_gRF dX17_init_129 flX17_72_2 hz212 t213 rfl ?_
        refine j_iload_n dX17_init_132 rfl ?_
        obtain ⟨b214, hz215, h⟩ := h
        obtain ⟨t216, h⟩ := h
        obtain ⟨P217, hp218, h⟩ := h
        refine r_invV (ci := 20) (As := [vI v97]) (rest := [vI v97, vR (jfn N167 5411 o)]) dX17_init_133 lkX17_60 hz215 t216 rfl rfl (vJ2_get (d := 4) (Nat.le_of_ble_eq_true rfl) hW208 t216 rv97 hp218) rfl rfl (Nat.le_of_ble_eq_true rfl) (Nat.le_trans (Nat.le_of_ble_eq_true rfl) hd) (jkpR fun z219 p222 r223 => ?_)
        have h := h z219 p222
        obtain ⟨j224, h⟩ := h
        refine r_chk dX17_init_136 q1245 j224 ?_
        obtain ⟨b225, hz226, h⟩ := h
        obtain ⟨t227, h⟩ := h
        obtain ⟨w228, h⟩ := h
        obtain ⟨c229, h⟩ := h
        obtain ⟨j232, h⟩ := h
        refine c_aast hW208 dX17_init_139 hz226 t227 rfl w228 c229 j232 rfl fun A230 eA230 hW231 => ?_
        have h := h A230 eA230
        refine r_aload_n dX17_init_140 rfl ?_
        refine r_gRF dX17_init_141 flX17_51_18 rfl t210 rfl ?_
        refine j_iload_n dX17_init_144 rfl ?_
        refine r_aload_n dX17_init_145 rfl ?_
        refine r_gRN dX17_init_146 flX17_15_1 hz173 t174 rfl ?_
        refine r_gRF dX17_init_149 flX17_26_2 hz212 t213 rfl ?_
        refine j_iload_n dX17_init_152 rfl ?_
        obtain ⟨b233, hz234, h⟩ := h
        obtain ⟨t235, h⟩ := h
        obtain ⟨P236, hp237, h⟩ := h
        refine r_invV (ci := 20) (As := [vI v97]) (rest := [vI v97, vR (jfn N167 5414 o)]) dX17_init_153 lkX17_60 hz234 t235 rfl rfl (vJ2_get (d := 4) (Nat.le_of_ble_eq_true rfl) hW231 t235 rv97 hp237) rfl rfl (Nat.le_of_ble_eq_true rfl) (Nat.le_trans (Nat.le_of_ble_eq_true rfl) hd) (jkpR fun z238 p241 r242 => ?_)
        have h := h z238 p241
        obtain ⟨j243, h⟩ := h
        refine r_chk dX17_init_156 q1245 j243 ?_
        obtain ⟨b244, hz245, h⟩ := h
        obtain ⟨t246, h⟩ := h
        refine r_gI dX17_init_159 flX17_74_17 hz245 t246 rfl ?_
        obtain ⟨b247, hz248, h⟩ := h
        obtain ⟨t249, h⟩ := h
        obtain ⟨w250, h⟩ := h
        obtain ⟨c251, h⟩ := h
        obtain ⟨b254, h⟩ := h
        refine c_zast hW231 dX17_init_162 hz248 t249 w250 c251 (hW231.fi rfl) b254 fun A252 eA252 hW253 => ?_
        have h := h A252 eA252
        obtain ⟨r255, h⟩ := h
        refine j_iinc dX17_init_163 rfl (jokR rfl (Nat.le_of_ble_eq_true rfl)) ?_
        refine j_goto 79 dX17_init_166 rfl ?_
        exact J.wk ((((jWk.nil).eq).eq).eq) (ihI103 _ _ _ _ (Nat.lt_of_lt_of_le h.2 (Nat.le_of_lt_succ hmuI103)) hW253 ((hT102.trans hT160).trans hT169) r255 h.1)
  exact J.wk ((((jWk.nil).eq).eq).eq) (lp _ _ _ _ _ (Nat.lt_succ_self _) hW94 (jTx.refl _) (by decide) h0)
/-- ChildSays$Order.sorts(LChildSays$Child;)LChildSays$Order; -/
def wqX8_sorts (o : Nat) (a1 : Int) (N : jSh) (F : jFl) (A : jAr) (Q : Int → jFl → jAr → Prop) : Prop :=
  ∃ b1 : Nat, jfn N 2702 o = (b1 : Int) ∧
  jtg N b1 = 5 ∧
  ∃ (P4 : Int → jFl → jAr → Prop), wqX4_inOrder b1 N F A P4 ∧
  ∀ z6 F7 A8, P4 z6 F7 A8 →
  ∃ (P13 : Int → jFl → jAr → Prop), wqX8_whole o a1 N F7 A8 P13 ∧
  ∀ z15 F16 A17, P13 z15 F16 A17 →
  jfn N 0 o = 1 ∧
  ∀ F24 : jFl, F24 = upF F16 2706 o z15 →
  ∀ F26 : jFl, F26 = upF F24 2709 o 0 →
  ∃ (I31 : jFl → jAr → Prop) (m32 : jFl → jAr → Nat), I31 F26 A17 ∧ ∀ (F27 : jFl) (A28 : jAr), I31 F27 A28 →
    ∃ (P33 : Int → jFl → jAr → Prop), wqX8_isBetter o a1 N F27 A28 P33 ∧
    ∀ z35 F36 A37, P33 z35 F36 A37 →
    ((z35 = 0) →
      ∃ (P43 : jFl → jAr → Prop), wqX8_isFirst o N F36 A37 P43 ∧
      ∀ F46 A47, P43 F46 A47 →
      Q (o : Int) F46 A47) ∧
    ((¬ (z35 = 0)) →
      jR ((F36 2709 o) + 1) ∧
      ∀ F54 : jFl, F54 = upF F36 2709 o ((F36 2709 o) + 1) →
      I31 F54 A37 ∧ m32 F54 A37 < m32 F27 A28)
theorem vX8_sorts {G : jG} {l : Launch} [jOff l] {d : Nat} {N : jSh} {F : jFl} {A : jAr} {o : Nat} {a1 : Int} {Q : Int → jFl → jAr → Prop} (hd : 9 ≤ d) (hW : jWg G N F A) (ht : jtg N o = 9) (h : wqX8_sorts o a1 N F A Q) : jCall G l d mX8_sorts [vR (o : Int), vR a1] N F A (cmR G N Q) := by
  unfold wqX8_sorts at h
  refine jCall.of (by decide) rfl (ls := [vR (o : Int), vR a1]) (by simp only [jent_R, jent_I, jent_L, jent_nil]; exact Nat.le_of_ble_eq_true rfl) (by simp only [jloc, jent_R, jent_I, jent_L, jent_nil]; rfl) ?_
  refine r_aload_n dX8_sorts_0 rfl ?_
  refine r_gRF dX8_sorts_1 flX8_20_9 rfl ht rfl ?_
  obtain ⟨b1, hz2, h⟩ := h
  obtain ⟨t3, h⟩ := h
  obtain ⟨P4, hp5, h⟩ := h
  refine r_invV (ci := 5) (As := []) (rest := []) dX8_sorts_4 lkX8_99 hz2 t3 rfl rfl (vX4_inOrder (d := 5) (Nat.le_of_ble_eq_true rfl) hW t3  hp5) rfl rfl (Nat.le_of_ble_eq_true rfl) (Nat.le_trans (Nat.le_of_ble_eq_true rfl) hd) (ckmR fun z6 F7 A8 hW9 p11 r12 => ?_)
  have h := h z6 F7 A8 p11
  refine j_pop dX8_sorts_7 (vR_cat _) ?_
  refine r_aload_n dX8_sorts_8 rfl ?_
  refine r_aload_n dX8_sorts_9 rfl ?_
  refine r_aload_n dX8_sorts_10 rfl ?_
  obtain ⟨P13, hp14, h⟩ := h
  refine r_invV (ci := 9) (As := [vR a1]) (rest := [vR (o : Int)]) dX8_sorts_11 lkX8_45 rfl ht rfl rfl (vX8_whole (d := 7) (Nat.le_of_ble_eq_true rfl) hW9 ht  hp14) rfl rfl (Nat.le_of_ble_eq_true rfl) (Nat.le_trans (Nat.le_of_ble_eq_true rfl) hd) (ckmI fun z15 F16 A17 hW18 p20 r21 => ?_)
  have h := h z15 F16 A17 p20
  obtain ⟨w22, h⟩ := h
  refine c_pI hW18 dX8_sorts_14 flX8_49_9 rfl ht w22 rfl r21 fun F24 eF24 hW23 => ?_
  have h := h F24 eF24
  refine r_aload_n dX8_sorts_17 rfl ?_
  refine j_iconst dX8_sorts_18 ?_
  refine c_pI hW23 dX8_sorts_19 flX8_103_9 rfl ht w22 rfl (by decide) fun F26 eF26 hW25 => ?_
  have h := h F26 eF26
  obtain ⟨I31, m32, h0, hs⟩ := h
  have lp : ∀ (n : Nat) (F27 : jFl) (A28 : jAr), m32 F27 A28 < n → jWg G N F27 A28 → I31 F27 A28 → J G l d mX8_sorts 22 [vR (o : Int), vR a1] [] N F27 A28 (cmR G N Q) := by
    intro nI31
    induction nI31 with
    | zero =>
      intro F27 A28 hmu
      exact absurd hmu (Nat.not_lt_zero _)
    | succ nI31 ihI31 =>
      intro F27 A28 hmuI31 hW29  hI
      have h := hs F27 A28 hI
      refine r_aload_n dX8_sorts_22 rfl ?_
      refine r_aload_n dX8_sorts_23 rfl ?_
      obtain ⟨P33, hp34, h⟩ := h
      refine r_invV (ci := 9) (As := [vR a1]) (rest := []) dX8_sorts_24 lkX8_106 rfl ht rfl rfl (vX8_isBetter (d := 8) (Nat.le_of_ble_eq_true rfl) hW29 ht  hp34) rfl rfl (Nat.le_of_ble_eq_true rfl) (Nat.le_trans (Nat.le_of_ble_eq_true rfl) hd) (ckmB fun z35 F36 A37 hW38 p40 r41 => ?_)
      have h := h z35 F36 A37 p40
      obtain ⟨h1, h2⟩ := h
      refine j_if_eq 43 dX8_sorts_27 rfl (jR_b r41) (fun q42 => ?_) (fun q42 => ?_)
      · have h := h1 q42
        clear h1 h2
        refine r_aload_n dX8_sorts_43 rfl ?_
        obtain ⟨P43, hp44, h⟩ := h
        refine r_invV (ci := 9) (As := []) (rest := []) dX8_sorts_44 lkX8_52 rfl ht rfl rfl (vX8_isFirst (d := 2) (Nat.le_of_ble_eq_true rfl) hW38 ht  hp44) rfl rfl (Nat.le_of_ble_eq_true rfl) (Nat.le_trans (Nat.le_of_ble_eq_true rfl) hd) (ckmV fun F46 A47 hW48 p50 => ?_)
        have h := h F46 A47 p50
        refine r_aload_n dX8_sorts_47 rfl ?_
        exact r_aret dX8_sorts_48 rfl (Or.inl ⟨_, rfl⟩) ⟨_, rfl, rfl, hW48, h, trivial⟩
      · have h := h2 q42
        clear h1 h2
        refine r_aload_n dX8_sorts_30 rfl ?_
        refine j_dup dX8_sorts_31 (vR_cat _) ?_
        refine r_gI dX8_sorts_32 flX8_103_9 rfl ht rfl ?_
        refine j_iconst dX8_sorts_35 ?_
        refine j_iadd dX8_sorts_36 ?_
        obtain ⟨r52, h⟩ := h
        refine c_pI hW38 dX8_sorts_37 flX8_103_9 rfl ht w22 rfl r52 fun F54 eF54 hW53 => ?_
        have h := h F54 eF54
        refine j_goto 22 dX8_sorts_40 rfl ?_
        exact J.wk (((jWk.nil).eq).eq) (ihI31 _ _ (Nat.lt_of_lt_of_le h.2 (Nat.le_of_lt_succ hmuI31)) hW53 h.1)
  exact J.wk (((jWk.nil).eq).eq) (lp _ _ _ (Nat.lt_succ_self _) hW25 h0)
/-- ChildSays.allAnew(LChildSays$Child;)V -/
def wqX0_allAnew (S : Nat → Nat) (o : Nat) (a1 : Int) (N : jSh) (F : jFl) (A : jAr) (Q : jSh → jFl → jAr → Prop) : Prop :=
  ∃ b1 : Nat, jfn N 329 o = (b1 : Int) ∧
  jtg N b1 = 5 ∧
  ∃ (P4 : Int → jFl → jAr → Prop), wqX4_inOrder b1 N F A P4 ∧
  ∀ z6 F7 A8, P4 z6 F7 A8 →
  ∃ b13 : Nat, z6 = (b13 : Int) ∧
  jtg N b13 = 5 ∧
  ∃ (P16 : Int → jFl → jAr → Prop), wqX4_saidBy b13 a1 N F7 A8 P16 ∧
  ∀ z18 F19 A20, P16 z18 F19 A20 →
  ∃ (I31 : Int → jSh → jFl → jAr → Prop) (m32 : Int → jSh → jFl → jAr → Nat), I31 0 N F19 A20 ∧ ∀ (v25 : Int) (N26 : jSh) (F27 : jFl) (A28 : jAr), I31 v25 N26 F27 A28 →
    ∃ b34 : Nat, jfn N26 329 o = (b34 : Int) ∧
    jtg N26 b34 = 5 ∧
    (((F27 1506 b34) ≤ v25) →
      Q N26 F27 A28) ∧
    ((¬ ((F27 1506 b34) ≤ v25)) →
      ∃ b38 : Nat, jfn N26 1505 b34 = (b38 : Int) ∧
      jtg N26 b38 = 113 ∧
      ((0 : Int) ≤ v25 ∧ (v25 : Int) < (jln N26 b38 : Int)) ∧
      ((0 : Int) ≤ v25 ∧ (v25 : Int) < (jln N26 b38 : Int)) ∧
      ∃ (P43 : Int → Prop), wqX4_of b34 (A28 b38 v25) N26 F27 A28 P43 ∧
      ∀ z45, P43 z45 →
      ∃ (P50 : jSh → jFl → jAr → Prop), wqX0_becomes S o (A28 b38 v25) z45 a1 N26 F27 A28 P50 ∧
      ∀ N55 F53 A54, P50 N55 F53 A54 →
      jR (v25 + 1) ∧
      I31 (v25 + 1) N55 F53 A54 ∧ m32 (v25 + 1) N55 F53 A54 < m32 v25 N26 F27 A28)
theorem vX0_allAnew {G : jG} {l : Launch} [jOff l] {d : Nat} {N : jSh} {F : jFl} {A : jAr} {o : Nat} {a1 : Int} {Q : jSh → jFl → jAr → Prop} (hd : 10 ≤ d) (hW : jWg G N F A) (ht : jtg N o = 1) (h : wqX0_allAnew (gS G) o a1 N F A Q) : jCall G l d mX0_allAnew [vR (o : Int), vR a1] N F A (cnV G N Q) := by
  unfold wqX0_allAnew at h
  refine jCall.of (by decide) rfl (ls := [vR (o : Int), vR a1, jD]) (by simp only [jent_R, jent_I, jent_L, jent_nil]; exact Nat.le_of_ble_eq_true rfl) (by simp only [jloc, jent_R, jent_I, jent_L, jent_nil]; rfl) ?_
  refine r_aload_n dX0_allAnew_0 rfl ?_
  refine r_gRF dX0_allAnew_1 flX0_51_1 rfl ht rfl ?_
  obtain ⟨b1, hz2, h⟩ := h
  obtain ⟨t3, h⟩ := h
  obtain ⟨P4, hp5, h⟩ := h
  refine r_invV (ci := 5) (As := []) (rest := []) dX0_allAnew_4 lkX0_353 hz2 t3 rfl rfl (vX4_inOrder (d := 5) (Nat.le_of_ble_eq_true rfl) hW t3  hp5) rfl rfl (Nat.le_of_ble_eq_true rfl) (Nat.le_trans (Nat.le_of_ble_eq_true rfl) hd) (ckmR fun z6 F7 A8 hW9 p11 r12 => ?_)
  have h := h z6 F7 A8 p11
  refine r_aload_n dX0_allAnew_7 rfl ?_
  obtain ⟨b13, hz14, h⟩ := h
  obtain ⟨t15, h⟩ := h
  obtain ⟨P16, hp17, h⟩ := h
  refine r_invV (ci := 5) (As := [vR a1]) (rest := []) dX0_allAnew_8 lkX0_357 hz14 t15 rfl rfl (vX4_saidBy (d := 6) (Nat.le_of_ble_eq_true rfl) hW9 t15  hp17) rfl rfl (Nat.le_of_ble_eq_true rfl) (Nat.le_trans (Nat.le_of_ble_eq_true rfl) hd) (ckmR fun z18 F19 A20 hW21 p23 r24 => ?_)
  have h := h z18 F19 A20 p23
  refine j_pop dX0_allAnew_11 (vR_cat _) ?_
  refine j_iconst dX0_allAnew_12 ?_
  refine j_istore_n dX0_allAnew_13 (jokR rfl (Nat.le_of_ble_eq_true rfl)) ?_
  obtain ⟨I31, m32, h0, hs⟩ := h
  have lp : ∀ (n : Nat) (v25 : Int) (N26 : jSh) (F27 : jFl) (A28 : jAr), m32 v25 N26 F27 A28 < n → jWg G N26 F27 A28 → jTx N N26 → jR v25 → I31 v25 N26 F27 A28 → J G l d mX0_allAnew 14 [vR (o : Int), vR a1, vI v25] [] N26 F27 A28 (cnV G N Q) := by
    intro nI31
    induction nI31 with
    | zero =>
      intro v25 N26 F27 A28 hmu
      exact absurd hmu (Nat.not_lt_zero _)
    | succ nI31 ihI31 =>
      intro v25 N26 F27 A28 hmuI31 hW29 hT30 rv25 hI
      have h := hs v25 N26 F27 A28 hI
      refine j_iload_n dX0_allAnew_14 rfl ?_
      refine r_aload_n dX0_allAnew_15 rfl ?_
      have t33 : jtg N26 o = 1 := (hT30.tg hW21 ht)
      refine r_gRF dX0_allAnew_16 flX0_51_1 rfl t33 rfl ?_
      obtain ⟨b34, hz35, h⟩ := h
      obtain ⟨t36, h⟩ := h
      refine r_gIN dX0_allAnew_19 flX0_387_5 hz35 t36 rfl ?_
      obtain ⟨h1, h2⟩ := h
      refine j_icmp_ge 61 dX0_allAnew_22 rfl rv25 (hW29.fi rfl) (fun q37 => ?_) (fun q37 => ?_)
      · have h := h1 q37
        clear h1 h2
        exact j_vret dX0_allAnew_61 rfl ⟨rfl, hW29, hT30, h⟩
      · have h := h2 q37
        clear h1 h2
        refine r_aload_n dX0_allAnew_25 rfl ?_
        refine r_aload_n dX0_allAnew_26 rfl ?_
        refine r_gRF dX0_allAnew_27 flX0_51_1 rfl t33 rfl ?_
        refine r_gRFN dX0_allAnew_30 flX0_390_5 hz35 t36 rfl ?_
        refine j_iload_n dX0_allAnew_33 rfl ?_
        obtain ⟨b38, hz39, h⟩ := h
        obtain ⟨t40, h⟩ := h
        obtain ⟨c41, h⟩ := h
        refine r_aald dX0_allAnew_34 hz39 t40 rfl rfl c41 ?_
        refine r_aload_n dX0_allAnew_35 rfl ?_
        refine r_gRF dX0_allAnew_36 flX0_51_1 rfl t33 rfl ?_
        refine r_aload_n dX0_allAnew_39 rfl ?_
        refine r_gRF dX0_allAnew_40 flX0_51_1 rfl t33 rfl ?_
        refine r_gRFN dX0_allAnew_43 flX0_390_5 hz35 t36 rfl ?_
        refine j_iload_n dX0_allAnew_46 rfl ?_
        obtain ⟨c42, h⟩ := h
        refine r_aald dX0_allAnew_47 hz39 t40 rfl rfl c42 ?_
        obtain ⟨P43, hp44, h⟩ := h
        refine r_invV (ci := 5) (As := [vR (A28 b38 v25)]) (rest := [vR (A28 b38 v25), vR (o : Int)]) dX0_allAnew_48 lkX0_361 hz35 t36 rfl rfl (vX4_of (d := 2) (Nat.le_of_ble_eq_true rfl) hW29 t36  hp44) rfl rfl (Nat.le_of_ble_eq_true rfl) (Nat.le_trans (Nat.le_of_ble_eq_true rfl) hd) (jkpR fun z45 p48 r49 => ?_)
        have h := h z45 p48
        refine r_aload_n dX0_allAnew_51 rfl ?_
        obtain ⟨P50, hp51, h⟩ := h
        refine r_invV (ci := 1) (As := [vR (A28 b38 v25), vR z45, vR a1]) (rest := []) dX0_allAnew_52 lkX0_393 rfl t33 rfl rfl (vX0_becomes (d := 9) (Nat.le_of_ble_eq_true rfl) hW29 t33  hp51) rfl rfl (Nat.le_of_ble_eq_true rfl) (Nat.le_trans (Nat.le_of_ble_eq_true rfl) hd) (cknV fun N55 F53 A54 hW56 hT57 p58 => ?_)
        have h := h N55 F53 A54 p58
        obtain ⟨r60, h⟩ := h
        refine j_iinc dX0_allAnew_55 rfl (jokR rfl (Nat.le_of_ble_eq_true rfl)) ?_
        refine j_goto 14 dX0_allAnew_58 rfl ?_
        exact J.wk ((((jWk.nil).eq).eq).eq) (ihI31 _ _ _ _ (Nat.lt_of_lt_of_le h.2 (Nat.le_of_lt_succ hmuI31)) hW56 (hT30.trans hT57) r60 h.1)
  exact J.wk ((((jWk.nil).eq).eq).eq) (lp _ _ _ _ _ (Nat.lt_succ_self _) hW21 (jTx.refl _) (by decide) h0)
/-- ChildSays.keeps()V -/
def wqX0_keeps (S : Nat → Nat) (o : Nat) (N : jSh) (F : jFl) (A : jAr) (Q : jSh → jFl → jAr → Prop) : Prop :=
  ∃ b1 : Nat, jfn N 323 o = (b1 : Int) ∧
  jtg N b1 = 20 ∧
  ∃ (P4 : Int → Prop), wqJ2_size b1 N F A P4 ∧
  ∀ z6, P4 z6 →
  ∃ K16 : jFl → jAr → Prop, (
    ∀ (F12 : jFl) (A13 : jAr), K16 F12 A13 →
    ∀ (b19 : Nat) (N20 : jSh) (F21 : jFl), b19 = jnx N → N20 = jnew N 18 0 7 1 → F21 = nwF N F12 →
    ∃ (P26 : jSh → jFl → jAr → Prop), wqX17_init S b19 (o : Int) N20 F21 A13 P26 ∧
    ∀ N31 F29 A30, P26 N31 F29 A30 →
    ∃ (P37 : Int → jSh → jFl → jAr → Prop), wqJ2_add S b1 (b19 : Int) N31 F29 A30 P37 ∧
    ∀ z39 N42 F40 A41, P37 z39 N42 F40 A41 →
    Q N42 F40 A41) ∧
  ((¬ z6 = 20) →
    K16 F A) ∧
  ((z6 = 20) →
    ∃ (P47 : Int → jFl → jAr → Prop), wqJ2_remove b1 0 N F A P47 ∧
    ∀ z49 F50 A51, P47 z49 F50 A51 →
    K16 F50 A51)
theorem vX0_keeps {G : jG} {l : Launch} [jOff l] {d : Nat} {N : jSh} {F : jFl} {A : jAr} {o : Nat} {Q : jSh → jFl → jAr → Prop} (hd : 10 ≤ d) (hW : jWg G N F A) (ht : jtg N o = 1) (h : wqX0_keeps (gS G) o N F A Q) : jCall G l d mX0_keeps [vR (o : Int)] N F A (cnV G N Q) := by
  unfold wqX0_keeps at h
  refine jCall.of (by decide) rfl (ls := [vR (o : Int)]) (by simp only [jent_R, jent_I, jent_L, jent_nil]; exact Nat.le_of_ble_eq_true rfl) (by simp only [jloc, jent_R, jent_I, jent_L, jent_nil]; rfl) ?_
  refine r_aload_n dX0_keeps_0 rfl ?_
  refine r_gRF dX0_keeps_1 flX0_35_1 rfl ht rfl ?_
  obtain ⟨b1, hz2, h⟩ := h
  obtain ⟨t3, h⟩ := h
  obtain ⟨P4, hp5, h⟩ := h
  refine r_invV (ci := 20) (As := []) (rest := []) dX0_keeps_4 lkX0_128 hz2 t3 rfl rfl (vJ2_size (d := 2) (Nat.le_of_ble_eq_true rfl) hW t3  hp5) rfl rfl (Nat.le_of_ble_eq_true rfl) (Nat.le_trans (Nat.le_of_ble_eq_true rfl) hd) (jkpI fun z6 p9 r10 => ?_)
  have h := h z6 p9
  refine j_bipush dX0_keeps_7 ?_
  obtain ⟨K16, hK18, h⟩ := h
  have jn17 : ∀ (F12 : jFl) (A13 : jAr), jWg G N F12 A13 → K16 F12 A13 → J G l d mX0_keeps 21 [vR (o : Int)] [] N F12 A13 (cnV G N Q) := by
    intro F12 A13 hW14  h
    have h := hK18 F12 A13 h
    refine r_aload_n dX0_keeps_21 rfl ?_
    refine r_gRF dX0_keeps_22 flX0_35_1 rfl ht rfl ?_
    refine c_new (ci := 18) hW14 dX0_keeps_25 rfl q1239 rfl rfl fun b19 N20 F21 eb19 eN20 eF21 t22 w23 hT24 hW25 => ?_
    have h := h b19 N20 F21 eb19 eN20 eF21
    refine j_dup dX0_keeps_28 (vR_cat _) ?_
    refine r_aload_n dX0_keeps_29 rfl ?_
    obtain ⟨P26, hp27, h⟩ := h
    refine r_invI (As := [vR (o : Int)]) (rest := [vR (b19 : Int), vR (jfn N 323 o)]) dX0_keeps_30 lkX0_186 rfl (vX17_init (d := 9) (Nat.le_of_ble_eq_true rfl) hW25 t22  hp27) rfl rfl (Nat.le_of_ble_eq_true rfl) (Nat.le_trans (Nat.le_of_ble_eq_true rfl) hd) (cknV fun N31 F29 A30 hW32 hT33 p34 => ?_)
    have h := h N31 F29 A30 p34
    have t36 : jtg N31 b1 = 20 := (hT33.tg hW25 (hT24.tg hW14 t3))
    obtain ⟨P37, hp38, h⟩ := h
    refine r_invV (ci := 20) (As := [vR (b19 : Int)]) (rest := []) dX0_keeps_33 lkX0_187 hz2 t36 rfl rfl (vJ2_add (d := 8) (Nat.le_of_ble_eq_true rfl) hW32 t36  hp38) rfl rfl (Nat.le_of_ble_eq_true rfl) (Nat.le_trans (Nat.le_of_ble_eq_true rfl) hd) (cknB fun z39 N42 F40 A41 hW43 hT44 p45 r46 => ?_)
    have h := h z39 N42 F40 A41 p45
    refine j_pop dX0_keeps_36 rfl ?_
    exact j_vret dX0_keeps_37 rfl ⟨rfl, hW43, ((hT24.trans hT33).trans hT44), h⟩
  obtain ⟨h1, h2⟩ := h
  refine j_icmp_ne 21 dX0_keeps_9 rfl r10 (by decide) (fun q11 => ?_) (fun q11 => ?_)
  · have h := h1 q11
    clear h1 h2
    exact J.wk ((jWk.nil).eq) (jn17 _ _ hW h)
  · have h := h2 (Classical.not_not.mp q11)
    clear h1 h2
    refine r_aload_n dX0_keeps_12 rfl ?_
    refine r_gRF dX0_keeps_13 flX0_35_1 rfl ht rfl ?_
    refine j_iconst dX0_keeps_16 ?_
    obtain ⟨P47, hp48, h⟩ := h
    refine r_invV (ci := 20) (As := [vI 0]) (rest := []) dX0_keeps_17 lkX0_181 hz2 t3 rfl rfl (vJ2_remove (d := 4) (Nat.le_of_ble_eq_true rfl) hW t3 (by decide) hp48) rfl rfl (Nat.le_of_ble_eq_true rfl) (Nat.le_trans (Nat.le_of_ble_eq_true rfl) hd) (ckmR fun z49 F50 A51 hW52 p54 r55 => ?_)
    have h := h z49 F50 A51 p54
    refine j_pop dX0_keeps_20 (vR_cat _) ?_
    exact J.wk ((jWk.nil).eq) (jn17 _ _ hW52 h)
/-- ChildSays.sorted(II)I -/
def wqX0_sorted (o : Nat) (a1 : Int) (a2 : Int) (N : jSh) (F : jFl) (A : jAr) (Q : Int → jFl → jAr → Prop) : Prop :=
  ∃ (P1 : Int → Prop), wqX0_childOf o a1 N F A P1 ∧
  ∀ z3, P1 z3 →
  ((z3 < 0) →
    Q (-1) F A) ∧
  ((¬ (z3 < 0)) →
    ∃ b9 : Nat, F 311 o = (b9 : Int) ∧
    jtg N b9 = 2 ∧
    ∃ (P12 : Int → Prop), wqX1_standing b9 N F A P12 ∧
    ∀ z14, P12 z14 →
    ((¬ z14 = 0) →
      ∃ b20 : Nat, jfn N 344 o = (b20 : Int) ∧
      jtg N b20 = 9 ∧
      ∃ (P23 : Int → jFl → jAr → Prop), wqX8_sorts b20 z3 N F A P23 ∧
      ∀ z25 F26 A27, P23 z25 F26 A27 →
      ((¬ a2 = 20) →
        ∃ (P33 : Int → Prop), wqX8_tells b20 a2 N F26 A27 P33 ∧
        ∀ z35, P33 z35 →
        Q z35 F26 A27) ∧
      ((a2 = 20) →
        Q (F26 2709 b20) F26 A27)) ∧
    ((z14 = 0) →
      Q (-1) F A))
theorem vX0_sorted {G : jG} {l : Launch} [jOff l] {d : Nat} {N : jSh} {F : jFl} {A : jAr} {o : Nat} {a1 a2 : Int} {Q : Int → jFl → jAr → Prop} (hd : 10 ≤ d) (hW : jWg G N F A) (ht : jtg N o = 1) (ra1 : jR a1) (ra2 : jR a2) (h : wqX0_sorted o a1 a2 N F A Q) : jCall G l d mX0_sorted [vR (o : Int), vI a1, vI a2] N F A (cmI G N Q) := by
  unfold wqX0_sorted at h
  refine jCall.of (by decide) rfl (ls := [vR (o : Int), vI a1, vI a2, jD]) (by simp only [jent_R, jent_I, jent_L, jent_nil]; exact Nat.le_of_ble_eq_true rfl) (by simp only [jloc, jent_R, jent_I, jent_L, jent_nil]; rfl) ?_
  refine r_aload_n dX0_sorted_0 rfl ?_
  refine j_iload_n dX0_sorted_1 rfl ?_
  obtain ⟨P1, hp2, h⟩ := h
  refine r_invV (ci := 1) (As := [vI a1]) (rest := []) dX0_sorted_2 lkX0_273 rfl ht rfl rfl (vX0_childOf (d := 5) (Nat.le_of_ble_eq_true rfl) hW ht ra1 hp2) rfl rfl (Nat.le_of_ble_eq_true rfl) (Nat.le_trans (Nat.le_of_ble_eq_true rfl) hd) (jkpR fun z3 p6 r7 => ?_)
  have h := h z3 p6
  refine r_astore_n dX0_sorted_5 rfl ?_
  refine r_aload_n dX0_sorted_6 rfl ?_
  obtain ⟨h1, h2⟩ := h
  refine r_ifnull 20 dX0_sorted_7 rfl (fun q8 => ?_) (fun q8 => ?_)
  · have h := h1 q8
    clear h1 h2
    refine j_iconst dX0_sorted_20 ?_
    exact j_iret dX0_sorted_21 rfl ⟨_, rfl, rfl, hW, h, (by decide)⟩
  · have h := h2 q8
    clear h1 h2
    refine r_aload_n dX0_sorted_10 rfl ?_
    refine r_gR dX0_sorted_11 flX0_20_1 rfl ht rfl ?_
    obtain ⟨b9, hz10, h⟩ := h
    obtain ⟨t11, h⟩ := h
    obtain ⟨P12, hp13, h⟩ := h
    refine r_invV (ci := 2) (As := []) (rest := []) dX0_sorted_14 lkX0_209 hz10 t11 rfl rfl (vX1_standing (d := 5) (Nat.le_of_ble_eq_true rfl) hW t11  hp13) rfl rfl (Nat.le_of_ble_eq_true rfl) (Nat.le_trans (Nat.le_of_ble_eq_true rfl) hd) (jkpI fun z14 p17 r18 => ?_)
    have h := h z14 p17
    obtain ⟨h1, h2⟩ := h
    refine j_if_ne 22 dX0_sorted_17 rfl r18 (fun q19 => ?_) (fun q19 => ?_)
    · have h := h1 q19
      clear h1 h2
      refine r_aload_n dX0_sorted_22 rfl ?_
      refine r_gRF dX0_sorted_23 flX0_79_1 rfl ht rfl ?_
      refine r_aload_n dX0_sorted_26 rfl ?_
      obtain ⟨b20, hz21, h⟩ := h
      obtain ⟨t22, h⟩ := h
      obtain ⟨P23, hp24, h⟩ := h
      refine r_invV (ci := 9) (As := [vR z3]) (rest := []) dX0_sorted_27 lkX0_480 hz21 t22 rfl rfl (vX8_sorts (d := 9) (Nat.le_of_ble_eq_true rfl) hW t22  hp24) rfl rfl (Nat.le_of_ble_eq_true rfl) (Nat.le_trans (Nat.le_of_ble_eq_true rfl) hd) (ckmR fun z25 F26 A27 hW28 p30 r31 => ?_)
      have h := h z25 F26 A27 p30
      refine j_pop dX0_sorted_30 (vR_cat _) ?_
      refine j_iload_n dX0_sorted_31 rfl ?_
      refine j_bipush dX0_sorted_32 ?_
      obtain ⟨h1, h2⟩ := h
      refine j_icmp_ne 47 dX0_sorted_34 rfl ra2 (by decide) (fun q32 => ?_) (fun q32 => ?_)
      · have h := h1 q32
        clear h1 h2
        refine r_aload_n dX0_sorted_47 rfl ?_
        refine r_gRF dX0_sorted_48 flX0_79_1 rfl ht rfl ?_
        refine j_iload_n dX0_sorted_51 rfl ?_
        obtain ⟨P33, hp34, h⟩ := h
        refine r_invV (ci := 9) (As := [vI a2]) (rest := []) dX0_sorted_52 lkX0_479 hz21 t22 rfl rfl (vX8_tells (d := 3) (Nat.le_of_ble_eq_true rfl) hW28 t22 ra2 hp34) rfl rfl (Nat.le_of_ble_eq_true rfl) (Nat.le_trans (Nat.le_of_ble_eq_true rfl) hd) (jkpI fun z35 p38 r39 => ?_)
        have h := h z35 p38
        exact j_iret dX0_sorted_55 rfl ⟨_, rfl, rfl, hW28, h, r39⟩
      · have h := h2 (Classical.not_not.mp q32)
        clear h1 h2
        refine r_aload_n dX0_sorted_37 rfl ?_
        refine r_gRF dX0_sorted_38 flX0_79_1 rfl ht rfl ?_
        refine r_gIN dX0_sorted_41 flX0_483_9 hz21 t22 rfl ?_
        refine j_goto 55 dX0_sorted_44 rfl ?_
        exact j_iret dX0_sorted_55 rfl ⟨_, rfl, rfl, hW28, h, (hW28.fi rfl)⟩
    · have h := h2 (Classical.not_not.mp q19)
      clear h1 h2
      refine j_iconst dX0_sorted_20 ?_
      exact j_iret dX0_sorted_21 rfl ⟨_, rfl, rfl, hW, h, (by decide)⟩
/-- ChildSays.undo()Z -/
def wqX0_undo (S : Nat → Nat) (o : Nat) (N : jSh) (F : jFl) (A : jAr) (Q : Int → jSh → jFl → jAr → Prop) : Prop :=
  ∃ b1 : Nat, jfn N 323 o = (b1 : Int) ∧
  jtg N b1 = 20 ∧
  ∃ (P4 : Int → Prop), wqJ2_isEmpty b1 N F A P4 ∧
  ∀ z6, P4 z6 →
  ((z6 = 0) →
    ∃ (P12 : Int → Prop), wqJ2_size b1 N F A P12 ∧
    ∀ z14, P12 z14 →
    jR (z14 - 1) ∧
    ∃ (P20 : Int → jFl → jAr → Prop), wqJ2_remove b1 (z14 - 1) N F A P20 ∧
    ∀ z22 F23 A24, P20 z22 F23 A24 →
    jcst N "ChildSays$Was" z22 ∧
    ∃ b30 : Nat, z22 = (b30 : Int) ∧
    jtg N b30 = 18 ∧
    ∃ (P33 : jSh → jFl → jAr → Prop), wqX17_comesBack S b30 N F23 A24 P33 ∧
    ∀ N38 F36 A37, P33 N38 F36 A37 →
    Q 1 N38 F36 A37) ∧
  ((¬ (z6 = 0)) →
    ∃ (P43 : Int → jFl → jAr → Prop), wqX0_refuses o 4 N F A P43 ∧
    ∀ z45 F46 A47, P43 z45 F46 A47 →
    Q z45 N F46 A47)
theorem vX0_undo {G : jG} {l : Launch} [jOff l] {d : Nat} {N : jSh} {F : jFl} {A : jAr} {o : Nat} {Q : Int → jSh → jFl → jAr → Prop} (hd : 10 ≤ d) (hW : jWg G N F A) (ht : jtg N o = 1) (h : wqX0_undo (gS G) o N F A Q) : jCall G l d mX0_undo [vR (o : Int)] N F A (cnB G N Q) := by
  unfold wqX0_undo at h
  refine jCall.of (by decide) rfl (ls := [vR (o : Int)]) (by simp only [jent_R, jent_I, jent_L, jent_nil]; exact Nat.le_of_ble_eq_true rfl) (by simp only [jloc, jent_R, jent_I, jent_L, jent_nil]; rfl) ?_
  refine r_aload_n dX0_undo_0 rfl ?_
  refine r_gRF dX0_undo_1 flX0_35_1 rfl ht rfl ?_
  obtain ⟨b1, hz2, h⟩ := h
  obtain ⟨t3, h⟩ := h
  obtain ⟨P4, hp5, h⟩ := h
  refine r_invV (ci := 20) (As := []) (rest := []) dX0_undo_4 lkX0_190 hz2 t3 rfl rfl (vJ2_isEmpty (d := 2) (Nat.le_of_ble_eq_true rfl) hW t3  hp5) rfl rfl (Nat.le_of_ble_eq_true rfl) (Nat.le_trans (Nat.le_of_ble_eq_true rfl) hd) (jkpB fun z6 p9 r10 => ?_)
  have h := h z6 p9
  obtain ⟨h1, h2⟩ := h
  refine j_if_eq 16 dX0_undo_7 rfl (jR_b r10) (fun q11 => ?_) (fun q11 => ?_)
  · have h := h1 q11
    clear h1 h2
    refine r_aload_n dX0_undo_16 rfl ?_
    refine r_gRF dX0_undo_17 flX0_35_1 rfl ht rfl ?_
    refine r_aload_n dX0_undo_20 rfl ?_
    refine r_gRF dX0_undo_21 flX0_35_1 rfl ht rfl ?_
    obtain ⟨P12, hp13, h⟩ := h
    refine r_invV (ci := 20) (As := []) (rest := [vR (jfn N 323 o)]) dX0_undo_24 lkX0_128 hz2 t3 rfl rfl (vJ2_size (d := 2) (Nat.le_of_ble_eq_true rfl) hW t3  hp13) rfl rfl (Nat.le_of_ble_eq_true rfl) (Nat.le_trans (Nat.le_of_ble_eq_true rfl) hd) (jkpI fun z14 p17 r18 => ?_)
    have h := h z14 p17
    refine j_iconst dX0_undo_27 ?_
    refine j_isub dX0_undo_28 ?_
    obtain ⟨r19, h⟩ := h
    obtain ⟨P20, hp21, h⟩ := h
    refine r_invV (ci := 20) (As := [vI (z14 - 1)]) (rest := []) dX0_undo_29 lkX0_181 hz2 t3 rfl rfl (vJ2_remove (d := 4) (Nat.le_of_ble_eq_true rfl) hW t3 r19 hp21) rfl rfl (Nat.le_of_ble_eq_true rfl) (Nat.le_trans (Nat.le_of_ble_eq_true rfl) hd) (ckmR fun z22 F23 A24 hW25 p27 r28 => ?_)
    have h := h z22 F23 A24 p27
    obtain ⟨j29, h⟩ := h
    refine r_chk dX0_undo_32 q1239 j29 ?_
    obtain ⟨b30, hz31, h⟩ := h
    obtain ⟨t32, h⟩ := h
    obtain ⟨P33, hp34, h⟩ := h
    refine r_invV (ci := 18) (As := []) (rest := []) dX0_undo_35 lkX0_194 hz31 t32 rfl rfl (vX17_comesBack (d := 9) (Nat.le_of_ble_eq_true rfl) hW25 t32  hp34) rfl rfl (Nat.le_of_ble_eq_true rfl) (Nat.le_trans (Nat.le_of_ble_eq_true rfl) hd) (cknV fun N38 F36 A37 hW39 hT40 p41 => ?_)
    have h := h N38 F36 A37 p41
    refine j_iconst dX0_undo_38 ?_
    exact j_zret dX0_undo_39 rfl (nr_bool (by decide)) ⟨_, rfl, hW39, hT40, h, (by decide)⟩
  · have h := h2 q11
    clear h1 h2
    refine r_aload_n dX0_undo_10 rfl ?_
    refine j_iconst dX0_undo_11 ?_
    obtain ⟨P43, hp44, h⟩ := h
    refine r_invV (ci := 1) (As := [vI 4]) (rest := []) dX0_undo_12 lkX0_118 rfl ht rfl rfl (vX0_refuses (d := 3) (Nat.le_of_ble_eq_true rfl) hW ht (by decide) hp44) rfl rfl (Nat.le_of_ble_eq_true rfl) (Nat.le_trans (Nat.le_of_ble_eq_true rfl) hd) (ckmB fun z45 F46 A47 hW48 p50 r51 => ?_)
    have h := h z45 F46 A47 p50
    exact j_zret dX0_undo_15 rfl (nr_bool r51) ⟨_, rfl, hW48, (jTx.refl N), h, r51⟩
/-- ChildSays$Reader.isSign(C)Z -/
def wqX10_isSign (S : Nat → Nat) (o : Nat) (a1 : Int) (N : jSh) (F : jFl) (A : jAr) (Q : Int → jSh → jFl → jAr → Prop) (X : Nat → jSh → jFl → jAr → Prop) : Prop :=
  ∃ (P1 : Int → jSh → jFl → jAr → Prop), wqX10_see S o N F A P1 X ∧
  ∀ z3 N6 F4 A5, P1 z3 N6 F4 A5 →
  ((¬ z3 = 3) →
    Q 0 N6 F4 A5) ∧
  ((z3 = 3) →
    ∀ z14 : Int, z14 = (if ¬ (F4 3324 o) = a1 then (0 : Int) else 1) →
    Q z14 N6 F4 A5)
theorem vX10_isSign {G : jG} {l : Launch} [jOff l] {d : Nat} {N : jSh} {F : jFl} {A : jAr} {o : Nat} {a1 : Int} {Q : Int → jSh → jFl → jAr → Prop} {X : Nat → jSh → jFl → jAr → Prop} (hd : 10 ≤ d) (hW : jWg G N F A) (ht : jtg N o = 11) (ra1 : jR a1) (h : wqX10_isSign (gS G) o a1 N F A Q X) : jCall G l d mX10_isSign [vR (o : Int), vI a1] N F A (cX G N X (cnB G N Q)) := by
  unfold wqX10_isSign at h
  refine jCall.of (by decide) rfl (ls := [vR (o : Int), vI a1]) (by simp only [jent_R, jent_I, jent_L, jent_nil]; exact Nat.le_of_ble_eq_true rfl) (by simp only [jloc, jent_R, jent_I, jent_L, jent_nil]; rfl) ?_
  refine r_aload_n dX10_isSign_0 rfl ?_
  obtain ⟨P1, hp2, h⟩ := h
  refine r_invV (ci := 11) (As := []) (rest := []) dX10_isSign_1 lkX10_75 rfl ht rfl rfl (vX10_see (d := 9) (Nat.le_of_ble_eq_true rfl) hW ht  hp2) rfl rfl (Nat.le_of_ble_eq_true rfl) (Nat.le_trans (Nat.le_of_ble_eq_true rfl) hd) (ckX (fun q N9 F9 A9 W9 T9 t9 w9 h9 => JT.thru (hout0 rfl _) W9 ((jTx.refl N).trans T9) t9 w9 h9) (cknI fun z3 N6 F4 A5 hW7 hT8 p9 r10 => ?_))
  have h := h z3 N6 F4 A5 p9
  refine j_iconst dX10_isSign_4 ?_
  obtain ⟨h1, h2⟩ := h
  refine j_icmp_ne 20 dX10_isSign_5 rfl r10 (by decide) (fun q11 => ?_) (fun q11 => ?_)
  · have h := h1 q11
    clear h1 h2
    refine j_iconst dX10_isSign_20 ?_
    exact j_zret dX10_isSign_21 rfl (nr_bool (by decide)) (Or.inl ⟨_, rfl, hW7, hT8, h, (by decide)⟩)
  · have h := h2 (Classical.not_not.mp q11)
    clear h1 h2
    refine r_aload_n dX10_isSign_8 rfl ?_
    have t12 : jtg N6 o = 11 := (hT8.tg hW ht)
    refine r_gI dX10_isSign_9 flX10_50_11 rfl t12 rfl ?_
    refine j_iload_n dX10_isSign_12 rfl ?_
    have jn15 : ∀ z14 : Int, z14 = (if ¬ (F4 3324 o) = a1 then (0 : Int) else 1) → J G l d mX10_isSign 21 [vR (o : Int), vI a1] [vI z14] N6 F4 A5 (cX G N X (cnB G N Q)) := by
      intro z14 ez14
      have h := h z14 ez14
      exact j_zret dX10_isSign_21 rfl (nr_bool (ez14 ▸ jB_ite (by decide) (by decide))) (Or.inl ⟨_, rfl, hW7, hT8, h, (ez14 ▸ jB_ite (by decide) (by decide))⟩)
    clear h
    refine j_icmp_ne 20 dX10_isSign_13 rfl (hW7.fi rfl) ra1 (fun q13 => ?_) (fun q13 => ?_)
    · refine j_iconst dX10_isSign_20 ?_
      exact jn15 _ (if_pos q13).symm
    · refine j_iconst dX10_isSign_16 ?_
      refine j_goto 21 dX10_isSign_17 rfl ?_
      exact jn15 _ (if_neg q13).symm
/-- ChildSays$Reader.isWord(Ljava/lang/String;)Z -/
def wqX10_isWord (S : Nat → Nat) (o : Nat) (a1 : Int) (N : jSh) (F : jFl) (A : jAr) (Q : Int → jSh → jFl → jAr → Prop) (X : Nat → jSh → jFl → jAr → Prop) : Prop :=
  ∃ (P1 : Int → jSh → jFl → jAr → Prop), wqX10_see S o N F A P1 X ∧
  ∀ z3 N6 F4 A5, P1 z3 N6 F4 A5 →
  ((¬ z3 = 1) →
    Q 0 N6 F4 A5) ∧
  ((z3 = 1) →
    ∃ b13 : Nat, F4 3329 o = (b13 : Int) ∧
    jtg N6 b13 = 22 ∧
    ∃ (P16 : Int → Prop), wqJ5_equals S b13 a1 N6 F4 A5 P16 ∧
    ∀ z18, P16 z18 →
    ∀ z24 : Int, z24 = (if z18 = 0 then (0 : Int) else 1) →
    Q z24 N6 F4 A5)
theorem vX10_isWord {G : jG} {l : Launch} [jOff l] {d : Nat} {N : jSh} {F : jFl} {A : jAr} {o : Nat} {a1 : Int} {Q : Int → jSh → jFl → jAr → Prop} {X : Nat → jSh → jFl → jAr → Prop} (hd : 10 ≤ d) (hW : jWg G N F A) (ht : jtg N o = 11) (h : wqX10_isWord (gS G) o a1 N F A Q X) : jCall G l d mX10_isWord [vR (o : Int), vR a1] N F A (cX G N X (cnB G N Q)) := by
  unfold wqX10_isWord at h
  refine jCall.of (by decide) rfl (ls := [vR (o : Int), vR a1]) (by simp only [jent_R, jent_I, jent_L, jent_nil]; exact Nat.le_of_ble_eq_true rfl) (by simp only [jloc, jent_R, jent_I, jent_L, jent_nil]; rfl) ?_
  refine r_aload_n dX10_isWord_0 rfl ?_
  obtain ⟨P1, hp2, h⟩ := h
  refine r_invV (ci := 11) (As := []) (rest := []) dX10_isWord_1 lkX10_75 rfl ht rfl rfl (vX10_see (d := 9) (Nat.le_of_ble_eq_true rfl) hW ht  hp2) rfl rfl (Nat.le_of_ble_eq_true rfl) (Nat.le_trans (Nat.le_of_ble_eq_true rfl) hd) (ckX (fun q N9 F9 A9 W9 T9 t9 w9 h9 => JT.thru (hout0 rfl _) W9 ((jTx.refl N).trans T9) t9 w9 h9) (cknI fun z3 N6 F4 A5 hW7 hT8 p9 r10 => ?_))
  have h := h z3 N6 F4 A5 p9
  refine j_iconst dX10_isWord_4 ?_
  obtain ⟨h1, h2⟩ := h
  refine j_icmp_ne 23 dX10_isWord_5 rfl r10 (by decide) (fun q11 => ?_) (fun q11 => ?_)
  · have h := h1 q11
    clear h1 h2
    refine j_iconst dX10_isWord_23 ?_
    exact j_zret dX10_isWord_24 rfl (nr_bool (by decide)) (Or.inl ⟨_, rfl, hW7, hT8, h, (by decide)⟩)
  · have h := h2 (Classical.not_not.mp q11)
    clear h1 h2
    refine r_aload_n dX10_isWord_8 rfl ?_
    have t12 : jtg N6 o = 11 := (hT8.tg hW ht)
    refine r_gR dX10_isWord_9 flX10_64_11 rfl t12 rfl ?_
    refine r_aload_n dX10_isWord_12 rfl ?_
    obtain ⟨b13, hz14, h⟩ := h
    obtain ⟨t15, h⟩ := h
    obtain ⟨P16, hp17, h⟩ := h
    refine r_invV (ci := 22) (As := [vR a1]) (rest := []) dX10_isWord_13 lkX10_79 hz14 t15 rfl rfl (vJ5_equals (d := 3) (Nat.le_of_ble_eq_true rfl) hW7 t15  hp17) rfl rfl (Nat.le_of_ble_eq_true rfl) (Nat.le_trans (Nat.le_of_ble_eq_true rfl) hd) (jkpB fun z18 p21 r22 => ?_)
    have h := h z18 p21
    have jn25 : ∀ z24 : Int, z24 = (if z18 = 0 then (0 : Int) else 1) → J G l d mX10_isWord 24 [vR (o : Int), vR a1] [vI z24] N6 F4 A5 (cX G N X (cnB G N Q)) := by
      intro z24 ez24
      have h := h z24 ez24
      exact j_zret dX10_isWord_24 rfl (nr_bool (ez24 ▸ jB_ite (by decide) (by decide))) (Or.inl ⟨_, rfl, hW7, hT8, h, (ez24 ▸ jB_ite (by decide) (by decide))⟩)
    clear h
    refine j_if_eq 23 dX10_isWord_16 rfl (jR_b r22) (fun q23 => ?_) (fun q23 => ?_)
    · refine j_iconst dX10_isWord_23 ?_
      exact jn25 _ (if_pos q23).symm
    · refine j_iconst dX10_isWord_19 ?_
      refine j_goto 24 dX10_isWord_20 rfl ?_
      exact jn25 _ (if_neg q23).symm
/-- ChildSays$Reader.name()Ljava/lang/String; -/
def wqX10_name (S : Nat → Nat) (o : Nat) (N : jSh) (F : jFl) (A : jAr) (Q : Int → jSh → jFl → jAr → Prop) (X : Nat → jSh → jFl → jAr → Prop) : Prop :=
  ∃ (P1 : Int → jSh → jFl → jAr → Prop), wqX10_see S o N F A P1 X ∧
  ∀ z3 N6 F4 A5, P1 z3 N6 F4 A5 →
  ((¬ z3 = 1) →
    ∃ (P13 : Int → jSh → jFl → jAr → Prop), wqX10_wrong o N6 F4 A5 P13 ∧
    ∀ z15 N18 F16 A17, P13 z15 N18 F16 A17 →
    ∃ b23 : Nat, z15 = (b23 : Int) ∧
    jtg N18 b23 = 12 ∧
    jfn N18 0 b23 = 1 ∧
    X b23 N18 F16 A17) ∧
  ((z3 = 1) →
    ∃ (P28 : Int → Prop), wqX0_isOwn S (F4 3329 o) N6 F4 A5 P28 ∧
    ∀ z30, P28 z30 →
    ((z30 = 0) →
      Q (F4 3329 o) N6 F4 A5) ∧
    ((¬ (z30 = 0)) →
      ∃ (P36 : Int → jSh → jFl → jAr → Prop), wqX10_wrong o N6 F4 A5 P36 ∧
      ∀ z38 N41 F39 A40, P36 z38 N41 F39 A40 →
      ∃ b46 : Nat, z38 = (b46 : Int) ∧
      jtg N41 b46 = 12 ∧
      jfn N41 0 b46 = 1 ∧
      X b46 N41 F39 A40))
theorem vX10_name {G : jG} {l : Launch} [jOff l] {d : Nat} {N : jSh} {F : jFl} {A : jAr} {o : Nat} {Q : Int → jSh → jFl → jAr → Prop} {X : Nat → jSh → jFl → jAr → Prop} (hd : 10 ≤ d) (hW : jWg G N F A) (ht : jtg N o = 11) (h : wqX10_name (gS G) o N F A Q X) : jCall G l d mX10_name [vR (o : Int)] N F A (cX G N X (cnR G N Q)) := by
  unfold wqX10_name at h
  refine jCall.of (by decide) rfl (ls := [vR (o : Int)]) (by simp only [jent_R, jent_I, jent_L, jent_nil]; exact Nat.le_of_ble_eq_true rfl) (by simp only [jloc, jent_R, jent_I, jent_L, jent_nil]; rfl) ?_
  refine r_aload_n dX10_name_0 rfl ?_
  obtain ⟨P1, hp2, h⟩ := h
  refine r_invV (ci := 11) (As := []) (rest := []) dX10_name_1 lkX10_75 rfl ht rfl rfl (vX10_see (d := 9) (Nat.le_of_ble_eq_true rfl) hW ht  hp2) rfl rfl (Nat.le_of_ble_eq_true rfl) (Nat.le_trans (Nat.le_of_ble_eq_true rfl) hd) (ckX (fun q N9 F9 A9 W9 T9 t9 w9 h9 => JT.thru (hout0 rfl _) W9 ((jTx.refl N).trans T9) t9 w9 h9) (cknI fun z3 N6 F4 A5 hW7 hT8 p9 r10 => ?_))
  have h := h z3 N6 F4 A5 p9
  refine j_iconst dX10_name_4 ?_
  obtain ⟨h1, h2⟩ := h
  refine j_icmp_ne 18 dX10_name_5 rfl r10 (by decide) (fun q11 => ?_) (fun q11 => ?_)
  · have h := h1 q11
    clear h1 h2
    refine r_aload_n dX10_name_18 rfl ?_
    have t12 : jtg N6 o = 11 := (hT8.tg hW ht)
    obtain ⟨P13, hp14, h⟩ := h
    refine r_invV (ci := 11) (As := []) (rest := []) dX10_name_19 lkX10_93 rfl t12 rfl rfl (vX10_wrong (d := 9) (Nat.le_of_ble_eq_true rfl) hW7 t12  hp14) rfl rfl (Nat.le_of_ble_eq_true rfl) (Nat.le_trans (Nat.le_of_ble_eq_true rfl) hd) (cknR fun z15 N18 F16 A17 hW19 hT20 p21 r22 => ?_)
    have h := h z15 N18 F16 A17 p21
    obtain ⟨b23, hz24, h⟩ := h
    obtain ⟨t25, h⟩ := h
    obtain ⟨w26, h⟩ := h
    exact r_athrow dX10_name_22 hz24 (JT.thru (hout0 rfl _) hW19 (hT8.trans hT20) t25 w26 h)
  · have h := h2 (Classical.not_not.mp q11)
    clear h1 h2
    refine r_aload_n dX10_name_8 rfl ?_
    have t27 : jtg N6 o = 11 := (hT8.tg hW ht)
    refine r_gR dX10_name_9 flX10_64_11 rfl t27 rfl ?_
    obtain ⟨P28, hp29, h⟩ := h
    refine r_invSN (As := [vR (F4 3329 o)]) (rest := []) dX10_name_12 lkX10_103 (vX0_isOwn (d := 4) (Nat.le_of_ble_eq_true rfl) hW7  hp29) rfl rfl (Nat.le_of_ble_eq_true rfl) (Nat.le_trans (Nat.le_of_ble_eq_true rfl) hd) (jkpB fun z30 p33 r34 => ?_)
    have h := h z30 p33
    obtain ⟨h1, h2⟩ := h
    refine j_if_eq 23 dX10_name_15 rfl (jR_b r34) (fun q35 => ?_) (fun q35 => ?_)
    · have h := h1 q35
      clear h1 h2
      refine r_aload_n dX10_name_23 rfl ?_
      refine r_gR dX10_name_24 flX10_64_11 rfl t27 rfl ?_
      exact r_aret dX10_name_27 rfl (Or.inl ⟨_, rfl⟩) (Or.inl ⟨_, rfl, hW7, hT8, h, trivial⟩)
    · have h := h2 q35
      clear h1 h2
      refine r_aload_n dX10_name_18 rfl ?_
      obtain ⟨P36, hp37, h⟩ := h
      refine r_invV (ci := 11) (As := []) (rest := []) dX10_name_19 lkX10_93 rfl t27 rfl rfl (vX10_wrong (d := 9) (Nat.le_of_ble_eq_true rfl) hW7 t27  hp37) rfl rfl (Nat.le_of_ble_eq_true rfl) (Nat.le_trans (Nat.le_of_ble_eq_true rfl) hd) (cknR fun z38 N41 F39 A40 hW42 hT43 p44 r45 => ?_)
      have h := h z38 N41 F39 A40 p44
      obtain ⟨b46, hz47, h⟩ := h
      obtain ⟨t48, h⟩ := h
      obtain ⟨w49, h⟩ := h
      exact r_athrow dX10_name_22 hz47 (JT.thru (hout0 rfl _) hW42 (hT8.trans hT43) t48 w49 h)
/-- ChildSays$Reader.number(II)I -/
def wqX10_number (S : Nat → Nat) (o : Nat) (a1 : Int) (a2 : Int) (N : jSh) (F : jFl) (A : jAr) (Q : Int → jSh → jFl → jAr → Prop) (X : Nat → jSh → jFl → jAr → Prop) : Prop :=
  ∃ (P1 : Int → jSh → jFl → jAr → Prop), wqX10_see S o N F A P1 X ∧
  ∀ z3 N6 F4 A5, P1 z3 N6 F4 A5 →
  ((z3 = 2) →
    ∃ (P13 : Int → Prop), wqX0_isIn (F4 3315 o) a1 a2 N6 F4 A5 P13 ∧
    ∀ z15, P13 z15 →
    ((¬ z15 = 0) →
      jfn N6 0 o = 1 ∧
      ∀ F23 : jFl, F23 = upF F4 3321 o 0 →
      Q (F23 3315 o) N6 F23 A5) ∧
    ((z15 = 0) →
      ∀ (b24 : Nat) (N25 : jSh) (F26 : jFl), b24 = jnx N6 → N25 = jnew N6 12 0 8 1 → F26 = nwF N6 F4 →
      ∃ (P32 : jSh → jFl → jAr → Prop), wqX11_init b24 4 (F26 3312 o) N25 F26 A5 P32 ∧
      ∀ N37 F35 A36, P32 N37 F35 A36 →
      X b24 N37 F35 A36)) ∧
  ((¬ (z3 = 2)) →
    ∃ (P45 : Int → jSh → jFl → jAr → Prop), wqX10_wrong o N6 F4 A5 P45 ∧
    ∀ z47 N50 F48 A49, P45 z47 N50 F48 A49 →
    ∃ b55 : Nat, z47 = (b55 : Int) ∧
    jtg N50 b55 = 12 ∧
    jfn N50 0 b55 = 1 ∧
    X b55 N50 F48 A49)
theorem vX10_number {G : jG} {l : Launch} [jOff l] {d : Nat} {N : jSh} {F : jFl} {A : jAr} {o : Nat} {a1 a2 : Int} {Q : Int → jSh → jFl → jAr → Prop} {X : Nat → jSh → jFl → jAr → Prop} (hd : 10 ≤ d) (hW : jWg G N F A) (ht : jtg N o = 11) (ra1 : jR a1) (ra2 : jR a2) (h : wqX10_number (gS G) o a1 a2 N F A Q X) : jCall G l d mX10_number [vR (o : Int), vI a1, vI a2] N F A (cX G N X (cnI G N Q)) := by
  unfold wqX10_number at h
  refine jCall.of (by decide) rfl (ls := [vR (o : Int), vI a1, vI a2]) (by simp only [jent_R, jent_I, jent_L, jent_nil]; exact Nat.le_of_ble_eq_true rfl) (by simp only [jloc, jent_R, jent_I, jent_L, jent_nil]; rfl) ?_
  refine r_aload_n dX10_number_0 rfl ?_
  obtain ⟨P1, hp2, h⟩ := h
  refine r_invV (ci := 11) (As := []) (rest := []) dX10_number_1 lkX10_75 rfl ht rfl rfl (vX10_see (d := 9) (Nat.le_of_ble_eq_true rfl) hW ht  hp2) rfl rfl (Nat.le_of_ble_eq_true rfl) (Nat.le_trans (Nat.le_of_ble_eq_true rfl) hd) (ckX (fun q N9 F9 A9 W9 T9 t9 w9 h9 => JT.thru (hout0 rfl _) W9 ((jTx.refl N).trans T9) t9 w9 h9) (cknI fun z3 N6 F4 A5 hW7 hT8 p9 r10 => ?_))
  have h := h z3 N6 F4 A5 p9
  refine j_iconst dX10_number_4 ?_
  obtain ⟨h1, h2⟩ := h
  refine j_icmp_eq 13 dX10_number_5 rfl r10 (by decide) (fun q11 => ?_) (fun q11 => ?_)
  · have h := h1 q11
    clear h1 h2
    refine r_aload_n dX10_number_13 rfl ?_
    have t12 : jtg N6 o = 11 := (hT8.tg hW ht)
    refine r_gI dX10_number_14 flX10_72_11 rfl t12 rfl ?_
    refine j_i2l dX10_number_17 (hW7.fi rfl) ?_
    refine j_iload_n dX10_number_18 rfl ?_
    refine j_i2l dX10_number_19 ra1 ?_
    refine j_iload_n dX10_number_20 rfl ?_
    refine j_i2l dX10_number_21 ra2 ?_
    obtain ⟨P13, hp14, h⟩ := h
    refine r_invSN (As := [vL (F4 3315 o), vL a1, vL a2]) (rest := []) dX10_number_22 lkX10_99 (vX0_isIn (d := 2) (Nat.le_of_ble_eq_true rfl) hW7 (jR_L (hW7.fi rfl)) (jR_L ra1) (jR_L ra2) hp14) rfl rfl (Nat.le_of_ble_eq_true rfl) (Nat.le_trans (Nat.le_of_ble_eq_true rfl) hd) (jkpB fun z15 p18 r19 => ?_)
    have h := h z15 p18
    obtain ⟨h1, h2⟩ := h
    refine j_if_ne 41 dX10_number_25 rfl (jR_b r19) (fun q20 => ?_) (fun q20 => ?_)
    · have h := h1 q20
      clear h1 h2
      refine r_aload_n dX10_number_41 rfl ?_
      refine j_iconst dX10_number_42 ?_
      obtain ⟨w21, h⟩ := h
      refine c_pZ hW7 dX10_number_43 flX10_26_11 rfl t12 w21 rfl (by decide) (by decide) fun F23 eF23 hW22 => ?_
      have h := h F23 eF23
      refine r_aload_n dX10_number_46 rfl ?_
      refine r_gI dX10_number_47 flX10_72_11 rfl t12 rfl ?_
      exact j_iret dX10_number_50 rfl (Or.inl ⟨_, rfl, hW22, hT8, h, (hW22.fi rfl)⟩)
    · have h := h2 (Classical.not_not.mp q20)
      clear h1 h2
      refine c_new (ci := 12) hW7 dX10_number_28 rfl q665 rfl rfl fun b24 N25 F26 eb24 eN25 eF26 t27 w28 hT29 hW30 => ?_
      have h := h b24 N25 F26 eb24 eN25 eF26
      refine j_dup dX10_number_31 (vR_cat _) ?_
      refine j_iconst dX10_number_32 ?_
      refine r_aload_n dX10_number_33 rfl ?_
      have t31 : jtg N25 o = 11 := (hT29.tg hW7 t12)
      refine r_gI dX10_number_34 flX10_40_11 rfl t31 rfl ?_
      obtain ⟨P32, hp33, h⟩ := h
      refine r_invI (As := [vI 4, vI (F26 3312 o)]) (rest := [vR (b24 : Int)]) dX10_number_37 lkX10_56 rfl (vX11_init (d := 8) (Nat.le_of_ble_eq_true rfl) hW30 t27 (by decide) (hW30.fi rfl) hp33) rfl rfl (Nat.le_of_ble_eq_true rfl) (Nat.le_trans (Nat.le_of_ble_eq_true rfl) hd) (cknV fun N37 F35 A36 hW38 hT39 p40 => ?_)
      have h := h N37 F35 A36 p40
      have t42 : jtg N37 b24 = 12 := (hT39.tg hW30 t27)
      have w43 : jfn N37 0 b24 = 1 := (hT39.ow hW30 t27 w28)
      exact r_athrow dX10_number_40 rfl (JT.thru (hout0 rfl _) hW38 ((hT8.trans hT29).trans hT39) t42 w43 h)
  · have h := h2 q11
    clear h1 h2
    refine r_aload_n dX10_number_8 rfl ?_
    have t44 : jtg N6 o = 11 := (hT8.tg hW ht)
    obtain ⟨P45, hp46, h⟩ := h
    refine r_invV (ci := 11) (As := []) (rest := []) dX10_number_9 lkX10_93 rfl t44 rfl rfl (vX10_wrong (d := 9) (Nat.le_of_ble_eq_true rfl) hW7 t44  hp46) rfl rfl (Nat.le_of_ble_eq_true rfl) (Nat.le_trans (Nat.le_of_ble_eq_true rfl) hd) (cknR fun z47 N50 F48 A49 hW51 hT52 p53 r54 => ?_)
    have h := h z47 N50 F48 A49 p53
    obtain ⟨b55, hz56, h⟩ := h
    obtain ⟨t57, h⟩ := h
    obtain ⟨w58, h⟩ := h
    exact r_athrow dX10_number_12 hz56 (JT.thru (hout0 rfl _) hW51 (hT8.trans hT52) t57 w58 h)
/-- ChildSays.anew(I)I -/
def wqX0_anew (S : Nat → Nat) (o : Nat) (a1 : Int) (N : jSh) (F : jFl) (A : jAr) (Q : Int → jSh → jFl → jAr → Prop) : Prop :=
  ∃ (P1 : Int → Prop), wqX0_childOf o a1 N F A P1 ∧
  ∀ z3, P1 z3 →
  ((¬ z3 < 0) →
    ∃ (P9 : jSh → jFl → jAr → Prop), wqX0_keeps S o N F A P9 ∧
    ∀ N14 F12 A13, P9 N14 F12 A13 →
    ∃ (P20 : jSh → jFl → jAr → Prop), wqX0_allAnew S o z3 N14 F12 A13 P20 ∧
    ∀ N25 F23 A24, P20 N25 F23 A24 →
    ∃ b31 : Nat, F23 311 o = (b31 : Int) ∧
    jtg N25 b31 = 2 ∧
    ∃ (P34 : Int → Prop), wqX1_standing b31 N25 F23 A24 P34 ∧
    ∀ z36, P34 z36 →
    Q z36 N25 F23 A24) ∧
  ((z3 < 0) →
    ∃ (P41 : Int → jFl → jAr → Prop), wqX0_refused o 2 N F A P41 ∧
    ∀ z43 F44 A45, P41 z43 F44 A45 →
    Q z43 N F44 A45)
theorem vX0_anew {G : jG} {l : Launch} [jOff l] {d : Nat} {N : jSh} {F : jFl} {A : jAr} {o : Nat} {a1 : Int} {Q : Int → jSh → jFl → jAr → Prop} (hd : 11 ≤ d) (hW : jWg G N F A) (ht : jtg N o = 1) (ra1 : jR a1) (h : wqX0_anew (gS G) o a1 N F A Q) : jCall G l d mX0_anew [vR (o : Int), vI a1] N F A (cnI G N Q) := by
  unfold wqX0_anew at h
  refine jCall.of (by decide) rfl (ls := [vR (o : Int), vI a1, jD]) (by simp only [jent_R, jent_I, jent_L, jent_nil]; exact Nat.le_of_ble_eq_true rfl) (by simp only [jloc, jent_R, jent_I, jent_L, jent_nil]; rfl) ?_
  refine r_aload_n dX0_anew_0 rfl ?_
  refine j_iload_n dX0_anew_1 rfl ?_
  obtain ⟨P1, hp2, h⟩ := h
  refine r_invV (ci := 1) (As := [vI a1]) (rest := []) dX0_anew_2 lkX0_273 rfl ht rfl rfl (vX0_childOf (d := 5) (Nat.le_of_ble_eq_true rfl) hW ht ra1 hp2) rfl rfl (Nat.le_of_ble_eq_true rfl) (Nat.le_trans (Nat.le_of_ble_eq_true rfl) hd) (jkpR fun z3 p6 r7 => ?_)
  have h := h z3 p6
  refine r_astore_n dX0_anew_5 rfl ?_
  refine r_aload_n dX0_anew_6 rfl ?_
  obtain ⟨h1, h2⟩ := h
  refine r_ifnonnull 16 dX0_anew_7 rfl (fun q8 => ?_) (fun q8 => ?_)
  · have h := h1 q8
    clear h1 h2
    refine r_aload_n dX0_anew_16 rfl ?_
    obtain ⟨P9, hp10, h⟩ := h
    refine r_invV (ci := 1) (As := []) (rest := []) dX0_anew_17 lkX0_397 rfl ht rfl rfl (vX0_keeps (d := 10) (Nat.le_of_ble_eq_true rfl) hW ht  hp10) rfl rfl (Nat.le_of_ble_eq_true rfl) (Nat.le_trans (Nat.le_of_ble_eq_true rfl) hd) (cknV fun N14 F12 A13 hW15 hT16 p17 => ?_)
    have h := h N14 F12 A13 p17
    refine r_aload_n dX0_anew_20 rfl ?_
    refine r_aload_n dX0_anew_21 rfl ?_
    have t19 : jtg N14 o = 1 := (hT16.tg hW ht)
    obtain ⟨P20, hp21, h⟩ := h
    refine r_invV (ci := 1) (As := [vR z3]) (rest := []) dX0_anew_22 lkX0_400 rfl t19 rfl rfl (vX0_allAnew (d := 10) (Nat.le_of_ble_eq_true rfl) hW15 t19  hp21) rfl rfl (Nat.le_of_ble_eq_true rfl) (Nat.le_trans (Nat.le_of_ble_eq_true rfl) hd) (cknV fun N25 F23 A24 hW26 hT27 p28 => ?_)
    have h := h N25 F23 A24 p28
    refine r_aload_n dX0_anew_25 rfl ?_
    have t30 : jtg N25 o = 1 := (hT27.tg hW15 t19)
    refine r_gR dX0_anew_26 flX0_20_1 rfl t30 rfl ?_
    obtain ⟨b31, hz32, h⟩ := h
    obtain ⟨t33, h⟩ := h
    obtain ⟨P34, hp35, h⟩ := h
    refine r_invV (ci := 2) (As := []) (rest := []) dX0_anew_29 lkX0_209 hz32 t33 rfl rfl (vX1_standing (d := 5) (Nat.le_of_ble_eq_true rfl) hW26 t33  hp35) rfl rfl (Nat.le_of_ble_eq_true rfl) (Nat.le_trans (Nat.le_of_ble_eq_true rfl) hd) (jkpI fun z36 p39 r40 => ?_)
    have h := h z36 p39
    exact j_iret dX0_anew_32 rfl ⟨_, rfl, hW26, (hT16.trans hT27), h, r40⟩
  · have h := h2 q8
    clear h1 h2
    refine r_aload_n dX0_anew_10 rfl ?_
    refine j_iconst dX0_anew_11 ?_
    obtain ⟨P41, hp42, h⟩ := h
    refine r_invV (ci := 1) (As := [vI 2]) (rest := []) dX0_anew_12 lkX0_107 rfl ht rfl rfl (vX0_refused (d := 2) (Nat.le_of_ble_eq_true rfl) hW ht (by decide) hp42) rfl rfl (Nat.le_of_ble_eq_true rfl) (Nat.le_trans (Nat.le_of_ble_eq_true rfl) hd) (ckmI fun z43 F44 A45 hW46 p48 r49 => ?_)
    have h := h z43 F44 A45 p48
    exact j_iret dX0_anew_15 rfl ⟨_, rfl, hW46, (jTx.refl N), h, r49⟩
/-- ChildSays.sing(IZ)Z -/
def wqX0_sing (S : Nat → Nat) (o : Nat) (a1 : Int) (a2 : Int) (N : jSh) (F : jFl) (A : jAr) (Q : Int → jSh → jFl → jAr → Prop) : Prop :=
  ∃ (P1 : Int → Prop), wqX0_lawOf o a1 N F A P1 ∧
  ∀ z3, P1 z3 →
  ((z3 < 0) →
    ∃ (P9 : Int → jFl → jAr → Prop), wqX0_refuses o 2 N F A P9 ∧
    ∀ z11 F12 A13, P9 z11 F12 A13 →
    Q z11 N F12 A13) ∧
  ((¬ (z3 < 0)) →
    ∃ b18 : Nat, z3 = (b18 : Int) ∧
    jtg N b18 = 17 ∧
    ((¬ (F 5103 b18) = a2) →
      ∃ (P22 : jSh → jFl → jAr → Prop), wqX0_keeps S o N F A P22 ∧
      ∀ N27 F25 A26, P22 N27 F25 A26 →
      jfn N27 0 b18 = 1 ∧
      ∀ F35 : jFl, F35 = upF F25 5103 b18 a2 →
      Q 1 N27 F35 A26) ∧
    (((F 5103 b18) = a2) →
      ∃ (P36 : Int → jFl → jAr → Prop), wqX0_refuses o 2 N F A P36 ∧
      ∀ z38 F39 A40, P36 z38 F39 A40 →
      Q z38 N F39 A40))
theorem vX0_sing {G : jG} {l : Launch} [jOff l] {d : Nat} {N : jSh} {F : jFl} {A : jAr} {o : Nat} {a1 a2 : Int} {Q : Int → jSh → jFl → jAr → Prop} (hd : 11 ≤ d) (hW : jWg G N F A) (ht : jtg N o = 1) (ra1 : jR a1) (ba2 : a2 = 0 ∨ a2 = 1) (h : wqX0_sing (gS G) o a1 a2 N F A Q) : jCall G l d mX0_sing [vR (o : Int), vI a1, vI a2] N F A (cnB G N Q) := by
  unfold wqX0_sing at h
  refine jCall.of (by decide) rfl (ls := [vR (o : Int), vI a1, vI a2, jD]) (by simp only [jent_R, jent_I, jent_L, jent_nil]; exact Nat.le_of_ble_eq_true rfl) (by simp only [jloc, jent_R, jent_I, jent_L, jent_nil]; rfl) ?_
  refine r_aload_n dX0_sing_0 rfl ?_
  refine j_iload_n dX0_sing_1 rfl ?_
  obtain ⟨P1, hp2, h⟩ := h
  refine r_invV (ci := 1) (As := [vI a1]) (rest := []) dX0_sing_2 lkX0_239 rfl ht rfl rfl (vX0_lawOf (d := 5) (Nat.le_of_ble_eq_true rfl) hW ht ra1 hp2) rfl rfl (Nat.le_of_ble_eq_true rfl) (Nat.le_trans (Nat.le_of_ble_eq_true rfl) hd) (jkpR fun z3 p6 r7 => ?_)
  have h := h z3 p6
  refine r_astore_n dX0_sing_5 rfl ?_
  refine r_aload_n dX0_sing_6 rfl ?_
  obtain ⟨h1, h2⟩ := h
  refine r_ifnull 18 dX0_sing_7 rfl (fun q8 => ?_) (fun q8 => ?_)
  · have h := h1 q8
    clear h1 h2
    refine r_aload_n dX0_sing_18 rfl ?_
    refine j_iconst dX0_sing_19 ?_
    obtain ⟨P9, hp10, h⟩ := h
    refine r_invV (ci := 1) (As := [vI 2]) (rest := []) dX0_sing_20 lkX0_118 rfl ht rfl rfl (vX0_refuses (d := 3) (Nat.le_of_ble_eq_true rfl) hW ht (by decide) hp10) rfl rfl (Nat.le_of_ble_eq_true rfl) (Nat.le_trans (Nat.le_of_ble_eq_true rfl) hd) (ckmB fun z11 F12 A13 hW14 p16 r17 => ?_)
    have h := h z11 F12 A13 p16
    exact j_zret dX0_sing_23 rfl (nr_bool r17) ⟨_, rfl, hW14, (jTx.refl N), h, r17⟩
  · have h := h2 q8
    clear h1 h2
    refine r_aload_n dX0_sing_10 rfl ?_
    obtain ⟨b18, hz19, h⟩ := h
    obtain ⟨t20, h⟩ := h
    refine r_gI dX0_sing_11 flX0_302_17 hz19 t20 rfl ?_
    refine j_iload_n dX0_sing_14 rfl ?_
    obtain ⟨h1, h2⟩ := h
    refine j_icmp_ne 24 dX0_sing_15 rfl (hW.fi rfl) (jR_b ba2) (fun q21 => ?_) (fun q21 => ?_)
    · have h := h1 q21
      clear h1 h2
      refine r_aload_n dX0_sing_24 rfl ?_
      obtain ⟨P22, hp23, h⟩ := h
      refine r_invV (ci := 1) (As := []) (rest := []) dX0_sing_25 lkX0_397 rfl ht rfl rfl (vX0_keeps (d := 10) (Nat.le_of_ble_eq_true rfl) hW ht  hp23) rfl rfl (Nat.le_of_ble_eq_true rfl) (Nat.le_trans (Nat.le_of_ble_eq_true rfl) hd) (cknV fun N27 F25 A26 hW28 hT29 p30 => ?_)
      have h := h N27 F25 A26 p30
      refine r_aload_n dX0_sing_28 rfl ?_
      refine j_iload_n dX0_sing_29 rfl ?_
      have t32 : jtg N27 b18 = 17 := (hT29.tg hW t20)
      obtain ⟨w33, h⟩ := h
      refine c_pZ hW28 dX0_sing_30 flX0_302_17 hz19 t32 w33 rfl (jR_b ba2) ba2 fun F35 eF35 hW34 => ?_
      have h := h F35 eF35
      refine j_iconst dX0_sing_33 ?_
      exact j_zret dX0_sing_34 rfl (nr_bool (by decide)) ⟨_, rfl, hW34, hT29, h, (by decide)⟩
    · have h := h2 (Classical.not_not.mp q21)
      clear h1 h2
      refine r_aload_n dX0_sing_18 rfl ?_
      refine j_iconst dX0_sing_19 ?_
      obtain ⟨P36, hp37, h⟩ := h
      refine r_invV (ci := 1) (As := [vI 2]) (rest := []) dX0_sing_20 lkX0_118 rfl ht rfl rfl (vX0_refuses (d := 3) (Nat.le_of_ble_eq_true rfl) hW ht (by decide) hp37) rfl rfl (Nat.le_of_ble_eq_true rfl) (Nat.le_trans (Nat.le_of_ble_eq_true rfl) hd) (ckmB fun z38 F39 A40 hW41 p43 r44 => ?_)
      have h := h z38 F39 A40 p43
      exact j_zret dX0_sing_23 rfl (nr_bool r44) ⟨_, rfl, hW41, (jTx.refl N), h, r44⟩
/-- ChildSays.swap(II)Z -/
def wqX0_swap (S : Nat → Nat) (o : Nat) (a1 : Int) (a2 : Int) (N : jSh) (F : jFl) (A : jAr) (Q : Int → jSh → jFl → jAr → Prop) : Prop :=
  ∃ (P1 : Int → Prop), wqX0_isPlace o a1 N F A P1 ∧
  ∀ z3, P1 z3 →
  ((z3 = 0) →
    ∃ (P9 : Int → jFl → jAr → Prop), wqX0_refuses o 3 N F A P9 ∧
    ∀ z11 F12 A13, P9 z11 F12 A13 →
    Q z11 N F12 A13) ∧
  ((¬ (z3 = 0)) →
    ∃ (P18 : Int → Prop), wqX0_isPlace o a2 N F A P18 ∧
    ∀ z20, P18 z20 →
    ((z20 = 0) →
      ∃ (P26 : Int → jFl → jAr → Prop), wqX0_refuses o 3 N F A P26 ∧
      ∀ z28 F29 A30, P26 z28 F29 A30 →
      Q z28 N F29 A30) ∧
    ((¬ (z20 = 0)) →
      ((¬ a1 = a2) →
        ∃ (P36 : jSh → jFl → jAr → Prop), wqX0_keeps S o N F A P36 ∧
        ∀ N41 F39 A40, P36 N41 F39 A40 →
        ∃ b47 : Nat, F39 311 o = (b47 : Int) ∧
        jtg N41 b47 = 2 ∧
        ∃ b50 : Nat, jfn N41 629 b47 = (b50 : Int) ∧
        jtg N41 b50 = 20 ∧
        ∃ (P53 : Int → Prop), wqJ2_get b50 a1 N41 F39 A40 P53 ∧
        ∀ z55, P53 z55 →
        jcst N41 "ChildSays$Law" z55 ∧
        ∃ (P61 : Int → Prop), wqJ2_get b50 a2 N41 F39 A40 P61 ∧
        ∀ z63, P61 z63 →
        jcst N41 "ChildSays$Law" z63 ∧
        ∃ (P69 : Int → jFl → jAr → Prop), wqJ2_set b50 a1 z63 N41 F39 A40 P69 ∧
        ∀ z71 F72 A73, P69 z71 F72 A73 →
        ∃ b78 : Nat, F72 311 o = (b78 : Int) ∧
        jtg N41 b78 = 2 ∧
        ∃ b81 : Nat, jfn N41 629 b78 = (b81 : Int) ∧
        jtg N41 b81 = 20 ∧
        ∃ (P84 : Int → jFl → jAr → Prop), wqJ2_set b81 a2 z55 N41 F72 A73 P84 ∧
        ∀ z86 F87 A88, P84 z86 F87 A88 →
        Q 1 N41 F87 A88) ∧
      ((a1 = a2) →
        ∃ (P93 : Int → jFl → jAr → Prop), wqX0_refuses o 3 N F A P93 ∧
        ∀ z95 F96 A97, P93 z95 F96 A97 →
        Q z95 N F96 A97)))
theorem vX0_swap {G : jG} {l : Launch} [jOff l] {d : Nat} {N : jSh} {F : jFl} {A : jAr} {o : Nat} {a1 a2 : Int} {Q : Int → jSh → jFl → jAr → Prop} (hd : 11 ≤ d) (hW : jWg G N F A) (ht : jtg N o = 1) (ra1 : jR a1) (ra2 : jR a2) (h : wqX0_swap (gS G) o a1 a2 N F A Q) : jCall G l d mX0_swap [vR (o : Int), vI a1, vI a2] N F A (cnB G N Q) := by
  unfold wqX0_swap at h
  refine jCall.of (by decide) rfl (ls := [vR (o : Int), vI a1, vI a2, jD]) (by simp only [jent_R, jent_I, jent_L, jent_nil]; exact Nat.le_of_ble_eq_true rfl) (by simp only [jloc, jent_R, jent_I, jent_L, jent_nil]; rfl) ?_
  refine r_aload_n dX0_swap_0 rfl ?_
  refine j_iload_n dX0_swap_1 rfl ?_
  obtain ⟨P1, hp2, h⟩ := h
  refine r_invV (ci := 1) (As := [vI a1]) (rest := []) dX0_swap_2 lkX0_324 rfl ht rfl rfl (vX0_isPlace (d := 3) (Nat.le_of_ble_eq_true rfl) hW ht ra1 hp2) rfl rfl (Nat.le_of_ble_eq_true rfl) (Nat.le_trans (Nat.le_of_ble_eq_true rfl) hd) (jkpB fun z3 p6 r7 => ?_)
  have h := h z3 p6
  obtain ⟨h1, h2⟩ := h
  refine j_if_eq 21 dX0_swap_5 rfl (jR_b r7) (fun q8 => ?_) (fun q8 => ?_)
  · have h := h1 q8
    clear h1 h2
    refine r_aload_n dX0_swap_21 rfl ?_
    refine j_iconst dX0_swap_22 ?_
    obtain ⟨P9, hp10, h⟩ := h
    refine r_invV (ci := 1) (As := [vI 3]) (rest := []) dX0_swap_23 lkX0_118 rfl ht rfl rfl (vX0_refuses (d := 3) (Nat.le_of_ble_eq_true rfl) hW ht (by decide) hp10) rfl rfl (Nat.le_of_ble_eq_true rfl) (Nat.le_trans (Nat.le_of_ble_eq_true rfl) hd) (ckmB fun z11 F12 A13 hW14 p16 r17 => ?_)
    have h := h z11 F12 A13 p16
    exact j_zret dX0_swap_26 rfl (nr_bool r17) ⟨_, rfl, hW14, (jTx.refl N), h, r17⟩
  · have h := h2 q8
    clear h1 h2
    refine r_aload_n dX0_swap_8 rfl ?_
    refine j_iload_n dX0_swap_9 rfl ?_
    obtain ⟨P18, hp19, h⟩ := h
    refine r_invV (ci := 1) (As := [vI a2]) (rest := []) dX0_swap_10 lkX0_324 rfl ht rfl rfl (vX0_isPlace (d := 3) (Nat.le_of_ble_eq_true rfl) hW ht ra2 hp19) rfl rfl (Nat.le_of_ble_eq_true rfl) (Nat.le_trans (Nat.le_of_ble_eq_true rfl) hd) (jkpB fun z20 p23 r24 => ?_)
    have h := h z20 p23
    obtain ⟨h1, h2⟩ := h
    refine j_if_eq 21 dX0_swap_13 rfl (jR_b r24) (fun q25 => ?_) (fun q25 => ?_)
    · have h := h1 q25
      clear h1 h2
      refine r_aload_n dX0_swap_21 rfl ?_
      refine j_iconst dX0_swap_22 ?_
      obtain ⟨P26, hp27, h⟩ := h
      refine r_invV (ci := 1) (As := [vI 3]) (rest := []) dX0_swap_23 lkX0_118 rfl ht rfl rfl (vX0_refuses (d := 3) (Nat.le_of_ble_eq_true rfl) hW ht (by decide) hp27) rfl rfl (Nat.le_of_ble_eq_true rfl) (Nat.le_trans (Nat.le_of_ble_eq_true rfl) hd) (ckmB fun z28 F29 A30 hW31 p33 r34 => ?_)
      have h := h z28 F29 A30 p33
      exact j_zret dX0_swap_26 rfl (nr_bool r34) ⟨_, rfl, hW31, (jTx.refl N), h, r34⟩
    · have h := h2 q25
      clear h1 h2
      refine j_iload_n dX0_swap_16 rfl ?_
      refine j_iload_n dX0_swap_17 rfl ?_
      obtain ⟨h1, h2⟩ := h
      refine j_icmp_ne 27 dX0_swap_18 rfl ra1 ra2 (fun q35 => ?_) (fun q35 => ?_)
      · have h := h1 q35
        clear h1 h2
        refine r_aload_n dX0_swap_27 rfl ?_
        obtain ⟨P36, hp37, h⟩ := h
        refine r_invV (ci := 1) (As := []) (rest := []) dX0_swap_28 lkX0_397 rfl ht rfl rfl (vX0_keeps (d := 10) (Nat.le_of_ble_eq_true rfl) hW ht  hp37) rfl rfl (Nat.le_of_ble_eq_true rfl) (Nat.le_trans (Nat.le_of_ble_eq_true rfl) hd) (cknV fun N41 F39 A40 hW42 hT43 p44 => ?_)
        have h := h N41 F39 A40 p44
        refine r_aload_n dX0_swap_31 rfl ?_
        have t46 : jtg N41 o = 1 := (hT43.tg hW ht)
        refine r_gR dX0_swap_32 flX0_20_1 rfl t46 rfl ?_
        obtain ⟨b47, hz48, h⟩ := h
        obtain ⟨t49, h⟩ := h
        refine r_gRF dX0_swap_35 flX0_305_2 hz48 t49 rfl ?_
        refine j_iload_n dX0_swap_38 rfl ?_
        obtain ⟨b50, hz51, h⟩ := h
        obtain ⟨t52, h⟩ := h
        obtain ⟨P53, hp54, h⟩ := h
        refine r_invV (ci := 20) (As := [vI a1]) (rest := []) dX0_swap_39 lkX0_132 hz51 t52 rfl rfl (vJ2_get (d := 4) (Nat.le_of_ble_eq_true rfl) hW42 t52 ra1 hp54) rfl rfl (Nat.le_of_ble_eq_true rfl) (Nat.le_trans (Nat.le_of_ble_eq_true rfl) hd) (jkpR fun z55 p58 r59 => ?_)
        have h := h z55 p58
        obtain ⟨j60, h⟩ := h
        refine r_chk dX0_swap_42 q1295 j60 ?_
        refine r_astore_n dX0_swap_45 rfl ?_
        refine r_aload_n dX0_swap_46 rfl ?_
        refine r_gR dX0_swap_47 flX0_20_1 rfl t46 rfl ?_
        refine r_gRF dX0_swap_50 flX0_305_2 hz48 t49 rfl ?_
        refine j_iload_n dX0_swap_53 rfl ?_
        refine r_aload_n dX0_swap_54 rfl ?_
        refine r_gR dX0_swap_55 flX0_20_1 rfl t46 rfl ?_
        refine r_gRF dX0_swap_58 flX0_305_2 hz48 t49 rfl ?_
        refine j_iload_n dX0_swap_61 rfl ?_
        obtain ⟨P61, hp62, h⟩ := h
        refine r_invV (ci := 20) (As := [vI a2]) (rest := [vI a1, vR (jfn N41 629 b47)]) dX0_swap_62 lkX0_132 hz51 t52 rfl rfl (vJ2_get (d := 4) (Nat.le_of_ble_eq_true rfl) hW42 t52 ra2 hp62) rfl rfl (Nat.le_of_ble_eq_true rfl) (Nat.le_trans (Nat.le_of_ble_eq_true rfl) hd) (jkpR fun z63 p66 r67 => ?_)
        have h := h z63 p66
        obtain ⟨j68, h⟩ := h
        refine r_chk dX0_swap_65 q1295 j68 ?_
        obtain ⟨P69, hp70, h⟩ := h
        refine r_invV (ci := 20) (As := [vI a1, vR z63]) (rest := []) dX0_swap_68 lkX0_407 hz51 t52 rfl rfl (vJ2_set (d := 4) (Nat.le_of_ble_eq_true rfl) hW42 t52 ra1 hp70) rfl rfl (Nat.le_of_ble_eq_true rfl) (Nat.le_trans (Nat.le_of_ble_eq_true rfl) hd) (ckmR fun z71 F72 A73 hW74 p76 r77 => ?_)
        have h := h z71 F72 A73 p76
        refine j_pop dX0_swap_71 (vR_cat _) ?_
        refine r_aload_n dX0_swap_72 rfl ?_
        refine r_gR dX0_swap_73 flX0_20_1 rfl t46 rfl ?_
        obtain ⟨b78, hz79, h⟩ := h
        obtain ⟨t80, h⟩ := h
        refine r_gRF dX0_swap_76 flX0_305_2 hz79 t80 rfl ?_
        refine j_iload_n dX0_swap_79 rfl ?_
        refine r_aload_n dX0_swap_80 rfl ?_
        obtain ⟨b81, hz82, h⟩ := h
        obtain ⟨t83, h⟩ := h
        obtain ⟨P84, hp85, h⟩ := h
        refine r_invV (ci := 20) (As := [vI a2, vR z55]) (rest := []) dX0_swap_81 lkX0_407 hz82 t83 rfl rfl (vJ2_set (d := 4) (Nat.le_of_ble_eq_true rfl) hW74 t83 ra2 hp85) rfl rfl (Nat.le_of_ble_eq_true rfl) (Nat.le_trans (Nat.le_of_ble_eq_true rfl) hd) (ckmR fun z86 F87 A88 hW89 p91 r92 => ?_)
        have h := h z86 F87 A88 p91
        refine j_pop dX0_swap_84 (vR_cat _) ?_
        refine j_iconst dX0_swap_85 ?_
        exact j_zret dX0_swap_86 rfl (nr_bool (by decide)) ⟨_, rfl, hW89, hT43, h, (by decide)⟩
      · have h := h2 (Classical.not_not.mp q35)
        clear h1 h2
        refine r_aload_n dX0_swap_21 rfl ?_
        refine j_iconst dX0_swap_22 ?_
        obtain ⟨P93, hp94, h⟩ := h
        refine r_invV (ci := 1) (As := [vI 3]) (rest := []) dX0_swap_23 lkX0_118 rfl ht rfl rfl (vX0_refuses (d := 3) (Nat.le_of_ble_eq_true rfl) hW ht (by decide) hp94) rfl rfl (Nat.le_of_ble_eq_true rfl) (Nat.le_trans (Nat.le_of_ble_eq_true rfl) hd) (ckmB fun z95 F96 A97 hW98 p100 r101 => ?_)
        have h := h z95 F96 A97 p100
        exact j_zret dX0_swap_26 rfl (nr_bool r101) ⟨_, rfl, hW98, (jTx.refl N), h, r101⟩
/-- ChildSays.tell(II)I -/
def wqX0_tell (S : Nat → Nat) (o : Nat) (a1 : Int) (a2 : Int) (N : jSh) (F : jFl) (A : jAr) (Q : Int → jSh → jFl → jAr → Prop) : Prop :=
  ∃ (P1 : Int → Prop), wqX0_childOf o a2 N F A P1 ∧
  ∀ z3, P1 z3 →
  ∃ (P8 : Int → Prop), wqX0_standingOf o a1 N F A P8 ∧
  ∀ z10, P8 z10 →
  ((z3 < 0) →
    ∃ (P16 : Int → jFl → jAr → Prop), wqX0_refused o 2 N F A P16 ∧
    ∀ z18 F19 A20, P16 z18 F19 A20 →
    Q z18 N F19 A20) ∧
  ((¬ (z3 < 0)) →
    ((¬ z10 < 0) →
      ∃ (P26 : jSh → jFl → jAr → Prop), wqX0_keeps S o N F A P26 ∧
      ∀ N31 F29 A30, P26 N31 F29 A30 →
      ∃ b37 : Nat, jfn N31 326 o = (b37 : Int) ∧
      jtg N31 b37 = 3 ∧
      ∃ (P40 : Int → jFl → jAr → Prop), wqX2_of b37 z3 z10 N31 F29 A30 P40 ∧
      ∀ z42 F43 A44, P40 z42 F43 A44 →
      ∃ (P49 : jSh → jFl → jAr → Prop), wqX0_becomes S o z10 z42 z3 N31 F43 A44 P49 ∧
      ∀ N54 F52 A53, P49 N54 F52 A53 →
      ∃ b60 : Nat, jfn N54 326 o = (b60 : Int) ∧
      jtg N54 b60 = 3 ∧
      Q (F52 903 b60) N54 F52 A53) ∧
    ((z10 < 0) →
      ∃ (P63 : Int → jFl → jAr → Prop), wqX0_refused o 2 N F A P63 ∧
      ∀ z65 F66 A67, P63 z65 F66 A67 →
      Q z65 N F66 A67))
theorem vX0_tell {G : jG} {l : Launch} [jOff l] {d : Nat} {N : jSh} {F : jFl} {A : jAr} {o : Nat} {a1 a2 : Int} {Q : Int → jSh → jFl → jAr → Prop} (hd : 11 ≤ d) (hW : jWg G N F A) (ht : jtg N o = 1) (ra1 : jR a1) (ra2 : jR a2) (h : wqX0_tell (gS G) o a1 a2 N F A Q) : jCall G l d mX0_tell [vR (o : Int), vI a1, vI a2] N F A (cnI G N Q) := by
  unfold wqX0_tell at h
  refine jCall.of (by decide) rfl (ls := [vR (o : Int), vI a1, vI a2, jD, jD]) (by simp only [jent_R, jent_I, jent_L, jent_nil]; exact Nat.le_of_ble_eq_true rfl) (by simp only [jloc, jent_R, jent_I, jent_L, jent_nil]; rfl) ?_
  refine r_aload_n dX0_tell_0 rfl ?_
  refine j_iload_n dX0_tell_1 rfl ?_
  obtain ⟨P1, hp2, h⟩ := h
  refine r_invV (ci := 1) (As := [vI a2]) (rest := []) dX0_tell_2 lkX0_273 rfl ht rfl rfl (vX0_childOf (d := 5) (Nat.le_of_ble_eq_true rfl) hW ht ra2 hp2) rfl rfl (Nat.le_of_ble_eq_true rfl) (Nat.le_trans (Nat.le_of_ble_eq_true rfl) hd) (jkpR fun z3 p6 r7 => ?_)
  have h := h z3 p6
  refine r_astore_n dX0_tell_5 rfl ?_
  refine r_aload_n dX0_tell_6 rfl ?_
  refine j_iload_n dX0_tell_7 rfl ?_
  obtain ⟨P8, hp9, h⟩ := h
  refine r_invV (ci := 1) (As := [vI a1]) (rest := []) dX0_tell_8 lkX0_347 rfl ht rfl rfl (vX0_standingOf (d := 6) (Nat.le_of_ble_eq_true rfl) hW ht ra1 hp9) rfl rfl (Nat.le_of_ble_eq_true rfl) (Nat.le_trans (Nat.le_of_ble_eq_true rfl) hd) (jkpR fun z10 p13 r14 => ?_)
  have h := h z10 p13
  refine r_astore dX0_tell_11 (jokR rfl (Nat.le_of_ble_eq_true rfl)) ?_
  refine r_aload_n dX0_tell_13 rfl ?_
  obtain ⟨h1, h2⟩ := h
  refine r_ifnull 22 dX0_tell_14 rfl (fun q15 => ?_) (fun q15 => ?_)
  · have h := h1 q15
    clear h1 h2
    refine r_aload_n dX0_tell_22 rfl ?_
    refine j_iconst dX0_tell_23 ?_
    obtain ⟨P16, hp17, h⟩ := h
    refine r_invV (ci := 1) (As := [vI 2]) (rest := []) dX0_tell_24 lkX0_107 rfl ht rfl rfl (vX0_refused (d := 2) (Nat.le_of_ble_eq_true rfl) hW ht (by decide) hp17) rfl rfl (Nat.le_of_ble_eq_true rfl) (Nat.le_trans (Nat.le_of_ble_eq_true rfl) hd) (ckmI fun z18 F19 A20 hW21 p23 r24 => ?_)
    have h := h z18 F19 A20 p23
    exact j_iret dX0_tell_27 rfl ⟨_, rfl, hW21, (jTx.refl N), h, r24⟩
  · have h := h2 q15
    clear h1 h2
    refine r_aload dX0_tell_17 rfl ?_
    obtain ⟨h1, h2⟩ := h
    refine r_ifnonnull 28 dX0_tell_19 rfl (fun q25 => ?_) (fun q25 => ?_)
    · have h := h1 q25
      clear h1 h2
      refine r_aload_n dX0_tell_28 rfl ?_
      obtain ⟨P26, hp27, h⟩ := h
      refine r_invV (ci := 1) (As := []) (rest := []) dX0_tell_29 lkX0_397 rfl ht rfl rfl (vX0_keeps (d := 10) (Nat.le_of_ble_eq_true rfl) hW ht  hp27) rfl rfl (Nat.le_of_ble_eq_true rfl) (Nat.le_trans (Nat.le_of_ble_eq_true rfl) hd) (cknV fun N31 F29 A30 hW32 hT33 p34 => ?_)
      have h := h N31 F29 A30 p34
      refine r_aload_n dX0_tell_32 rfl ?_
      refine r_aload dX0_tell_33 rfl ?_
      refine r_aload_n dX0_tell_35 rfl ?_
      have t36 : jtg N31 o = 1 := (hT33.tg hW ht)
      refine r_gRF dX0_tell_36 flX0_44_1 rfl t36 rfl ?_
      refine r_aload_n dX0_tell_39 rfl ?_
      refine r_aload dX0_tell_40 rfl ?_
      obtain ⟨b37, hz38, h⟩ := h
      obtain ⟨t39, h⟩ := h
      obtain ⟨P40, hp41, h⟩ := h
      refine r_invV (ci := 3) (As := [vR z3, vR z10]) (rest := [vR z10, vR (o : Int)]) dX0_tell_42 lkX0_339 hz38 t39 rfl rfl (vX2_of (d := 5) (Nat.le_of_ble_eq_true rfl) hW32 t39  hp41) rfl rfl (Nat.le_of_ble_eq_true rfl) (Nat.le_trans (Nat.le_of_ble_eq_true rfl) hd) (ckmR fun z42 F43 A44 hW45 p47 r48 => ?_)
      have h := h z42 F43 A44 p47
      refine r_aload_n dX0_tell_45 rfl ?_
      obtain ⟨P49, hp50, h⟩ := h
      refine r_invV (ci := 1) (As := [vR z10, vR z42, vR z3]) (rest := []) dX0_tell_46 lkX0_393 rfl t36 rfl rfl (vX0_becomes (d := 9) (Nat.le_of_ble_eq_true rfl) hW45 t36  hp50) rfl rfl (Nat.le_of_ble_eq_true rfl) (Nat.le_trans (Nat.le_of_ble_eq_true rfl) hd) (cknV fun N54 F52 A53 hW55 hT56 p57 => ?_)
      have h := h N54 F52 A53 p57
      refine r_aload_n dX0_tell_49 rfl ?_
      have t59 : jtg N54 o = 1 := (hT56.tg hW45 t36)
      refine r_gRF dX0_tell_50 flX0_44_1 rfl t59 rfl ?_
      obtain ⟨b60, hz61, h⟩ := h
      obtain ⟨t62, h⟩ := h
      refine r_gI dX0_tell_53 flX0_343_3 hz61 t62 rfl ?_
      exact j_iret dX0_tell_56 rfl ⟨_, rfl, hW55, (hT33.trans hT56), h, (hW55.fi rfl)⟩
    · have h := h2 q25
      clear h1 h2
      refine r_aload_n dX0_tell_22 rfl ?_
      refine j_iconst dX0_tell_23 ?_
      obtain ⟨P63, hp64, h⟩ := h
      refine r_invV (ci := 1) (As := [vI 2]) (rest := []) dX0_tell_24 lkX0_107 rfl ht rfl rfl (vX0_refused (d := 2) (Nat.le_of_ble_eq_true rfl) hW ht (by decide) hp64) rfl rfl (Nat.le_of_ble_eq_true rfl) (Nat.le_trans (Nat.le_of_ble_eq_true rfl) hd) (ckmI fun z65 F66 A67 hW68 p70 r71 => ?_)
      have h := h z65 F66 A67 p70
      exact j_iret dX0_tell_27 rfl ⟨_, rfl, hW68, (jTx.refl N), h, r71⟩
/-- ChildSays.year()V -/
def wqX0_year (S : Nat → Nat) (o : Nat) (N : jSh) (F : jFl) (A : jAr) (Q : jSh → jFl → jAr → Prop) : Prop :=
  ∃ b1 : Nat, F 311 o = (b1 : Int) ∧
  jtg N b1 = 2 ∧
  jfn N 0 b1 = 1 ∧
  jR ((F 612 b1) + 1) ∧
  ∀ F7 : jFl, F7 = upF F 612 b1 ((F 612 b1) + 1) →
  ∃ b8 : Nat, F7 311 o = (b8 : Int) ∧
  jtg N b8 = 2 ∧
  (((0 : Int) ≤ F7 612 b8 ∧ (F7 612 b8 : Int) ≤ 2147483647) ∧ ((0 : Int) < 9 ∧ (9 : Int) ≤ 2147483647)) ∧
  jR ((F7 612 b8) % 9) ∧
  ((¬ ((F7 612 b8) % 9) = 0) →
    Q N F7 A) ∧
  ((((F7 612 b8) % 9) = 0) →
    ∃ b14 : Nat, jfn N 623 b8 = (b14 : Int) ∧
    jtg N b14 = 20 ∧
    ∃ (P17 : Int → Prop), wqJ2_isEmpty b14 N F7 A P17 ∧
    ∀ z19, P17 z19 →
    ((¬ z19 = 0) →
      Q N F7 A) ∧
    ((z19 = 0) →
      ∃ (P25 : Int → Prop), wqJ2_size b14 N F7 A P25 ∧
      ∀ z27, P25 z27 →
      ∃ (P32 : Int → jFl → jAr → Prop), wqX0_drawn S o z27 N F7 A P32 ∧
      ∀ z34 F35 A36, P32 z34 F35 A36 →
      ∃ (P41 : Int → Prop), wqJ2_get b14 z34 N F35 A36 P41 ∧
      ∀ z43, P41 z43 →
      jcst N "ChildSays$Child" z43 ∧
      ∃ (P49 : jSh → jFl → jAr → Prop), wqX0_allAnew S o z43 N F35 A36 P49 ∧
      ∀ N54 F52 A53, P49 N54 F52 A53 →
      Q N54 F52 A53))
theorem vX0_year {G : jG} {l : Launch} [jOff l] {d : Nat} {N : jSh} {F : jFl} {A : jAr} {o : Nat} {Q : jSh → jFl → jAr → Prop} (hd : 11 ≤ d) (hW : jWg G N F A) (ht : jtg N o = 1) (h : wqX0_year (gS G) o N F A Q) : jCall G l d mX0_year [vR (o : Int)] N F A (cnV G N Q) := by
  unfold wqX0_year at h
  refine jCall.of (by decide) rfl (ls := [vR (o : Int)]) (by simp only [jent_R, jent_I, jent_L, jent_nil]; exact Nat.le_of_ble_eq_true rfl) (by simp only [jloc, jent_R, jent_I, jent_L, jent_nil]; rfl) ?_
  refine r_aload_n dX0_year_0 rfl ?_
  refine r_gR dX0_year_1 flX0_20_1 rfl ht rfl ?_
  refine j_dup dX0_year_4 (vR_cat _) ?_
  obtain ⟨b1, hz2, h⟩ := h
  obtain ⟨t3, h⟩ := h
  refine r_gI dX0_year_5 flX0_221_2 hz2 t3 rfl ?_
  refine j_iconst dX0_year_8 ?_
  refine j_iadd dX0_year_9 ?_
  obtain ⟨w4, h⟩ := h
  obtain ⟨r5, h⟩ := h
  refine c_pI hW dX0_year_10 flX0_221_2 hz2 t3 w4 rfl r5 fun F7 eF7 hW6 => ?_
  have h := h F7 eF7
  refine r_aload_n dX0_year_13 rfl ?_
  refine r_gR dX0_year_14 flX0_20_1 rfl ht rfl ?_
  obtain ⟨b8, hz9, h⟩ := h
  obtain ⟨t10, h⟩ := h
  refine r_gI dX0_year_17 flX0_221_2 hz9 t10 rfl ?_
  refine j_bipush dX0_year_20 ?_
  obtain ⟨c11, h⟩ := h
  refine j_irem dX0_year_22 c11.1 c11.2 ?_
  obtain ⟨r12, h⟩ := h
  obtain ⟨h1, h2⟩ := h
  refine j_if_ne 70 dX0_year_23 rfl r12 (fun q13 => ?_) (fun q13 => ?_)
  · have h := h1 q13
    clear h1 h2
    exact j_vret dX0_year_70 rfl ⟨rfl, hW6, (jTx.refl N), h⟩
  · have h := h2 (Classical.not_not.mp q13)
    clear h1 h2
    refine r_aload_n dX0_year_26 rfl ?_
    refine r_gR dX0_year_27 flX0_20_1 rfl ht rfl ?_
    refine r_gRF dX0_year_30 flX0_203_2 hz9 t10 rfl ?_
    obtain ⟨b14, hz15, h⟩ := h
    obtain ⟨t16, h⟩ := h
    obtain ⟨P17, hp18, h⟩ := h
    refine r_invV (ci := 20) (As := []) (rest := []) dX0_year_33 lkX0_190 hz15 t16 rfl rfl (vJ2_isEmpty (d := 2) (Nat.le_of_ble_eq_true rfl) hW6 t16  hp18) rfl rfl (Nat.le_of_ble_eq_true rfl) (Nat.le_trans (Nat.le_of_ble_eq_true rfl) hd) (jkpB fun z19 p22 r23 => ?_)
    have h := h z19 p22
    obtain ⟨h1, h2⟩ := h
    refine j_if_ne 70 dX0_year_36 rfl (jR_b r23) (fun q24 => ?_) (fun q24 => ?_)
    · have h := h1 q24
      clear h1 h2
      exact j_vret dX0_year_70 rfl ⟨rfl, hW6, (jTx.refl N), h⟩
    · have h := h2 (Classical.not_not.mp q24)
      clear h1 h2
      refine r_aload_n dX0_year_39 rfl ?_
      refine r_aload_n dX0_year_40 rfl ?_
      refine r_gR dX0_year_41 flX0_20_1 rfl ht rfl ?_
      refine r_gRF dX0_year_44 flX0_203_2 hz9 t10 rfl ?_
      refine r_aload_n dX0_year_47 rfl ?_
      refine r_aload_n dX0_year_48 rfl ?_
      refine r_gR dX0_year_49 flX0_20_1 rfl ht rfl ?_
      refine r_gRF dX0_year_52 flX0_203_2 hz9 t10 rfl ?_
      obtain ⟨P25, hp26, h⟩ := h
      refine r_invV (ci := 20) (As := []) (rest := [vR (o : Int), vR (jfn N 623 b8), vR (o : Int)]) dX0_year_55 lkX0_128 hz15 t16 rfl rfl (vJ2_size (d := 2) (Nat.le_of_ble_eq_true rfl) hW6 t16  hp26) rfl rfl (Nat.le_of_ble_eq_true rfl) (Nat.le_trans (Nat.le_of_ble_eq_true rfl) hd) (jkpI fun z27 p30 r31 => ?_)
      have h := h z27 p30
      obtain ⟨P32, hp33, h⟩ := h
      refine r_invV (ci := 1) (As := [vI z27]) (rest := [vR (jfn N 623 b8), vR (o : Int)]) dX0_year_58 lkX0_419 rfl ht rfl rfl (vX0_drawn (d := 2) (Nat.le_of_ble_eq_true rfl) hW6 ht r31 hp33) rfl rfl (Nat.le_of_ble_eq_true rfl) (Nat.le_trans (Nat.le_of_ble_eq_true rfl) hd) (ckmI fun z34 F35 A36 hW37 p39 r40 => ?_)
      have h := h z34 F35 A36 p39
      obtain ⟨P41, hp42, h⟩ := h
      refine r_invV (ci := 20) (As := [vI z34]) (rest := [vR (o : Int)]) dX0_year_61 lkX0_132 hz15 t16 rfl rfl (vJ2_get (d := 4) (Nat.le_of_ble_eq_true rfl) hW37 t16 r40 hp42) rfl rfl (Nat.le_of_ble_eq_true rfl) (Nat.le_trans (Nat.le_of_ble_eq_true rfl) hd) (jkpR fun z43 p46 r47 => ?_)
      have h := h z43 p46
      obtain ⟨j48, h⟩ := h
      refine r_chk dX0_year_64 q1308 j48 ?_
      obtain ⟨P49, hp50, h⟩ := h
      refine r_invV (ci := 1) (As := [vR z43]) (rest := []) dX0_year_67 lkX0_400 rfl ht rfl rfl (vX0_allAnew (d := 10) (Nat.le_of_ble_eq_true rfl) hW37 ht  hp50) rfl rfl (Nat.le_of_ble_eq_true rfl) (Nat.le_trans (Nat.le_of_ble_eq_true rfl) hd) (cknV fun N54 F52 A53 hW55 hT56 p57 => ?_)
      have h := h N54 F52 A53 p57
      exact j_vret dX0_year_70 rfl ⟨rfl, hW55, hT56, h⟩
