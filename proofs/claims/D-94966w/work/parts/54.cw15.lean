set_option maxRecDepth 100000
set_option linter.unusedVariables false
/-! walks of the component and of JDK methods: printed by gen/walkc.py -/
/-- ChildSays$Reader.word(I)V -/
def wqX10_word (S : Nat → Nat) (o : Nat) (a1 : Int) (N : jSh) (F : jFl) (A : jAr) (Q : jSh → jFl → jAr → Prop) (X : Nat → jSh → jFl → jAr → Prop) : Prop :=
  ∃ b1 : Nat, jfn N 3305 o = (b1 : Int) ∧
  jtg N b1 = 2 ∧
  ∃ b4 : Nat, jfn N 617 b1 = (b4 : Int) ∧
  jtg N b4 = 20 ∧
  ∃ (P7 : Int → Prop), wqJ2_size b4 N F A P7 ∧
  ∀ z9, P7 z9 →
  ∃ (P14 : Prop), wqX10_space o z9 24 a1 N F A P14 X ∧
  (P14 →
  ∀ (b21 : Nat) (N22 : jSh) (F23 : jFl), b21 = jnx N → N22 = jnew N 14 0 7 1 → F23 = nwF N F →
  ∃ (P29 : Int → jSh → jFl → jAr → Prop), wqX10_newName S o N22 F23 A P29 X ∧
  ∀ z31 N34 F32 A33, P29 z31 N34 F32 A33 →
  ∃ b40 : Nat, jfn N34 3305 o = (b40 : Int) ∧
  jtg N34 b40 = 2 ∧
  ∃ b43 : Nat, jfn N34 617 b40 = (b43 : Int) ∧
  jtg N34 b43 = 20 ∧
  ∃ (P46 : Int → Prop), wqJ2_size b43 N34 F32 A33 P46 ∧
  ∀ z48, P46 z48 →
  ∃ (P54 : jSh → jFl → jAr → Prop), wqX13_init b21 z31 z48 N34 F32 A33 P54 ∧
  ∀ N59 F57 A58, P54 N59 F57 A58 →
  ∃ (P65 : jSh → jFl → jAr → Prop), wqX10_asks S o (S 2 : Int) N59 F57 A58 P65 X ∧
  ∀ N70 F68 A69, P65 N70 F68 A69 →
  ∃ (P76 : Int → jSh → jFl → jAr → Prop), wqX10_number S o 1 9 N70 F68 A69 P76 X ∧
  ∀ z78 N81 F79 A80, P76 z78 N81 F79 A80 →
  ∀ F89 : jFl, F89 = upF F79 4200 b21 z78 →
  ∃ (P91 : jSh → jFl → jAr → Prop), wqX10_asks S o (S 3 : Int) N81 F89 A80 P91 X ∧
  ∀ N96 F94 A95, P91 N96 F94 A95 →
  ∃ (P102 : Int → jSh → jFl → jAr → Prop), wqX10_number S o 0 9 N96 F94 A95 P102 X ∧
  ∀ z104 N107 F105 A106, P102 z104 N107 F105 A106 →
  ∀ F115 : jFl, F115 = upF F105 4203 b21 z104 →
  ∃ (P117 : Int → jSh → jFl → jAr → Prop), wqX10_number S o 0 9 N107 F115 A106 P117 X ∧
  ∀ z119 N122 F120 A121, P117 z119 N122 F120 A121 →
  ∀ F130 : jFl, F130 = upF F120 4206 b21 z119 →
  ∃ (P132 : jSh → jFl → jAr → Prop), wqX10_asks S o (S 4 : Int) N122 F130 A121 P132 X ∧
  ∀ N137 F135 A136, P132 N137 F135 A136 →
  ∃ (P143 : Int → jSh → jFl → jAr → Prop), wqX10_number S o 0 99 N137 F135 A136 P143 X ∧
  ∀ z145 N148 F146 A147, P143 z145 N148 F146 A147 →
  ∀ F156 : jFl, F156 = upF F146 4209 b21 z145 →
  ∃ (P158 : Int → jSh → jFl → jAr → Prop), wqX10_takes S o (S 5 : Int) N148 F156 A147 P158 X ∧
  ∀ z160 N163 F161 A162, P158 z160 N163 F161 A162 →
  ∀ F171 : jFl, F171 = upF F161 4212 b21 z160 →
  ∃ b173 : Nat, jfn N163 3305 o = (b173 : Int) ∧
  jtg N163 b173 = 2 ∧
  ∃ b176 : Nat, jfn N163 617 b173 = (b176 : Int) ∧
  jtg N163 b176 = 20 ∧
  ∃ (P179 : Int → jSh → jFl → jAr → Prop), wqJ2_add S b176 (b21 : Int) N163 F171 A162 P179 ∧
  ∀ z181 N184 F182 A183, P179 z181 N184 F182 A183 →
  Q N184 F182 A183)
theorem vX10_word {G : jG} {l : Launch} [jOff l] {d : Nat} {N : jSh} {F : jFl} {A : jAr} {o : Nat} {a1 : Int} {Q : jSh → jFl → jAr → Prop} {X : Nat → jSh → jFl → jAr → Prop} (hd : 13 ≤ d) (hW : jWg G N F A) (ht : jtg N o = 11) (ra1 : jR a1) (h : wqX10_word (gS G) o a1 N F A Q X) : jCall G l d mX10_word [vR (o : Int), vI a1] N F A (cX G N X (cnV G N Q)) := by
  unfold wqX10_word at h
  refine jCall.of (by decide) rfl (ls := [vR (o : Int), vI a1, jD]) (by simp only [jent_R, jent_I, jent_L, jent_nil]; exact Nat.le_of_ble_eq_true rfl) (by simp only [jloc, jent_R, jent_I, jent_L, jent_nil]; rfl) ?_
  refine r_aload_n dX10_word_0 rfl ?_
  refine r_aload_n dX10_word_1 rfl ?_
  refine r_gRF dX10_word_2 flX10_22_11 rfl ht rfl ?_
  obtain ⟨b1, hz2, h⟩ := h
  obtain ⟨t3, h⟩ := h
  refine r_gRF dX10_word_5 flX10_119_2 hz2 t3 rfl ?_
  obtain ⟨b4, hz5, h⟩ := h
  obtain ⟨t6, h⟩ := h
  obtain ⟨P7, hp8, h⟩ := h
  refine r_invV (ci := 20) (As := []) (rest := [vR (o : Int)]) dX10_word_8 lkX10_123 hz5 t6 rfl rfl (vJ2_size (d := 2) (Nat.le_of_ble_eq_true rfl) hW t6  hp8) rfl rfl (Nat.le_of_ble_eq_true rfl) (Nat.le_trans (Nat.le_of_ble_eq_true rfl) hd) (jkpI fun z9 p12 r13 => ?_)
  have h := h z9 p12
  refine j_bipush dX10_word_11 ?_
  refine j_iload_n dX10_word_13 rfl ?_
  obtain ⟨P14, hp15, h⟩ := h
  refine r_invV (ci := 11) (As := [vI z9, vI 24, vI a1]) (rest := []) dX10_word_14 lkX10_127 rfl ht rfl rfl (vX10_space (d := 9) (Nat.le_of_ble_eq_true rfl) hW ht r13 (by decide) ra1 hp15) rfl rfl (Nat.le_of_ble_eq_true rfl) (Nat.le_trans (Nat.le_of_ble_eq_true rfl) hd) (ckX (fun q N9 F9 A9 W9 T9 t9 w9 h9 => JT.thru (hout0 rfl _) W9 ((jTx.refl N).trans T9) t9 w9 h9) (jkpV fun p19 => ?_))
  have h := h p19
  refine c_new (ci := 14) hW dX10_word_17 rfl q874 rfl rfl fun b21 N22 F23 eb21 eN22 eF23 t24 w25 hT26 hW27 => ?_
  have h := h b21 N22 F23 eb21 eN22 eF23
  refine j_dup dX10_word_20 (vR_cat _) ?_
  refine r_aload_n dX10_word_21 rfl ?_
  have t28 : jtg N22 o = 11 := (hT26.tg hW ht)
  obtain ⟨P29, hp30, h⟩ := h
  refine r_invV (ci := 11) (As := []) (rest := [vR (b21 : Int), vR (b21 : Int)]) dX10_word_22 lkX10_133 rfl t28 rfl rfl (vX10_newName (d := 11) (Nat.le_of_ble_eq_true rfl) hW27 t28  hp30) rfl rfl (Nat.le_of_ble_eq_true rfl) (Nat.le_trans (Nat.le_of_ble_eq_true rfl) hd) (ckX (fun q N9 F9 A9 W9 T9 t9 w9 h9 => JT.thru (hout0 rfl _) W9 (hT26.trans T9) t9 w9 h9) (cknR fun z31 N34 F32 A33 hW35 hT36 p37 r38 => ?_))
  have h := h z31 N34 F32 A33 p37
  refine r_aload_n dX10_word_25 rfl ?_
  have t39 : jtg N34 o = 11 := (hT36.tg hW27 t28)
  refine r_gRF dX10_word_26 flX10_22_11 rfl t39 rfl ?_
  obtain ⟨b40, hz41, h⟩ := h
  obtain ⟨t42, h⟩ := h
  refine r_gRF dX10_word_29 flX10_119_2 hz41 t42 rfl ?_
  obtain ⟨b43, hz44, h⟩ := h
  obtain ⟨t45, h⟩ := h
  obtain ⟨P46, hp47, h⟩ := h
  refine r_invV (ci := 20) (As := []) (rest := [vR z31, vR (b21 : Int), vR (b21 : Int)]) dX10_word_32 lkX10_123 hz44 t45 rfl rfl (vJ2_size (d := 2) (Nat.le_of_ble_eq_true rfl) hW35 t45  hp47) rfl rfl (Nat.le_of_ble_eq_true rfl) (Nat.le_trans (Nat.le_of_ble_eq_true rfl) hd) (jkpI fun z48 p51 r52 => ?_)
  have h := h z48 p51
  have t53 : jtg N34 b21 = 14 := (hT36.tg hW27 t24)
  obtain ⟨P54, hp55, h⟩ := h
  refine r_invI (As := [vR z31, vI z48]) (rest := [vR (b21 : Int)]) dX10_word_35 lkX10_136 rfl (vX13_init (d := 3) (Nat.le_of_ble_eq_true rfl) hW35 t53 r52 hp55) rfl rfl (Nat.le_of_ble_eq_true rfl) (Nat.le_trans (Nat.le_of_ble_eq_true rfl) hd) (cknV fun N59 F57 A58 hW60 hT61 p62 => ?_)
  have h := h N59 F57 A58 p62
  refine r_astore_n dX10_word_38 rfl ?_
  refine r_aload_n dX10_word_39 rfl ?_
  refine r_ldcs (n := 2) (tx := "beats") dX10_word_40 (List.mem_of_elem_eq_true (by decide +kernel)) ?_
  have t64 : jtg N59 o = 11 := (hT61.tg hW35 t39)
  obtain ⟨P65, hp66, h⟩ := h
  refine r_invV (ci := 11) (As := [vR (gS G 2 : Int)]) (rest := []) dX10_word_42 lkX10_141 rfl t64 rfl rfl (vX10_asks (d := 12) (Nat.le_of_ble_eq_true rfl) hW60 t64  hp66) rfl rfl (Nat.le_of_ble_eq_true rfl) (Nat.le_trans (Nat.le_of_ble_eq_true rfl) hd) (ckX (fun q N9 F9 A9 W9 T9 t9 w9 h9 => JT.thru (hout0 rfl _) W9 (((hT26.trans hT36).trans hT61).trans T9) t9 w9 h9) (cknV fun N70 F68 A69 hW71 hT72 p73 => ?_))
  have h := h N70 F68 A69 p73
  refine r_aload_n dX10_word_45 rfl ?_
  refine r_aload_n dX10_word_46 rfl ?_
  refine j_iconst dX10_word_47 ?_
  refine j_bipush dX10_word_48 ?_
  have t75 : jtg N70 o = 11 := (hT72.tg hW60 t64)
  obtain ⟨P76, hp77, h⟩ := h
  refine r_invV (ci := 11) (As := [vI 1, vI 9]) (rest := [vR (b21 : Int)]) dX10_word_50 lkX10_145 rfl t75 rfl rfl (vX10_number (d := 10) (Nat.le_of_ble_eq_true rfl) hW71 t75 (by decide) (by decide) hp77) rfl rfl (Nat.le_of_ble_eq_true rfl) (Nat.le_trans (Nat.le_of_ble_eq_true rfl) hd) (ckX (fun q N9 F9 A9 W9 T9 t9 w9 h9 => JT.thru (hout0 rfl _) W9 ((((hT26.trans hT36).trans hT61).trans hT72).trans T9) t9 w9 h9) (cknI fun z78 N81 F79 A80 hW82 hT83 p84 r85 => ?_))
  have h := h z78 N81 F79 A80 p84
  have t86 : jtg N81 b21 = 14 := (hT83.tg hW71 (hT72.tg hW60 (hT61.tg hW35 t53)))
  have w87 : jfn N81 0 b21 = 1 := (hT83.ow hW71 (hT72.tg hW60 (hT61.tg hW35 (hT36.tg hW27 t24))) (hT72.ow hW60 (hT61.tg hW35 (hT36.tg hW27 t24)) (hT61.ow hW35 (hT36.tg hW27 t24) (hT36.ow hW27 t24 w25))))
  refine c_pI hW82 dX10_word_53 flX10_148_14 rfl t86 w87 rfl r85 fun F89 eF89 hW88 => ?_
  have h := h F89 eF89
  refine r_aload_n dX10_word_56 rfl ?_
  refine r_ldcs (n := 3) (tx := "sounds") dX10_word_57 (List.mem_of_elem_eq_true (by decide +kernel)) ?_
  have t90 : jtg N81 o = 11 := (hT83.tg hW71 t75)
  obtain ⟨P91, hp92, h⟩ := h
  refine r_invV (ci := 11) (As := [vR (gS G 3 : Int)]) (rest := []) dX10_word_59 lkX10_141 rfl t90 rfl rfl (vX10_asks (d := 12) (Nat.le_of_ble_eq_true rfl) hW88 t90  hp92) rfl rfl (Nat.le_of_ble_eq_true rfl) (Nat.le_trans (Nat.le_of_ble_eq_true rfl) hd) (ckX (fun q N9 F9 A9 W9 T9 t9 w9 h9 => JT.thru (hout0 rfl _) W9 (((((hT26.trans hT36).trans hT61).trans hT72).trans hT83).trans T9) t9 w9 h9) (cknV fun N96 F94 A95 hW97 hT98 p99 => ?_))
  have h := h N96 F94 A95 p99
  refine r_aload_n dX10_word_62 rfl ?_
  refine r_aload_n dX10_word_63 rfl ?_
  refine j_iconst dX10_word_64 ?_
  refine j_bipush dX10_word_65 ?_
  have t101 : jtg N96 o = 11 := (hT98.tg hW88 t90)
  obtain ⟨P102, hp103, h⟩ := h
  refine r_invV (ci := 11) (As := [vI 0, vI 9]) (rest := [vR (b21 : Int)]) dX10_word_67 lkX10_145 rfl t101 rfl rfl (vX10_number (d := 10) (Nat.le_of_ble_eq_true rfl) hW97 t101 (by decide) (by decide) hp103) rfl rfl (Nat.le_of_ble_eq_true rfl) (Nat.le_trans (Nat.le_of_ble_eq_true rfl) hd) (ckX (fun q N9 F9 A9 W9 T9 t9 w9 h9 => JT.thru (hout0 rfl _) W9 ((((((hT26.trans hT36).trans hT61).trans hT72).trans hT83).trans hT98).trans T9) t9 w9 h9) (cknI fun z104 N107 F105 A106 hW108 hT109 p110 r111 => ?_))
  have h := h z104 N107 F105 A106 p110
  have t112 : jtg N107 b21 = 14 := (hT109.tg hW97 (hT98.tg hW88 t86))
  have w113 : jfn N107 0 b21 = 1 := (hT109.ow hW97 (hT98.tg hW88 (hT83.tg hW71 (hT72.tg hW60 (hT61.tg hW35 (hT36.tg hW27 t24))))) (hT98.ow hW88 (hT83.tg hW71 (hT72.tg hW60 (hT61.tg hW35 (hT36.tg hW27 t24)))) w87))
  refine c_pI hW108 dX10_word_70 flX10_152_14 rfl t112 w113 rfl r111 fun F115 eF115 hW114 => ?_
  have h := h F115 eF115
  refine r_aload_n dX10_word_73 rfl ?_
  refine r_aload_n dX10_word_74 rfl ?_
  refine j_iconst dX10_word_75 ?_
  refine j_bipush dX10_word_76 ?_
  have t116 : jtg N107 o = 11 := (hT109.tg hW97 t101)
  obtain ⟨P117, hp118, h⟩ := h
  refine r_invV (ci := 11) (As := [vI 0, vI 9]) (rest := [vR (b21 : Int)]) dX10_word_78 lkX10_145 rfl t116 rfl rfl (vX10_number (d := 10) (Nat.le_of_ble_eq_true rfl) hW114 t116 (by decide) (by decide) hp118) rfl rfl (Nat.le_of_ble_eq_true rfl) (Nat.le_trans (Nat.le_of_ble_eq_true rfl) hd) (ckX (fun q N9 F9 A9 W9 T9 t9 w9 h9 => JT.thru (hout0 rfl _) W9 (((((((hT26.trans hT36).trans hT61).trans hT72).trans hT83).trans hT98).trans hT109).trans T9) t9 w9 h9) (cknI fun z119 N122 F120 A121 hW123 hT124 p125 r126 => ?_))
  have h := h z119 N122 F120 A121 p125
  have t127 : jtg N122 b21 = 14 := (hT124.tg hW114 t112)
  have w128 : jfn N122 0 b21 = 1 := (hT124.ow hW114 (hT109.tg hW97 (hT98.tg hW88 (hT83.tg hW71 (hT72.tg hW60 (hT61.tg hW35 (hT36.tg hW27 t24)))))) w113)
  refine c_pI hW123 dX10_word_81 flX10_155_14 rfl t127 w128 rfl r126 fun F130 eF130 hW129 => ?_
  have h := h F130 eF130
  refine r_aload_n dX10_word_84 rfl ?_
  refine r_ldcs (n := 4) (tx := "worth") dX10_word_85 (List.mem_of_elem_eq_true (by decide +kernel)) ?_
  have t131 : jtg N122 o = 11 := (hT124.tg hW114 t116)
  obtain ⟨P132, hp133, h⟩ := h
  refine r_invV (ci := 11) (As := [vR (gS G 4 : Int)]) (rest := []) dX10_word_87 lkX10_141 rfl t131 rfl rfl (vX10_asks (d := 12) (Nat.le_of_ble_eq_true rfl) hW129 t131  hp133) rfl rfl (Nat.le_of_ble_eq_true rfl) (Nat.le_trans (Nat.le_of_ble_eq_true rfl) hd) (ckX (fun q N9 F9 A9 W9 T9 t9 w9 h9 => JT.thru (hout0 rfl _) W9 ((((((((hT26.trans hT36).trans hT61).trans hT72).trans hT83).trans hT98).trans hT109).trans hT124).trans T9) t9 w9 h9) (cknV fun N137 F135 A136 hW138 hT139 p140 => ?_))
  have h := h N137 F135 A136 p140
  refine r_aload_n dX10_word_90 rfl ?_
  refine r_aload_n dX10_word_91 rfl ?_
  refine j_iconst dX10_word_92 ?_
  refine j_bipush dX10_word_93 ?_
  have t142 : jtg N137 o = 11 := (hT139.tg hW129 t131)
  obtain ⟨P143, hp144, h⟩ := h
  refine r_invV (ci := 11) (As := [vI 0, vI 99]) (rest := [vR (b21 : Int)]) dX10_word_95 lkX10_145 rfl t142 rfl rfl (vX10_number (d := 10) (Nat.le_of_ble_eq_true rfl) hW138 t142 (by decide) (by decide) hp144) rfl rfl (Nat.le_of_ble_eq_true rfl) (Nat.le_trans (Nat.le_of_ble_eq_true rfl) hd) (ckX (fun q N9 F9 A9 W9 T9 t9 w9 h9 => JT.thru (hout0 rfl _) W9 (((((((((hT26.trans hT36).trans hT61).trans hT72).trans hT83).trans hT98).trans hT109).trans hT124).trans hT139).trans T9) t9 w9 h9) (cknI fun z145 N148 F146 A147 hW149 hT150 p151 r152 => ?_))
  have h := h z145 N148 F146 A147 p151
  have t153 : jtg N148 b21 = 14 := (hT150.tg hW138 (hT139.tg hW129 t127))
  have w154 : jfn N148 0 b21 = 1 := (hT150.ow hW138 (hT139.tg hW129 (hT124.tg hW114 (hT109.tg hW97 (hT98.tg hW88 (hT83.tg hW71 (hT72.tg hW60 (hT61.tg hW35 (hT36.tg hW27 t24)))))))) (hT139.ow hW129 (hT124.tg hW114 (hT109.tg hW97 (hT98.tg hW88 (hT83.tg hW71 (hT72.tg hW60 (hT61.tg hW35 (hT36.tg hW27 t24))))))) w128))
  refine c_pI hW149 dX10_word_98 flX10_160_14 rfl t153 w154 rfl r152 fun F156 eF156 hW155 => ?_
  have h := h F156 eF156
  refine r_aload_n dX10_word_101 rfl ?_
  refine r_aload_n dX10_word_102 rfl ?_
  refine r_ldcs (n := 5) (tx := "never") dX10_word_103 (List.mem_of_elem_eq_true (by decide +kernel)) ?_
  have t157 : jtg N148 o = 11 := (hT150.tg hW138 t142)
  obtain ⟨P158, hp159, h⟩ := h
  refine r_invV (ci := 11) (As := [vR (gS G 5 : Int)]) (rest := [vR (b21 : Int)]) dX10_word_105 lkX10_97 rfl t157 rfl rfl (vX10_takes (d := 11) (Nat.le_of_ble_eq_true rfl) hW155 t157  hp159) rfl rfl (Nat.le_of_ble_eq_true rfl) (Nat.le_trans (Nat.le_of_ble_eq_true rfl) hd) (ckX (fun q N9 F9 A9 W9 T9 t9 w9 h9 => JT.thru (hout0 rfl _) W9 ((((((((((hT26.trans hT36).trans hT61).trans hT72).trans hT83).trans hT98).trans hT109).trans hT124).trans hT139).trans hT150).trans T9) t9 w9 h9) (cknB fun z160 N163 F161 A162 hW164 hT165 p166 r167 => ?_))
  have h := h z160 N163 F161 A162 p166
  have t168 : jtg N163 b21 = 14 := (hT165.tg hW155 t153)
  have w169 : jfn N163 0 b21 = 1 := (hT165.ow hW155 (hT150.tg hW138 (hT139.tg hW129 (hT124.tg hW114 (hT109.tg hW97 (hT98.tg hW88 (hT83.tg hW71 (hT72.tg hW60 (hT61.tg hW35 (hT36.tg hW27 t24))))))))) w154)
  refine c_pZ hW164 dX10_word_108 flX10_164_14 rfl t168 w169 rfl (jR_b r167) r167 fun F171 eF171 hW170 => ?_
  have h := h F171 eF171
  refine r_aload_n dX10_word_111 rfl ?_
  have t172 : jtg N163 o = 11 := (hT165.tg hW155 t157)
  refine r_gRF dX10_word_112 flX10_22_11 rfl t172 rfl ?_
  obtain ⟨b173, hz174, h⟩ := h
  obtain ⟨t175, h⟩ := h
  refine r_gRF dX10_word_115 flX10_119_2 hz174 t175 rfl ?_
  refine r_aload_n dX10_word_118 rfl ?_
  obtain ⟨b176, hz177, h⟩ := h
  obtain ⟨t178, h⟩ := h
  obtain ⟨P179, hp180, h⟩ := h
  refine r_invV (ci := 20) (As := [vR (b21 : Int)]) (rest := []) dX10_word_119 lkX10_166 hz177 t178 rfl rfl (vJ2_add (d := 8) (Nat.le_of_ble_eq_true rfl) hW170 t178  hp180) rfl rfl (Nat.le_of_ble_eq_true rfl) (Nat.le_trans (Nat.le_of_ble_eq_true rfl) hd) (cknB fun z181 N184 F182 A183 hW185 hT186 p187 r188 => ?_)
  have h := h z181 N184 F182 A183 p187
  refine j_pop dX10_word_122 rfl ?_
  exact j_vret dX10_word_123 rfl (Or.inl ⟨rfl, hW185, (((((((((((hT26.trans hT36).trans hT61).trans hT72).trans hT83).trans hT98).trans hT109).trans hT124).trans hT139).trans hT150).trans hT165).trans hT186), h⟩)
/-- ChildSays$Reader.law(I)V -/
def wqX10_law (S : Nat → Nat) (o : Nat) (a1 : Int) (N : jSh) (F : jFl) (A : jAr) (Q : jSh → jFl → jAr → Prop) (X : Nat → jSh → jFl → jAr → Prop) : Prop :=
  ∃ b1 : Nat, jfn N 3305 o = (b1 : Int) ∧
  jtg N b1 = 2 ∧
  ∃ b4 : Nat, jfn N 626 b1 = (b4 : Int) ∧
  jtg N b4 = 20 ∧
  ∃ (P7 : Int → Prop), wqJ2_size b4 N F A P7 ∧
  ∀ z9, P7 z9 →
  ∃ (P14 : Prop), wqX10_space o z9 12 a1 N F A P14 X ∧
  (P14 →
  ∀ (b21 : Nat) (N22 : jSh) (F23 : jFl), b21 = jnx N → N22 = jnew N 17 0 4 1 → F23 = nwF N F →
  ∃ (P29 : Int → jSh → jFl → jAr → Prop), wqX10_newName S o N22 F23 A P29 X ∧
  ∀ z31 N34 F32 A33, P29 z31 N34 F32 A33 →
  ∃ b40 : Nat, jfn N34 3305 o = (b40 : Int) ∧
  jtg N34 b40 = 2 ∧
  ∃ b43 : Nat, jfn N34 626 b40 = (b43 : Int) ∧
  jtg N34 b43 = 20 ∧
  ∃ (P46 : Int → Prop), wqJ2_size b43 N34 F32 A33 P46 ∧
  ∀ z48, P46 z48 →
  ∃ (P54 : jSh → jFl → jAr → Prop), wqX16_init b21 z31 z48 N34 F32 A33 P54 ∧
  ∀ N59 F57 A58, P54 N59 F57 A58 →
  ∃ (P65 : Int → jSh → jFl → jAr → Prop), wqX10_takes S o (S 12 : Int) N59 F57 A58 P65 X ∧
  ∀ z67 N70 F68 A69, P65 z67 N70 F68 A69 →
  ∀ F78 : jFl, F78 = upF F68 5103 b21 z67 →
  ∃ (P80 : jSh → jFl → jAr → Prop), wqX10_asks S o (S 13 : Int) N70 F78 A69 P80 X ∧
  ∀ N85 F83 A84, P80 N85 F83 A84 →
  ∃ (P92 : Int → jSh → jFl → jAr → Prop), wqX10_row S o (jfn N85 5102 b21) N85 F83 A84 P92 X ∧
  ∀ z94 N97 F95 A96, P92 z94 N97 F95 A96 →
  ∃ b103 : Nat, jfn N97 3305 o = (b103 : Int) ∧
  jtg N97 b103 = 2 ∧
  ∃ b106 : Nat, jfn N97 626 b103 = (b106 : Int) ∧
  jtg N97 b106 = 20 ∧
  ∃ (P109 : Int → jSh → jFl → jAr → Prop), wqJ2_add S b106 (b21 : Int) N97 F95 A96 P109 ∧
  ∀ z111 N114 F112 A113, P109 z111 N114 F112 A113 →
  ∃ b120 : Nat, jfn N114 3305 o = (b120 : Int) ∧
  jtg N114 b120 = 2 ∧
  ∃ b123 : Nat, jfn N114 629 b120 = (b123 : Int) ∧
  jtg N114 b123 = 20 ∧
  ∃ (P126 : Int → jSh → jFl → jAr → Prop), wqJ2_add S b123 (b21 : Int) N114 F112 A113 P126 ∧
  ∀ z128 N131 F129 A130, P126 z128 N131 F129 A130 →
  Q N131 F129 A130)
theorem vX10_law {G : jG} {l : Launch} [jOff l] {d : Nat} {N : jSh} {F : jFl} {A : jAr} {o : Nat} {a1 : Int} {Q : jSh → jFl → jAr → Prop} {X : Nat → jSh → jFl → jAr → Prop} (hd : 14 ≤ d) (hW : jWg G N F A) (ht : jtg N o = 11) (ra1 : jR a1) (h : wqX10_law (gS G) o a1 N F A Q X) : jCall G l d mX10_law [vR (o : Int), vI a1] N F A (cX G N X (cnV G N Q)) := by
  unfold wqX10_law at h
  refine jCall.of (by decide) rfl (ls := [vR (o : Int), vI a1, jD]) (by simp only [jent_R, jent_I, jent_L, jent_nil]; exact Nat.le_of_ble_eq_true rfl) (by simp only [jloc, jent_R, jent_I, jent_L, jent_nil]; rfl) ?_
  refine r_aload_n dX10_law_0 rfl ?_
  refine r_aload_n dX10_law_1 rfl ?_
  refine r_gRF dX10_law_2 flX10_22_11 rfl ht rfl ?_
  obtain ⟨b1, hz2, h⟩ := h
  obtain ⟨t3, h⟩ := h
  refine r_gRF dX10_law_5 flX10_230_2 hz2 t3 rfl ?_
  obtain ⟨b4, hz5, h⟩ := h
  obtain ⟨t6, h⟩ := h
  obtain ⟨P7, hp8, h⟩ := h
  refine r_invV (ci := 20) (As := []) (rest := [vR (o : Int)]) dX10_law_8 lkX10_123 hz5 t6 rfl rfl (vJ2_size (d := 2) (Nat.le_of_ble_eq_true rfl) hW t6  hp8) rfl rfl (Nat.le_of_ble_eq_true rfl) (Nat.le_trans (Nat.le_of_ble_eq_true rfl) hd) (jkpI fun z9 p12 r13 => ?_)
  have h := h z9 p12
  refine j_bipush dX10_law_11 ?_
  refine j_iload_n dX10_law_13 rfl ?_
  obtain ⟨P14, hp15, h⟩ := h
  refine r_invV (ci := 11) (As := [vI z9, vI 12, vI a1]) (rest := []) dX10_law_14 lkX10_127 rfl ht rfl rfl (vX10_space (d := 9) (Nat.le_of_ble_eq_true rfl) hW ht r13 (by decide) ra1 hp15) rfl rfl (Nat.le_of_ble_eq_true rfl) (Nat.le_trans (Nat.le_of_ble_eq_true rfl) hd) (ckX (fun q N9 F9 A9 W9 T9 t9 w9 h9 => JT.thru (hout0 rfl _) W9 ((jTx.refl N).trans T9) t9 w9 h9) (jkpV fun p19 => ?_))
  have h := h p19
  refine c_new (ci := 17) hW dX10_law_17 rfl q1122 rfl rfl fun b21 N22 F23 eb21 eN22 eF23 t24 w25 hT26 hW27 => ?_
  have h := h b21 N22 F23 eb21 eN22 eF23
  refine j_dup dX10_law_20 (vR_cat _) ?_
  refine r_aload_n dX10_law_21 rfl ?_
  have t28 : jtg N22 o = 11 := (hT26.tg hW ht)
  obtain ⟨P29, hp30, h⟩ := h
  refine r_invV (ci := 11) (As := []) (rest := [vR (b21 : Int), vR (b21 : Int)]) dX10_law_22 lkX10_133 rfl t28 rfl rfl (vX10_newName (d := 11) (Nat.le_of_ble_eq_true rfl) hW27 t28  hp30) rfl rfl (Nat.le_of_ble_eq_true rfl) (Nat.le_trans (Nat.le_of_ble_eq_true rfl) hd) (ckX (fun q N9 F9 A9 W9 T9 t9 w9 h9 => JT.thru (hout0 rfl _) W9 (hT26.trans T9) t9 w9 h9) (cknR fun z31 N34 F32 A33 hW35 hT36 p37 r38 => ?_))
  have h := h z31 N34 F32 A33 p37
  refine r_aload_n dX10_law_25 rfl ?_
  have t39 : jtg N34 o = 11 := (hT36.tg hW27 t28)
  refine r_gRF dX10_law_26 flX10_22_11 rfl t39 rfl ?_
  obtain ⟨b40, hz41, h⟩ := h
  obtain ⟨t42, h⟩ := h
  refine r_gRF dX10_law_29 flX10_230_2 hz41 t42 rfl ?_
  obtain ⟨b43, hz44, h⟩ := h
  obtain ⟨t45, h⟩ := h
  obtain ⟨P46, hp47, h⟩ := h
  refine r_invV (ci := 20) (As := []) (rest := [vR z31, vR (b21 : Int), vR (b21 : Int)]) dX10_law_32 lkX10_123 hz44 t45 rfl rfl (vJ2_size (d := 2) (Nat.le_of_ble_eq_true rfl) hW35 t45  hp47) rfl rfl (Nat.le_of_ble_eq_true rfl) (Nat.le_trans (Nat.le_of_ble_eq_true rfl) hd) (jkpI fun z48 p51 r52 => ?_)
  have h := h z48 p51
  have t53 : jtg N34 b21 = 17 := (hT36.tg hW27 t24)
  obtain ⟨P54, hp55, h⟩ := h
  refine r_invI (As := [vR z31, vI z48]) (rest := [vR (b21 : Int)]) dX10_law_35 lkX10_235 rfl (vX16_init (d := 3) (Nat.le_of_ble_eq_true rfl) hW35 t53 r52 hp55) rfl rfl (Nat.le_of_ble_eq_true rfl) (Nat.le_trans (Nat.le_of_ble_eq_true rfl) hd) (cknV fun N59 F57 A58 hW60 hT61 p62 => ?_)
  have h := h N59 F57 A58 p62
  refine r_astore_n dX10_law_38 rfl ?_
  refine r_aload_n dX10_law_39 rfl ?_
  refine r_aload_n dX10_law_40 rfl ?_
  refine r_ldcs (n := 12) (tx := "sung") dX10_law_41 (List.mem_of_elem_eq_true (by decide +kernel)) ?_
  have t64 : jtg N59 o = 11 := (hT61.tg hW35 t39)
  obtain ⟨P65, hp66, h⟩ := h
  refine r_invV (ci := 11) (As := [vR (gS G 12 : Int)]) (rest := [vR (b21 : Int)]) dX10_law_43 lkX10_97 rfl t64 rfl rfl (vX10_takes (d := 11) (Nat.le_of_ble_eq_true rfl) hW60 t64  hp66) rfl rfl (Nat.le_of_ble_eq_true rfl) (Nat.le_trans (Nat.le_of_ble_eq_true rfl) hd) (ckX (fun q N9 F9 A9 W9 T9 t9 w9 h9 => JT.thru (hout0 rfl _) W9 (((hT26.trans hT36).trans hT61).trans T9) t9 w9 h9) (cknB fun z67 N70 F68 A69 hW71 hT72 p73 r74 => ?_))
  have h := h z67 N70 F68 A69 p73
  have t75 : jtg N70 b21 = 17 := (hT72.tg hW60 (hT61.tg hW35 t53))
  have w76 : jfn N70 0 b21 = 1 := (hT72.ow hW60 (hT61.tg hW35 (hT36.tg hW27 t24)) (hT61.ow hW35 (hT36.tg hW27 t24) (hT36.ow hW27 t24 w25)))
  refine c_pZ hW71 dX10_law_46 flX10_238_17 rfl t75 w76 rfl (jR_b r74) r74 fun F78 eF78 hW77 => ?_
  have h := h F78 eF78
  refine r_aload_n dX10_law_49 rfl ?_
  refine r_ldcs (n := 13) (tx := "says") dX10_law_50 (List.mem_of_elem_eq_true (by decide +kernel)) ?_
  have t79 : jtg N70 o = 11 := (hT72.tg hW60 t64)
  obtain ⟨P80, hp81, h⟩ := h
  refine r_invV (ci := 11) (As := [vR (gS G 13 : Int)]) (rest := []) dX10_law_52 lkX10_141 rfl t79 rfl rfl (vX10_asks (d := 12) (Nat.le_of_ble_eq_true rfl) hW77 t79  hp81) rfl rfl (Nat.le_of_ble_eq_true rfl) (Nat.le_trans (Nat.le_of_ble_eq_true rfl) hd) (ckX (fun q N9 F9 A9 W9 T9 t9 w9 h9 => JT.thru (hout0 rfl _) W9 ((((hT26.trans hT36).trans hT61).trans hT72).trans T9) t9 w9 h9) (cknV fun N85 F83 A84 hW86 hT87 p88 => ?_))
  have h := h N85 F83 A84 p88
  refine r_aload_n dX10_law_55 rfl ?_
  refine r_aload_n dX10_law_56 rfl ?_
  have t90 : jtg N85 b21 = 17 := (hT87.tg hW77 t75)
  refine r_gRF dX10_law_57 flX10_241_17 rfl t90 rfl ?_
  have t91 : jtg N85 o = 11 := (hT87.tg hW77 t79)
  obtain ⟨P92, hp93, h⟩ := h
  refine r_invV (ci := 11) (As := [vR (jfn N85 5102 b21)]) (rest := []) dX10_law_60 lkX10_226 rfl t91 rfl rfl (vX10_row (d := 13) (Nat.le_of_ble_eq_true rfl) hW86 t91  hp93) rfl rfl (Nat.le_of_ble_eq_true rfl) (Nat.le_trans (Nat.le_of_ble_eq_true rfl) hd) (ckX (fun q N9 F9 A9 W9 T9 t9 w9 h9 => JT.thru (hout0 rfl _) W9 (((((hT26.trans hT36).trans hT61).trans hT72).trans hT87).trans T9) t9 w9 h9) (cknR fun z94 N97 F95 A96 hW98 hT99 p100 r101 => ?_))
  have h := h z94 N97 F95 A96 p100
  refine j_pop dX10_law_63 (vR_cat _) ?_
  refine r_aload_n dX10_law_64 rfl ?_
  have t102 : jtg N97 o = 11 := (hT99.tg hW86 t91)
  refine r_gRF dX10_law_65 flX10_22_11 rfl t102 rfl ?_
  obtain ⟨b103, hz104, h⟩ := h
  obtain ⟨t105, h⟩ := h
  refine r_gRF dX10_law_68 flX10_230_2 hz104 t105 rfl ?_
  refine r_aload_n dX10_law_71 rfl ?_
  obtain ⟨b106, hz107, h⟩ := h
  obtain ⟨t108, h⟩ := h
  obtain ⟨P109, hp110, h⟩ := h
  refine r_invV (ci := 20) (As := [vR (b21 : Int)]) (rest := []) dX10_law_72 lkX10_166 hz107 t108 rfl rfl (vJ2_add (d := 8) (Nat.le_of_ble_eq_true rfl) hW98 t108  hp110) rfl rfl (Nat.le_of_ble_eq_true rfl) (Nat.le_trans (Nat.le_of_ble_eq_true rfl) hd) (cknB fun z111 N114 F112 A113 hW115 hT116 p117 r118 => ?_)
  have h := h z111 N114 F112 A113 p117
  refine j_pop dX10_law_75 rfl ?_
  refine r_aload_n dX10_law_76 rfl ?_
  have t119 : jtg N114 o = 11 := (hT116.tg hW98 t102)
  refine r_gRF dX10_law_77 flX10_22_11 rfl t119 rfl ?_
  obtain ⟨b120, hz121, h⟩ := h
  obtain ⟨t122, h⟩ := h
  refine r_gRF dX10_law_80 flX10_244_2 hz121 t122 rfl ?_
  refine r_aload_n dX10_law_83 rfl ?_
  obtain ⟨b123, hz124, h⟩ := h
  obtain ⟨t125, h⟩ := h
  obtain ⟨P126, hp127, h⟩ := h
  refine r_invV (ci := 20) (As := [vR (b21 : Int)]) (rest := []) dX10_law_84 lkX10_166 hz124 t125 rfl rfl (vJ2_add (d := 8) (Nat.le_of_ble_eq_true rfl) hW115 t125  hp127) rfl rfl (Nat.le_of_ble_eq_true rfl) (Nat.le_trans (Nat.le_of_ble_eq_true rfl) hd) (cknB fun z128 N131 F129 A130 hW132 hT133 p134 r135 => ?_)
  have h := h z128 N131 F129 A130 p134
  refine j_pop dX10_law_87 rfl ?_
  exact j_vret dX10_law_88 rfl (Or.inl ⟨rfl, hW132, (((((((hT26.trans hT36).trans hT61).trans hT72).trans hT87).trans hT99).trans hT116).trans hT133), h⟩)
/-- ChildSays$Reader.rowAlone(LChildSays$Row;)LChildSays$Row; -/
def wqX10_rowAlone (S : Nat → Nat) (o : Nat) (a1 : Int) (N : jSh) (F : jFl) (A : jAr) (Q : Int → jSh → jFl → jAr → Prop) (X : Nat → jSh → jFl → jAr → Prop) : Prop :=
  ∃ (P1 : Int → jSh → jFl → jAr → Prop), wqX10_row S o a1 N F A P1 X ∧
  ∀ z3 N6 F4 A5, P1 z3 N6 F4 A5 →
  ∃ (P12 : Int → jSh → jFl → jAr → Prop), wqX10_see S o N6 F4 A5 P12 X ∧
  ∀ z14 N17 F15 A16, P12 z14 N17 F15 A16 →
  ((z14 = 0) →
    Q a1 N17 F15 A16) ∧
  ((¬ (z14 = 0)) →
    ∃ (P24 : Int → jSh → jFl → jAr → Prop), wqX10_wrong o N17 F15 A16 P24 ∧
    ∀ z26 N29 F27 A28, P24 z26 N29 F27 A28 →
    ∃ b34 : Nat, z26 = (b34 : Int) ∧
    jtg N29 b34 = 12 ∧
    jfn N29 0 b34 = 1 ∧
    X b34 N29 F27 A28)
theorem vX10_rowAlone {G : jG} {l : Launch} [jOff l] {d : Nat} {N : jSh} {F : jFl} {A : jAr} {o : Nat} {a1 : Int} {Q : Int → jSh → jFl → jAr → Prop} {X : Nat → jSh → jFl → jAr → Prop} (hd : 14 ≤ d) (hW : jWg G N F A) (ht : jtg N o = 11) (h : wqX10_rowAlone (gS G) o a1 N F A Q X) : jCall G l d mX10_rowAlone [vR (o : Int), vR a1] N F A (cX G N X (cnR G N Q)) := by
  unfold wqX10_rowAlone at h
  refine jCall.of (by decide) rfl (ls := [vR (o : Int), vR a1]) (by simp only [jent_R, jent_I, jent_L, jent_nil]; exact Nat.le_of_ble_eq_true rfl) (by simp only [jloc, jent_R, jent_I, jent_L, jent_nil]; rfl) ?_
  refine r_aload_n dX10_rowAlone_0 rfl ?_
  refine r_aload_n dX10_rowAlone_1 rfl ?_
  obtain ⟨P1, hp2, h⟩ := h
  refine r_invV (ci := 11) (As := [vR a1]) (rest := []) dX10_rowAlone_2 lkX10_226 rfl ht rfl rfl (vX10_row (d := 13) (Nat.le_of_ble_eq_true rfl) hW ht  hp2) rfl rfl (Nat.le_of_ble_eq_true rfl) (Nat.le_trans (Nat.le_of_ble_eq_true rfl) hd) (ckX (fun q N9 F9 A9 W9 T9 t9 w9 h9 => JT.thru (hout0 rfl _) W9 ((jTx.refl N).trans T9) t9 w9 h9) (cknR fun z3 N6 F4 A5 hW7 hT8 p9 r10 => ?_))
  have h := h z3 N6 F4 A5 p9
  refine j_pop dX10_rowAlone_5 (vR_cat _) ?_
  refine r_aload_n dX10_rowAlone_6 rfl ?_
  have t11 : jtg N6 o = 11 := (hT8.tg hW ht)
  obtain ⟨P12, hp13, h⟩ := h
  refine r_invV (ci := 11) (As := []) (rest := []) dX10_rowAlone_7 lkX10_75 rfl t11 rfl rfl (vX10_see (d := 9) (Nat.le_of_ble_eq_true rfl) hW7 t11  hp13) rfl rfl (Nat.le_of_ble_eq_true rfl) (Nat.le_trans (Nat.le_of_ble_eq_true rfl) hd) (ckX (fun q N9 F9 A9 W9 T9 t9 w9 h9 => JT.thru (hout0 rfl _) W9 (hT8.trans T9) t9 w9 h9) (cknI fun z14 N17 F15 A16 hW18 hT19 p20 r21 => ?_))
  have h := h z14 N17 F15 A16 p20
  obtain ⟨h1, h2⟩ := h
  refine j_if_eq 18 dX10_rowAlone_10 rfl r21 (fun q22 => ?_) (fun q22 => ?_)
  · have h := h1 q22
    clear h1 h2
    refine r_aload_n dX10_rowAlone_18 rfl ?_
    exact r_aret dX10_rowAlone_19 rfl (Or.inl ⟨_, rfl⟩) (Or.inl ⟨_, rfl, hW18, (hT8.trans hT19), h, trivial⟩)
  · have h := h2 q22
    clear h1 h2
    refine r_aload_n dX10_rowAlone_13 rfl ?_
    have t23 : jtg N17 o = 11 := (hT19.tg hW7 t11)
    obtain ⟨P24, hp25, h⟩ := h
    refine r_invV (ci := 11) (As := []) (rest := []) dX10_rowAlone_14 lkX10_93 rfl t23 rfl rfl (vX10_wrong (d := 9) (Nat.le_of_ble_eq_true rfl) hW18 t23  hp25) rfl rfl (Nat.le_of_ble_eq_true rfl) (Nat.le_trans (Nat.le_of_ble_eq_true rfl) hd) (cknR fun z26 N29 F27 A28 hW30 hT31 p32 r33 => ?_)
    have h := h z26 N29 F27 A28 p32
    obtain ⟨b34, hz35, h⟩ := h
    obtain ⟨t36, h⟩ := h
    obtain ⟨w37, h⟩ := h
    exact r_athrow dX10_rowAlone_17 hz35 (JT.thru (hout0 rfl _) hW30 ((hT8.trans hT19).trans hT31) t36 w37 h)
/-- ChildSays.council(I)I -/
def wqX0_council (S : Nat → Nat) (o : Nat) (a1 : Int) (N : jSh) (F : jFl) (A : jAr) (Q : Int → jSh → jFl → jAr → Prop) : Prop :=
  ∀ v1 : Int, v1 = F 303 o →
  ∃ (P2 : Int → Prop), wqX0_lawOf o a1 N F A P2 ∧
  ∀ z4, P2 z4 →
  jfn N 0 o = 1 ∧
  ∀ F11 : jFl, F11 = upF F 303 o 0 →
  ((¬ z4 < 0) →
    ∀ (b13 : Nat) (N14 : jSh) (F15 : jFl), b13 = jnx N → N14 = jnew N 4 0 3 1 → F15 = nwF N F11 →
    ∃ (P20 : jSh → jFl → jAr → Prop), wqX3_init b13 N14 F15 A P20 ∧
    ∀ N25 F23 A24, P20 N25 F23 A24 →
    ∀ (b30 : Nat) (N31 : jSh) (F32 : jFl), b30 = jnx N25 → N31 = jnew N25 11 0 11 1 → F32 = nwF N25 F23 →
    ∃ (P38 : jSh → jFl → jAr → Prop), wqX10_init b30 (o : Int) v1 (F32 311 o) N31 F32 A24 P38 ∧
    ∀ N43 F41 A42, P38 N43 F41 A42 →
    ∃ (P49 : Int → jSh → jFl → jAr → Prop) (X52 : Nat → jSh → jFl → jAr → Prop), wqX10_rowAlone S b30 (b13 : Int) N43 F41 A42 P49 X52 ∧
    (∀ (q59 : Nat) (N60 : jSh) (F61 : jFl) (A62 : jAr), X52 q59 N60 F61 A62 →
      ∃ (P68 : Int → jFl → jAr → Prop), wqX0_wrong o (q59 : Int) 2 N60 F61 A62 P68 ∧
      ∀ z70 F71 A72, P68 z70 F71 A72 →
      Q z70 N60 F71 A72) ∧
    ∀ z51 N55 F53 A54, P49 z51 N55 F53 A54 →
    ∃ (P80 : jFl → jAr → Prop), wqX0_isRight o N55 F53 A54 P80 ∧
    ∀ F83 A84, P80 F83 A84 →
    ∃ (P89 : jSh → jFl → jAr → Prop), wqX0_keeps S o N55 F83 A84 P89 ∧
    ∀ N94 F92 A93, P89 N94 F92 A93 →
    ∃ b99 : Nat, z4 = (b99 : Int) ∧
    jtg N94 b99 = 17 ∧
    ∃ b102 : Nat, jfn N94 5102 b99 = (b102 : Int) ∧
    jtg N94 b102 = 4 ∧
    ∃ (P105 : Int → jFl → jAr → Prop), wqX3_like b102 (b13 : Int) N94 F92 A93 P105 ∧
    ∀ z107 F108 A109, P105 z107 F108 A109 →
    ∃ (P115 : Int → Prop), wqX3_size b13 N94 F108 A109 P115 ∧
    ∀ z117, P115 z117 →
    Q z117 N94 F108 A109) ∧
  ((z4 < 0) →
    ∃ (P122 : Int → jFl → jAr → Prop), wqX0_refused o 2 N F11 A P122 ∧
    ∀ z124 F125 A126, P122 z124 F125 A126 →
    Q z124 N F125 A126)
theorem vX0_council {G : jG} {l : Launch} [jOff l] {d : Nat} {N : jSh} {F : jFl} {A : jAr} {o : Nat} {a1 : Int} {Q : Int → jSh → jFl → jAr → Prop} (hd : 15 ≤ d) (hW : jWg G N F A) (ht : jtg N o = 1) (ra1 : jR a1) (h : wqX0_council (gS G) o a1 N F A Q) : jCall G l d mX0_council [vR (o : Int), vI a1] N F A (cnI G N Q) := by
  unfold wqX0_council at h
  refine jCall.ofH (by decide) rfl (ls := [vR (o : Int), vI a1, jD, jD, jD, jD]) (by simp only [jent_R, jent_I, jent_L, jent_nil]; exact Nat.le_of_ble_eq_true rfl) (by simp only [jloc, jent_R, jent_I, jent_L, jent_nil]; rfl) ?_
  refine r_aload_n dX0_council_0 rfl ?_
  refine r_gI dX0_council_1 flX0_111_1 rfl ht rfl ?_
  obtain ⟨v1, ev1⟩ : ∃ x : Int, x = F 303 o := ⟨_, rfl⟩
  have h := h v1 ev1
  refine jnmI (e := ev1) ?_
  refine j_istore_n dX0_council_4 rfl ?_
  refine r_aload_n dX0_council_5 rfl ?_
  refine j_iload_n dX0_council_6 rfl ?_
  obtain ⟨P2, hp3, h⟩ := h
  refine r_invV (ci := 1) (As := [vI a1]) (rest := []) dX0_council_7 lkX0_239 rfl ht rfl rfl (vX0_lawOf (d := 5) (Nat.le_of_ble_eq_true rfl) hW ht ra1 hp3) rfl rfl (Nat.le_of_ble_eq_true rfl) (Nat.le_trans (Nat.le_of_ble_eq_true rfl) hd) (jkpR fun z4 p7 r8 => ?_)
  have h := h z4 p7
  refine r_astore_n dX0_council_10 rfl ?_
  refine r_aload_n dX0_council_11 rfl ?_
  refine j_iconst dX0_council_12 ?_
  obtain ⟨w9, h⟩ := h
  refine c_pI hW dX0_council_13 flX0_111_1 rfl ht w9 rfl (by decide) fun F11 eF11 hW10 => ?_
  have h := h F11 eF11
  refine r_aload_n dX0_council_16 rfl ?_
  obtain ⟨h1, h2⟩ := h
  refine r_ifnonnull 26 dX0_council_17 rfl (fun q12 => ?_) (fun q12 => ?_)
  · have h := h1 q12
    clear h1 h2
    refine c_new (ci := 4) hW10 dX0_council_26 rfl q487 rfl rfl fun b13 N14 F15 eb13 eN14 eF15 t16 w17 hT18 hW19 => ?_
    have h := h b13 N14 F15 eb13 eN14 eF15
    refine j_dup dX0_council_29 (vR_cat _) ?_
    obtain ⟨P20, hp21, h⟩ := h
    refine r_invIN (As := []) (rest := [vR (b13 : Int)]) dX0_council_30 lkX0_85 rfl (vX3_init (d := 2) (Nat.le_of_ble_eq_true rfl) hW19 t16  hp21) rfl rfl (Nat.le_of_ble_eq_true rfl) (Nat.le_trans (Nat.le_of_ble_eq_true rfl) hd) (cknV fun N25 F23 A24 hW26 hT27 p28 => ?_)
    have h := h N25 F23 A24 p28
    refine r_astore dX0_council_33 (jokR rfl (Nat.le_of_ble_eq_true rfl)) ?_
    refine c_new (ci := 11) hW26 dX0_council_35 rfl q613 rfl rfl fun b30 N31 F32 eb30 eN31 eF32 t33 w34 hT35 hW36 => ?_
    have h := h b30 N31 F32 eb30 eN31 eF32
    refine j_dup dX0_council_38 (vR_cat _) ?_
    refine r_aload_n dX0_council_39 rfl ?_
    refine j_iload_n dX0_council_40 rfl ?_
    refine r_aload_n dX0_council_41 rfl ?_
    have t37 : jtg N31 o = 1 := (hT35.tg hW26 (hT27.tg hW19 (hT18.tg hW10 ht)))
    refine r_gR dX0_council_42 flX0_20_1 rfl t37 rfl ?_
    obtain ⟨P38, hp39, h⟩ := h
    refine r_invI (As := [vR (o : Int), vI v1, vR (F32 311 o)]) (rest := [vR (b30 : Int)]) dX0_council_45 lkX0_162 rfl (vX10_init (d := 2) (Nat.le_of_ble_eq_true rfl) hW36 t33 (ev1 ▸ (hW.fi rfl)) hp39) rfl rfl (Nat.le_of_ble_eq_true rfl) (Nat.le_trans (Nat.le_of_ble_eq_true rfl) hd) (cknV fun N43 F41 A42 hW44 hT45 p46 => ?_)
    have h := h N43 F41 A42 p46
    refine r_aload dX0_council_48 rfl ?_
    have t48 : jtg N43 b30 = 11 := (hT45.tg hW36 t33)
    obtain ⟨P49, X52, hp50, hx58, h⟩ := h
    refine r_invV (ci := 11) (As := [vR (b13 : Int)]) (rest := []) dX0_council_50 lkX0_404 rfl t48 rfl rfl (vX10_rowAlone (d := 14) (Nat.le_of_ble_eq_true rfl) hW44 t48  hp50) rfl rfl (Nat.le_of_ble_eq_true rfl) (Nat.le_trans (Nat.le_of_ble_eq_true rfl) hd) (ckX (fun q59 N60 F61 A62 hW63 hT64 t65 w66 h => ?hx50) (cknR fun z51 N55 F53 A54 hW56 hT57 p77 r78 => ?_))
    case hx50 =>
      have h := hx58 q59 N60 F61 A62 h
      refine JT.catch (35, 54, 57, 150) [] [] rfl (fun z hz => by cases hz) (by decide) (by decide) (hW63.2.1 _ w66) t65 rfl q612 (List.mem_of_elem_eq_true (by decide +kernel)) ?_
      rw [← vR_nat]
      refine r_astore dX0_council_57 (jokR rfl (Nat.le_of_ble_eq_true rfl)) ?_
      refine r_aload_n dX0_council_59 rfl ?_
      refine r_aload dX0_council_60 rfl ?_
      refine j_iconst dX0_council_62 ?_
      have t67 : jtg N60 o = 1 := (hT64.tg hW44 (hT45.tg hW36 t37))
      obtain ⟨P68, hp69, h⟩ := h
      refine r_invV (ci := 1) (As := [vR (q59 : Int), vI 2]) (rest := []) dX0_council_63 lkX0_168 rfl t67 rfl rfl (vX0_wrong (d := 3) (Nat.le_of_ble_eq_true rfl) hW63 t67 (by decide) hp69) rfl rfl (Nat.le_of_ble_eq_true rfl) (Nat.le_trans (Nat.le_of_ble_eq_true rfl) hd) (ckmI fun z70 F71 A72 hW73 p75 r76 => ?_)
      have h := h z70 F71 A72 p75
      exact j_iret dX0_council_66 rfl ⟨_, rfl, hW73, ((((hT18.trans hT27).trans hT35).trans hT45).trans hT64), h, r76⟩
    have h := h z51 N55 F53 A54 p77
    refine j_pop dX0_council_53 (vR_cat _) ?_
    refine j_goto 67 dX0_council_54 rfl ?_
    refine r_aload_n dX0_council_67 rfl ?_
    have t79 : jtg N55 o = 1 := (hT57.tg hW44 (hT45.tg hW36 t37))
    obtain ⟨P80, hp81, h⟩ := h
    refine r_invV (ci := 1) (As := []) (rest := []) dX0_council_68 lkX0_172 rfl t79 rfl rfl (vX0_isRight (d := 2) (Nat.le_of_ble_eq_true rfl) hW56 t79  hp81) rfl rfl (Nat.le_of_ble_eq_true rfl) (Nat.le_trans (Nat.le_of_ble_eq_true rfl) hd) (ckmV fun F83 A84 hW85 p87 => ?_)
    have h := h F83 A84 p87
    refine r_aload_n dX0_council_71 rfl ?_
    obtain ⟨P89, hp90, h⟩ := h
    refine r_invV (ci := 1) (As := []) (rest := []) dX0_council_72 lkX0_397 rfl t79 rfl rfl (vX0_keeps (d := 10) (Nat.le_of_ble_eq_true rfl) hW85 t79  hp90) rfl rfl (Nat.le_of_ble_eq_true rfl) (Nat.le_trans (Nat.le_of_ble_eq_true rfl) hd) (cknV fun N94 F92 A93 hW95 hT96 p97 => ?_)
    have h := h N94 F92 A93 p97
    refine r_aload_n dX0_council_75 rfl ?_
    obtain ⟨b99, hz100, h⟩ := h
    obtain ⟨t101, h⟩ := h
    refine r_gRF dX0_council_76 flX0_243_17 hz100 t101 rfl ?_
    refine r_aload dX0_council_79 rfl ?_
    obtain ⟨b102, hz103, h⟩ := h
    obtain ⟨t104, h⟩ := h
    obtain ⟨P105, hp106, h⟩ := h
    refine r_invV (ci := 4) (As := [vR (b13 : Int)]) (rest := []) dX0_council_81 lkX0_374 hz103 t104 rfl rfl (vX3_like (d := 3) (Nat.le_of_ble_eq_true rfl) hW95 t104  hp106) rfl rfl (Nat.le_of_ble_eq_true rfl) (Nat.le_trans (Nat.le_of_ble_eq_true rfl) hd) (ckmR fun z107 F108 A109 hW110 p112 r113 => ?_)
    have h := h z107 F108 A109 p112
    refine j_pop dX0_council_84 (vR_cat _) ?_
    refine r_aload dX0_council_85 rfl ?_
    have t114 : jtg N94 b13 = 4 := (hT96.tg hW85 (hT57.tg hW44 (hT45.tg hW36 (hT35.tg hW26 (hT27.tg hW19 t16)))))
    obtain ⟨P115, hp116, h⟩ := h
    refine r_invV (ci := 4) (As := []) (rest := []) dX0_council_87 lkX0_318 rfl t114 rfl rfl (vX3_size (d := 2) (Nat.le_of_ble_eq_true rfl) hW110 t114  hp116) rfl rfl (Nat.le_of_ble_eq_true rfl) (Nat.le_trans (Nat.le_of_ble_eq_true rfl) hd) (jkpI fun z117 p120 r121 => ?_)
    have h := h z117 p120
    exact j_iret dX0_council_90 rfl ⟨_, rfl, hW110, (((((hT18.trans hT27).trans hT35).trans hT45).trans hT57).trans hT96), h, r121⟩
  · have h := h2 q12
    clear h1 h2
    refine r_aload_n dX0_council_20 rfl ?_
    refine j_iconst dX0_council_21 ?_
    obtain ⟨P122, hp123, h⟩ := h
    refine r_invV (ci := 1) (As := [vI 2]) (rest := []) dX0_council_22 lkX0_107 rfl ht rfl rfl (vX0_refused (d := 2) (Nat.le_of_ble_eq_true rfl) hW10 ht (by decide) hp123) rfl rfl (Nat.le_of_ble_eq_true rfl) (Nat.le_trans (Nat.le_of_ble_eq_true rfl) hd) (ckmI fun z124 F125 A126 hW127 p129 r130 => ?_)
    have h := h z124 F125 A126 p129
    exact j_iret dX0_council_25 rfl ⟨_, rfl, hW127, (jTx.refl N), h, r130⟩
/-- ChildSays$Reader.statement()V -/
def wqX10_statement (S : Nat → Nat) (o : Nat) (N : jSh) (F : jFl) (A : jAr) (Q : jSh → jFl → jAr → Prop) (X : Nat → jSh → jFl → jAr → Prop) : Prop :=
  ∀ v1 : Int, v1 = F 3306 o →
  ∃ b2 : Nat, jfn N 3305 o = (b2 : Int) ∧
  jtg N b2 = 2 ∧
  ((¬ (F 600 b2) = 90) →
    ∃ (P6 : Int → jSh → jFl → jAr → Prop), wqX10_takes S o (S 1 : Int) N F A P6 X ∧
    ∀ z8 N11 F9 A10, P6 z8 N11 F9 A10 →
    ∃ K22 : jSh → jFl → jAr → Prop, (
      ∀ (N17 : jSh) (F18 : jFl) (A19 : jAr), K22 N17 F18 A19 →
      ∃ (P26 : jSh → jFl → jAr → Prop), wqX10_asks_2 S o 59 N17 F18 A19 P26 X ∧
      ∀ N31 F29 A30, P26 N31 F29 A30 →
      ∃ b37 : Nat, jfn N31 3305 o = (b37 : Int) ∧
      jtg N31 b37 = 2 ∧
      jfn N31 0 b37 = 1 ∧
      jR ((F29 600 b37) + 1) ∧
      ∀ F43 : jFl, F43 = upF F29 600 b37 ((F29 600 b37) + 1) →
      Q N31 F43 A30) ∧
    ((z8 = 0) →
      ∃ (P45 : Int → jSh → jFl → jAr → Prop), wqX10_takes S o (S 6 : Int) N11 F9 A10 P45 X ∧
      ∀ z47 N50 F48 A49, P45 z47 N50 F48 A49 →
      ((z47 = 0) →
        ∃ (P57 : Int → jSh → jFl → jAr → Prop), wqX10_takes S o (S 8 : Int) N50 F48 A49 P57 X ∧
        ∀ z59 N62 F60 A61, P57 z59 N62 F60 A61 →
        ((z59 = 0) →
          ∃ (P69 : Int → jSh → jFl → jAr → Prop), wqX10_takes S o (S 11 : Int) N62 F60 A61 P69 X ∧
          ∀ z71 N74 F72 A73, P69 z71 N74 F72 A73 →
          ((z71 = 0) →
            ∃ (P81 : Int → jSh → jFl → jAr → Prop), wqX10_takes S o (S 15 : Int) N74 F72 A73 P81 X ∧
            ∀ z83 N86 F84 A85, P81 z83 N86 F84 A85 →
            ((z83 = 0) →
              ∃ (P93 : Int → jSh → jFl → jAr → Prop), wqX10_takes S o (S 16 : Int) N86 F84 A85 P93 X ∧
              ∀ z95 N98 F96 A97, P93 z95 N98 F96 A97 →
              ((z95 = 0) →
                ∃ (P105 : jSh → jFl → jAr → Prop), wqX10_asks S o (S 17 : Int) N98 F96 A97 P105 X ∧
                ∀ N110 F108 A109, P105 N110 F108 A109 →
                ∃ (P116 : Int → jSh → jFl → jAr → Prop), wqX10_number S o 0 20 N110 F108 A109 P116 X ∧
                ∀ z118 N121 F119 A120, P116 z118 N121 F119 A120 →
                ∃ b126 : Nat, jfn N110 3305 o = (b126 : Int) ∧
                jtg N121 b126 = 2 ∧
                jfn N121 0 b126 = 1 ∧
                ∀ F131 : jFl, F131 = upF F119 609 b126 z118 →
                K22 N121 F131 A120) ∧
              ((¬ (z95 = 0)) →
                ∃ (P133 : Int → jSh → jFl → jAr → Prop), wqX10_number S o 1 4 N98 F96 A97 P133 X ∧
                ∀ z135 N138 F136 A137, P133 z135 N138 F136 A137 →
                ∃ b143 : Nat, jfn N98 3305 o = (b143 : Int) ∧
                jtg N138 b143 = 2 ∧
                jfn N138 0 b143 = 1 ∧
                ∀ F148 : jFl, F148 = upF F136 606 b143 z135 →
                K22 N138 F148 A137)) ∧
            ((¬ (z83 = 0)) →
              ∃ (P150 : Int → jSh → jFl → jAr → Prop), wqX10_number S o 1 12 N86 F84 A85 P150 X ∧
              ∀ z152 N155 F153 A154, P150 z152 N155 F153 A154 →
              ∃ b160 : Nat, jfn N86 3305 o = (b160 : Int) ∧
              jtg N155 b160 = 2 ∧
              jfn N155 0 b160 = 1 ∧
              ∀ F165 : jFl, F165 = upF F153 603 b160 z152 →
              K22 N155 F165 A154)) ∧
          ((¬ (z71 = 0)) →
            ∃ (P167 : jSh → jFl → jAr → Prop), wqX10_law S o v1 N74 F72 A73 P167 X ∧
            ∀ N172 F170 A171, P167 N172 F170 A171 →
            K22 N172 F170 A171)) ∧
        ((¬ (z59 = 0)) →
          ∃ (P178 : jSh → jFl → jAr → Prop), wqX10_child S o v1 N62 F60 A61 P178 X ∧
          ∀ N183 F181 A182, P178 N183 F181 A182 →
          K22 N183 F181 A182)) ∧
      ((¬ (z47 = 0)) →
        ∃ (P189 : jSh → jFl → jAr → Prop), wqX10_street S o v1 N50 F48 A49 P189 X ∧
        ∀ N194 F192 A193, P189 N194 F192 A193 →
        K22 N194 F192 A193)) ∧
    ((¬ (z8 = 0)) →
      ∃ (P200 : jSh → jFl → jAr → Prop), wqX10_word S o v1 N11 F9 A10 P200 X ∧
      ∀ N205 F203 A204, P200 N205 F203 A204 →
      K22 N205 F203 A204)) ∧
  (((F 600 b2) = 90) →
    ∀ (b210 : Nat) (N211 : jSh) (F212 : jFl), b210 = jnx N → N211 = jnew N 12 0 8 1 → F212 = nwF N F →
    ∃ (P217 : jSh → jFl → jAr → Prop), wqX11_init b210 5 v1 N211 F212 A P217 ∧
    ∀ N222 F220 A221, P217 N222 F220 A221 →
    X b210 N222 F220 A221)
theorem vX10_statement {G : jG} {l : Launch} [jOff l] {d : Nat} {N : jSh} {F : jFl} {A : jAr} {o : Nat} {Q : jSh → jFl → jAr → Prop} {X : Nat → jSh → jFl → jAr → Prop} (hd : 15 ≤ d) (hW : jWg G N F A) (ht : jtg N o = 11) (h : wqX10_statement (gS G) o N F A Q X) : jCall G l d mX10_statement [vR (o : Int)] N F A (cX G N X (cnV G N Q)) := by
  unfold wqX10_statement at h
  refine jCall.of (by decide) rfl (ls := [vR (o : Int), jD]) (by simp only [jent_R, jent_I, jent_L, jent_nil]; exact Nat.le_of_ble_eq_true rfl) (by simp only [jloc, jent_R, jent_I, jent_L, jent_nil]; rfl) ?_
  refine r_aload_n dX10_statement_0 rfl ?_
  refine r_gI dX10_statement_1 flX10_33_11 rfl ht rfl ?_
  obtain ⟨v1, ev1⟩ : ∃ x : Int, x = F 3306 o := ⟨_, rfl⟩
  have h := h v1 ev1
  refine jnmI (e := ev1) ?_
  refine j_istore_n dX10_statement_4 (jokR rfl (Nat.le_of_ble_eq_true rfl)) ?_
  refine r_aload_n dX10_statement_5 rfl ?_
  refine r_gRF dX10_statement_6 flX10_22_11 rfl ht rfl ?_
  obtain ⟨b2, hz3, h⟩ := h
  obtain ⟨t4, h⟩ := h
  refine r_gI dX10_statement_9 flX10_247_2 hz3 t4 rfl ?_
  refine j_bipush dX10_statement_12 ?_
  obtain ⟨h1, h2⟩ := h
  refine j_icmp_ne 27 dX10_statement_14 rfl (hW.fi rfl) (by decide) (fun q5 => ?_) (fun q5 => ?_)
  · have h := h1 q5
    clear h1 h2
    refine r_aload_n dX10_statement_27 rfl ?_
    refine r_ldcs (n := 1) (tx := "word") dX10_statement_28 (List.mem_of_elem_eq_true (by decide +kernel)) ?_
    obtain ⟨P6, hp7, h⟩ := h
    refine r_invV (ci := 11) (As := [vR (gS G 1 : Int)]) (rest := []) dX10_statement_30 lkX10_97 rfl ht rfl rfl (vX10_takes (d := 11) (Nat.le_of_ble_eq_true rfl) hW ht  hp7) rfl rfl (Nat.le_of_ble_eq_true rfl) (Nat.le_trans (Nat.le_of_ble_eq_true rfl) hd) (ckX (fun q N9 F9 A9 W9 T9 t9 w9 h9 => JT.thru (hout0 rfl _) W9 ((jTx.refl N).trans T9) t9 w9 h9) (cknB fun z8 N11 F9 A10 hW12 hT13 p14 r15 => ?_))
    have h := h z8 N11 F9 A10 p14
    obtain ⟨K22, hK24, h⟩ := h
    have jn23 : ∀ (N17 : jSh) (F18 : jFl) (A19 : jAr), jWg G N17 F18 A19 → jTx N11 N17 → K22 N17 F18 A19 → J G l d mX10_statement 171 [vR (o : Int), jD] [] N17 F18 A19 (cX G N X (cnV G N Q)) := by
      intro N17 F18 A19 hW20 hT21  h
      have h := hK24 N17 F18 A19 h
      refine r_aload_n dX10_statement_171 rfl ?_
      refine j_bipush dX10_statement_172 ?_
      have t25 : jtg N17 o = 11 := (hT21.tg hW12 (hT13.tg hW ht))
      obtain ⟨P26, hp27, h⟩ := h
      refine r_invV (ci := 11) (As := [vI 59]) (rest := []) dX10_statement_174 lkX10_278 rfl t25 rfl rfl (vX10_asks_2 (d := 12) (Nat.le_of_ble_eq_true rfl) hW20 t25 (by decide) hp27) rfl rfl (Nat.le_of_ble_eq_true rfl) (Nat.le_trans (Nat.le_of_ble_eq_true rfl) hd) (ckX (fun q N9 F9 A9 W9 T9 t9 w9 h9 => JT.thru (hout0 rfl _) W9 ((hT13.trans hT21).trans T9) t9 w9 h9) (cknV fun N31 F29 A30 hW32 hT33 p34 => ?_))
      have h := h N31 F29 A30 p34
      refine r_aload_n dX10_statement_177 rfl ?_
      have t36 : jtg N31 o = 11 := (hT33.tg hW20 t25)
      refine r_gRF dX10_statement_178 flX10_22_11 rfl t36 rfl ?_
      refine j_dup dX10_statement_181 (vR_cat _) ?_
      obtain ⟨b37, hz38, h⟩ := h
      obtain ⟨t39, h⟩ := h
      refine r_gI dX10_statement_182 flX10_247_2 hz38 t39 rfl ?_
      refine j_iconst dX10_statement_185 ?_
      refine j_iadd dX10_statement_186 ?_
      obtain ⟨w40, h⟩ := h
      obtain ⟨r41, h⟩ := h
      refine c_pI hW32 dX10_statement_187 flX10_247_2 hz38 t39 w40 rfl r41 fun F43 eF43 hW42 => ?_
      have h := h F43 eF43
      exact j_vret dX10_statement_190 rfl (Or.inl ⟨rfl, hW42, ((hT13.trans hT21).trans hT33), h⟩)
    obtain ⟨h1, h2⟩ := h
    refine j_if_eq 44 dX10_statement_33 rfl (jR_b r15) (fun q16 => ?_) (fun q16 => ?_)
    · have h := h1 q16
      clear h1 h2
      refine r_aload_n dX10_statement_44 rfl ?_
      refine r_ldcs (n := 6) (tx := "street") dX10_statement_45 (List.mem_of_elem_eq_true (by decide +kernel)) ?_
      have t44 : jtg N11 o = 11 := (hT13.tg hW ht)
      obtain ⟨P45, hp46, h⟩ := h
      refine r_invV (ci := 11) (As := [vR (gS G 6 : Int)]) (rest := []) dX10_statement_47 lkX10_97 rfl t44 rfl rfl (vX10_takes (d := 11) (Nat.le_of_ble_eq_true rfl) hW12 t44  hp46) rfl rfl (Nat.le_of_ble_eq_true rfl) (Nat.le_trans (Nat.le_of_ble_eq_true rfl) hd) (ckX (fun q N9 F9 A9 W9 T9 t9 w9 h9 => JT.thru (hout0 rfl _) W9 (hT13.trans T9) t9 w9 h9) (cknB fun z47 N50 F48 A49 hW51 hT52 p53 r54 => ?_))
      have h := h z47 N50 F48 A49 p53
      obtain ⟨h1, h2⟩ := h
      refine j_if_eq 61 dX10_statement_50 rfl (jR_b r54) (fun q55 => ?_) (fun q55 => ?_)
      · have h := h1 q55
        clear h1 h2
        refine r_aload_n dX10_statement_61 rfl ?_
        refine r_ldcsw (n := 8) (tx := "child") dX10_statement_62 (List.mem_of_elem_eq_true (by decide +kernel)) ?_
        have t56 : jtg N50 o = 11 := (hT52.tg hW12 t44)
        obtain ⟨P57, hp58, h⟩ := h
        refine r_invV (ci := 11) (As := [vR (gS G 8 : Int)]) (rest := []) dX10_statement_65 lkX10_97 rfl t56 rfl rfl (vX10_takes (d := 11) (Nat.le_of_ble_eq_true rfl) hW51 t56  hp58) rfl rfl (Nat.le_of_ble_eq_true rfl) (Nat.le_trans (Nat.le_of_ble_eq_true rfl) hd) (ckX (fun q N9 F9 A9 W9 T9 t9 w9 h9 => JT.thru (hout0 rfl _) W9 ((hT13.trans hT52).trans T9) t9 w9 h9) (cknB fun z59 N62 F60 A61 hW63 hT64 p65 r66 => ?_))
        have h := h z59 N62 F60 A61 p65
        obtain ⟨h1, h2⟩ := h
        refine j_if_eq 79 dX10_statement_68 rfl (jR_b r66) (fun q67 => ?_) (fun q67 => ?_)
        · have h := h1 q67
          clear h1 h2
          refine r_aload_n dX10_statement_79 rfl ?_
          refine r_ldcsw (n := 11) (tx := "law") dX10_statement_80 (List.mem_of_elem_eq_true (by decide +kernel)) ?_
          have t68 : jtg N62 o = 11 := (hT64.tg hW51 t56)
          obtain ⟨P69, hp70, h⟩ := h
          refine r_invV (ci := 11) (As := [vR (gS G 11 : Int)]) (rest := []) dX10_statement_83 lkX10_97 rfl t68 rfl rfl (vX10_takes (d := 11) (Nat.le_of_ble_eq_true rfl) hW63 t68  hp70) rfl rfl (Nat.le_of_ble_eq_true rfl) (Nat.le_trans (Nat.le_of_ble_eq_true rfl) hd) (ckX (fun q N9 F9 A9 W9 T9 t9 w9 h9 => JT.thru (hout0 rfl _) W9 (((hT13.trans hT52).trans hT64).trans T9) t9 w9 h9) (cknB fun z71 N74 F72 A73 hW75 hT76 p77 r78 => ?_))
          have h := h z71 N74 F72 A73 p77
          obtain ⟨h1, h2⟩ := h
          refine j_if_eq 97 dX10_statement_86 rfl (jR_b r78) (fun q79 => ?_) (fun q79 => ?_)
          · have h := h1 q79
            clear h1 h2
            refine r_aload_n dX10_statement_97 rfl ?_
            refine r_ldcsw (n := 15) (tx := "head") dX10_statement_98 (List.mem_of_elem_eq_true (by decide +kernel)) ?_
            have t80 : jtg N74 o = 11 := (hT76.tg hW63 t68)
            obtain ⟨P81, hp82, h⟩ := h
            refine r_invV (ci := 11) (As := [vR (gS G 15 : Int)]) (rest := []) dX10_statement_101 lkX10_97 rfl t80 rfl rfl (vX10_takes (d := 11) (Nat.le_of_ble_eq_true rfl) hW75 t80  hp82) rfl rfl (Nat.le_of_ble_eq_true rfl) (Nat.le_trans (Nat.le_of_ble_eq_true rfl) hd) (ckX (fun q N9 F9 A9 W9 T9 t9 w9 h9 => JT.thru (hout0 rfl _) W9 ((((hT13.trans hT52).trans hT64).trans hT76).trans T9) t9 w9 h9) (cknB fun z83 N86 F84 A85 hW87 hT88 p89 r90 => ?_))
            have h := h z83 N86 F84 A85 p89
            obtain ⟨h1, h2⟩ := h
            refine j_if_eq 124 dX10_statement_104 rfl (jR_b r90) (fun q91 => ?_) (fun q91 => ?_)
            · have h := h1 q91
              clear h1 h2
              refine r_aload_n dX10_statement_124 rfl ?_
              refine r_ldcsw (n := 16) (tx := "mend") dX10_statement_125 (List.mem_of_elem_eq_true (by decide +kernel)) ?_
              have t92 : jtg N86 o = 11 := (hT88.tg hW75 t80)
              obtain ⟨P93, hp94, h⟩ := h
              refine r_invV (ci := 11) (As := [vR (gS G 16 : Int)]) (rest := []) dX10_statement_128 lkX10_97 rfl t92 rfl rfl (vX10_takes (d := 11) (Nat.le_of_ble_eq_true rfl) hW87 t92  hp94) rfl rfl (Nat.le_of_ble_eq_true rfl) (Nat.le_trans (Nat.le_of_ble_eq_true rfl) hd) (ckX (fun q N9 F9 A9 W9 T9 t9 w9 h9 => JT.thru (hout0 rfl _) W9 (((((hT13.trans hT52).trans hT64).trans hT76).trans hT88).trans T9) t9 w9 h9) (cknB fun z95 N98 F96 A97 hW99 hT100 p101 r102 => ?_))
              have h := h z95 N98 F96 A97 p101
              obtain ⟨h1, h2⟩ := h
              refine j_if_eq 150 dX10_statement_131 rfl (jR_b r102) (fun q103 => ?_) (fun q103 => ?_)
              · have h := h1 q103
                clear h1 h2
                refine r_aload_n dX10_statement_150 rfl ?_
                refine r_ldcsw (n := 17) (tx := "tune") dX10_statement_151 (List.mem_of_elem_eq_true (by decide +kernel)) ?_
                have t104 : jtg N98 o = 11 := (hT100.tg hW87 t92)
                obtain ⟨P105, hp106, h⟩ := h
                refine r_invV (ci := 11) (As := [vR (gS G 17 : Int)]) (rest := []) dX10_statement_154 lkX10_141 rfl t104 rfl rfl (vX10_asks (d := 12) (Nat.le_of_ble_eq_true rfl) hW99 t104  hp106) rfl rfl (Nat.le_of_ble_eq_true rfl) (Nat.le_trans (Nat.le_of_ble_eq_true rfl) hd) (ckX (fun q N9 F9 A9 W9 T9 t9 w9 h9 => JT.thru (hout0 rfl _) W9 ((((((hT13.trans hT52).trans hT64).trans hT76).trans hT88).trans hT100).trans T9) t9 w9 h9) (cknV fun N110 F108 A109 hW111 hT112 p113 => ?_))
                have h := h N110 F108 A109 p113
                refine r_aload_n dX10_statement_157 rfl ?_
                have t115 : jtg N110 o = 11 := (hT112.tg hW99 t104)
                refine r_gRF dX10_statement_158 flX10_22_11 rfl t115 rfl ?_
                refine r_aload_n dX10_statement_161 rfl ?_
                refine j_iconst dX10_statement_162 ?_
                refine j_bipush dX10_statement_163 ?_
                obtain ⟨P116, hp117, h⟩ := h
                refine r_invV (ci := 11) (As := [vI 0, vI 20]) (rest := [vR (jfn N110 3305 o)]) dX10_statement_165 lkX10_145 rfl t115 rfl rfl (vX10_number (d := 10) (Nat.le_of_ble_eq_true rfl) hW111 t115 (by decide) (by decide) hp117) rfl rfl (Nat.le_of_ble_eq_true rfl) (Nat.le_trans (Nat.le_of_ble_eq_true rfl) hd) (ckX (fun q N9 F9 A9 W9 T9 t9 w9 h9 => JT.thru (hout0 rfl _) W9 (((((((hT13.trans hT52).trans hT64).trans hT76).trans hT88).trans hT100).trans hT112).trans T9) t9 w9 h9) (cknI fun z118 N121 F119 A120 hW122 hT123 p124 r125 => ?_))
                have h := h z118 N121 F119 A120 p124
                obtain ⟨b126, hz127, h⟩ := h
                obtain ⟨t128, h⟩ := h
                obtain ⟨w129, h⟩ := h
                refine c_pI hW122 dX10_statement_168 flX10_276_2 hz127 t128 w129 rfl r125 fun F131 eF131 hW130 => ?_
                have h := h F131 eF131
                exact J.wk (((jWk.nil).no).eq) (jn23 _ _ _ hW130 ((((((hT52.trans hT64).trans hT76).trans hT88).trans hT100).trans hT112).trans hT123) h)
              · have h := h2 q103
                clear h1 h2
                refine r_aload_n dX10_statement_134 rfl ?_
                have t132 : jtg N98 o = 11 := (hT100.tg hW87 t92)
                refine r_gRF dX10_statement_135 flX10_22_11 rfl t132 rfl ?_
                refine r_aload_n dX10_statement_138 rfl ?_
                refine j_iconst dX10_statement_139 ?_
                refine j_iconst dX10_statement_140 ?_
                obtain ⟨P133, hp134, h⟩ := h
                refine r_invV (ci := 11) (As := [vI 1, vI 4]) (rest := [vR (jfn N98 3305 o)]) dX10_statement_141 lkX10_145 rfl t132 rfl rfl (vX10_number (d := 10) (Nat.le_of_ble_eq_true rfl) hW99 t132 (by decide) (by decide) hp134) rfl rfl (Nat.le_of_ble_eq_true rfl) (Nat.le_trans (Nat.le_of_ble_eq_true rfl) hd) (ckX (fun q N9 F9 A9 W9 T9 t9 w9 h9 => JT.thru (hout0 rfl _) W9 ((((((hT13.trans hT52).trans hT64).trans hT76).trans hT88).trans hT100).trans T9) t9 w9 h9) (cknI fun z135 N138 F136 A137 hW139 hT140 p141 r142 => ?_))
                have h := h z135 N138 F136 A137 p141
                obtain ⟨b143, hz144, h⟩ := h
                obtain ⟨t145, h⟩ := h
                obtain ⟨w146, h⟩ := h
                refine c_pI hW139 dX10_statement_144 flX10_272_2 hz144 t145 w146 rfl r142 fun F148 eF148 hW147 => ?_
                have h := h F148 eF148
                refine j_goto 171 dX10_statement_147 rfl ?_
                exact J.wk (((jWk.nil).no).eq) (jn23 _ _ _ hW147 (((((hT52.trans hT64).trans hT76).trans hT88).trans hT100).trans hT140) h)
            · have h := h2 q91
              clear h1 h2
              refine r_aload_n dX10_statement_107 rfl ?_
              have t149 : jtg N86 o = 11 := (hT88.tg hW75 t80)
              refine r_gRF dX10_statement_108 flX10_22_11 rfl t149 rfl ?_
              refine r_aload_n dX10_statement_111 rfl ?_
              refine j_iconst dX10_statement_112 ?_
              refine j_bipush dX10_statement_113 ?_
              obtain ⟨P150, hp151, h⟩ := h
              refine r_invV (ci := 11) (As := [vI 1, vI 12]) (rest := [vR (jfn N86 3305 o)]) dX10_statement_115 lkX10_145 rfl t149 rfl rfl (vX10_number (d := 10) (Nat.le_of_ble_eq_true rfl) hW87 t149 (by decide) (by decide) hp151) rfl rfl (Nat.le_of_ble_eq_true rfl) (Nat.le_trans (Nat.le_of_ble_eq_true rfl) hd) (ckX (fun q N9 F9 A9 W9 T9 t9 w9 h9 => JT.thru (hout0 rfl _) W9 (((((hT13.trans hT52).trans hT64).trans hT76).trans hT88).trans T9) t9 w9 h9) (cknI fun z152 N155 F153 A154 hW156 hT157 p158 r159 => ?_))
              have h := h z152 N155 F153 A154 p158
              obtain ⟨b160, hz161, h⟩ := h
              obtain ⟨t162, h⟩ := h
              obtain ⟨w163, h⟩ := h
              refine c_pI hW156 dX10_statement_118 flX10_268_2 hz161 t162 w163 rfl r159 fun F165 eF165 hW164 => ?_
              have h := h F165 eF165
              refine j_goto 171 dX10_statement_121 rfl ?_
              exact J.wk (((jWk.nil).no).eq) (jn23 _ _ _ hW164 ((((hT52.trans hT64).trans hT76).trans hT88).trans hT157) h)
          · have h := h2 q79
            clear h1 h2
            refine r_aload_n dX10_statement_89 rfl ?_
            refine j_iload_n dX10_statement_90 rfl ?_
            have t166 : jtg N74 o = 11 := (hT76.tg hW63 t68)
            obtain ⟨P167, hp168, h⟩ := h
            refine r_invV (ci := 11) (As := [vI v1]) (rest := []) dX10_statement_91 lkX10_264 rfl t166 rfl rfl (vX10_law (d := 14) (Nat.le_of_ble_eq_true rfl) hW75 t166 (ev1 ▸ (hW.fi rfl)) hp168) rfl rfl (Nat.le_of_ble_eq_true rfl) (Nat.le_trans (Nat.le_of_ble_eq_true rfl) hd) (ckX (fun q N9 F9 A9 W9 T9 t9 w9 h9 => JT.thru (hout0 rfl _) W9 ((((hT13.trans hT52).trans hT64).trans hT76).trans T9) t9 w9 h9) (cknV fun N172 F170 A171 hW173 hT174 p175 => ?_))
            have h := h N172 F170 A171 p175
            refine j_goto 171 dX10_statement_94 rfl ?_
            exact J.wk (((jWk.nil).no).eq) (jn23 _ _ _ hW173 (((hT52.trans hT64).trans hT76).trans hT174) h)
        · have h := h2 q67
          clear h1 h2
          refine r_aload_n dX10_statement_71 rfl ?_
          refine j_iload_n dX10_statement_72 rfl ?_
          have t177 : jtg N62 o = 11 := (hT64.tg hW51 t56)
          obtain ⟨P178, hp179, h⟩ := h
          refine r_invV (ci := 11) (As := [vI v1]) (rest := []) dX10_statement_73 lkX10_260 rfl t177 rfl rfl (vX10_child (d := 13) (Nat.le_of_ble_eq_true rfl) hW63 t177 (ev1 ▸ (hW.fi rfl)) hp179) rfl rfl (Nat.le_of_ble_eq_true rfl) (Nat.le_trans (Nat.le_of_ble_eq_true rfl) hd) (ckX (fun q N9 F9 A9 W9 T9 t9 w9 h9 => JT.thru (hout0 rfl _) W9 (((hT13.trans hT52).trans hT64).trans T9) t9 w9 h9) (cknV fun N183 F181 A182 hW184 hT185 p186 => ?_))
          have h := h N183 F181 A182 p186
          refine j_goto 171 dX10_statement_76 rfl ?_
          exact J.wk (((jWk.nil).no).eq) (jn23 _ _ _ hW184 ((hT52.trans hT64).trans hT185) h)
      · have h := h2 q55
        clear h1 h2
        refine r_aload_n dX10_statement_53 rfl ?_
        refine j_iload_n dX10_statement_54 rfl ?_
        have t188 : jtg N50 o = 11 := (hT52.tg hW12 t44)
        obtain ⟨P189, hp190, h⟩ := h
        refine r_invV (ci := 11) (As := [vI v1]) (rest := []) dX10_statement_55 lkX10_256 rfl t188 rfl rfl (vX10_street (d := 13) (Nat.le_of_ble_eq_true rfl) hW51 t188 (ev1 ▸ (hW.fi rfl)) hp190) rfl rfl (Nat.le_of_ble_eq_true rfl) (Nat.le_trans (Nat.le_of_ble_eq_true rfl) hd) (ckX (fun q N9 F9 A9 W9 T9 t9 w9 h9 => JT.thru (hout0 rfl _) W9 ((hT13.trans hT52).trans T9) t9 w9 h9) (cknV fun N194 F192 A193 hW195 hT196 p197 => ?_))
        have h := h N194 F192 A193 p197
        refine j_goto 171 dX10_statement_58 rfl ?_
        exact J.wk (((jWk.nil).no).eq) (jn23 _ _ _ hW195 (hT52.trans hT196) h)
    · have h := h2 q16
      clear h1 h2
      refine r_aload_n dX10_statement_36 rfl ?_
      refine j_iload_n dX10_statement_37 rfl ?_
      have t199 : jtg N11 o = 11 := (hT13.tg hW ht)
      obtain ⟨P200, hp201, h⟩ := h
      refine r_invV (ci := 11) (As := [vI v1]) (rest := []) dX10_statement_38 lkX10_251 rfl t199 rfl rfl (vX10_word (d := 13) (Nat.le_of_ble_eq_true rfl) hW12 t199 (ev1 ▸ (hW.fi rfl)) hp201) rfl rfl (Nat.le_of_ble_eq_true rfl) (Nat.le_trans (Nat.le_of_ble_eq_true rfl) hd) (ckX (fun q N9 F9 A9 W9 T9 t9 w9 h9 => JT.thru (hout0 rfl _) W9 (hT13.trans T9) t9 w9 h9) (cknV fun N205 F203 A204 hW206 hT207 p208 => ?_))
      have h := h N205 F203 A204 p208
      refine j_goto 171 dX10_statement_41 rfl ?_
      exact J.wk (((jWk.nil).no).eq) (jn23 _ _ _ hW206 hT207 h)
  · have h := h2 (Classical.not_not.mp q5)
    clear h1 h2
    refine c_new (ci := 12) hW dX10_statement_17 rfl q665 rfl rfl fun b210 N211 F212 eb210 eN211 eF212 t213 w214 hT215 hW216 => ?_
    have h := h b210 N211 F212 eb210 eN211 eF212
    refine j_dup dX10_statement_20 (vR_cat _) ?_
    refine j_iconst dX10_statement_21 ?_
    refine j_iload_n dX10_statement_22 rfl ?_
    obtain ⟨P217, hp218, h⟩ := h
    refine r_invI (As := [vI 5, vI v1]) (rest := [vR (b210 : Int)]) dX10_statement_23 lkX10_56 rfl (vX11_init (d := 8) (Nat.le_of_ble_eq_true rfl) hW216 t213 (by decide) (ev1 ▸ (hW.fi rfl)) hp218) rfl rfl (Nat.le_of_ble_eq_true rfl) (Nat.le_trans (Nat.le_of_ble_eq_true rfl) hd) (cknV fun N222 F220 A221 hW223 hT224 p225 => ?_)
    have h := h N222 F220 A221 p225
    have t227 : jtg N222 b210 = 12 := (hT224.tg hW216 t213)
    have w228 : jfn N222 0 b210 = 1 := (hT224.ow hW216 t213 w214)
    exact r_athrow dX10_statement_26 rfl (JT.thru (hout0 rfl _) hW223 (hT215.trans hT224) t227 w228 h)
/-- ChildSays$Reader.town()LChildSays$Town; -/
def wqX10_town (S : Nat → Nat) (o : Nat) (N : jSh) (F : jFl) (A : jAr) (Q : Int → jSh → jFl → jAr → Prop) (X : Nat → jSh → jFl → jAr → Prop) : Prop :=
  ∃ (I6 : jSh → jFl → jAr → Prop) (m7 : jSh → jFl → jAr → Nat), I6 N F A ∧ ∀ (N1 : jSh) (F2 : jFl) (A3 : jAr), I6 N1 F2 A3 →
    ∃ (P9 : Int → jFl → jAr → Prop), wqX10_isMore o N1 F2 A3 P9 ∧
    ∀ z11 F12 A13, P9 z11 F12 A13 →
    ((z11 = 0) →
      ∃ (I24 : Int → jFl → jAr → Prop) (m25 : Int → jFl → jAr → Nat), I24 0 F12 A13 ∧ ∀ (v19 : Int) (F20 : jFl) (A21 : jAr), I24 v19 F20 A21 →
        ∃ b26 : Nat, jfn N1 3305 o = (b26 : Int) ∧
        jtg N1 b26 = 2 ∧
        ∃ b29 : Nat, jfn N1 623 b26 = (b29 : Int) ∧
        jtg N1 b29 = 20 ∧
        ∃ (P32 : Int → Prop), wqJ2_size b29 N1 F20 A21 P32 ∧
        ∀ z34, P32 z34 →
        ((z34 ≤ v19) →
          Q (jfn N1 3305 o) N1 F20 A21) ∧
        ((¬ (z34 ≤ v19)) →
          ∃ (P40 : Int → Prop), wqJ2_get b29 v19 N1 F20 A21 P40 ∧
          ∀ z42, P40 z42 →
          jcst N1 "ChildSays$Child" z42 ∧
          ∃ b48 : Nat, z42 = (b48 : Int) ∧
          jtg N1 b48 = 16 ∧
          ∃ (P51 : jFl → jAr → Prop), wqX15_learns b48 (jfn N1 3305 o) N1 F20 A21 P51 ∧
          ∀ F54 A55, P51 F54 A55 →
          jR (v19 + 1) ∧
          I24 (v19 + 1) F54 A55 ∧ m25 (v19 + 1) F54 A55 < m25 v19 F20 A21)) ∧
    ((¬ (z11 = 0)) →
      ∃ (P61 : jSh → jFl → jAr → Prop), wqX10_statement S o N1 F12 A13 P61 X ∧
      ∀ N66 F64 A65, P61 N66 F64 A65 →
      I6 N66 F64 A65 ∧ m7 N66 F64 A65 < m7 N1 F2 A3)
theorem vX10_town {G : jG} {l : Launch} [jOff l] {d : Nat} {N : jSh} {F : jFl} {A : jAr} {o : Nat} {Q : Int → jSh → jFl → jAr → Prop} {X : Nat → jSh → jFl → jAr → Prop} (hd : 16 ≤ d) (hW : jWg G N F A) (ht : jtg N o = 11) (h : wqX10_town (gS G) o N F A Q X) : jCall G l d mX10_town [vR (o : Int)] N F A (cX G N X (cnR G N Q)) := by
  unfold wqX10_town at h
  refine jCall.of (by decide) rfl (ls := [vR (o : Int), jD]) (by simp only [jent_R, jent_I, jent_L, jent_nil]; exact Nat.le_of_ble_eq_true rfl) (by simp only [jloc, jent_R, jent_I, jent_L, jent_nil]; rfl) ?_
  obtain ⟨I6, m7, h0, hs⟩ := h
  have lp : ∀ (n : Nat) (N1 : jSh) (F2 : jFl) (A3 : jAr), m7 N1 F2 A3 < n → jWg G N1 F2 A3 → jTx N N1 → I6 N1 F2 A3 → J G l d mX10_town 0 [vR (o : Int), jD] [] N1 F2 A3 (cX G N X (cnR G N Q)) := by
    intro nI6
    induction nI6 with
    | zero =>
      intro N1 F2 A3 hmu
      exact absurd hmu (Nat.not_lt_zero _)
    | succ nI6 ihI6 =>
      intro N1 F2 A3 hmuI6 hW4 hT5  hI
      have h := hs N1 F2 A3 hI
      refine r_aload_n dX10_town_0 rfl ?_
      have t8 : jtg N1 o = 11 := (hT5.tg hW ht)
      obtain ⟨P9, hp10, h⟩ := h
      refine r_invV (ci := 11) (As := []) (rest := []) dX10_town_1 lkX10_281 rfl t8 rfl rfl (vX10_isMore (d := 2) (Nat.le_of_ble_eq_true rfl) hW4 t8  hp10) rfl rfl (Nat.le_of_ble_eq_true rfl) (Nat.le_trans (Nat.le_of_ble_eq_true rfl) hd) (ckmB fun z11 F12 A13 hW14 p16 r17 => ?_)
      have h := h z11 F12 A13 p16
      obtain ⟨h1, h2⟩ := h
      refine j_if_eq 14 dX10_town_4 rfl (jR_b r17) (fun q18 => ?_) (fun q18 => ?_)
      · have h := h1 q18
        clear h1 h2
        refine j_iconst dX10_town_14 ?_
        refine j_istore_n dX10_town_15 (jokR rfl (Nat.le_of_ble_eq_true rfl)) ?_
        obtain ⟨I24, m25, h0, hs⟩ := h
        have lp : ∀ (n : Nat) (v19 : Int) (F20 : jFl) (A21 : jAr), m25 v19 F20 A21 < n → jWg G N1 F20 A21 → jR v19 → I24 v19 F20 A21 → J G l d mX10_town 16 [vR (o : Int), vI v19] [] N1 F20 A21 (cX G N X (cnR G N Q)) := by
          intro nI24
          induction nI24 with
          | zero =>
            intro v19 F20 A21 hmu
            exact absurd hmu (Nat.not_lt_zero _)
          | succ nI24 ihI24 =>
            intro v19 F20 A21 hmuI24 hW22 rv19 hI
            have h := hs v19 F20 A21 hI
            refine j_iload_n dX10_town_16 rfl ?_
            refine r_aload_n dX10_town_17 rfl ?_
            refine r_gRF dX10_town_18 flX10_22_11 rfl t8 rfl ?_
            obtain ⟨b26, hz27, h⟩ := h
            obtain ⟨t28, h⟩ := h
            refine r_gRF dX10_town_21 flX10_186_2 hz27 t28 rfl ?_
            obtain ⟨b29, hz30, h⟩ := h
            obtain ⟨t31, h⟩ := h
            obtain ⟨P32, hp33, h⟩ := h
            refine r_invV (ci := 20) (As := []) (rest := [vI v19]) dX10_town_24 lkX10_123 hz30 t31 rfl rfl (vJ2_size (d := 2) (Nat.le_of_ble_eq_true rfl) hW22 t31  hp33) rfl rfl (Nat.le_of_ble_eq_true rfl) (Nat.le_trans (Nat.le_of_ble_eq_true rfl) hd) (jkpI fun z34 p37 r38 => ?_)
            have h := h z34 p37
            obtain ⟨h1, h2⟩ := h
            refine j_icmp_ge 57 dX10_town_27 rfl rv19 r38 (fun q39 => ?_) (fun q39 => ?_)
            · have h := h1 q39
              clear h1 h2
              refine r_aload_n dX10_town_57 rfl ?_
              refine r_gRF dX10_town_58 flX10_22_11 rfl t8 rfl ?_
              exact r_aret dX10_town_61 rfl (Or.inl ⟨_, rfl⟩) (Or.inl ⟨_, rfl, hW22, hT5, h, trivial⟩)
            · have h := h2 q39
              clear h1 h2
              refine r_aload_n dX10_town_30 rfl ?_
              refine r_gRF dX10_town_31 flX10_22_11 rfl t8 rfl ?_
              refine r_gRF dX10_town_34 flX10_186_2 hz27 t28 rfl ?_
              refine j_iload_n dX10_town_37 rfl ?_
              obtain ⟨P40, hp41, h⟩ := h
              refine r_invV (ci := 20) (As := [vI v19]) (rest := []) dX10_town_38 lkX10_287 hz30 t31 rfl rfl (vJ2_get (d := 4) (Nat.le_of_ble_eq_true rfl) hW22 t31 rv19 hp41) rfl rfl (Nat.le_of_ble_eq_true rfl) (Nat.le_trans (Nat.le_of_ble_eq_true rfl) hd) (jkpR fun z42 p45 r46 => ?_)
              have h := h z42 p45
              obtain ⟨j47, h⟩ := h
              refine r_chk dX10_town_41 q1082 j47 ?_
              refine r_aload_n dX10_town_44 rfl ?_
              refine r_gRF dX10_town_45 flX10_22_11 rfl t8 rfl ?_
              obtain ⟨b48, hz49, h⟩ := h
              obtain ⟨t50, h⟩ := h
              obtain ⟨P51, hp52, h⟩ := h
              refine r_invV (ci := 16) (As := [vR (jfn N1 3305 o)]) (rest := []) dX10_town_48 lkX10_291 hz49 t50 rfl rfl (vX15_learns (d := 6) (Nat.le_of_ble_eq_true rfl) hW22 t50  hp52) rfl rfl (Nat.le_of_ble_eq_true rfl) (Nat.le_trans (Nat.le_of_ble_eq_true rfl) hd) (ckmV fun F54 A55 hW56 p58 => ?_)
              have h := h F54 A55 p58
              obtain ⟨r60, h⟩ := h
              refine j_iinc dX10_town_51 rfl (jokR rfl (Nat.le_of_ble_eq_true rfl)) ?_
              refine j_goto 16 dX10_town_54 rfl ?_
              exact J.wk (((jWk.nil).eq).eq) (ihI24 _ _ _ (Nat.lt_of_lt_of_le h.2 (Nat.le_of_lt_succ hmuI24)) hW56 r60 h.1)
        exact J.wk (((jWk.nil).eq).eq) (lp _ _ _ _ (Nat.lt_succ_self _) hW14 (by decide) h0)
      · have h := h2 q18
        clear h1 h2
        refine r_aload_n dX10_town_7 rfl ?_
        obtain ⟨P61, hp62, h⟩ := h
        refine r_invV (ci := 11) (As := []) (rest := []) dX10_town_8 lkX10_284 rfl t8 rfl rfl (vX10_statement (d := 15) (Nat.le_of_ble_eq_true rfl) hW14 t8  hp62) rfl rfl (Nat.le_of_ble_eq_true rfl) (Nat.le_trans (Nat.le_of_ble_eq_true rfl) hd) (ckX (fun q N9 F9 A9 W9 T9 t9 w9 h9 => JT.thru (hout0 rfl _) W9 (hT5.trans T9) t9 w9 h9) (cknV fun N66 F64 A65 hW67 hT68 p69 => ?_))
        have h := h N66 F64 A65 p69
        refine j_goto 0 dX10_town_11 rfl ?_
        exact J.wk (((jWk.nil).no).eq) (ihI6 _ _ _ (Nat.lt_of_lt_of_le h.2 (Nat.le_of_lt_succ hmuI6)) hW67 (hT5.trans hT68) h.1)
  exact J.wk (((jWk.nil).no).eq) (lp _ _ _ _ (Nat.lt_succ_self _) hW (jTx.refl _) h0)
/-- ChildSays.town()I -/
def wqX0_town (S : Nat → Nat) (o : Nat) (N : jSh) (F : jFl) (A : jAr) (Q : Int → jSh → jFl → jAr → Prop) : Prop :=
  ∀ v1 : Int, v1 = F 303 o →
  jfn N 0 o = 1 ∧
  ∀ F4 : jFl, F4 = upF F 303 o 0 →
  ∀ (b5 : Nat) (N6 : jSh) (F7 : jFl), b5 = jnx N → N6 = jnew N 11 0 11 1 → F7 = nwF N F4 →
  ∀ (b12 : Nat) (N13 : jSh) (F14 : jFl), b12 = jnx N6 → N13 = jnew N6 2 0 11 1 → F14 = nwF N6 F7 →
  ∃ (P19 : jSh → jFl → jAr → Prop), wqX1_init S b12 N13 F14 A P19 ∧
  ∀ N24 F22 A23, P19 N24 F22 A23 →
  ∃ (P30 : jSh → jFl → jAr → Prop), wqX10_init b5 (o : Int) v1 (b12 : Int) N24 F22 A23 P30 ∧
  ∀ N35 F33 A34, P30 N35 F33 A34 →
  ∃ (P41 : Int → jSh → jFl → jAr → Prop) (X44 : Nat → jSh → jFl → jAr → Prop), wqX10_town S b5 N35 F33 A34 P41 X44 ∧
  (∀ (q51 : Nat) (N52 : jSh) (F53 : jFl) (A54 : jAr), X44 q51 N52 F53 A54 →
    ∃ (P60 : Int → jFl → jAr → Prop), wqX0_wrong o (q51 : Int) 1 N52 F53 A54 P60 ∧
    ∀ z62 F63 A64, P60 z62 F63 A64 →
    Q z62 N52 F63 A64) ∧
  ∀ z43 N47 F45 A46, P41 z43 N47 F45 A46 →
  ∀ F74 : jFl, F74 = upF F45 311 o z43 →
  ∃ (P75 : jFl → jAr → Prop), wqX0_isRight o N47 F74 A46 P75 ∧
  ∀ F78 A79, P75 F78 A79 →
  ∃ b84 : Nat, jfn N47 323 o = (b84 : Int) ∧
  jtg N47 b84 = 20 ∧
  ∃ (P87 : jFl → jAr → Prop), wqJ2_clear b84 N47 F78 A79 P87 ∧
  ∀ F90 A91, P87 F90 A91 →
  ∃ b96 : Nat, F90 311 o = (b96 : Int) ∧
  jtg N47 b96 = 2 ∧
  Q (F90 600 b96) N47 F90 A91
theorem vX0_town {G : jG} {l : Launch} [jOff l] {d : Nat} {N : jSh} {F : jFl} {A : jAr} {o : Nat} {Q : Int → jSh → jFl → jAr → Prop} (hd : 17 ≤ d) (hW : jWg G N F A) (ht : jtg N o = 1) (h : wqX0_town (gS G) o N F A Q) : jCall G l d mX0_town [vR (o : Int)] N F A (cnI G N Q) := by
  unfold wqX0_town at h
  refine jCall.ofH (by decide) rfl (ls := [vR (o : Int), jD, jD]) (by simp only [jent_R, jent_I, jent_L, jent_nil]; exact Nat.le_of_ble_eq_true rfl) (by simp only [jloc, jent_R, jent_I, jent_L, jent_nil]; rfl) ?_
  refine r_aload_n dX0_town_0 rfl ?_
  refine r_gI dX0_town_1 flX0_111_1 rfl ht rfl ?_
  obtain ⟨v1, ev1⟩ : ∃ x : Int, x = F 303 o := ⟨_, rfl⟩
  have h := h v1 ev1
  refine jnmI (e := ev1) ?_
  refine j_istore_n dX0_town_4 (jokR rfl (Nat.le_of_ble_eq_true rfl)) ?_
  refine r_aload_n dX0_town_5 rfl ?_
  refine j_iconst dX0_town_6 ?_
  obtain ⟨w2, h⟩ := h
  refine c_pI hW dX0_town_7 flX0_111_1 rfl ht w2 rfl (by decide) fun F4 eF4 hW3 => ?_
  have h := h F4 eF4
  refine r_aload_n dX0_town_10 rfl ?_
  refine c_new (ci := 11) hW3 dX0_town_11 rfl q613 rfl rfl fun b5 N6 F7 eb5 eN6 eF7 t8 w9 hT10 hW11 => ?_
  have h := h b5 N6 F7 eb5 eN6 eF7
  refine j_dup dX0_town_14 (vR_cat _) ?_
  refine r_aload_n dX0_town_15 rfl ?_
  refine j_iload_n dX0_town_16 rfl ?_
  refine c_new (ci := 2) hW11 dX0_town_17 rfl q190 rfl rfl fun b12 N13 F14 eb12 eN13 eF14 t15 w16 hT17 hW18 => ?_
  have h := h b12 N13 F14 eb12 eN13 eF14
  refine j_dup dX0_town_20 (vR_cat _) ?_
  obtain ⟨P19, hp20, h⟩ := h
  refine r_invIN8 (As := []) (rest := [vR (b12 : Int), vI v1, vR (o : Int), vR (b5 : Int), vR (b5 : Int), vR (o : Int)]) dX0_town_21 lkX0_19 rfl (vX1_init (d := 5) (Nat.le_of_ble_eq_true rfl) hW18 t15  hp20) rfl rfl (by simp [vR_cat, vI_cat]) (Nat.le_trans (Nat.le_of_ble_eq_true rfl) hd) (cknV fun N24 F22 A23 hW25 hT26 p27 => ?_)
  have h := h N24 F22 A23 p27
  have t29 : jtg N24 b5 = 11 := (hT26.tg hW18 (hT17.tg hW11 t8))
  obtain ⟨P30, hp31, h⟩ := h
  refine r_invI (As := [vR (o : Int), vI v1, vR (b12 : Int)]) (rest := [vR (b5 : Int), vR (o : Int)]) dX0_town_24 lkX0_162 rfl (vX10_init (d := 2) (Nat.le_of_ble_eq_true rfl) hW25 t29 (ev1 ▸ (hW.fi rfl)) hp31) rfl rfl (Nat.le_of_ble_eq_true rfl) (Nat.le_trans (Nat.le_of_ble_eq_true rfl) hd) (cknV fun N35 F33 A34 hW36 hT37 p38 => ?_)
  have h := h N35 F33 A34 p38
  have t40 : jtg N35 b5 = 11 := (hT37.tg hW25 t29)
  obtain ⟨P41, X44, hp42, hx50, h⟩ := h
  refine r_invV (ci := 11) (As := []) (rest := [vR (o : Int)]) dX0_town_27 lkX0_165 rfl t40 rfl rfl (vX10_town (d := 16) (Nat.le_of_ble_eq_true rfl) hW36 t40  hp42) rfl rfl (Nat.le_of_ble_eq_true rfl) (Nat.le_trans (Nat.le_of_ble_eq_true rfl) hd) (ckX (fun q51 N52 F53 A54 hW55 hT56 t57 w58 h => ?hx27) (cknR fun z43 N47 F45 A46 hW48 hT49 p69 r70 => ?_))
  case hx27 =>
    have h := hx50 q51 N52 F53 A54 h
    refine JT.catch (10, 33, 36, 150) [] [] rfl (fun z hz => by cases hz) (by decide) (by decide) (hW55.2.1 _ w58) t57 rfl q612 (List.mem_of_elem_eq_true (by decide +kernel)) ?_
    rw [← vR_nat]
    refine r_astore_n dX0_town_36 rfl ?_
    refine r_aload_n dX0_town_37 rfl ?_
    refine r_aload_n dX0_town_38 rfl ?_
    refine j_iconst dX0_town_39 ?_
    have t59 : jtg N52 o = 1 := (hT56.tg hW36 (hT37.tg hW25 (hT26.tg hW18 (hT17.tg hW11 (hT10.tg hW3 ht)))))
    obtain ⟨P60, hp61, h⟩ := h
    refine r_invV (ci := 1) (As := [vR (q51 : Int), vI 1]) (rest := []) dX0_town_40 lkX0_168 rfl t59 rfl rfl (vX0_wrong (d := 3) (Nat.le_of_ble_eq_true rfl) hW55 t59 (by decide) hp61) rfl rfl (Nat.le_of_ble_eq_true rfl) (Nat.le_trans (Nat.le_of_ble_eq_true rfl) hd) (ckmI fun z62 F63 A64 hW65 p67 r68 => ?_)
    have h := h z62 F63 A64 p67
    exact j_iret dX0_town_43 rfl ⟨_, rfl, hW65, ((((hT10.trans hT17).trans hT26).trans hT37).trans hT56), h, r68⟩
  have h := h z43 N47 F45 A46 p69
  have t71 : jtg N47 o = 1 := (hT49.tg hW36 (hT37.tg hW25 (hT26.tg hW18 (hT17.tg hW11 (hT10.tg hW3 ht)))))
  have w72 : jfn N47 0 o = 1 := (hT49.ow hW36 (hT37.tg hW25 (hT26.tg hW18 (hT17.tg hW11 (hT10.tg hW3 ht)))) (hT37.ow hW25 (hT26.tg hW18 (hT17.tg hW11 (hT10.tg hW3 ht))) (hT26.ow hW18 (hT17.tg hW11 (hT10.tg hW3 ht)) (hT17.ow hW11 (hT10.tg hW3 ht) (hT10.ow hW3 ht w2)))))
  refine c_pR hW48 dX0_town_30 flX0_20_1 rfl t71 w72 rfl (ty := .object "ChildSays$Town") (by decide +kernel) (Or.inl ⟨_, rfl⟩) fun F74 eF74 hW73 => ?_
  have h := h F74 eF74
  refine j_goto 44 dX0_town_33 rfl ?_
  refine r_aload_n dX0_town_44 rfl ?_
  obtain ⟨P75, hp76, h⟩ := h
  refine r_invV (ci := 1) (As := []) (rest := []) dX0_town_45 lkX0_172 rfl t71 rfl rfl (vX0_isRight (d := 2) (Nat.le_of_ble_eq_true rfl) hW73 t71  hp76) rfl rfl (Nat.le_of_ble_eq_true rfl) (Nat.le_trans (Nat.le_of_ble_eq_true rfl) hd) (ckmV fun F78 A79 hW80 p82 => ?_)
  have h := h F78 A79 p82
  refine r_aload_n dX0_town_48 rfl ?_
  refine r_gRF dX0_town_49 flX0_35_1 rfl t71 rfl ?_
  obtain ⟨b84, hz85, h⟩ := h
  obtain ⟨t86, h⟩ := h
  obtain ⟨P87, hp88, h⟩ := h
  refine r_invV (ci := 20) (As := []) (rest := []) dX0_town_52 lkX0_175 hz85 t86 rfl rfl (vJ2_clear (d := 2) (Nat.le_of_ble_eq_true rfl) hW80 t86  hp88) rfl rfl (Nat.le_of_ble_eq_true rfl) (Nat.le_trans (Nat.le_of_ble_eq_true rfl) hd) (ckmV fun F90 A91 hW92 p94 => ?_)
  have h := h F90 A91 p94
  refine r_aload_n dX0_town_55 rfl ?_
  refine r_gR dX0_town_56 flX0_20_1 rfl t71 rfl ?_
  obtain ⟨b96, hz97, h⟩ := h
  obtain ⟨t98, h⟩ := h
  refine r_gI dX0_town_59 flX0_178_2 hz97 t98 rfl ?_
  exact j_iret dX0_town_62 rfl ⟨_, rfl, hW92, ((((hT10.trans hT17).trans hT26).trans hT37).trans hT49), h, (hW92.fi rfl)⟩
/-- ChildSays.once(IIII)I -/
def wqX0_once (o : Nat) (a1 : Int) (a2 : Int) (a3 : Int) (a4 : Int) (N : jSh) (F : jFl) (A : jAr) (Q : Int → jFl → jAr → Prop) : Prop :=
  ∃ (P1 : Int → Prop), wqX0_childOf o a2 N F A P1 ∧
  ∀ z3, P1 z3 →
  ∃ (P8 : Int → Prop), wqX0_standingOf o a1 N F A P8 ∧
  ∀ z10, P8 z10 →
  ((z3 < 0) →
    Q (-1) F A) ∧
  ((¬ (z3 < 0)) →
    ((z10 < 0) →
      Q (-1) F A) ∧
    ((¬ (z10 < 0)) →
      ∃ b17 : Nat, z10 = (b17 : Int) ∧
      jtg N b17 = 17 ∧
      ∃ b20 : Nat, jfn N 5102 b17 = (b20 : Int) ∧
      jtg N b20 = 4 ∧
      ((3 < (F 1203 b20)) →
        Q (-1) F A) ∧
      ((¬ (3 < (F 1203 b20))) →
        ((a3 = (-1)) →
          ∃ fu28 : Nat, fu28 ≤ 60 ∧ ∃ (P25 : Int → jFl → jAr → Prop), wqX0_rows fu28 o z3 z10 0 a3 a4 N F A P25 ∧
          ∀ z27 F29 A30, P25 z27 F29 A30 →
          Q z27 F29 A30) ∧
        ((¬ (a3 = (-1))) →
          jR ((F 1203 b20) - 1) ∧
          ∃ (P36 : Int → Prop), wqX0_isIn a3 0 ((F 1203 b20) - 1) N F A P36 ∧
          ∀ z38, P36 z38 →
          ((z38 = 0) →
            Q (-1) F A) ∧
          ((¬ (z38 = 0)) →
            ∃ (P44 : Int → Prop), wqX0_wordOf o a4 N F A P44 ∧
            ∀ z46, P44 z46 →
            ((¬ z46 < 0) →
              ∃ fu55 : Nat, fu55 ≤ 60 ∧ ∃ (P52 : Int → jFl → jAr → Prop), wqX0_rows fu55 o z3 z10 0 a3 a4 N F A P52 ∧
              ∀ z54 F56 A57, P52 z54 F56 A57 →
              Q z54 F56 A57) ∧
            ((z46 < 0) →
              Q (-1) F A))))))
theorem vX0_once {G : jG} {l : Launch} [jOff l] {d : Nat} {N : jSh} {F : jFl} {A : jAr} {o : Nat} {a1 a2 a3 a4 : Int} {Q : Int → jFl → jAr → Prop} (hd : 67 ≤ d) (hW : jWg G N F A) (ht : jtg N o = 1) (ra1 : jR a1) (ra2 : jR a2) (ra3 : jR a3) (ra4 : jR a4) (h : wqX0_once o a1 a2 a3 a4 N F A Q) : jCall G l d mX0_once [vR (o : Int), vI a1, vI a2, vI a3, vI a4] N F A (cmI G N Q) := by
  unfold wqX0_once at h
  refine jCall.of (by decide) rfl (ls := [vR (o : Int), vI a1, vI a2, vI a3, vI a4, jD, jD]) (by simp only [jent_R, jent_I, jent_L, jent_nil]; exact Nat.le_of_ble_eq_true rfl) (by simp only [jloc, jent_R, jent_I, jent_L, jent_nil]; rfl) ?_
  refine r_aload_n dX0_once_0 rfl ?_
  refine j_iload_n dX0_once_1 rfl ?_
  obtain ⟨P1, hp2, h⟩ := h
  refine r_invV (ci := 1) (As := [vI a2]) (rest := []) dX0_once_2 lkX0_273 rfl ht rfl rfl (vX0_childOf (d := 5) (Nat.le_of_ble_eq_true rfl) hW ht ra2 hp2) rfl rfl (Nat.le_of_ble_eq_true rfl) (Nat.le_trans (Nat.le_of_ble_eq_true rfl) hd) (jkpR fun z3 p6 r7 => ?_)
  have h := h z3 p6
  refine r_astore dX0_once_5 rfl ?_
  refine r_aload_n dX0_once_7 rfl ?_
  refine j_iload_n dX0_once_8 rfl ?_
  obtain ⟨P8, hp9, h⟩ := h
  refine r_invV (ci := 1) (As := [vI a1]) (rest := []) dX0_once_9 lkX0_347 rfl ht rfl rfl (vX0_standingOf (d := 6) (Nat.le_of_ble_eq_true rfl) hW ht ra1 hp9) rfl rfl (Nat.le_of_ble_eq_true rfl) (Nat.le_trans (Nat.le_of_ble_eq_true rfl) hd) (jkpR fun z10 p13 r14 => ?_)
  have h := h z10 p13
  refine r_astore dX0_once_12 (jokR rfl (Nat.le_of_ble_eq_true rfl)) ?_
  refine r_aload dX0_once_14 rfl ?_
  obtain ⟨h1, h2⟩ := h
  refine r_ifnull 70 dX0_once_16 rfl (fun q15 => ?_) (fun q15 => ?_)
  · have h := h1 q15
    clear h1 h2
    refine j_iconst dX0_once_70 ?_
    exact j_iret dX0_once_71 rfl ⟨_, rfl, rfl, hW, h, (by decide)⟩
  · have h := h2 q15
    clear h1 h2
    refine r_aload dX0_once_19 rfl ?_
    obtain ⟨h1, h2⟩ := h
    refine r_ifnull 70 dX0_once_21 rfl (fun q16 => ?_) (fun q16 => ?_)
    · have h := h1 q16
      clear h1 h2
      refine j_iconst dX0_once_70 ?_
      exact j_iret dX0_once_71 rfl ⟨_, rfl, rfl, hW, h, (by decide)⟩
    · have h := h2 q16
      clear h1 h2
      refine r_aload dX0_once_24 rfl ?_
      obtain ⟨b17, hz18, h⟩ := h
      obtain ⟨t19, h⟩ := h
      refine r_gRF dX0_once_26 flX0_243_17 hz18 t19 rfl ?_
      obtain ⟨b20, hz21, h⟩ := h
      obtain ⟨t22, h⟩ := h
      refine r_gI dX0_once_29 flX0_296_4 hz21 t22 rfl ?_
      refine j_iconst dX0_once_32 ?_
      obtain ⟨h1, h2⟩ := h
      refine j_icmp_gt 70 dX0_once_33 rfl (hW.fi rfl) (by decide) (fun q23 => ?_) (fun q23 => ?_)
      · have h := h1 q23
        clear h1 h2
        refine j_iconst dX0_once_70 ?_
        exact j_iret dX0_once_71 rfl ⟨_, rfl, rfl, hW, h, (by decide)⟩
      · have h := h2 q23
        clear h1 h2
        refine j_iload_n dX0_once_36 rfl ?_
        refine j_iconst dX0_once_37 ?_
        obtain ⟨h1, h2⟩ := h
        refine j_icmp_eq 72 dX0_once_38 rfl ra3 (by decide) (fun q24 => ?_) (fun q24 => ?_)
        · have h := h1 q24
          clear h1 h2
          refine r_aload_n dX0_once_72 rfl ?_
          refine r_aload dX0_once_73 rfl ?_
          refine r_aload dX0_once_75 rfl ?_
          refine j_iconst dX0_once_77 ?_
          refine j_iload_n dX0_once_78 rfl ?_
          refine j_iload dX0_once_79 rfl ?_
          obtain ⟨fu28, hfu, P25, hp26, h⟩ := h
          refine r_invV (ci := 1) (As := [vR z3, vR z10, vI 0, vI a3, vI a4]) (rest := []) dX0_once_81 lkX0_502 rfl ht rfl rfl (vX0_rows fu28 (d := 6 + fu28) (Nat.le_refl _) hW ht (by decide) ra3 ra4 hp26) rfl rfl (Nat.le_of_ble_eq_true rfl) (by omega) (ckmI fun z27 F29 A30 hW31 p33 r34 => ?_)
          have h := h z27 F29 A30 p33
          exact j_iret dX0_once_84 rfl ⟨_, rfl, rfl, hW31, h, r34⟩
        · have h := h2 q24
          clear h1 h2
          refine j_iload_n dX0_once_41 rfl ?_
          refine j_i2l dX0_once_42 ra3 ?_
          refine j_lconst 0 rfl dX0_once_43 ?_
          refine r_aload dX0_once_44 rfl ?_
          refine r_gRF dX0_once_46 flX0_243_17 hz18 t19 rfl ?_
          refine r_gI dX0_once_49 flX0_296_4 hz21 t22 rfl ?_
          refine j_iconst dX0_once_52 ?_
          refine j_isub dX0_once_53 ?_
          obtain ⟨r35, h⟩ := h
          refine j_i2l dX0_once_54 r35 ?_
          obtain ⟨P36, hp37, h⟩ := h
          refine r_invS (As := [vL a3, vL 0, vL ((F 1203 b20) - 1)]) (rest := []) dX0_once_55 lkX0_124 (vX0_isIn (d := 2) (Nat.le_of_ble_eq_true rfl) hW (jR_L ra3) (by decide) (jR_L r35) hp37) rfl rfl (Nat.le_of_ble_eq_true rfl) (Nat.le_trans (Nat.le_of_ble_eq_true rfl) hd) (jkpB fun z38 p41 r42 => ?_)
          have h := h z38 p41
          obtain ⟨h1, h2⟩ := h
          refine j_if_eq 70 dX0_once_58 rfl (jR_b r42) (fun q43 => ?_) (fun q43 => ?_)
          · have h := h1 q43
            clear h1 h2
            refine j_iconst dX0_once_70 ?_
            exact j_iret dX0_once_71 rfl ⟨_, rfl, rfl, hW, h, (by decide)⟩
          · have h := h2 q43
            clear h1 h2
            refine r_aload_n dX0_once_61 rfl ?_
            refine j_iload dX0_once_62 rfl ?_
            obtain ⟨P44, hp45, h⟩ := h
            refine r_invV (ci := 1) (As := [vI a4]) (rest := []) dX0_once_64 lkX0_249 rfl ht rfl rfl (vX0_wordOf (d := 5) (Nat.le_of_ble_eq_true rfl) hW ht ra4 hp45) rfl rfl (Nat.le_of_ble_eq_true rfl) (Nat.le_trans (Nat.le_of_ble_eq_true rfl) hd) (jkpR fun z46 p49 r50 => ?_)
            have h := h z46 p49
            obtain ⟨h1, h2⟩ := h
            refine r_ifnonnull 72 dX0_once_67 rfl (fun q51 => ?_) (fun q51 => ?_)
            · have h := h1 q51
              clear h1 h2
              refine r_aload_n dX0_once_72 rfl ?_
              refine r_aload dX0_once_73 rfl ?_
              refine r_aload dX0_once_75 rfl ?_
              refine j_iconst dX0_once_77 ?_
              refine j_iload_n dX0_once_78 rfl ?_
              refine j_iload dX0_once_79 rfl ?_
              obtain ⟨fu55, hfu, P52, hp53, h⟩ := h
              refine r_invV (ci := 1) (As := [vR z3, vR z10, vI 0, vI a3, vI a4]) (rest := []) dX0_once_81 lkX0_502 rfl ht rfl rfl (vX0_rows fu55 (d := 6 + fu55) (Nat.le_refl _) hW ht (by decide) ra3 ra4 hp53) rfl rfl (Nat.le_of_ble_eq_true rfl) (by omega) (ckmI fun z54 F56 A57 hW58 p60 r61 => ?_)
              have h := h z54 F56 A57 p60
              exact j_iret dX0_once_84 rfl ⟨_, rfl, rfl, hW58, h, r61⟩
            · have h := h2 q51
              clear h1 h2
              refine j_iconst dX0_once_70 ?_
              exact j_iret dX0_once_71 rfl ⟨_, rfl, rfl, hW, h, (by decide)⟩
/-- ChildSays.best(II)I -/
def wqX0_best (o : Nat) (a1 : Int) (a2 : Int) (N : jSh) (F : jFl) (A : jAr) (Q : Int → jFl → jAr → Prop) : Prop :=
  ∃ (P1 : Int → Prop), wqX0_standingOf o a1 N F A P1 ∧
  ∀ z3, P1 z3 →
  ((z3 < 0) →
    Q (-1) F A) ∧
  ((¬ (z3 < 0)) →
    ∃ b9 : Nat, z3 = (b9 : Int) ∧
    jtg N b9 = 17 ∧
    ∃ b12 : Nat, jfn N 5102 b9 = (b12 : Int) ∧
    jtg N b12 = 4 ∧
    (((F 1203 b12) ≤ 6) →
      ∃ b16 : Nat, jfn N 341 o = (b16 : Int) ∧
      jtg N b16 = 8 ∧
      ∃ (P19 : Int → jFl → jAr → Prop), wqX7_of b16 z3 N F A P19 ∧
      ∀ z21 F22 A23, P19 z21 F22 A23 →
      ∃ b28 : Nat, z21 = (b28 : Int) ∧
      jtg N b28 = 8 ∧
      ∃ fu34 : Nat, fu34 ≤ 60 ∧ ∃ (P31 : Int → jFl → jAr → Prop), wqX7_search fu34 b28 0 0 N F22 A23 P31 ∧
      ∀ z33 F35 A36, P31 z33 F35 A36 →
      ∃ b41 : Nat, z33 = (b41 : Int) ∧
      jtg N b41 = 8 ∧
      ∃ (P44 : Int → Prop), wqX7_tells b41 a2 N F35 A36 P44 ∧
      ∀ z46, P44 z46 →
      Q z46 F35 A36) ∧
    ((¬ ((F 1203 b12) ≤ 6)) →
      Q (-1) F A))
theorem vX0_best {G : jG} {l : Launch} [jOff l] {d : Nat} {N : jSh} {F : jFl} {A : jAr} {o : Nat} {a1 a2 : Int} {Q : Int → jFl → jAr → Prop} (hd : 68 ≤ d) (hW : jWg G N F A) (ht : jtg N o = 1) (ra1 : jR a1) (ra2 : jR a2) (h : wqX0_best o a1 a2 N F A Q) : jCall G l d mX0_best [vR (o : Int), vI a1, vI a2] N F A (cmI G N Q) := by
  unfold wqX0_best at h
  refine jCall.of (by decide) rfl (ls := [vR (o : Int), vI a1, vI a2, jD]) (by simp only [jent_R, jent_I, jent_L, jent_nil]; exact Nat.le_of_ble_eq_true rfl) (by simp only [jloc, jent_R, jent_I, jent_L, jent_nil]; rfl) ?_
  refine r_aload_n dX0_best_0 rfl ?_
  refine j_iload_n dX0_best_1 rfl ?_
  obtain ⟨P1, hp2, h⟩ := h
  refine r_invV (ci := 1) (As := [vI a1]) (rest := []) dX0_best_2 lkX0_347 rfl ht rfl rfl (vX0_standingOf (d := 6) (Nat.le_of_ble_eq_true rfl) hW ht ra1 hp2) rfl rfl (Nat.le_of_ble_eq_true rfl) (Nat.le_trans (Nat.le_of_ble_eq_true rfl) hd) (jkpR fun z3 p6 r7 => ?_)
  have h := h z3 p6
  refine r_astore_n dX0_best_5 rfl ?_
  refine r_aload_n dX0_best_6 rfl ?_
  obtain ⟨h1, h2⟩ := h
  refine r_ifnull 22 dX0_best_7 rfl (fun q8 => ?_) (fun q8 => ?_)
  · have h := h1 q8
    clear h1 h2
    refine j_iconst dX0_best_22 ?_
    refine j_goto 43 dX0_best_23 rfl ?_
    exact j_iret dX0_best_43 rfl ⟨_, rfl, rfl, hW, h, (by decide)⟩
  · have h := h2 q8
    clear h1 h2
    refine r_aload_n dX0_best_10 rfl ?_
    obtain ⟨b9, hz10, h⟩ := h
    obtain ⟨t11, h⟩ := h
    refine r_gRF dX0_best_11 flX0_243_17 hz10 t11 rfl ?_
    obtain ⟨b12, hz13, h⟩ := h
    obtain ⟨t14, h⟩ := h
    refine r_gI dX0_best_14 flX0_296_4 hz13 t14 rfl ?_
    refine j_bipush dX0_best_17 ?_
    obtain ⟨h1, h2⟩ := h
    refine j_icmp_le 26 dX0_best_19 rfl (hW.fi rfl) (by decide) (fun q15 => ?_) (fun q15 => ?_)
    · have h := h1 q15
      clear h1 h2
      refine r_aload_n dX0_best_26 rfl ?_
      refine r_gRF dX0_best_27 flX0_72_1 rfl ht rfl ?_
      refine r_aload_n dX0_best_30 rfl ?_
      obtain ⟨b16, hz17, h⟩ := h
      obtain ⟨t18, h⟩ := h
      obtain ⟨P19, hp20, h⟩ := h
      refine r_invV (ci := 8) (As := [vR z3]) (rest := []) dX0_best_31 lkX0_458 hz17 t18 rfl rfl (vX7_of (d := 4) (Nat.le_of_ble_eq_true rfl) hW t18  hp20) rfl rfl (Nat.le_of_ble_eq_true rfl) (Nat.le_trans (Nat.le_of_ble_eq_true rfl) hd) (ckmR fun z21 F22 A23 hW24 p26 r27 => ?_)
      have h := h z21 F22 A23 p26
      refine j_iconst dX0_best_34 ?_
      refine j_iconst dX0_best_35 ?_
      obtain ⟨b28, hz29, h⟩ := h
      obtain ⟨t30, h⟩ := h
      obtain ⟨fu34, hfu, P31, hp32, h⟩ := h
      refine r_invV (ci := 8) (As := [vI 0, vI 0]) (rest := []) dX0_best_36 lkX0_461 hz29 t30 rfl rfl (vX7_search fu34 (d := 7 + fu34) (Nat.le_refl _) hW24 t30 (by decide) (by decide) hp32) rfl rfl (Nat.le_of_ble_eq_true rfl) (by omega) (ckmR fun z33 F35 A36 hW37 p39 r40 => ?_)
      have h := h z33 F35 A36 p39
      refine j_iload_n dX0_best_39 rfl ?_
      obtain ⟨b41, hz42, h⟩ := h
      obtain ⟨t43, h⟩ := h
      obtain ⟨P44, hp45, h⟩ := h
      refine r_invV (ci := 8) (As := [vI a2]) (rest := []) dX0_best_40 lkX0_465 hz42 t43 rfl rfl (vX7_tells (d := 3) (Nat.le_of_ble_eq_true rfl) hW37 t43 ra2 hp45) rfl rfl (Nat.le_of_ble_eq_true rfl) (Nat.le_trans (Nat.le_of_ble_eq_true rfl) hd) (jkpI fun z46 p49 r50 => ?_)
      have h := h z46 p49
      exact j_iret dX0_best_43 rfl ⟨_, rfl, rfl, hW37, h, r50⟩
    · have h := h2 q15
      clear h1 h2
      refine j_iconst dX0_best_22 ?_
      refine j_goto 43 dX0_best_23 rfl ?_
      exact j_iret dX0_best_43 rfl ⟨_, rfl, rfl, hW, h, (by decide)⟩
/-- ChildSays$Order.best(LChildSays$Child;)LChildSays$Order; -/
def wqX8_best (o : Nat) (a1 : Int) (N : jSh) (F : jFl) (A : jAr) (Q : Int → jFl → jAr → Prop) : Prop :=
  ∃ b1 : Nat, jfn N 2702 o = (b1 : Int) ∧
  jtg N b1 = 5 ∧
  jfn N 0 b1 = 1 ∧
  ∀ F6 : jFl, F6 = upF F 1506 b1 0 →
  jfn N 0 o = 1 ∧
  ∀ F9 : jFl, F9 = upF F6 2706 o (-1) →
  ∃ b10 : Nat, jfn N 2714 o = (b10 : Int) ∧
  jtg N b10 = 1 ∧
  ∃ b13 : Nat, F9 311 b10 = (b13 : Int) ∧
  jtg N b13 = 2 ∧
  ∃ (P16 : Int → Prop), wqX1_standing b13 N F9 A P16 ∧
  ∀ z18, P16 z18 →
  ∃ fu26 : Nat, fu26 ≤ 60 ∧ ∃ (P23 : jFl → jAr → Prop), wqX8_search fu26 o a1 0 z18 N F9 A P23 ∧
  ∀ F27 A28, P23 F27 A28 →
  ∃ b33 : Nat, F27 311 b10 = (b33 : Int) ∧
  jtg N b33 = 2 ∧
  ∃ (P36 : Int → Prop), wqX1_standing b33 N F27 A28 P36 ∧
  ∀ z38, P36 z38 →
  ∀ F44 : jFl, F44 = upF F27 1506 b1 z38 →
  Q (o : Int) F44 A28
theorem vX8_best {G : jG} {l : Launch} [jOff l] {d : Nat} {N : jSh} {F : jFl} {A : jAr} {o : Nat} {a1 : Int} {Q : Int → jFl → jAr → Prop} (hd : 69 ≤ d) (hW : jWg G N F A) (ht : jtg N o = 9) (h : wqX8_best o a1 N F A Q) : jCall G l d mX8_best [vR (o : Int), vR a1] N F A (cmR G N Q) := by
  unfold wqX8_best at h
  refine jCall.of (by decide) rfl (ls := [vR (o : Int), vR a1]) (by simp only [jent_R, jent_I, jent_L, jent_nil]; exact Nat.le_of_ble_eq_true rfl) (by simp only [jloc, jent_R, jent_I, jent_L, jent_nil]; rfl) ?_
  refine r_aload_n dX8_best_0 rfl ?_
  refine r_gRF dX8_best_1 flX8_20_9 rfl ht rfl ?_
  refine j_iconst dX8_best_4 ?_
  obtain ⟨b1, hz2, h⟩ := h
  obtain ⟨t3, h⟩ := h
  obtain ⟨w4, h⟩ := h
  refine c_pIN hW dX8_best_5 flX8_38_5 hz2 t3 w4 rfl (by decide) fun F6 eF6 hW5 => ?_
  have h := h F6 eF6
  refine r_aload_n dX8_best_8 rfl ?_
  refine j_iconst dX8_best_9 ?_
  obtain ⟨w7, h⟩ := h
  refine c_pI hW5 dX8_best_10 flX8_49_9 rfl ht w7 rfl (by decide) fun F9 eF9 hW8 => ?_
  have h := h F9 eF9
  refine r_aload_n dX8_best_13 rfl ?_
  refine r_aload_n dX8_best_14 rfl ?_
  refine j_iconst dX8_best_15 ?_
  refine r_aload_n dX8_best_16 rfl ?_
  refine r_gRF dX8_best_17 flX8_3_9 rfl ht rfl ?_
  obtain ⟨b10, hz11, h⟩ := h
  obtain ⟨t12, h⟩ := h
  refine r_gRN dX8_best_20 flX8_55_1 hz11 t12 rfl ?_
  obtain ⟨b13, hz14, h⟩ := h
  obtain ⟨t15, h⟩ := h
  obtain ⟨P16, hp17, h⟩ := h
  refine r_invV (ci := 2) (As := []) (rest := [vI 0, vR a1, vR (o : Int)]) dX8_best_23 lkX8_92 hz14 t15 rfl rfl (vX1_standing (d := 5) (Nat.le_of_ble_eq_true rfl) hW8 t15  hp17) rfl rfl (Nat.le_of_ble_eq_true rfl) (Nat.le_trans (Nat.le_of_ble_eq_true rfl) hd) (jkpI fun z18 p21 r22 => ?_)
  have h := h z18 p21
  obtain ⟨fu26, hfu, P23, hp24, h⟩ := h
  refine r_invV (ci := 9) (As := [vR a1, vI 0, vI z18]) (rest := []) dX8_best_26 lkX8_88 rfl ht rfl rfl (vX8_search fu26 (d := 8 + fu26) (Nat.le_refl _) hW8 ht (by decide) r22 hp24) rfl rfl (Nat.le_of_ble_eq_true rfl) (by omega) (ckmV fun F27 A28 hW29 p31 => ?_)
  have h := h F27 A28 p31
  refine r_aload_n dX8_best_29 rfl ?_
  refine r_gRF dX8_best_30 flX8_20_9 rfl ht rfl ?_
  refine r_aload_n dX8_best_33 rfl ?_
  refine r_gRF dX8_best_34 flX8_3_9 rfl ht rfl ?_
  refine r_gRN dX8_best_37 flX8_55_1 hz11 t12 rfl ?_
  obtain ⟨b33, hz34, h⟩ := h
  obtain ⟨t35, h⟩ := h
  obtain ⟨P36, hp37, h⟩ := h
  refine r_invV (ci := 2) (As := []) (rest := [vR (jfn N 2702 o)]) dX8_best_40 lkX8_92 hz34 t35 rfl rfl (vX1_standing (d := 5) (Nat.le_of_ble_eq_true rfl) hW29 t35  hp37) rfl rfl (Nat.le_of_ble_eq_true rfl) (Nat.le_trans (Nat.le_of_ble_eq_true rfl) hd) (jkpI fun z38 p41 r42 => ?_)
  have h := h z38 p41
  refine c_pIN hW29 dX8_best_43 flX8_38_5 hz2 t3 w4 rfl r42 fun F44 eF44 hW43 => ?_
  have h := h F44 eF44
  refine r_aload_n dX8_best_46 rfl ?_
  exact r_aret dX8_best_47 rfl (Or.inl ⟨_, rfl⟩) ⟨_, rfl, rfl, hW43, h, trivial⟩
/-- ChildSays.forty(II)I -/
def wqX0_forty (S : Nat → Nat) (o : Nat) (a1 : Int) (a2 : Int) (N : jSh) (F : jFl) (A : jAr) (Q : Int → jFl → jAr → Prop) : Prop :=
  ∃ (P1 : Int → Prop), wqX0_childOf o a1 N F A P1 ∧
  ∀ z3, P1 z3 →
  ((z3 < 0) →
    Q (-1) F A) ∧
  ((¬ (z3 < 0)) →
    ∃ b9 : Nat, F 311 o = (b9 : Int) ∧
    jtg N b9 = 2 ∧
    ∃ (P12 : Int → Prop), wqX1_standing b9 N F A P12 ∧
    ∀ z14, P12 z14 →
    ∃ (P19 : Int → Prop), wqX0_isIn z14 1 6 N F A P19 ∧
    ∀ z21, P19 z21 →
    ((¬ z21 = 0) →
      ∃ b27 : Nat, jfn N 344 o = (b27 : Int) ∧
      jtg N b27 = 9 ∧
      ∃ (P30 : Int → jFl → jAr → Prop), wqX8_best b27 z3 N F A P30 ∧
      ∀ z32 F33 A34, P30 z32 F33 A34 →
      ∃ b39 : Nat, z32 = (b39 : Int) ∧
      jtg N b39 = 9 ∧
      ∃ (P42 : Int → Prop), wqX8_tells b39 a2 N F33 A34 P42 ∧
      ∀ z44, P42 z44 →
      Q z44 F33 A34) ∧
    ((z21 = 0) →
      Q (-1) F A))
theorem vX0_forty {G : jG} {l : Launch} [jOff l] {d : Nat} {N : jSh} {F : jFl} {A : jAr} {o : Nat} {a1 a2 : Int} {Q : Int → jFl → jAr → Prop} (hd : 70 ≤ d) (hW : jWg G N F A) (ht : jtg N o = 1) (ra1 : jR a1) (ra2 : jR a2) (h : wqX0_forty (gS G) o a1 a2 N F A Q) : jCall G l d mX0_forty [vR (o : Int), vI a1, vI a2] N F A (cmI G N Q) := by
  unfold wqX0_forty at h
  refine jCall.of (by decide) rfl (ls := [vR (o : Int), vI a1, vI a2, jD]) (by simp only [jent_R, jent_I, jent_L, jent_nil]; exact Nat.le_of_ble_eq_true rfl) (by simp only [jloc, jent_R, jent_I, jent_L, jent_nil]; rfl) ?_
  refine r_aload_n dX0_forty_0 rfl ?_
  refine j_iload_n dX0_forty_1 rfl ?_
  obtain ⟨P1, hp2, h⟩ := h
  refine r_invV (ci := 1) (As := [vI a1]) (rest := []) dX0_forty_2 lkX0_273 rfl ht rfl rfl (vX0_childOf (d := 5) (Nat.le_of_ble_eq_true rfl) hW ht ra1 hp2) rfl rfl (Nat.le_of_ble_eq_true rfl) (Nat.le_trans (Nat.le_of_ble_eq_true rfl) hd) (jkpR fun z3 p6 r7 => ?_)
  have h := h z3 p6
  refine r_astore_n dX0_forty_5 rfl ?_
  refine r_aload_n dX0_forty_6 rfl ?_
  obtain ⟨h1, h2⟩ := h
  refine r_ifnull 28 dX0_forty_7 rfl (fun q8 => ?_) (fun q8 => ?_)
  · have h := h1 q8
    clear h1 h2
    refine j_iconst dX0_forty_28 ?_
    refine j_goto 44 dX0_forty_29 rfl ?_
    exact j_iret dX0_forty_44 rfl ⟨_, rfl, rfl, hW, h, (by decide)⟩
  · have h := h2 q8
    clear h1 h2
    refine r_aload_n dX0_forty_10 rfl ?_
    refine r_gR dX0_forty_11 flX0_20_1 rfl ht rfl ?_
    obtain ⟨b9, hz10, h⟩ := h
    obtain ⟨t11, h⟩ := h
    obtain ⟨P12, hp13, h⟩ := h
    refine r_invV (ci := 2) (As := []) (rest := []) dX0_forty_14 lkX0_209 hz10 t11 rfl rfl (vX1_standing (d := 5) (Nat.le_of_ble_eq_true rfl) hW t11  hp13) rfl rfl (Nat.le_of_ble_eq_true rfl) (Nat.le_trans (Nat.le_of_ble_eq_true rfl) hd) (jkpI fun z14 p17 r18 => ?_)
    have h := h z14 p17
    refine j_i2l dX0_forty_17 r18 ?_
    refine j_lconst 1 rfl dX0_forty_18 ?_
    refine j_ldc2 (n := 6) dX0_forty_19 q1682 ?_
    obtain ⟨P19, hp20, h⟩ := h
    refine r_invS (As := [vL z14, vL 1, vL 6]) (rest := []) dX0_forty_22 lkX0_124 (vX0_isIn (d := 2) (Nat.le_of_ble_eq_true rfl) hW (jR_L r18) (by decide) (by decide) hp20) rfl rfl (Nat.le_of_ble_eq_true rfl) (Nat.le_trans (Nat.le_of_ble_eq_true rfl) hd) (jkpB fun z21 p24 r25 => ?_)
    have h := h z21 p24
    obtain ⟨h1, h2⟩ := h
    refine j_if_ne 32 dX0_forty_25 rfl (jR_b r25) (fun q26 => ?_) (fun q26 => ?_)
    · have h := h1 q26
      clear h1 h2
      refine r_aload_n dX0_forty_32 rfl ?_
      refine r_gRF dX0_forty_33 flX0_79_1 rfl ht rfl ?_
      refine r_aload_n dX0_forty_36 rfl ?_
      obtain ⟨b27, hz28, h⟩ := h
      obtain ⟨t29, h⟩ := h
      obtain ⟨P30, hp31, h⟩ := h
      refine r_invV (ci := 9) (As := [vR z3]) (rest := []) dX0_forty_37 lkX0_475 hz28 t29 rfl rfl (vX8_best (d := 69) (Nat.le_of_ble_eq_true rfl) hW t29  hp31) rfl rfl (Nat.le_of_ble_eq_true rfl) (Nat.le_trans (Nat.le_of_ble_eq_true rfl) hd) (ckmR fun z32 F33 A34 hW35 p37 r38 => ?_)
      have h := h z32 F33 A34 p37
      refine j_iload_n dX0_forty_40 rfl ?_
      obtain ⟨b39, hz40, h⟩ := h
      obtain ⟨t41, h⟩ := h
      obtain ⟨P42, hp43, h⟩ := h
      refine r_invV (ci := 9) (As := [vI a2]) (rest := []) dX0_forty_41 lkX0_479 hz40 t41 rfl rfl (vX8_tells (d := 3) (Nat.le_of_ble_eq_true rfl) hW35 t41 ra2 hp43) rfl rfl (Nat.le_of_ble_eq_true rfl) (Nat.le_trans (Nat.le_of_ble_eq_true rfl) hd) (jkpI fun z44 p47 r48 => ?_)
      have h := h z44 p47
      exact j_iret dX0_forty_44 rfl ⟨_, rfl, rfl, hW35, h, r48⟩
    · have h := h2 (Classical.not_not.mp q26)
      clear h1 h2
      refine j_iconst dX0_forty_28 ?_
      refine j_goto 44 dX0_forty_29 rfl ?_
      exact j_iret dX0_forty_44 rfl ⟨_, rfl, rfl, hW, h, (by decide)⟩
