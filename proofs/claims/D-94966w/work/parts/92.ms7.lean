set_option maxRecDepth 100000
set_option linter.unusedVariables false
/-! the model's answers; printed by gen/prove.py out of spec/92.ms7.spec -/
theorem sX9_order {o : Nat} {a1 : Int} {F : jFl} {A : jAr} {W L : sTb} (h : mct o F A 0 W L) : wpX9_order o a1 F A (fun z => z = rOrder W L a1) := by
  unfold wpX9_order
  obtain ⟨⟨hk, hLk⟩, hW, hL, hh, hv⟩ := h
  have w3 := hk.2.2.2.1
  have g : 0 ≤ a1 ∧ a1 < W 3 0 0 → A (o + 29) a1 = L 1 a1 0 := fun q => by have := hL.2.1 a1 q.1 q.2; rw [show 12 * 0 + a1 = a1 by omega] at this; exact this
  refine ⟨_, sX9_isLaw hW, ?_⟩ -- call wpX9_isLaw o a1 F A P1
  intro z3 p1
  refine ⟨fun hc => ?_, fun hc => ?_⟩ -- c1
  · -- case (z3 = 0)
    -- l1: Q (-1)
    grind [rOrder]
  · -- case ¬ (z3 = 0)
    refine ⟨by grind, ?_⟩ -- s1: (0 ≤ a1 ∧ a1 < 264)
    -- l2: Q (A (o + 29) a1)
    grind [rOrder]

theorem sX9_alike {o : Nat} {a1 : Int} {a2 : Int} {F : jFl} {A : jAr} {W L : sTb} (h : mct o F A 0 W L) : wpX9_alike o a1 a2 F A (fun z => z = rAlike W a1 a2) := by
  unfold wpX9_alike
  obtain ⟨⟨hk, hLk⟩, hW, hL, hh, hv⟩ := h
  refine ⟨_, sX9_isWordOf hW, ?_⟩ -- call wpX9_isWordOf o a1 F A P1
  intro z3 p1
  refine ⟨fun hc => ?_, fun hc => ?_⟩ -- c1
  · -- case (z3 = 0)
    -- l1: Q (-1)
    grind [rAlike]
  · -- case ¬ (z3 = 0)
    refine ⟨_, sX9_isWordOf hW, ?_⟩ -- call wpX9_isWordOf o a2 F A P7
    intro z9 p7
    refine ⟨fun hc => ?_, fun hc => ?_⟩ -- c2
    · -- case (z9 = 0)
      -- l2: Q (-1)
      grind [rAlike]
    · -- case ¬ (z9 = 0)
      refine ⟨_, sX9_likes hW hk (by grind) (by grind), ?_⟩ -- call wpX9_likes o a1 a2 F A P13
      intro z15 p13
      -- l3: Q z15
      grind [rAlike]

theorem sX9_hears {o : Nat} {a1 : Int} {a2 : Int} {a3 : Int} {F : jFl} {A : jAr} {W L : sTb} (h : mct o F A 0 W L) : wpX9_hears o a1 a2 a3 F A (fun z => z = rHears W a1 a2 a3) := by
  unfold wpX9_hears
  obtain ⟨⟨hk, hLk⟩, hW, hL, hh, hv⟩ := h
  refine ⟨_, sX9_isChild hW, ?_⟩ -- call wpX9_isChild o a1 F A P1
  intro z3 p1
  refine ⟨fun hc => ?_, fun hc => ?_⟩ -- c1
  · -- case (z3 = 0)
    -- l1: Q (-1)
    grind [rHears]
  · -- case ¬ (z3 = 0)
    refine ⟨_, sX9_isWordOf hW, ?_⟩ -- call wpX9_isWordOf o a2 F A P7
    intro z9 p7
    refine ⟨fun hc => ?_, fun hc => ?_⟩ -- c2
    · -- case (¬ z9 = 0)
      refine ⟨fun hc => ?_, fun hc => ?_⟩ -- c3
      · -- case (a3 = 0)
        refine ⟨_, sX9_heardBy hW hk (by grind) (by grind), ?_⟩ -- call wpX9_heardBy o a1 a2 F A P14
        intro z16 p14
        -- l2: Q z16
        grind [rHears]
      · -- case ¬ (a3 = 0)
        refine ⟨_, sX9_saidBy hW hk (by grind) (by grind), ?_⟩ -- call wpX9_saidBy o a1 a2 F A P19
        intro z21 p19
        -- l3: Q z21
        grind [rHears]
    · -- case ¬ (¬ z9 = 0)
      -- l4: Q (-1)
      grind [rHears]

theorem sX9_status {o : Nat} {a1 : Int} {F : jFl} {A : jAr} {R : Int} {Q : sMi} (h : mMi R o F A Q) : wpX9_status o a1 F A (fun z => z = rStatus Q a1) := by
  unfold wpX9_status
  have g := fun q0 q1 => h.2.2.1 a1 q0 q1
  refine ⟨_, sX9_is, ?_⟩ -- call wpX9_is o a1 0 5 F A P1
  intro z3 p1
  refine ⟨fun hc => ?_, fun hc => ?_⟩ -- c1
  · -- case (z3 = 0)
    -- l1: Q (-1)
    grind [rStatus]
  · -- case ¬ (z3 = 0)
    refine ⟨by grind, ?_⟩ -- s1: (0 ≤ a1 ∧ a1 < 6)
    -- l2: Q (A (o + 27) a1)
    grind [rStatus]

theorem sX9_fault {o : Nat} {a1 : Int} {F : jFl} {A : jAr} {R : Int} {Q : sMi} (h : mMi R o F A Q) : wpX9_fault o a1 F A (fun z => z = rFault Q a1) := by
  unfold wpX9_fault
  have g := h.2.2.2.1
  refine ⟨fun hc => ?_, fun hc => ?_⟩ -- c1
  · -- case (¬ a1 = 0)
    refine ⟨fun hc => ?_, fun hc => ?_⟩ -- c2
    · -- case (¬ a1 = 1)
      -- l1: Q (-1)
      grind [rFault]
    · -- case ¬ (¬ a1 = 1)
      -- l2: Q (F 3033 o)
      grind [rFault]
  · -- case ¬ (¬ a1 = 0)
    -- l3: Q (F 3030 o)
    grind [rFault]

theorem sX9_has {o : Nat} {a1 : Int} {F : jFl} {A : jAr} {R : Int} {W L : sTb} {B : sBk} {U : sUn} {Q : sMi} (h : mst R o F A W L B U Q) : wpX9_has o a1 F A (fun z => z = rHas W L B U Q a1) := by
  unfold wpX9_has
  have h0 := h
  obtain ⟨⟨⟨⟨hk, hLk⟩, hW, hL, hh, hv⟩, h9⟩, hB, hU, hM⟩ := h
  have g1 := hW.2.1
  have g2 := hW.2.2.1
  have g3 := hL.1
  have g4 := hB.1
  have g5 := hU.2.1
  have g6 := hM.2.2.2.2.1
  have hb := hW.1
  refine ⟨?_, ?_, ?_, ?_, ?_, ?_, ?_, ?_, ?_, ?_, ?_, ?_, ?_⟩ -- c1
  · intro hc -- case a1 = 0
    refine ⟨by omega, ?_⟩ -- s1: (0 ≤ F 3039 o ∧ F 3039 o < 2)
    -- l1: Q (A (o + 2) (F 3039 o))
    subst hc; simp [rHas]; grind
  · intro hc -- case a1 = 1
    refine ⟨by omega, ?_⟩ -- s2: (0 ≤ F 3039 o ∧ F 3039 o < 2)
    -- l2: Q (A (o + 9) (F 3039 o))
    subst hc; simp [rHas]; grind
  · intro hc -- case a1 = 2
    refine ⟨by omega, ?_⟩ -- s3: (0 ≤ F 3039 o ∧ F 3039 o < 2)
    -- l3: Q (A (o + 12) (F 3039 o))
    subst hc; simp [rHas]; grind
  · intro hc -- case a1 = 3
    refine ⟨by omega, ?_⟩ -- s4: (0 ≤ F 3039 o ∧ F 3039 o < 2)
    -- l4: Q (A (o + 17) (F 3039 o))
    subst hc; simp [rHas]; grind
  · intro hc -- case a1 = 4
    refine ⟨_, sX9_standing h0.1.1, ?_⟩ -- call wpX9_standing o 0 F A P5
    intro z7 p5
    -- l5: Q z7
    subst hc; simp [rHas]; grind
  · intro hc -- case a1 = 5
    refine ⟨by omega, ?_⟩ -- s5: (0 ≤ F 3039 o ∧ F 3039 o < 2)
    -- l6: Q (A (o + 23) (F 3039 o))
    subst hc; simp [rHas]; grind
  · intro hc -- case a1 = 6
    refine ⟨by omega, ?_⟩ -- s6: (0 ≤ F 3039 o ∧ F 3039 o < 2)
    -- l7: Q (A (o + 24) (F 3039 o))
    subst hc; simp [rHas]; grind
  · intro hc -- case a1 = 7
    refine ⟨by omega, ?_⟩ -- s7: (0 ≤ F 3039 o ∧ F 3039 o < 2)
    -- l8: Q (A (o + 25) (F 3039 o))
    subst hc; simp [rHas]; grind
  · intro hc -- case a1 = 8
    -- l9: Q (A (o + 28) 0)
    subst hc; simp [rHas]; grind
  · intro hc -- case a1 = 9
    -- l10: Q (A (o + 34) 0)
    subst hc; simp [rHas]; grind
  · intro hc -- case a1 = 10
    -- l11: Q (F 3156 o)
    subst hc; simp [rHas]; grind
  · intro hc -- case a1 = 11
    refine ⟨by omega, ?_⟩ -- s8: jR (F 3160 o)
    -- l12: Q (F 3160 o)
    subst hc; simp [rHas]; grind
  · intro hc1 hc2 hc3 hc4 hc5 hc6 hc7 hc8 hc9 hc10 hc11 hc12 -- case ¬ a1 = 0 ¬ a1 = 1 ¬ a1 = 2 ¬ a1 = 3 ¬ a1 = 4 ¬ a1 = 5 ¬ a1 = 6 ¬ a1 = 7 ¬ a1 = 8 ¬ a1 = 9 ¬ a1 = 10 ¬ a1 = 11
    -- l13: Q (-1)
    simp [rHas, *]

theorem sX9_book {o : Nat} {a1 : Int} {a2 : Int} {F : jFl} {A : jAr} {B : sBk} (h : mrB o A 0 B) : wpX9_book o a1 a2 F A (fun z => z = rBook B a1 a2) := by
  unfold wpX9_book
  obtain ⟨b1, b2, b3⟩ := h
  rw [b1]
  refine ⟨by omega, ?_⟩ -- s1: jR ((A (o + 34) 0) - 1)
  refine ⟨_, sX9_is, ?_⟩ -- call wpX9_is o a1 0 ((A (o + 34) 0) - 1) F A P3
  intro z5 p3
  refine ⟨fun hc => ?_, fun hc => ?_⟩ -- c1
  · -- case (z5 = 0)
    -- l1: Q (-1)
    grind [rBook]
  · -- case ¬ (z5 = 0)
    refine ⟨_, sX9_is, ?_⟩ -- call wpX9_is o a2 0 3 F A P9
    intro z11 p9
    refine ⟨fun hc => ?_, fun hc => ?_⟩ -- c2
    · -- case (z11 = 0)
      -- l2: Q (-1)
      grind [rBook]
    · -- case ¬ (z11 = 0)
      refine ⟨by grind, ?_⟩ -- s2: (0 ≤ (4 * a1) + a2 ∧ (4 * a1) + a2 < 8800)
      -- l3: Q (A (o + 35) ((4 * a1) + a2))
      (have q : (0 ≤ a1 ∧ a1 < B.1) ∧ 0 ≤ a2 ∧ a2 ≤ 3 := by grind); (have := b3 a1 a2 q.1.1 q.1.2 q.2.1 (by omega)); rw [show 400 * 0 + 4 * a1 + a2 = 4 * a1 + a2 by omega] at this; grind [rBook]

theorem sX9_hasWord {o : Nat} {a1 : Int} {a2 : Int} {F : jFl} {A : jAr} {W L : sTb} (h : mct o F A 0 W L) (h1 : 0 ≤ a1 ∧ a1 < W 3 0 0) : wpX9_hasWord o a1 a2 F A (fun z => z = cif (sHas (sRw L a1) a2) 1 0) := by
  unfold wpX9_hasWord
  obtain ⟨⟨hk, hLk⟩, hW, hL, hh, hv⟩ := h
  have w3 := hk.2.2.2.1
  have gk := hLk.2.2.2.1 a1 h1.1 h1.2
  obtain ⟨g1, g2, g3, g4⟩ := hL.2.2 a1 h1.1 h1.2
  rw [show 12 * 0 + a1 = a1 by omega] at g1 g2 g4
  have eR : (sRw L a1).1 = L 2 a1 0 ∧ (sRw L a1).2.1 = L 3 a1 0 ∧ ∀ k, (sRw L a1).2.2 k = L 5 a1 k := ⟨rfl, rfl, fun _ => rfl⟩
  refine ⟨fun (v1 : Int) => (0 ≤ v1 ∧ v1 ≤ L 2 a1 0 + L 3 a1 0) ∧ ∀ k : Int, 0 ≤ k → k < v1 → L 5 a1 k ≠ a2, fun v1 => (L 2 a1 0 + L 3 a1 0 - v1).toNat, ?_, ?_⟩ -- loop I2 I2 0
  ·
    -- l1: I2 0
    exact ⟨by omega, fun k k0 k1 => by omega⟩
  intro v1 i2
  obtain ⟨i1, i2⟩ := i2
  rw [g1, g2]
  refine ⟨by omega, ?_⟩ -- s1: (0 ≤ a1 ∧ a1 < 264)
  refine ⟨by omega, ?_⟩ -- s2: (0 ≤ a1 ∧ a1 < 264)
  refine ⟨by omega, ?_⟩ -- s3: jR ((A (o + 30) a1) + (A (o + 31) a1))
  refine ⟨fun hc => ?_, fun hc => ?_⟩ -- c1
  · -- case (((A (o + 30) a1) + (A (o + 31) a1)) ≤ v1)
    -- l2: Q 0
    refine (cif_neg ?_).symm
    rintro ⟨k, k0, k1, k2⟩
    exact i2 k k0 (by rw [eR.1, eR.2.1] at k1; omega) k2
  · -- case ¬ (((A (o + 30) a1) + (A (o + 31) a1)) ≤ v1)
    refine ⟨by omega, ?_⟩ -- s4: (0 ≤ (12 * a1) + v1 ∧ (12 * a1) + v1 < 3168)
    rw [g4 v1 (by omega) (by omega)]
    refine ⟨fun hc => ?_, fun hc => ?_⟩ -- c2
    · -- case (¬ (A (o + 33) ((12 * a1) + v1)) = a2)
      refine ⟨by omega, ?_⟩ -- s5: jR (v1 + 1)
      refine ⟨?_, ?_⟩ -- l3: I2 (v1 + 1)
      · refine ⟨by omega, fun k k0 k1 => ?_⟩
        by_cases w : k = v1
        · rw [w]; exact hc
        · exact i2 k k0 (by omega)
      · dsimp only; omega
    · -- case ¬ (¬ (A (o + 33) ((12 * a1) + v1)) = a2)
      -- l4: Q 1
      exact (cif_pos ⟨v1, by omega, by rw [eR.1, eR.2.1]; omega, by rw [eR.2.2]; omega⟩).symm

theorem sX9_word {o : Nat} {a1 : Int} {a2 : Int} {F : jFl} {A : jAr} {W L : sTb} (h : mct o F A 0 W L) : wpX9_word o a1 a2 F A (fun z => z = rWord W L a1 a2) := by
  unfold wpX9_word
  have h0 := h
  obtain ⟨⟨hk, hLk⟩, hW, hL, hh, hv⟩ := h
  have w0 := hk.1
  have w3 := hk.2.2.2.1
  have hb := hW.1
  have g3 := hW.2.1.2.2.2
  have gw : 0 ≤ a1 ∧ a1 < W 0 0 0 → A (o + 4) (24 * F 3039 o + a1) = W 11 a1 0 ∧ A (o + 5) (24 * F 3039 o + a1) = W 12 a1 0 ∧ A (o + 6) (24 * F 3039 o + a1) = W 13 a1 0 ∧ A (o + 7) (24 * F 3039 o + a1) = W 14 a1 0 ∧ A (o + 8) (24 * F 3039 o + a1) = W 15 a1 0 := fun q => (hW.2.2.2.1 a1 q.1 q.2).2
  refine ⟨_, sX9_isWordOf hW, ?_⟩ -- call wpX9_isWordOf o a1 F A P1
  intro z3 p1
  refine ⟨fun hc => ?_, fun hc => ?_⟩ -- c1
  · -- case (¬ z3 = 0)
    refine ⟨by grind, ?_⟩ -- s1: jR ((24 * (F 3039 o)) + a1)
    intro v8 e8
    have hv1 : 0 ≤ a1 ∧ a1 < W 0 0 0 := by grind
    refine ⟨?_, ?_, ?_, ?_, ?_, ?_, ?_⟩ -- c2
    · intro hc -- case a2 = 0
      refine ⟨by grind, ?_⟩ -- s2: (0 ≤ v8 ∧ v8 < 48)
      -- l1: Q (A (o + 4) v8)
      grind [rWord]
    · intro hc -- case a2 = 1
      refine ⟨by grind, ?_⟩ -- s3: (0 ≤ v8 ∧ v8 < 48)
      -- l2: Q (A (o + 5) v8)
      grind [rWord]
    · intro hc -- case a2 = 2
      refine ⟨by grind, ?_⟩ -- s4: (0 ≤ v8 ∧ v8 < 48)
      -- l3: Q (A (o + 6) v8)
      grind [rWord]
    · intro hc -- case a2 = 3
      refine ⟨by grind, ?_⟩ -- s5: (0 ≤ v8 ∧ v8 < 48)
      -- l4: Q (A (o + 7) v8)
      grind [rWord]
    · intro hc -- case a2 = 4
      refine ⟨by grind, ?_⟩ -- s6: (0 ≤ v8 ∧ v8 < 48)
      -- l5: Q (A (o + 8) v8)
      grind [rWord]
    · intro hc -- case a2 = 5
      refine ⟨fun (v14 : Int) (v15 : Int) => (0 ≤ v15 ∧ v15 ≤ W 3 0 0) ∧ v14 = sHasN L v15 a1 ∧ 0 ≤ v14 ∧ v14 ≤ v15, fun v14 v15 => (W 3 0 0 - v15).toNat, ?_, ?_⟩ -- loop I16 I16 0 0
      ·
        -- l6: I16 0 0
        exact ⟨by omega, rfl, by omega, by omega⟩
      intro v14 v15 i16
      obtain ⟨i1, i2, i3, i4⟩ := i16
      have st : sHasN L (v15 + 1) a1 = cif (sHas (sRw L v15) a1) (sHasN L v15 a1 + 1) (sHasN L v15 a1) := it_succ _ _ i1.1
      rw [g3]
      refine ⟨by grind, ?_⟩ -- s7: (0 ≤ F 3039 o ∧ F 3039 o < 2)
      refine ⟨fun hc => ?_, fun hc => ?_⟩ -- c3
      · -- case ((A (o + 17) (F 3039 o)) ≤ v15)
        -- l7: Q v14
        grind [rWord]
      · -- case ¬ ((A (o + 17) (F 3039 o)) ≤ v15)
        refine ⟨_, sX9_stands (L := L) hL (by omega) (by omega) hk, ?_⟩ -- call wpX9_stands o 0 v15 F A P20
        intro z22 p20
        refine ⟨fun hc => ?_, fun hc => ?_⟩ -- c4
        · -- case (z22 = 0)
          refine ⟨by grind, ?_⟩ -- s8: jR (v14 + 0)
          intro v27 e27
          refine ⟨by grind, ?_⟩ -- s9: jR (v15 + 1)
          refine ⟨?_, ?_⟩ -- l8: I16 v27 (v15 + 1)
          · have q : ¬ sHas (sRw L v15) a1 := by
              rintro ⟨k, k0, k1, k2⟩
              have e1 : (sRw L v15).1 = L 2 v15 0 := rfl
              have e2 : (sRw L v15).2.1 = L 3 v15 0 := rfl
              have gk := hLk.2.2.2.1 v15 (by omega) (by omega)
              have : ¬ 0 < L 2 v15 0 := by grind
              have := gk.2.2.1 (by omega)
              omega
            rw [cif_neg q] at st
            refine ⟨by omega, by rw [st]; omega, by omega, by omega⟩
          · dsimp only; omega
        · -- case ¬ (z22 = 0)
          refine ⟨_, sX9_hasWord h0 (by omega), ?_⟩ -- call wpX9_hasWord o v15 a1 F A P29
          intro z31 p29
          intro z35 e35
          refine ⟨by grind, ?_⟩ -- s10: jR (v14 + z35)
          intro v38 e38
          refine ⟨by grind, ?_⟩ -- s11: jR (v15 + 1)
          refine ⟨?_, ?_⟩ -- l9: I16 v38 (v15 + 1)
          · by_cases q : sHas (sRw L v15) a1
            · rw [cif_pos q] at st p29
              refine ⟨by omega, ?_, ?_, ?_⟩ <;> grind
            · rw [cif_neg q] at st p29
              refine ⟨by omega, ?_, ?_, ?_⟩ <;> grind
          · dsimp only; omega
    · intro hc1 hc2 hc3 hc4 hc5 hc6 -- case ¬ a2 = 0 ¬ a2 = 1 ¬ a2 = 2 ¬ a2 = 3 ¬ a2 = 4 ¬ a2 = 5
      -- l10: Q (-1)
      grind [rWord]
  · -- case ¬ (¬ z3 = 0)
    -- l11: Q (-1)
    grind [rWord]

