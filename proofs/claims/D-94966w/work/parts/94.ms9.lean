set_option maxRecDepth 100000
set_option linter.unusedVariables false
/-! the model: meaning, law, child, odds; printed by gen/prove.py out of spec/94.ms9.spec -/
theorem sX9_saysAsTold {o : Nat} {F : jFl} {A : jAr} {R : sRow} {nw : Int} (hR : sRok nw R) (h1 : F 3165 o = R.1) (h2 : F 3168 o = R.2.1) (h3 : ∀ k : Int, 0 ≤ k → k < R.1 + R.2.1 → A (o + 36) k = R.2.2 k) : wpX9_saysAsTold o F A (fun F' A' => (F' 3177 o = R.1 ∧ F' 3180 o = R.2.1 ∧ ∀ k : Int, 0 ≤ k → k < R.1 + R.2.1 → A' (o + 37) k = R.2.2 k) ∧ mfr o F A F' A') := by
  unfold wpX9_saysAsTold
  obtain ⟨j1, j2, j3⟩ := hR
  intro F1 e1
  intro F3 e3
  have f1 : F3 3165 o = R.1 := by rw [e3, e1, upF_f (by decide), upF_f (by decide)]; exact h1
  have f2 : F3 3168 o = R.2.1 := by rw [e3, e1, upF_f (by decide), upF_f (by decide)]; exact h2
  have f3 : F3 3177 o = R.1 := by rw [e3, e1, upF_f (by decide), upF_s]; exact h1
  have f4 : F3 3180 o = R.2.1 := by rw [e3, upF_s, e1, upF_f (by decide)]; exact h2
  have ff : ∀ f b, (b = o → f ≠ 3177 ∧ f ≠ 3180) → F3 f b = F f b := fun f b hb => by
    rw [e3, e1]
    unfold upF
    grind
  rw [f1, f2]
  refine ⟨fun (v5 : Int) (A6 : jAr) => (0 ≤ v5 ∧ v5 ≤ R.1 + R.2.1) ∧ (∀ k : Int, 0 ≤ k → k < v5 → A6 (o + 37) k = R.2.2 k) ∧ ∀ b, b ≠ o + 37 → A6 b = A b, fun v5 A6 => (R.1 + R.2.1 - v5).toNat, ?_, ?_⟩ -- loop I8 I8 0 A
  ·
    -- l1: I8 0 A
    exact ⟨by omega, fun k k0 k1 => by omega, fun _ _ => rfl⟩
  intro v5 A6 i8
  obtain ⟨i1, i2, i3⟩ := i8
  refine ⟨by omega, ?_⟩ -- s1: jR ((F3 3165 o) + (F3 3168 o))
  refine ⟨fun hc => ?_, fun hc => ?_⟩ -- c1
  · -- case (((F3 3165 o) + (F3 3168 o)) ≤ v5)
    -- l2: Q F3 A6
    exact ⟨⟨f3, f4, fun k k0 k1 => i2 k k0 (by omega)⟩, ⟨fun f b hb => ff f b (fun w => by have := hb w; omega), fun b hb => i3 b (by omega)⟩⟩
  · -- case ¬ (((F3 3165 o) + (F3 3168 o)) ≤ v5)
    refine ⟨by omega, ?_⟩ -- s2: (0 ≤ v5 ∧ v5 < 12)
    refine ⟨by omega, ?_⟩ -- s3: (0 ≤ v5 ∧ v5 < 12)
    intro A14 e14
    refine ⟨by omega, ?_⟩ -- s4: jR (v5 + 1)
    refine ⟨?_, ?_⟩ -- l3: I8 (v5 + 1) A14
    · refine ⟨by omega, fun k k0 k1 => ?_, fun b hb => by rw [e14, upA_o hb]; exact i3 b hb⟩
      by_cases w : k = v5
      · rw [e14, w, upA_s, i3 _ (by omega)]; exact h3 v5 (by omega) (by omega)
      · rw [e14, upA_i (by omega)]; exact i2 k k0 (by omega)
    · dsimp only; omega

theorem sX9_saidMeans {o : Nat} {F : jFl} {A : jAr} {R : sRow} {W : sTb} (hk : sWok W) (hW : mrW o F A W) (hR : sRok (W 0 0 0) R) (h1 : F 3177 o = R.1) (h2 : F 3180 o = R.2.1) (h3 : ∀ k : Int, 0 ≤ k → k < R.1 + R.2.1 → A (o + 37) k = R.2.2 k) : wpX9_saidMeans o F A (fun z => z = sMeaning W R) := by
  unfold wpX9_saidMeans
  obtain ⟨j1, j2, j3⟩ := hR
  have w0 := hk.1
  have hb := hW.1
  rw [h1, h2]
  have gw : ∀ k : Int, 0 ≤ k → k < R.1 + R.2.1 → A (o + 7) (24 * F 3039 o + A (o + 37) k) = W 14 (R.2.2 k) 0 ∧ (0 ≤ A (o + 37) k ∧ A (o + 37) k < 24) ∧ (0 ≤ W 14 (R.2.2 k) 0 ∧ W 14 (R.2.2 k) 0 ≤ 99) := fun k k0 k1 => by
    have g1 := j3 k k0 k1
    rw [h3 k k0 k1]
    exact ⟨(hW.2.2.2.1 _ g1.1 g1.2).2.2.2.2.1, by omega, (hk.2.2.2.2.2.2.2.1 _ g1.1 g1.2).2.2.2.1⟩
  refine ⟨fun (v1 : Int) (v2 : Int) (v3 : Int) => (0 ≤ v3 ∧ v3 ≤ R.1) ∧ (v1 = sSumW W R.2.2 v3.toNat ∧ 0 ≤ v1 ∧ v1 ≤ 99 * v3) ∧ v2 = it (fun k n => if W 15 (R.2.2 k) 0 = 0 then n else n + 1) 0 v3.toNat ∧ 0 ≤ v2 ∧ v2 ≤ v3, fun v1 v2 v3 => (R.1 - v3).toNat, ?_, ?_⟩ -- loop I4 I4 0 0 0
  ·
    -- l1: I4 0 0 0
    exact ⟨by omega, ⟨rfl, by omega, by omega⟩, rfl, by omega, by omega⟩
  intro v1 v2 v3 i4
  obtain ⟨i1, i2, i3, i4⟩ := i4
  have gv := fun q => gw v3 i1.1 q
  refine ⟨fun hc => ?_, fun hc => ?_⟩ -- c1
  · -- case ((F 3177 o) ≤ v3)
    refine ⟨by omega, ?_⟩ -- s1: (((0 : Int) ≤ v2 ∧ (v2 : Int) ≤ 2147483647) ∧ ((0 : Int) < 2 ∧ (2 : Int) ≤ 2147483647))
    refine ⟨by omega, ?_⟩ -- s2: jR (v2 % 2)
    refine ⟨fun (v10 : Int) => v10 = (if sNevers W R % 2 = 1 then - sSumW W R.2.2 R.1.toNat else sSumW W R.2.2 R.1.toNat) ∧ -792 ≤ v10 ∧ v10 ≤ 792, ?_, ?_⟩ -- join K11
    · intro v10 k11
      obtain ⟨k1, k2, k3⟩ := k11
      refine ⟨fun (v14 : Int) (v15 : Int) => (0 ≤ v15 ∧ v15 ≤ R.2.1) ∧ v14 = v10 - sSumW W (fun k => R.2.2 (R.1 + k)) v15.toNat ∧ -792 - 99 * v15 ≤ v14 ∧ v14 ≤ 792, fun v14 v15 => (R.2.1 - v15).toNat, ?_, ?_⟩ -- loop I16 I16 v10 0
      ·
        -- l2: I16 v10 0
        refine ⟨by omega, ?_, by omega, by omega⟩
        show v10 = v10 - 0
        omega
      intro v14 v15 i16
      obtain ⟨y1, y2, y3, y4⟩ := i16
      refine ⟨fun hc => ?_, fun hc => ?_⟩ -- c2
      · -- case ((F 3180 o) ≤ v15)
        -- l3: Q v14
        have e : v15 = R.2.1 := by omega
        rw [y2, e, k1]
        rfl
      · -- case ¬ ((F 3180 o) ≤ v15)
        have gx := gw (R.1 + v15) (by omega) (by omega)
        refine ⟨by omega, ?_⟩ -- s3: (0 ≤ (F 3177 o) + v15 ∧ (F 3177 o) + v15 < 12)
        refine ⟨by omega, ?_⟩ -- s4: (0 ≤ (24 * (F 3039 o)) + (A (o + 37) ((F 3177 o) + v15)) ∧ (24 * (F 3039 o)) + (A (o + 37) ((F 3177 o) + v15)) < 48)
        refine ⟨by (rw [gx.1]; omega), ?_⟩ -- s5: jR (v14 - (A (o + 7) ((24 * (F 3039 o)) + (A (o + 37) ((F 3177 o) + v15)))))
        intro v22 e22
        refine ⟨by omega, ?_⟩ -- s6: jR (v15 + 1)
        refine ⟨?_, ?_⟩ -- l4: I16 v22 (v15 + 1)
        · have st : sSumW W (fun k => R.2.2 (R.1 + k)) (v15 + 1).toNat = sSumW W (fun k => R.2.2 (R.1 + k)) v15.toNat + W 14 (R.2.2 (R.1 + v15)) 0 := it_succ _ _ y1.1
          rw [gx.1] at e22
          refine ⟨by omega, by rw [st]; omega, by omega, by omega⟩
        · dsimp only; omega
    refine ⟨fun hc => ?_, fun hc => ?_⟩ -- c3
    · -- case (¬ (v2 % 2) = 1)
      -- l5: K11 v1
      have e : v3 = R.1 := by omega
      rw [e] at i2 i3
      refine ⟨?_, by omega, by omega⟩
      rw [if_neg (by rw [show sNevers W R = v2 from i3.symm]; omega)]
      exact i2.1
    · -- case ¬ (¬ (v2 % 2) = 1)
      refine ⟨by omega, ?_⟩ -- s7: jR (-v1)
      intro v25 e25
      -- l6: K11 v25
      have e : v3 = R.1 := by omega
      rw [e] at i2 i3
      refine ⟨?_, by omega, by omega⟩
      rw [if_pos (by rw [show sNevers W R = v2 from i3.symm]; omega), e25, i2.1]
  · -- case ¬ ((F 3177 o) ≤ v3)
    have gx := gw v3 (by omega) (by omega)
    refine ⟨by omega, ?_⟩ -- s8: (0 ≤ v3 ∧ v3 < 12)
    refine ⟨by omega, ?_⟩ -- s9: (0 ≤ (24 * (F 3039 o)) + (A (o + 37) v3) ∧ (24 * (F 3039 o)) + (A (o + 37) v3) < 48)
    refine ⟨by (rw [gx.1]; omega), ?_⟩ -- s10: jR (v1 + (A (o + 7) ((24 * (F 3039 o)) + (A (o + 37) v3))))
    intro v29 e29
    refine ⟨by omega, ?_⟩ -- s11: (0 ≤ v3 ∧ v3 < 12)
    refine ⟨_, sX9_isNever hW hk (by rw [h3 v3 (by omega) (by omega)]; exact j3 v3 (by omega) (by omega)), ?_⟩ -- call wpX9_isNever o (A (o + 37) v3) F A P31
    intro z33 p31
    intro z37 e37
    have ez : z37 = (if W 15 (R.2.2 v3) 0 = 0 then 0 else 1) := by
      rw [e37, p31, h3 v3 (by omega) (by omega)]
      by_cases w : W 15 (R.2.2 v3) 0 = 0 <;> simp [w]
    have ez2 : 0 ≤ z37 ∧ z37 ≤ 1 := by rw [ez]; split <;> omega
    refine ⟨by omega, ?_⟩ -- s12: jR (v2 + z37)
    intro v40 e40
    refine ⟨by omega, ?_⟩ -- s13: jR (v3 + 1)
    refine ⟨?_, ?_⟩ -- l7: I4 v29 v40 (v3 + 1)
    · have st : sSumW W R.2.2 (v3 + 1).toNat = sSumW W R.2.2 v3.toNat + W 14 (R.2.2 v3) 0 := it_succ _ _ i1.1
      rw [gx.1] at e29
      refine ⟨by omega, ⟨by rw [st]; omega, by omega, by omega⟩, ?_, by omega, by omega⟩
      rw [it_succ _ _ i1.1, ← i3, e40, ez]
      by_cases w : W 15 (R.2.2 v3) 0 = 0 <;> simp [w]
    · dsimp only; omega

theorem sX9_meaning {o : Nat} {a1 : Int} {F : jFl} {A : jAr} {W L : sTb} (h : mct o F A 0 W L) : wpX9_meaning o a1 F A (fun z F' A' => z = rMeaning W L a1 ∧ mfr o F A F' A') := by
  unfold wpX9_meaning
  have h0 := h
  obtain ⟨⟨hk, hLk⟩, hW, hL, hh, hv⟩ := h
  refine ⟨_, sX9_isLaw hW, ?_⟩ -- call wpX9_isLaw o a1 F A P1
  intro z3 p1
  have hl : ¬ z3 = 0 → 0 ≤ a1 ∧ a1 < W 3 0 0 := by grind
  refine ⟨fun hc => ?_, fun hc => ?_⟩ -- c1
  · -- case (¬ z3 = 0)
    refine ⟨_, sX9_loads hL hk hLk (by omega) (hl hc), ?_⟩ -- call wpX9_loads o 0 a1 F A P7
    intro F10 A11 p7
    obtain ⟨⟨q1, q2, q3⟩, q4, q5, q6⟩ := p7
    have hf : mfr o F A F10 A11 := ⟨fun f b hb => q4 f b (fun w => by have := hb w; omega), fun b hb => q5 b (by omega)⟩
    refine ⟨_, sX9_saysAsTold (R := sRw L a1) (sRw_ok hLk (hl hc)) q1 q2 q6, ?_⟩ -- call wpX9_saysAsTold o F10 A11 P15
    intro F18 A19 p15
    obtain ⟨⟨r1, r2, r3⟩, r4⟩ := p15
    refine ⟨_, sX9_saidMeans (R := sRw L a1) hk ((h0.fr hf).fr r4).2.1 (sRw_ok hLk (hl hc)) r1 r2 r3, ?_⟩ -- call wpX9_saidMeans o F18 A19 P23
    intro z25 p23
    -- l1: Q z25 F18 A19
    exact ⟨p23.trans (if_pos (hl hc)).symm, hf.trans r4⟩
  · -- case ¬ (¬ z3 = 0)
    -- l2: Q 1000000000 F A
    exact ⟨(if_neg (by grind)).symm, mfr.refl _ _ _⟩

theorem sX9_odds {o : Nat} {a1 : Int} {F : jFl} {A : jAr} {W L : sTb} (h : mct o F A 0 W L) : wpX9_odds o a1 F A (fun z F' A' => z = rOdds W L a1 ∧ mfr o F A F' A') := by
  unfold wpX9_odds
  have h0 := h
  obtain ⟨⟨hk, hLk⟩, hW, hL, hh, hv⟩ := h
  have hb := hW.1
  have g2 := hW.2.1.2.2.1
  have w2 := hk.2.2.1
  rw [g2]
  refine ⟨_, sX9_isStanding hW hk hL, ?_⟩ -- call wpX9_isStanding o a1 F A P1
  intro z3 p1
  refine ⟨fun hc => ?_, fun hc => ?_⟩ -- c1
  · -- case (z3 = 0)
    -- l1: Q (-1) F A
    exact ⟨(if_neg (by grind)).symm, mfr.refl _ _ _⟩
  · -- case ¬ (z3 = 0)
    refine ⟨by omega, ?_⟩ -- s1: (0 ≤ F 3039 o ∧ F 3039 o < 2)
    refine ⟨fun hc => ?_, fun hc => ?_⟩ -- c2
    · -- case ((A (o + 12) (F 3039 o)) ≤ 0)
      -- l2: Q (-1) F A
      exact ⟨(if_neg (by grind)).symm, mfr.refl _ _ _⟩
    · -- case ¬ ((A (o + 12) (F 3039 o)) ≤ 0)
      refine ⟨_, sX9_childrenOf h0 (by grind), ?_⟩ -- call wpX9_childrenOf o a1 F A P9
      intro z11 F12 A13 p9
      obtain ⟨q1, q2, q3⟩ := p9
      have g3 : F12 3039 o = F 3039 o := q3.1 _ _ (fun _ => by decide)
      have g4 : A13 (o + 12) = A (o + 12) := q3.2 _ (by omega)
      rw [g3, g4, g2]
      have dv : 0 ≤ 1000 * z11 / W 2 0 0 ∧ 1000 * z11 / W 2 0 0 ≤ 10000 := ⟨Int.ediv_nonneg (by omega) (by omega), Int.ediv_le_of_le_mul (by omega) (by omega)⟩
      refine ⟨by omega, ?_⟩ -- s2: (0 ≤ F12 3039 o ∧ F12 3039 o < 2)
      refine ⟨by omega, ?_⟩ -- s3: (((0 : Int) ≤ 1000 * z11 ∧ (1000 * z11 : Int) ≤ 2147483647) ∧ ((0 : Int) < A13 (o + 12) (F12 3039 o) ∧ (A13 (o + 12) (F12 3039 o) : Int) ≤ 2147483647))
      refine ⟨by omega, ?_⟩ -- s4: jR ((1000 * z11) / (A13 (o + 12) (F12 3039 o)))
      -- l3: Q ((1000 * z11) / (A13 (o + 12) (F12 3039 o))) F12 A13
      refine ⟨?_, q3⟩
      rw [q1]
      exact (if_pos (by grind)).symm

theorem sX9_law {o : Nat} {a1 : Int} {a2 : Int} {F : jFl} {A : jAr} {W L : sTb} (h : mct o F A 0 W L) (h9 : L 9 0 0 = 0) : wpX9_law o a1 a2 F A (fun z F' A' => z = rLaw W L a1 a2 ∧ mfr o F A F' A') := by
  unfold wpX9_law
  have h0 := h
  obtain ⟨⟨hk, hLk⟩, hW, hL, hh, hv⟩ := h
  have hb := hW.1
  have w0 := hk.1
  have w3 := hk.2.2.2.1
  refine ⟨_, sX9_isLaw hW, ?_⟩ -- call wpX9_isLaw o a1 F A P1
  intro z3 p1
  have hl : ¬ z3 = 0 → 0 ≤ a1 ∧ a1 < W 3 0 0 := by grind
  refine ⟨fun hc => ?_, fun hc => ?_⟩ -- c1
  · -- case (¬ z3 = 0)
    obtain ⟨g1, g2, g3, g4⟩ := hL.2.2 a1 (hl hc).1 (hl hc).2
    have gk := hLk.2.2.2.1 a1 (hl hc).1 (hl hc).2
    rw [show 12 * 0 + a1 = a1 by omega] at g1 g2 g3 g4
    rw [g1, g2, g3]
    have es : rLaw W L a1 a2 = _ := if_pos (hl hc)
    rw [es]
    refine ⟨by omega, ?_⟩ -- s1: (0 ≤ a1 ∧ a1 < 264)
    refine ⟨by omega, ?_⟩ -- s2: (0 ≤ a1 ∧ a1 < 264)
    refine ⟨by omega, ?_⟩ -- s3: jR ((9 + (A (o + 30) a1)) + (A (o + 31) a1))
    refine ⟨_, sX9_is, ?_⟩ -- call wpX9_is o a2 10 ((9 + (A (o + 30) a1)) + (A (o + 31) a1)) F A P10
    intro z12 p10
    have hx : z12 = 0 ↔ ¬ (10 ≤ a2 ∧ a2 ≤ 9 + L 2 a1 0 + L 3 a1 0) := by rw [p10]; split <;> simp [*]
    refine ⟨fun hc => ?_, fun hc => ?_⟩ -- c2
    · -- case (z12 = 0)
      rw [if_neg (hx.1 hc)]
      refine ⟨?_, ?_, ?_, ?_, ?_, ?_, ?_⟩ -- c3
      · intro hc -- case a2 = 0
        refine ⟨by omega, ?_⟩ -- s4: (0 ≤ a1 ∧ a1 < 264)
        -- l1: Q (A (o + 30) a1) F A
        subst hc; exact ⟨by simp, mfr.refl _ _ _⟩
      · intro hc -- case a2 = 1
        refine ⟨by omega, ?_⟩ -- s5: (0 ≤ a1 ∧ a1 < 264)
        -- l2: Q (A (o + 31) a1) F A
        subst hc; exact ⟨by simp, mfr.refl _ _ _⟩
      · intro hc -- case a2 = 2
        refine ⟨by omega, ?_⟩ -- s6: (0 ≤ a1 ∧ a1 < 264)
        -- l3: Q (A (o + 32) a1) F A
        subst hc; exact ⟨by simp, mfr.refl _ _ _⟩
      · intro hc -- case a2 = 3
        subst hc
        obtain ⟨p, pp, pe⟩ := sOrd_onto hLk h9 (hl (by assumption))
        have ge : ∀ v : Int, 0 ≤ v → v < W 3 0 0 → A (o + 29) v = L 1 v 0 := fun v v0 v1 => by have := hL.2.1 v v0 v1; rw [show 12 * 0 + v = v by omega] at this; exact this
        refine ⟨fun (v19 : Int) => (0 ≤ v19 ∧ v19 ≤ p) ∧ ∀ j : Int, 0 ≤ j → j < v19 → L 1 j 0 ≠ a1, fun v19 => (p - v19).toNat, ?_, ?_⟩ -- loop I20 I20 0
        ·
          -- l4: I20 0
          exact ⟨by omega, fun j j0 j1 => by omega⟩
        intro v19 i20
        obtain ⟨i1, i2⟩ := i20
        rw [ge v19 (by omega) (by omega)]
        refine ⟨by omega, ?_⟩ -- s7: (0 ≤ v19 ∧ v19 < 264)
        refine ⟨fun hc => ?_, fun hc => ?_⟩ -- c4
        · -- case ((A (o + 29) v19) = a1)
          -- l5: Q v19 F A
          refine ⟨?_, mfr.refl _ _ _⟩
          simp
          exact (sFirst_some (p := fun p => L 1 p 0 = a1) i1.1 (by omega) hc i2).symm
        · -- case ¬ ((A (o + 29) v19) = a1)
          refine ⟨by omega, ?_⟩ -- s8: jR (v19 + 1)
          have hp : v19 ≠ p := fun w => hc (by rw [w]; exact pe)
          refine ⟨?_, ?_⟩ -- l6: I20 (v19 + 1)
          · refine ⟨by omega, fun j j0 j1 => ?_⟩
            by_cases w : j = v19
            · rw [w]; exact hc
            · exact i2 j j0 (by omega)
          · dsimp only; omega
      · intro hc -- case a2 = 4
        subst hc
        refine ⟨fun (v25 : Int) (v26 : Int) => (0 ≤ v26 ∧ v26 ≤ L 2 a1 0 + L 3 a1 0) ∧ v25 = it (fun k s => s + W 11 ((sRw L a1).2.2 k) 0) 0 v26.toNat ∧ 0 ≤ v25 ∧ v25 ≤ 9 * v26, fun v25 v26 => (L 2 a1 0 + L 3 a1 0 - v26).toNat, ?_, ?_⟩ -- loop I27 I27 0 0
        ·
          -- l7: I27 0 0
          exact ⟨by omega, rfl, by omega, by omega⟩
        intro v25 v26 i27
        obtain ⟨i1, i2, i3, i4⟩ := i27
        refine ⟨by omega, ?_⟩ -- s9: (0 ≤ a1 ∧ a1 < 264)
        refine ⟨by omega, ?_⟩ -- s10: (0 ≤ a1 ∧ a1 < 264)
        refine ⟨by omega, ?_⟩ -- s11: jR ((A (o + 30) a1) + (A (o + 31) a1))
        refine ⟨fun hc => ?_, fun hc => ?_⟩ -- c5
        · -- case (((A (o + 30) a1) + (A (o + 31) a1)) ≤ v26)
          -- l8: Q v25 F A
          refine ⟨?_, mfr.refl _ _ _⟩
          simp
          rw [i2, show v26 = L 2 a1 0 + L 3 a1 0 by omega]
          rfl
        · -- case ¬ (((A (o + 30) a1) + (A (o + 31) a1)) ≤ v26)
          have gx := g4 v26 i1.1 (by omega)
          have gy := hLk.2.2.2.2 a1 v26 (hl (by assumption)).1 (hl (by assumption)).2 i1.1 (by omega)
          have gz := (hW.2.2.2.1 _ gy.1 gy.2).2.1
          have gu := (hk.2.2.2.2.2.2.2.1 _ gy.1 gy.2).1
          rw [gx, gz]
          refine ⟨by omega, ?_⟩ -- s12: (0 ≤ (12 * a1) + v26 ∧ (12 * a1) + v26 < 3168)
          refine ⟨by omega, ?_⟩ -- s13: (0 ≤ (24 * (F 3039 o)) + (A (o + 33) ((12 * a1) + v26)) ∧ (24 * (F 3039 o)) + (A (o + 33) ((12 * a1) + v26)) < 48)
          refine ⟨by omega, ?_⟩ -- s14: jR (v25 + (A (o + 4) ((24 * (F 3039 o)) + (A (o + 33) ((12 * a1) + v26)))))
          intro v36 e36
          refine ⟨by omega, ?_⟩ -- s15: jR (v26 + 1)
          refine ⟨?_, ?_⟩ -- l9: I27 v36 (v26 + 1)
          · refine ⟨by omega, ?_, by omega, by omega⟩
            rw [it_succ _ _ i1.1, ← i2, e36]
            rfl
          · dsimp only; omega
      · intro hc -- case a2 = 5
        refine ⟨_, sX9_stands hL (by omega) (hl (by assumption)) hk, ?_⟩ -- call wpX9_stands o 0 a1 F A P38
        intro z40 p38
        refine ⟨fun hc => ?_, fun hc => ?_⟩ -- c6
        · -- case (z40 = 0)
          -- l10: Q 0 F A
          refine ⟨?_, mfr.refl _ _ _⟩
          grind
        · -- case ¬ (z40 = 0)
          refine ⟨_, sX9_childrenOf h0 (hl (by assumption)), ?_⟩ -- call wpX9_childrenOf o a1 F A P44
          intro z46 F47 A48 p44
          -- l11: Q z46 F47 A48
          exact ⟨by grind, p44.2.2⟩
      · intro hc1 hc2 hc3 hc4 hc5 hc6 -- case ¬ a2 = 0 ¬ a2 = 1 ¬ a2 = 2 ¬ a2 = 3 ¬ a2 = 4 ¬ a2 = 5
        -- l12: Q (-1) F A
        exact ⟨by grind, mfr.refl _ _ _⟩
    · -- case ¬ (z12 = 0)
      have gq : 10 ≤ a2 ∧ a2 ≤ 9 + L 2 a1 0 + L 3 a1 0 := by grind
      have gx := g4 (a2 - 10) (by omega) (by omega)
      rw [show 12 * a1 + (a2 - 10) = 12 * a1 + a2 - 10 by omega] at gx
      refine ⟨by omega, ?_⟩ -- s16: (0 ≤ ((12 * a1) + a2) - 10 ∧ ((12 * a1) + a2) - 10 < 3168)
      -- l13: Q (A (o + 33) (((12 * a1) + a2) - 10)) F A
      refine ⟨?_, mfr.refl _ _ _⟩
      rw [if_pos gq, gx]
  · -- case ¬ (¬ z3 = 0)
    -- l14: Q (-1) F A
    exact ⟨(if_neg (by grind)).symm, mfr.refl _ _ _⟩

theorem sX9_child {o : Nat} {a1 : Int} {a2 : Int} {F : jFl} {A : jAr} {W L : sTb} (h : mct o F A 0 W L) : wpX9_child o a1 a2 F A (fun z F' A' => z = rChild W L a1 a2 ∧ mfr o F A F' A') := by
  unfold wpX9_child
  have h0 := h
  obtain ⟨⟨hk, hLk⟩, hW, hL, hh, hv⟩ := h
  have hb := hW.1
  have w0 := hk.1
  have w2 := hk.2.2.1
  have w3 := hk.2.2.2.1
  refine ⟨_, sX9_isChild hW, ?_⟩ -- call wpX9_isChild o a1 F A P1
  intro z3 p1
  have hl : ¬ z3 = 0 → 0 ≤ a1 ∧ a1 < W 2 0 0 := by grind
  refine ⟨fun hc => ?_, fun hc => ?_⟩ -- c1
  · -- case (¬ z3 = 0)
    have hc1 := hl hc
    have gc := hW.2.2.2.2.2.1 a1 hc1.1 hc1.2
    have es : rChild W L a1 a2 = _ := if_pos hc1
    rw [es]
    refine ⟨?_, ?_, ?_, ?_, ?_⟩ -- c2
    · intro hc -- case a2 = 0
      refine ⟨by omega, ?_⟩ -- s1: (0 ≤ (10 * (F 3039 o)) + a1 ∧ (10 * (F 3039 o)) + a1 < 20)
      -- l1: Q (A (o + 14) ((10 * (F 3039 o)) + a1)) F A
      subst hc; exact ⟨by simp; exact gc.2.1, mfr.refl _ _ _⟩
    · intro hc -- case a2 = 1
      refine ⟨by omega, ?_⟩ -- s2: (0 ≤ (10 * (F 3039 o)) + a1 ∧ (10 * (F 3039 o)) + a1 < 20)
      -- l2: Q (A (o + 15) ((10 * (F 3039 o)) + a1)) F A
      subst hc; exact ⟨by simp; exact gc.2.2.1, mfr.refl _ _ _⟩
    · intro hc -- case a2 = 2
      subst hc
      have g0 := hW.2.1.1
      rw [g0]
      refine ⟨fun (v9 : Int) (v10 : Int) => (0 ≤ v10 ∧ v10 ≤ W 0 0 0) ∧ v9 = it (fun w n => if W 21 a1 w = 1 then n + 1 else n) 0 v10.toNat ∧ 0 ≤ v9 ∧ v9 ≤ v10, fun v9 v10 => (W 0 0 0 - v10).toNat, ?_, ?_⟩ -- loop I11 I11 0 0
      ·
        -- l3: I11 0 0
        exact ⟨by omega, rfl, by omega, by omega⟩
      intro v9 v10 i11
      obtain ⟨i1, i2, i3, i4⟩ := i11
      refine ⟨by omega, ?_⟩ -- s3: (0 ≤ F 3039 o ∧ F 3039 o < 2)
      refine ⟨fun hc => ?_, fun hc => ?_⟩ -- c3
      · -- case ((A (o + 2) (F 3039 o)) ≤ v10)
        -- l4: Q v9 F A
        refine ⟨?_, mfr.refl _ _ _⟩
        simp
        rw [i2, show v10 = W 0 0 0 by omega]
        rfl
      · -- case ¬ ((A (o + 2) (F 3039 o)) ≤ v10)
        refine ⟨_, sX9_knows hW hk hc1 (by omega), ?_⟩ -- call wpX9_knows o a1 v10 F A P15
        intro z17 p15
        intro z21 e21
        have ez : z21 = (if W 21 a1 v10 = 1 then 1 else 0) := by
          rw [e21, p15]
          by_cases w : W 21 a1 v10 = 1 <;> simp [w]
        have ez2 : 0 ≤ z21 ∧ z21 ≤ 1 := by rw [ez]; split <;> omega
        refine ⟨by omega, ?_⟩ -- s4: jR (v9 + z21)
        intro v24 e24
        refine ⟨by omega, ?_⟩ -- s5: jR (v10 + 1)
        refine ⟨?_, ?_⟩ -- l5: I11 v24 (v10 + 1)
        · refine ⟨by omega, ?_, by omega, by omega⟩
          rw [it_succ _ _ i1.1, ← i2, e24, ez]
          by_cases w : W 21 a1 v10 = 1 <;> simp [w]
        · dsimp only; omega
    · intro hc -- case a2 = 3
      refine ⟨fun (v26 : Int) (v27 : Int) (F28 : jFl) (A29 : jAr) => (0 ≤ v27 ∧ v27 ≤ W 3 0 0) ∧ v26 = sGoods W L a1 v27 ∧ (0 ≤ v26 ∧ v26 ≤ v27) ∧ mfr o F A F28 A29, fun v26 v27 F28 A29 => (W 3 0 0 - v27).toNat, ?_, ?_⟩ -- loop I31 I31 0 0 F A
      ·
        -- l6: I31 0 0 F A
        exact ⟨by omega, rfl, by omega, mfr.refl _ _ _⟩
      intro v26 v27 F28 A29 i31
      obtain ⟨i1, i2, i3, i4⟩ := i31
      have hx := h0.fr i4
      obtain ⟨_, hW2, hL2, hh2, _⟩ := hx
      rw [hW2.2.1.2.2.2]
      have hb2 := hW2.1
      have st : sGoods W L a1 (v27 + 1) = if 0 < L 2 v27 0 ∧ sKind W a1 (sRw L v27) (sHolds W L a1 v27) = 0 then sGoods W L a1 v27 + 1 else sGoods W L a1 v27 := it_succ _ _ i1.1
      refine ⟨by omega, ?_⟩ -- s6: (0 ≤ F28 3039 o ∧ F28 3039 o < 2)
      refine ⟨fun hc => ?_, fun hc => ?_⟩ -- c4
      · -- case ((A29 (o + 17) (F28 3039 o)) ≤ v27)
        -- l7: Q v26 F28 A29
        refine ⟨?_, i4⟩
        grind
      · -- case ¬ ((A29 (o + 17) (F28 3039 o)) ≤ v27)
        refine ⟨_, sX9_stands hL2 (by omega) (by omega) hk, ?_⟩ -- call wpX9_stands o 0 v27 F28 A29 P35
        intro z37 p35
        refine ⟨fun hc => ?_, fun hc => ?_⟩ -- c5
        · -- case (z37 = 0)
          refine ⟨by omega, ?_⟩ -- s7: jR (v26 + 0)
          intro v42 e42
          refine ⟨by omega, ?_⟩ -- s8: jR (v27 + 1)
          refine ⟨?_, ?_⟩ -- l8: I31 v42 (v27 + 1) F28 A29
          · rw [if_neg (by grind)] at st
            refine ⟨by omega, by omega, by omega, i4⟩
          · dsimp only; omega
        · -- case ¬ (z37 = 0)
          refine ⟨_, sX9_standsBy (h := sHolds W L a1 v27) hk hLk hW2 hL2 (Or.inl hh2) (by omega) hc1 (by rw [if_pos hh2]; rfl), ?_⟩ -- call wpX9_standsBy o v27 a1 F28 A29 P44
          intro z46 F47 A48 p44
          obtain ⟨t1, t2⟩ := p44
          intro z53 e53
          have ez : z53 = (if sKind W a1 (sRw L v27) (sHolds W L a1 v27) = 0 then 1 else 0) := by
            rw [e53, t1]
            by_cases w : sKind W a1 (sRw L v27) (sHolds W L a1 v27) = 0 <;> simp [w]
          have ez2 : 0 ≤ z53 ∧ z53 ≤ 1 := by rw [ez]; split <;> omega
          refine ⟨by omega, ?_⟩ -- s9: jR (v26 + z53)
          intro v56 e56
          refine ⟨by omega, ?_⟩ -- s10: jR (v27 + 1)
          refine ⟨?_, ?_⟩ -- l9: I31 v56 (v27 + 1) F47 A48
          · have hp : 0 < L 2 v27 0 := by grind
            refine ⟨by omega, ?_, by omega, i4.trans t2⟩
            rw [st, e56, ez]
            by_cases w : sKind W a1 (sRw L v27) (sHolds W L a1 v27) = 0
            · rw [if_pos w, if_pos ⟨hp, w⟩, i2]
            · rw [if_neg w, if_neg (fun q => w q.2), i2]; omega
          · dsimp only; omega
    · intro hc1 hc2 hc3 hc4 -- case ¬ a2 = 0 ¬ a2 = 1 ¬ a2 = 2 ¬ a2 = 3
      -- l10: Q (-1) F A
      exact ⟨by simp [*], mfr.refl _ _ _⟩
  · -- case ¬ (¬ z3 = 0)
    -- l11: Q (-1) F A
    exact ⟨(if_neg (by grind)).symm, mfr.refl _ _ _⟩

