set_option maxRecDepth 100000
set_option linter.unusedVariables false
/-! the model's acts; printed by gen/prove.py out of spec/77.ms3.spec -/
set_option maxHeartbeats 2000000 in
theorem sX9_notes {o : Nat} {a1 : Int} {a2 : Int} {a3 : Int} {a4 : Int} {F : jFl} {A : jAr} {B : sBk} (h1 : 0 ≤ a1 ∧ a1 < 22) (hB : mrB o A a1 B) : wpX9_notes o a1 a2 a3 a4 F A (fun F' A' => F' = F ∧ mrB o A' a1 (sPush B (sLine (A (o + 28) a1) a2 a3 a4)) ∧ mlf o a1 A A' ∧ ∀ b, b ≠ o + 34 → b ≠ o + 35 → A' b = A b) := by
  unfold wpX9_notes
  obtain ⟨b1, b2, b3⟩ := hB
  refine ⟨by exact h1, ?_⟩ -- s1: (0 ≤ a1 ∧ a1 < 22)
  refine ⟨fun hc => ?_, fun hc => ?_⟩ -- c1
  · -- case (¬ (A (o + 34) a1) = 100)
    refine ⟨by exact h1, ?_⟩ -- s2: (0 ≤ a1 ∧ a1 < 22)
    refine ⟨by (rw [b1]; omega), ?_⟩ -- s3: jR ((400 * a1) + (4 * (A (o + 34) a1)))
    intro v5 e5
    rw [b1] at e5
    refine ⟨by exact h1, ?_⟩ -- s4: (0 ≤ a1 ∧ a1 < 22)
    refine ⟨by omega, ?_⟩ -- s5: (0 ≤ v5 ∧ v5 < 8800)
    intro A8 e8
    have n1 : A8 (o + 34) a1 = B.1 := by rw [e8, upA_o (by omega)]; exact b1
    refine ⟨by omega, ?_⟩ -- s6: (0 ≤ v5 + 1 ∧ v5 + 1 < 8800)
    intro A11 e11
    refine ⟨by omega, ?_⟩ -- s7: (0 ≤ v5 + 2 ∧ v5 + 2 < 8800)
    intro A14 e14
    refine ⟨by omega, ?_⟩ -- s8: (0 ≤ v5 + 3 ∧ v5 + 3 < 8800)
    intro A17 e17
    have n2 : A17 (o + 34) a1 = B.1 := by rw [e17, upA_o (by omega), e14, upA_o (by omega), e11, upA_o (by omega)]; exact n1
    have n3 : ∀ b, b ≠ o + 35 → A17 b = A b := fun b hb => by rw [e17, upA_o hb, e14, upA_o hb, e11, upA_o hb, e8, upA_o hb]
    have n4 : ∀ i : Int, i ≠ v5 → i ≠ v5 + 1 → i ≠ v5 + 2 → i ≠ v5 + 3 → A17 (o + 35) i = A (o + 35) i := fun i q0 q1 q2 q3 => by rw [e17, upA_i q3, e14, upA_i q2, e11, upA_i q1, e8, upA_i q0]
    have n5 : A17 (o + 35) v5 = A (o + 28) a1 ∧ A17 (o + 35) (v5 + 1) = a2 ∧ A17 (o + 35) (v5 + 2) = a3 ∧ A17 (o + 35) (v5 + 3) = a4 := by
      refine ⟨?_, ?_, ?_, ?_⟩
      · rw [e17, upA_i (by omega), e14, upA_i (by omega), e11, upA_i (by omega), e8, upA_s]
      · rw [e17, upA_i (by omega), e14, upA_i (by omega), e11, upA_s]
      · rw [e17, upA_i (by omega), e14, upA_s]
      · rw [e17, upA_s]
    refine ⟨by exact h1, ?_⟩ -- s9: (0 ≤ a1 ∧ a1 < 22)
    refine ⟨by exact h1, ?_⟩ -- s10: (0 ≤ a1 ∧ a1 < 22)
    refine ⟨by (rw [n2]; omega), ?_⟩ -- s11: jR ((A17 (o + 34) a1) + 1)
    intro A22 e22
    -- l1: Q F A22
    have hp : sPush B (sLine (A (o + 28) a1) a2 a3 a4) = (B.1 + 1, upI B.2 B.1 (sLine (A (o + 28) a1) a2 a3 a4)) := if_neg (by omega)
    rw [hp]
    have m1 : ∀ b, b ≠ o + 34 → A22 b = A17 b := fun b hb => by rw [e22, upA_o hb]
    refine ⟨rfl, ⟨by rw [e22, upA_s, n2], by dsimp only; omega, fun k j k0 k1 j0 j1 => ?_⟩, ⟨fun i hi => ⟨by rw [m1 _ (by omega), n3 _ (by omega)], by rw [e22, upA_i hi, n3 _ (by omega)]⟩, fun i _ => ?_, fun i _ => by rw [m1 _ (by omega), n3 _ (by omega)], fun i hi => by rw [m1 _ (by omega)]; exact n4 i (by omega) (by omega) (by omega) (by omega)⟩, fun b hb1 hb2 => by rw [m1 b hb1, n3 b hb2]⟩
    · dsimp only at k1 ⊢
      rw [m1 _ (by omega)]
      by_cases q : k = B.1
      · rw [q, upI_s]
        obtain ⟨p1, p2, p3, p4⟩ := n5
        unfold sLine
        have e : 400 * a1 + 4 * B.1 + j = v5 + j := by omega
        rw [e]
        by_cases j0' : j = 0
        · rw [if_pos j0', j0', Int.add_zero]; exact p1
        · rw [if_neg j0']
          by_cases j1' : j = 1
          · rw [if_pos j1', j1']; exact p2
          · rw [if_neg j1']
            by_cases j2' : j = 2
            · rw [if_pos j2', j2']; exact p3
            · rw [if_neg j2', show j = 3 by omega]; exact p4
      · rw [upI_n q, n4 _ (by omega) (by omega) (by omega) (by omega)]; exact b3 k j k0 (by omega) j0 j1
    · rw [m1 _ (by omega), m1 _ (by omega), m1 _ (by omega), m1 _ (by omega), n3 _ (by omega), n3 _ (by omega), n3 _ (by omega), n3 _ (by omega)]; exact ⟨rfl, rfl, rfl, rfl⟩
  · -- case ¬ (¬ (A (o + 34) a1) = 100)
    refine ⟨fun (v24 : Int) (A25 : jAr) => (4 ≤ v24 ∧ v24 ≤ 400) ∧ (∀ b, b ≠ o + 35 → A25 b = A b) ∧ (∀ i : Int, (i < 400 * a1 ∨ 400 * a1 + 400 ≤ i) → A25 (o + 35) i = A (o + 35) i) ∧ (∀ i : Int, 400 * a1 ≤ i → i < 400 * a1 + v24 - 4 → A25 (o + 35) i = A (o + 35) (i + 4)) ∧ (∀ i : Int, 400 * a1 + v24 - 4 ≤ i → A25 (o + 35) i = A (o + 35) i), fun v24 A25 => (400 - v24).toNat, ?_, ?_⟩ -- loop I27 I27 4 A
    ·
      -- l2: I27 4 A
      exact ⟨by omega, fun _ _ => rfl, fun _ _ => rfl, fun i i0 i1 => by omega, fun _ _ => rfl⟩
    intro v24 A25 i27
    obtain ⟨i1, i2, i3, i4, i5⟩ := i27
    have hb100 : B.1 = 100 := by omega
    refine ⟨fun hc => ?_, fun hc => ?_⟩ -- c2
    · -- case (400 ≤ v24)
      refine ⟨by exact h1, ?_⟩ -- s12: (0 ≤ a1 ∧ a1 < 22)
      refine ⟨by exact h1, ?_⟩ -- s13: (0 ≤ a1 ∧ a1 < 22)
      refine ⟨by (rw [i2 _ (by omega), b1]; omega), ?_⟩ -- s14: jR ((A25 (o + 34) a1) - 1)
      intro A33 e33
      have u1 : A33 (o + 34) a1 = 99 := by rw [e33, upA_s, i2 _ (by omega), b1]; omega
      refine ⟨by exact h1, ?_⟩ -- s15: (0 ≤ a1 ∧ a1 < 22)
      refine ⟨by (rw [u1]; omega), ?_⟩ -- s16: jR ((400 * a1) + (4 * (A33 (o + 34) a1)))
      intro v37 e37
      rw [u1] at e37
      refine ⟨by exact h1, ?_⟩ -- s17: (0 ≤ a1 ∧ a1 < 22)
      refine ⟨by omega, ?_⟩ -- s18: (0 ≤ v37 ∧ v37 < 8800)
      intro A40 e40
      refine ⟨by omega, ?_⟩ -- s19: (0 ≤ v37 + 1 ∧ v37 + 1 < 8800)
      intro A43 e43
      refine ⟨by omega, ?_⟩ -- s20: (0 ≤ v37 + 2 ∧ v37 + 2 < 8800)
      intro A46 e46
      refine ⟨by omega, ?_⟩ -- s21: (0 ≤ v37 + 3 ∧ v37 + 3 < 8800)
      intro A49 e49
      have u2 : A49 (o + 34) a1 = 99 := by rw [e49, upA_o (by omega), e46, upA_o (by omega), e43, upA_o (by omega), e40, upA_o (by omega)]; exact u1
      have n3 : ∀ b, b ≠ o + 34 → b ≠ o + 35 → A49 b = A b := fun b hb1 hb => by rw [e49, upA_o hb, e46, upA_o hb, e43, upA_o hb, e40, upA_o hb, e33, upA_o hb1, i2 b hb]
      have n4 : ∀ i : Int, i ≠ v37 → i ≠ v37 + 1 → i ≠ v37 + 2 → i ≠ v37 + 3 → A49 (o + 35) i = A25 (o + 35) i := fun i q0 q1 q2 q3 => by rw [e49, upA_i q3, e46, upA_i q2, e43, upA_i q1, e40, upA_i q0, e33, upA_o (by omega)]
      have n6 : A33 (o + 28) a1 = A (o + 28) a1 := by rw [e33, upA_o (by omega), i2 _ (by omega)]
      have n5 : A49 (o + 35) v37 = A (o + 28) a1 ∧ A49 (o + 35) (v37 + 1) = a2 ∧ A49 (o + 35) (v37 + 2) = a3 ∧ A49 (o + 35) (v37 + 3) = a4 := by
        refine ⟨?_, ?_, ?_, ?_⟩
        · rw [e49, upA_i (by omega), e46, upA_i (by omega), e43, upA_i (by omega), e40, upA_s, n6]
        · rw [e49, upA_i (by omega), e46, upA_i (by omega), e43, upA_s]
        · rw [e49, upA_i (by omega), e46, upA_s]
        · rw [e49, upA_s]
      refine ⟨by exact h1, ?_⟩ -- s22: (0 ≤ a1 ∧ a1 < 22)
      refine ⟨by exact h1, ?_⟩ -- s23: (0 ≤ a1 ∧ a1 < 22)
      refine ⟨by (rw [u2]; omega), ?_⟩ -- s24: jR ((A49 (o + 34) a1) + 1)
      intro A54 e54
      -- l3: Q F A54
      have hp : sPush B (sLine (A (o + 28) a1) a2 a3 a4) = (100, upI (fun k => B.2 (k + 1)) 99 (sLine (A (o + 28) a1) a2 a3 a4)) := if_pos hb100
      rw [hp]
      have m1 : ∀ b, b ≠ o + 34 → A54 b = A49 b := fun b hb => by rw [e54, upA_o hb]
      have m2 : ∀ i : Int, i ≠ a1 → A54 (o + 34) i = A (o + 34) i := fun i hi => by rw [e54, upA_i hi, e49, upA_o (by omega), e46, upA_o (by omega), e43, upA_o (by omega), e40, upA_o (by omega), e33, upA_i hi, i2 _ (by omega)]
      refine ⟨rfl, ⟨by rw [e54, upA_s, u2]; rfl, by dsimp only; omega, fun k j k0 k1 j0 j1 => ?_⟩, ⟨fun i hi => ⟨by rw [m1 _ (by omega), n3 _ (by omega) (by omega)], m2 i hi⟩, fun i _ => ?_, fun i _ => by rw [m1 _ (by omega), n3 _ (by omega) (by omega)], fun i hi => by rw [m1 _ (by omega), n4 i (by omega) (by omega) (by omega) (by omega)]; exact i3 i hi⟩, fun b hb1 hb2 => by rw [m1 b hb1, n3 b hb1 hb2]⟩
      · dsimp only at k1 ⊢
        rw [m1 _ (by omega)]
        by_cases q : k = 99
        · rw [q, upI_s]
          obtain ⟨p1, p2, p3, p4⟩ := n5
          unfold sLine
          have e : 400 * a1 + 4 * 99 + j = v37 + j := by omega
          rw [e]
          by_cases j0' : j = 0
          · rw [if_pos j0', j0', Int.add_zero]; exact p1
          · rw [if_neg j0']
            by_cases j1' : j = 1
            · rw [if_pos j1', j1']; exact p2
            · rw [if_neg j1']
              by_cases j2' : j = 2
              · rw [if_pos j2', j2']; exact p3
              · rw [if_neg j2', show j = 3 by omega]; exact p4
        · rw [upI_n q, n4 _ (by omega) (by omega) (by omega) (by omega), i4 _ (by omega) (by omega), ← b3 (k + 1) j (by omega) (by omega) j0 j1]
          congr 1
          omega
      · rw [m1 _ (by omega), m1 _ (by omega), m1 _ (by omega), m1 _ (by omega), n3 _ (by omega) (by omega), n3 _ (by omega) (by omega), n3 _ (by omega) (by omega), n3 _ (by omega) (by omega)]; exact ⟨rfl, rfl, rfl, rfl⟩
    · -- case ¬ (400 ≤ v24)
      refine ⟨by omega, ?_⟩ -- s25: (0 ≤ (400 * a1) + v24 ∧ (400 * a1) + v24 < 8800)
      refine ⟨by omega, ?_⟩ -- s26: (0 ≤ ((400 * a1) + v24) - 4 ∧ ((400 * a1) + v24) - 4 < 8800)
      intro A58 e58
      refine ⟨by omega, ?_⟩ -- s27: jR (v24 + 1)
      refine ⟨?_, ?_⟩ -- l4: I27 (v24 + 1) A58
      · refine ⟨by omega, fun b hb => by rw [e58, upA_o hb]; exact i2 b hb, fun i hi => by rw [e58, upA_i (by omega)]; exact i3 i hi, fun i i0 i1' => ?_, fun i i0 => by rw [e58, upA_i (by omega)]; exact i5 i (by omega)⟩
        rw [e58]
        by_cases q : i = 400 * a1 + v24 - 4
        · rw [q, upA_s, i5 _ (by omega)]; congr 1; omega
        · rw [upA_i q]; exact i4 i i0 (by omega)
      · dsimp only; omega

set_option maxHeartbeats 2000000 in
theorem sX9_becomesSaid {o : Nat} {a1 : Int} {a2 : Int} {a3 : Int} {a4 : Int} {F : jFl} {A : jAr} {W L : sTb} {B : sBk} {U : sRow} (hc0 : mct o F A a1 W L) (hB : mrB o A a1 B) (h2 : 0 ≤ a2 ∧ a2 < W 3 0 0) (hU : sRok (W 0 0 0) U) (hU1 : F 3177 o = U.1) (hU2 : F 3180 o = U.2.1) (hU3 : ∀ k : Int, 0 ≤ k → k < U.1 + U.2.1 → A (o + 37) k = U.2.2 k) : wpX9_becomesSaid o a1 a2 a3 a4 F A (fun F' A' => F' = F ∧ (mrL o A' a1 (W 3 0 0) (sBecome a3 a2 a4 U (L, B)).1 ∧ mrB o A' a1 (sBecome a3 a2 a4 U (L, B)).2) ∧ mlf o a1 A A' ∧ ∀ b, (b < o + 30 ∨ o + 35 < b) → A' b = A b) := by
  unfold wpX9_becomesSaid
  obtain ⟨⟨hk, hLk⟩, hW, hL, hh, hv⟩ := hc0
  have w3 := hk.2.2.2.1
  have gl := hL.2.2 a2 h2.1 h2.2
  have gk := hLk.2.2.2.1 a2 h2.1 h2.2
  obtain ⟨j1, j2, j3⟩ := hU
  have gR : (sRw L a2).1 = L 2 a2 0 ∧ (sRw L a2).2.1 = L 3 a2 0 ∧ ∀ k, (sRw L a2).2.2 k = L 5 a2 k := ⟨rfl, rfl, fun _ => rfl⟩
  rw [hU1, hU2]
  refine ⟨by omega, ?_⟩ -- s1: jR ((12 * a1) + a2)
  intro v2 e2
  subst e2
  refine ⟨by omega, ?_⟩ -- s2: (0 ≤ v2 ∧ v2 < 264)
  refine ⟨fun (v5 : Int) => (v5 = 1 ∧ L 2 a2 0 = U.1 ∧ L 3 a2 0 = U.2.1) ∨ (v5 = 0 ∧ ¬ (L 2 a2 0 = U.1 ∧ L 3 a2 0 = U.2.1)), ?_, ?_⟩ -- join K6
  · intro v5 k6
    refine ⟨fun (v9 : Int) (v10 : Int) => 0 ≤ v10 ∧ ((v9 = 1 ∧ (L 2 a2 0 = U.1 ∧ L 3 a2 0 = U.2.1) ∧ v10 ≤ U.1 + U.2.1 ∧ ∀ k : Int, 0 ≤ k → k < v10 → L 5 a2 k = U.2.2 k) ∨ (v9 = 0 ∧ ¬ sAlike (sRw L a2) U)), fun v9 v10 => (13 - v10).toNat, ?_, ?_⟩ -- loop I11 I11 v5 0
    ·
      -- l1: I11 v5 0
      refine ⟨by omega, ?_⟩
      rcases k6 with ⟨q, q2⟩ | ⟨q, q2⟩
      · exact Or.inl ⟨q, q2, by omega, fun k k0 k1 => by omega⟩
      · exact Or.inr ⟨q, fun w => q2 ⟨w.1, w.2.1⟩⟩
    intro v9 v10 i11
    obtain ⟨i1, i2⟩ := i11
    refine ⟨by omega, ?_⟩ -- s3: jR ((F 3177 o) + (F 3180 o))
    refine ⟨(v9 = 1 ∧ sAlike (sRw L a2) U) ∨ (v9 = 0 ∧ ¬ sAlike (sRw L a2) U), ?_, ?_⟩ -- join K15
    · intro k15
      refine ⟨fun hc => ?_, fun hc => ?_⟩ -- c1
      · -- case (v9 = 0)
        refine ⟨by omega, ?_⟩ -- s4: (0 ≤ v2 ∧ v2 < 264)
        intro A20 e20
        refine ⟨by omega, ?_⟩ -- s5: (0 ≤ v2 ∧ v2 < 264)
        intro A23 e23
        have nal : ¬ sAlike (sRw L a2) U := by
          rcases k15 with ⟨q, q2⟩ | ⟨q, q2⟩
          · omega
          · exact q2
        refine ⟨fun (v25 : Int) (A26 : jAr) => (0 ≤ v25 ∧ v25 ≤ U.1 + U.2.1) ∧ (∀ b, b ≠ o + 33 → A26 b = A23 b) ∧ (∀ i : Int, (i < 12 * (12 * a1 + a2) ∨ 12 * (12 * a1 + a2) + 12 ≤ i) → A26 (o + 33) i = A (o + 33) i) ∧ ∀ k : Int, 0 ≤ k → k < v25 → A26 (o + 33) (12 * (12 * a1 + a2) + k) = U.2.2 k, fun v25 A26 => (U.1 + U.2.1 - v25).toNat, ?_, ?_⟩ -- loop I28 I28 0 A23
        ·
          -- l2: I28 0 A23
          exact ⟨by omega, fun _ _ => rfl, fun i _ => by rw [e23, upA_o (by omega), e20, upA_o (by omega)], fun k k0 k1 => by omega⟩
        intro v25 A26 i28
        obtain ⟨y1, y2, y3, y4⟩ := i28
        have y5 : ∀ b, b ≠ o + 30 → b ≠ o + 31 → b ≠ o + 33 → A26 b = A b := fun b b1 b2 b3 => by rw [y2 b b3, e23, upA_o b2, e20, upA_o b1]
        refine ⟨by omega, ?_⟩ -- s6: jR ((F 3177 o) + (F 3180 o))
        refine ⟨fun hc => ?_, fun hc => ?_⟩ -- c2
        · -- case (((F 3177 o) + (F 3180 o)) ≤ v25)
          refine ⟨_, sX9_notes (B := B) hv (hB.of (y5 _ (by omega) (by omega) (by omega)) (y5 _ (by omega) (by omega) (by omega))), ?_⟩ -- call wpX9_notes o a1 a2 a3 a4 F A26 P32
          intro F35 A36 p32
          obtain ⟨p1, p2, p3, p4⟩ := p32
          rw [y5 _ (by omega) (by omega) (by omega), hL.1] at p2
          have hs : sBecome a3 a2 a4 U (L, B) = (sLset L a2 U, sPush B (sLine (L 0 0 0) a2 a3 a4)) := cif_neg nal
          have x30 : ∀ i : Int, A36 (o + 30) i = (if i = 12 * a1 + a2 then U.1 else A (o + 30) i) := fun i => by
            rw [p4 _ (by omega) (by omega), y2 _ (by omega), e23, upA_o (by omega), e20]
            by_cases w : i = 12 * a1 + a2
            · rw [if_pos w, w, upA_s]
            · rw [if_neg w, upA_i w]
          have x31 : ∀ i : Int, A36 (o + 31) i = (if i = 12 * a1 + a2 then U.2.1 else A (o + 31) i) := fun i => by
            rw [p4 _ (by omega) (by omega), y2 _ (by omega), e23]
            by_cases w : i = 12 * a1 + a2
            · rw [if_pos w, w, upA_s]
            · rw [if_neg w, upA_i w, e20, upA_o (by omega)]
          have x33 : ∀ i : Int, A36 (o + 33) i = A26 (o + 33) i := fun i => by rw [p4 _ (by omega) (by omega)]
          have x9 : ∀ b, b ≠ o + 30 → b ≠ o + 31 → b ≠ o + 33 → b ≠ o + 34 → b ≠ o + 35 → A36 b = A b := fun b b1 b2 b3 b4 b5 => by rw [p4 b b4 b5, y5 b b1 b2 b3]
          -- l3: Q F35 A36
          rw [hs]
          dsimp only
          refine ⟨p1, ⟨⟨by rw [sLset_k (by decide) (by decide) (by decide), x9 _ (by omega) (by omega) (by omega) (by omega) (by omega)]; exact hL.1, fun p p0 p1 => by rw [sLset_k (by decide) (by decide) (by decide), x9 _ (by omega) (by omega) (by omega) (by omega) (by omega)]; exact hL.2.1 p p0 p1, fun l l0 l1 => ?_⟩, p2⟩, ⟨fun i hi => ⟨by rw [x9 _ (by omega) (by omega) (by omega) (by omega) (by omega)], by rw [(p3.1 i hi).2, y5 _ (by omega) (by omega) (by omega)]⟩, fun i hi => ⟨by rw [x9 _ (by omega) (by omega) (by omega) (by omega) (by omega)], by rw [x30, if_neg (by omega)], by rw [x31, if_neg (by omega)], by rw [x9 _ (by omega) (by omega) (by omega) (by omega) (by omega)]⟩, fun i hi => by rw [x33]; exact y3 i (by omega), fun i hi => by rw [p3.2.2.2 i hi, y5 _ (by omega) (by omega) (by omega)]⟩, fun b hb => x9 b (by omega) (by omega) (by omega) (by omega) (by omega)⟩
          have g := hL.2.2 l l0 l1
          have gk2 := hLk.2.2.2.1 l l0 l1
          simp only [sLset]
          rw [x30, x31, x9 (o + 32) (by omega) (by omega) (by omega) (by omega) (by omega)]
          by_cases w : l = a2
          · simp [w]
            refine ⟨gl.2.2.1, fun k k0 k1 => ?_⟩
            rw [x33]
            exact y4 k k0 (by omega)
          · rw [if_neg (show ¬ 12 * a1 + l = 12 * a1 + a2 by omega), if_neg (show ¬ 12 * a1 + l = 12 * a1 + a2 by omega)]
            simp [w]
            refine ⟨g.1, g.2.1, g.2.2.1, fun k k0 k1 => ?_⟩
            rw [x33, y3 _ (by omega)]
            exact g.2.2.2 k k0 k1
        · -- case ¬ (((F 3177 o) + (F 3180 o)) ≤ v25)
          refine ⟨by omega, ?_⟩ -- s7: (0 ≤ v25 ∧ v25 < 12)
          refine ⟨by omega, ?_⟩ -- s8: (0 ≤ (12 * v2) + v25 ∧ (12 * v2) + v25 < 3168)
          intro A42 e42
          refine ⟨by omega, ?_⟩ -- s9: jR (v25 + 1)
          refine ⟨?_, ?_⟩ -- l4: I28 (v25 + 1) A42
          · refine ⟨by omega, fun b hb => by rw [e42, upA_o hb]; exact y2 b hb, fun i hi => by rw [e42, upA_i (by omega)]; exact y3 i hi, fun k k0 k1 => ?_⟩
            rw [e42]
            by_cases w : k = v25
            · rw [w, upA_s, y5 _ (by omega) (by omega) (by omega)]; exact hU3 _ (by omega) (by omega)
            · rw [upA_i (by omega)]; exact y4 k k0 (by omega)
          · dsimp only; omega
      · -- case ¬ (v9 = 0)
        -- l5: Q F A
        have al : sAlike (sRw L a2) U := by
          rcases k15 with ⟨q, q2⟩ | ⟨q, q2⟩
          · exact q2
          · omega
        have hs : sBecome a3 a2 a4 U (L, B) = (L, B) := cif_pos al
        rw [hs]
        exact ⟨rfl, ⟨hL, hB⟩, mlf.refl _ _ _, fun _ _ => rfl⟩
    refine ⟨fun hc => ?_, fun hc => ?_⟩ -- c3
    · -- case (((F 3177 o) + (F 3180 o)) ≤ v10)
      -- l6: K15
      rcases i2 with ⟨q, q2, q3, q4⟩ | ⟨q, q2⟩
      · exact Or.inl ⟨q, q2.1, q2.2, fun k k0 k1 => q4 k k0 (by omega)⟩
      · exact Or.inr ⟨q, q2⟩
    · -- case ¬ (((F 3177 o) + (F 3180 o)) ≤ v10)
      refine ⟨fun hc => ?_, fun hc => ?_⟩ -- c4
      · -- case (v9 = 0)
        -- l7: K15
        rcases i2 with ⟨q, q2, q3, q4⟩ | ⟨q, q2⟩
        · omega
        · exact Or.inr ⟨q, q2⟩
      · -- case ¬ (v9 = 0)
        obtain ⟨q, q2, q3, q4⟩ : v9 = 1 ∧ (L 2 a2 0 = U.1 ∧ L 3 a2 0 = U.2.1) ∧ v10 ≤ U.1 + U.2.1 ∧ ∀ k : Int, 0 ≤ k → k < v10 → L 5 a2 k = U.2.2 k := by
          rcases i2 with w | ⟨q, q2⟩
          · exact w
          · omega
        refine ⟨by omega, ?_⟩ -- s10: (0 ≤ (12 * v2) + v10 ∧ (12 * v2) + v10 < 3168)
        refine ⟨by omega, ?_⟩ -- s11: (0 ≤ v10 ∧ v10 < 12)
        intro z49 e49
        refine ⟨by omega, ?_⟩ -- s12: jR (v10 + 1)
        refine ⟨?_, ?_⟩ -- l8: I11 z49 (v10 + 1)
        · refine ⟨by omega, ?_⟩
          have g5 := gl.2.2.2 v10 (by omega) (by omega)
          have g6 := hU3 v10 (by omega) (by omega)
          rw [g5, g6] at e49
          by_cases w : L 5 a2 v10 = U.2.2 v10
          · rw [if_neg (fun w2 => w2 w)] at e49
            refine Or.inl ⟨e49, q2, by omega, fun k k0 k1 => ?_⟩
            by_cases w2 : k = v10
            · rw [w2]; exact w
            · exact q4 k k0 (by omega)
          · rw [if_pos w] at e49
            exact Or.inr ⟨e49, fun w2 => w (w2.2.2 v10 (by omega) (by rw [gR.1, gR.2.1]; omega))⟩
        · dsimp only; omega
  refine ⟨fun hc => ?_, fun hc => ?_⟩ -- c5
  · -- case (¬ (A (o + 30) v2) = (F 3177 o))
    -- l9: K6 0
    exact Or.inr ⟨rfl, fun w => hc (by rw [gl.1]; exact w.1)⟩
  · -- case ¬ (¬ (A (o + 30) v2) = (F 3177 o))
    refine ⟨by omega, ?_⟩ -- s13: (0 ≤ v2 ∧ v2 < 264)
    intro z54 e54
    -- l10: K6 z54
    show (z54 = 1 ∧ _) ∨ _
    rw [gl.2.1] at e54
    have q1 : L 2 a2 0 = U.1 := by rw [gl.1] at hc; omega
    by_cases w : L 3 a2 0 = U.2.1
    · exact Or.inl ⟨by rw [e54, if_neg (fun w2 => w2 w)], q1, w⟩
    · exact Or.inr ⟨by rw [e54, if_pos w], fun w2 => w w2.2⟩

