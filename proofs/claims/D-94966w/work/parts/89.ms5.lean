set_option maxRecDepth 100000
set_option linter.unusedVariables false
/-! the model's layers are copied; printed by gen/prove.py out of spec/89.ms5.spec -/
set_option maxHeartbeats 4000000 in
theorem sX9_copies {o : Nat} {a1 : Int} {a2 : Int} {F : jFl} {A : jAr} {nl : Int} {L : sTb} {B : sBk} (h1 : 0 ≤ a1 ∧ a1 < 22) (h2 : 0 ≤ a2 ∧ a2 < 22) (hne : a1 ≠ a2) (hL : mrL o A a2 nl L) (hn : 0 ≤ nl ∧ nl ≤ 12) (hR : ∀ l : Int, 0 ≤ l → l < nl → L 2 l 0 + L 3 l 0 ≤ 12) (hB : mrB o A a2 B) : wpX9_copies o a1 a2 F A (fun F' A' => F' = F ∧ mrL o A' a1 nl L ∧ mrB o A' a1 B ∧ mlf o a1 A A' ∧ ∀ b, (b < o + 28 ∨ o + 35 < b) → A' b = A b) := by
  unfold wpX9_copies
  obtain ⟨b1, b2, b3⟩ := hB
  obtain ⟨l1, l2, l3⟩ := hL
  refine ⟨by omega, ?_⟩ -- s1: (0 ≤ a2 ∧ a2 < 22)
  refine ⟨by omega, ?_⟩ -- s2: (0 ≤ a1 ∧ a1 < 22)
  intro A3 e3
  have x3 : ∀ b, b ≠ o + 28 → A3 b = A b := fun b hb => by rw [e3, upA_o hb]
  have y3 : A3 (o + 28) a1 = A (o + 28) a2 := by rw [e3, upA_s]
  have z3 : ∀ i, i ≠ a1 → A3 (o + 28) i = A (o + 28) i := fun i hi => by rw [e3, upA_i hi]
  refine ⟨fun (v5 : Int) (A6 : jAr) => (0 ≤ v5 ∧ v5 ≤ 12) ∧ (∀ b, (b < o + 29 ∨ o + 33 < b) → A6 b = A3 b) ∧ (∀ i : Int, (i < 12 * a1 ∨ 12 * a1 + 12 ≤ i) → A6 (o + 29) i = A (o + 29) i ∧ A6 (o + 30) i = A (o + 30) i ∧ A6 (o + 31) i = A (o + 31) i ∧ A6 (o + 32) i = A (o + 32) i) ∧ (∀ i : Int, (i < 144 * a1 ∨ 144 * a1 + 144 ≤ i) → A6 (o + 33) i = A (o + 33) i) ∧ ∀ i : Int, 0 ≤ i → i < v5 → (A6 (o + 29) (12 * a1 + i) = A (o + 29) (12 * a2 + i) ∧ A6 (o + 30) (12 * a1 + i) = A (o + 30) (12 * a2 + i) ∧ A6 (o + 31) (12 * a1 + i) = A (o + 31) (12 * a2 + i) ∧ A6 (o + 32) (12 * a1 + i) = A (o + 32) (12 * a2 + i)) ∧ ∀ k : Int, 0 ≤ k → k < 12 → A6 (o + 33) (12 * (12 * a1 + i) + k) = A (o + 33) (12 * (12 * a2 + i) + k), fun v5 A6 => (12 - v5).toNat, ?_, ?_⟩ -- loop I8 I8 0 A3
  ·
    -- l1: I8 0 A3
    exact ⟨by omega, fun _ _ => rfl, fun i _ => by rw [x3 _ (by omega), x3 _ (by omega), x3 _ (by omega), x3 _ (by omega)]; exact ⟨rfl, rfl, rfl, rfl⟩, fun i _ => by rw [x3 _ (by omega)], fun i i0 i1 => by omega⟩
  intro v5 A6 i8
  obtain ⟨i1, i2, i3, i4, i5⟩ := i8
  refine ⟨fun hc => ?_, fun hc => ?_⟩ -- c1
  · -- case (12 ≤ v5)
    refine ⟨by omega, ?_⟩ -- s3: (0 ≤ a2 ∧ a2 < 22)
    refine ⟨by omega, ?_⟩ -- s4: (0 ≤ a1 ∧ a1 < 22)
    intro A13 e13
    have e34 : A6 (o + 34) a2 = B.1 := by rw [i2 _ (by omega), x3 _ (by omega)]; exact b1
    rw [e34] at e13
    have x13 : ∀ b, b ≠ o + 34 → A13 b = A6 b := fun b hb => by rw [e13, upA_o hb]
    have y13 : A13 (o + 34) a1 = B.1 := by rw [e13, upA_s]
    have z13 : ∀ i, i ≠ a1 → A13 (o + 34) i = A (o + 34) i := fun i hi => by rw [e13, upA_i hi, i2 _ (by omega), x3 _ (by omega)]
    refine ⟨fun (v15 : Int) (A16 : jAr) => 0 ≤ v15 ∧ v15 ≤ 4 * B.1 ∧ (∀ b, b ≠ o + 35 → A16 b = A13 b) ∧ (∀ i : Int, (i < 400 * a1 ∨ 400 * a1 + 400 ≤ i) → A16 (o + 35) i = A (o + 35) i) ∧ ∀ i : Int, 0 ≤ i → i < v15 → A16 (o + 35) (400 * a1 + i) = A (o + 35) (400 * a2 + i), fun v15 A16 => (4 * B.1 - v15).toNat, ?_, ?_⟩ -- loop I18 I18 0 A13
    ·
      -- l2: I18 0 A13
      exact ⟨by omega, by omega, fun _ _ => rfl, fun i _ => by rw [x13 _ (by omega), i2 _ (by omega), x3 _ (by omega)], fun i i0 i1 => by omega⟩
    intro v15 A16 i18
    obtain ⟨j0, j1, j2, j3, j4⟩ := i18
    have e16 : A16 (o + 34) a2 = B.1 := by rw [j2 _ (by omega), e13, upA_i (by omega)]; exact e34
    rw [e16]
    refine ⟨by omega, ?_⟩ -- s5: (0 ≤ a2 ∧ a2 < 22)
    refine ⟨by omega, ?_⟩ -- s6: jR (4 * (A16 (o + 34) a2))
    refine ⟨fun hc => ?_, fun hc => ?_⟩ -- c2
    · -- case ((4 * (A16 (o + 34) a2)) ≤ v15)
      -- l3: Q F A16
      have q : ∀ b, b ≠ o + 34 → b ≠ o + 35 → A16 b = A6 b := fun b h1 h2 => by rw [j2 b h2, x13 b h1]
      refine ⟨rfl, ⟨?_, fun p p0 p1 => ?_, fun l l0 l1' => ?_⟩, ⟨?_, b2, fun k j k0 k1 jj0 jj1 => ?_⟩, ⟨fun i hi => ⟨?_, ?_⟩, fun i hi => ?_, fun i hi => ?_, fun i hi => j3 i hi⟩, fun b hb => ?_⟩
      · rw [q _ (by omega) (by omega), i2 _ (by omega), y3]; exact l1
      · rw [q _ (by omega) (by omega), (i5 p p0 (by omega)).1.1]; exact l2 p p0 p1
      · obtain ⟨⟨r1, r2, r3, r4⟩, r5⟩ := i5 l l0 (by omega)
        obtain ⟨s1, s2, s3, s4⟩ := l3 l l0 l1'
        have := hR l l0 l1'
        exact ⟨by rw [q _ (by omega) (by omega), r2]; exact s1, by rw [q _ (by omega) (by omega), r3]; exact s2, by rw [q _ (by omega) (by omega), r4]; exact s3, fun k k0 k1 => by rw [q _ (by omega) (by omega), r5 k k0 (by omega)]; exact s4 k k0 k1⟩
      · rw [j2 _ (by omega)]; exact y13
      · have e := j4 (4 * k + j) (by omega) (by omega)
        rw [show 400 * a1 + 4 * k + j = 400 * a1 + (4 * k + j) by omega, e, ← b3 k j k0 k1 jj0 jj1]
        congr 1; omega
      · rw [q _ (by omega) (by omega), i2 _ (by omega), z3 i hi]
      · rw [j2 _ (by omega)]; exact z13 i hi
      · rw [q _ (by omega) (by omega), q _ (by omega) (by omega), q _ (by omega) (by omega), q _ (by omega) (by omega)]; exact i3 i hi
      · rw [q _ (by omega) (by omega)]; exact i4 i hi
      · rw [q _ (by omega) (by omega), i2 _ (by omega), x3 _ (by omega)]
    · -- case ¬ ((4 * (A16 (o + 34) a2)) ≤ v15)
      refine ⟨by omega, ?_⟩ -- s7: (0 ≤ (400 * a2) + v15 ∧ (400 * a2) + v15 < 8800)
      refine ⟨by omega, ?_⟩ -- s8: (0 ≤ (400 * a1) + v15 ∧ (400 * a1) + v15 < 8800)
      intro A25 e25
      refine ⟨by omega, ?_⟩ -- s9: jR (v15 + 1)
      refine ⟨?_, ?_⟩ -- l4: I18 (v15 + 1) A25
      · refine ⟨by omega, by omega, fun b hb => by rw [e25, upA_o hb]; exact j2 b hb, fun i hi => by rw [e25, upA_i (by omega)]; exact j3 i hi, fun i i0 i1' => ?_⟩
        rw [e25]
        by_cases w : i = v15
        · rw [w, upA_s, j3 _ (by omega)]
        · rw [upA_i (by omega)]; exact j4 i i0 (by omega)
      · dsimp only; omega
  · -- case ¬ (12 ≤ v5)
    refine ⟨by omega, ?_⟩ -- s10: jR ((12 * a1) + v5)
    intro v29 e29
    refine ⟨by omega, ?_⟩ -- s11: jR ((12 * a2) + v5)
    intro v31 e31
    refine ⟨by omega, ?_⟩ -- s12: (0 ≤ v31 ∧ v31 < 264)
    refine ⟨by omega, ?_⟩ -- s13: (0 ≤ v29 ∧ v29 < 264)
    intro A34 e34
    refine ⟨by omega, ?_⟩ -- s14: (0 ≤ v31 ∧ v31 < 264)
    refine ⟨by omega, ?_⟩ -- s15: (0 ≤ v29 ∧ v29 < 264)
    intro A38 e38
    refine ⟨by omega, ?_⟩ -- s16: (0 ≤ v31 ∧ v31 < 264)
    refine ⟨by omega, ?_⟩ -- s17: (0 ≤ v29 ∧ v29 < 264)
    intro A42 e42
    refine ⟨by omega, ?_⟩ -- s18: (0 ≤ v31 ∧ v31 < 264)
    refine ⟨by omega, ?_⟩ -- s19: (0 ≤ v29 ∧ v29 < 264)
    intro A46 e46
    subst e29 e31
    have w46 : ∀ b, b ≠ o + 29 → b ≠ o + 30 → b ≠ o + 31 → b ≠ o + 32 → A46 b = A6 b := fun b h1 h2 h3 h4 => by rw [e46, upA_o h4, e42, upA_o h3, e38, upA_o h2, e34, upA_o h1]
    have f29 : ∀ i, A46 (o + 29) i = (if i = 12 * a1 + v5 then A (o + 29) (12 * a2 + v5) else A6 (o + 29) i) := fun i => by
      rw [e46, upA_o (by omega), e42, upA_o (by omega), e38, upA_o (by omega), e34]
      by_cases w : i = 12 * a1 + v5
      · rw [if_pos w, w, upA_s]; exact (i3 _ (by omega)).1
      · rw [if_neg w, upA_i w]
    have f30 : ∀ i, A46 (o + 30) i = (if i = 12 * a1 + v5 then A (o + 30) (12 * a2 + v5) else A6 (o + 30) i) := fun i => by
      rw [e46, upA_o (by omega), e42, upA_o (by omega), e38]
      by_cases w : i = 12 * a1 + v5
      · rw [if_pos w, w, upA_s, e34, upA_o (by omega)]; exact (i3 _ (by omega)).2.1
      · rw [if_neg w, upA_i w, e34, upA_o (by omega)]
    have f31 : ∀ i, A46 (o + 31) i = (if i = 12 * a1 + v5 then A (o + 31) (12 * a2 + v5) else A6 (o + 31) i) := fun i => by
      rw [e46, upA_o (by omega), e42]
      by_cases w : i = 12 * a1 + v5
      · rw [if_pos w, w, upA_s, e38, upA_o (by omega), e34, upA_o (by omega)]; exact (i3 _ (by omega)).2.2.1
      · rw [if_neg w, upA_i w, e38, upA_o (by omega), e34, upA_o (by omega)]
    have f32 : ∀ i, A46 (o + 32) i = (if i = 12 * a1 + v5 then A (o + 32) (12 * a2 + v5) else A6 (o + 32) i) := fun i => by
      rw [e46]
      by_cases w : i = 12 * a1 + v5
      · rw [if_pos w, w, upA_s, e42, upA_o (by omega), e38, upA_o (by omega), e34, upA_o (by omega)]; exact (i3 _ (by omega)).2.2.2
      · rw [if_neg w, upA_i w, e42, upA_o (by omega), e38, upA_o (by omega), e34, upA_o (by omega)]
    clear e34 e38 e42 e46
    refine ⟨fun (v48 : Int) (A49 : jAr) => (0 ≤ v48 ∧ v48 ≤ 12) ∧ (∀ b, b ≠ o + 33 → A49 b = A46 b) ∧ (∀ i : Int, (i < 12 * (12 * a1 + v5) ∨ 12 * (12 * a1 + v5) + 12 ≤ i) → A49 (o + 33) i = A6 (o + 33) i) ∧ ∀ k : Int, 0 ≤ k → k < v48 → A49 (o + 33) (12 * (12 * a1 + v5) + k) = A (o + 33) (12 * (12 * a2 + v5) + k), fun v48 A49 => (12 - v48).toNat, ?_, ?_⟩ -- loop I51 I51 0 A46
    ·
      -- l5: I51 0 A46
      exact ⟨by omega, fun _ _ => rfl, fun i _ => by rw [w46 _ (by omega) (by omega) (by omega) (by omega)], fun k k0 k1 => by omega⟩
    intro v48 A49 i51
    obtain ⟨j1, j2, j3, j4⟩ := i51
    refine ⟨fun hc => ?_, fun hc => ?_⟩ -- c3
    · -- case (12 ≤ v48)
      refine ⟨by omega, ?_⟩ -- s20: jR (v5 + 1)
      refine ⟨?_, ?_⟩ -- l6: I8 (v5 + 1) A49
      · refine ⟨by omega, fun b hb => by rw [j2 b (by omega), w46 b (by omega) (by omega) (by omega) (by omega)]; exact i2 b hb, fun i hi => ?_, fun i hi => by rw [j3 i (by omega)]; exact i4 i hi, fun i i0 i1' => ?_⟩
        · rw [j2 _ (by omega), j2 _ (by omega), j2 _ (by omega), j2 _ (by omega), f29, f30, f31, f32, if_neg (by omega), if_neg (by omega), if_neg (by omega), if_neg (by omega)]; exact i3 i hi
        · rw [j2 _ (by omega), j2 _ (by omega), j2 _ (by omega), j2 _ (by omega), f29, f30, f31, f32]
          by_cases w : i = v5
          · rw [w, if_pos rfl, if_pos rfl, if_pos rfl, if_pos rfl]
            exact ⟨⟨rfl, rfl, rfl, rfl⟩, fun k k0 k1 => j4 k k0 (by omega)⟩
          · rw [if_neg (by omega), if_neg (by omega), if_neg (by omega), if_neg (by omega)]
            exact ⟨(i5 i i0 (by omega)).1, fun k k0 k1 => by rw [j3 _ (by omega)]; exact (i5 i i0 (by omega)).2 k k0 k1⟩
      · dsimp only; omega
    · -- case ¬ (12 ≤ v48)
      refine ⟨by omega, ?_⟩ -- s21: (0 ≤ (12 * v31) + v48 ∧ (12 * v31) + v48 < 3168)
      refine ⟨by omega, ?_⟩ -- s22: (0 ≤ (12 * v29) + v48 ∧ (12 * v29) + v48 < 3168)
      intro A57 e57
      refine ⟨by omega, ?_⟩ -- s23: jR (v48 + 1)
      refine ⟨?_, ?_⟩ -- l7: I51 (v48 + 1) A57
      · refine ⟨by omega, fun b hb => by rw [e57, upA_o hb]; exact j2 b hb, fun i hi => by rw [e57, upA_i (by omega)]; exact j3 i hi, fun k k0 k1 => ?_⟩
        rw [e57]
        by_cases w : k = v48
        · rw [w, upA_s, j3 _ (by omega)]; exact i4 _ (by omega)
        · rw [upA_i (by omega)]; exact j4 k k0 (by omega)
      · dsimp only; omega

