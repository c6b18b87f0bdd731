set_option maxRecDepth 100000
set_option linter.unusedVariables false
/-! the model's town is read; printed by gen/prove.py out of spec/az.mt7.spec -/
set_option maxHeartbeats 1000000 in
theorem sX9_begin {o : Nat} {F : jFl} {A : jAr} {b : Int} {W L : sTb} (hb : F 3039 o = b) (hb2 : 0 ≤ b ∧ b < 2) (hR : mrR o A b W L) (ht : tOk W L) : wpX9_begin o F A (fun F' A' => F' = upF F 3156 o 0 ∧ (∀ a, (a < o + 28 ∨ o + 34 < a) → A' a = A a) ∧ mrL o A' 0 (W 3 0 0) L ∧ A' (o + 34) 0 = 0) := by
  unfold wpX9_begin
  have m0 : A (o + 17) b = W 3 0 0 := hR.1.1.2.2.2
  have t3 := ht.2.2.2.1
  obtain ⟨z0, z9, z1⟩ := ht.2.2.2.2.2.2.2.2.2.2.2.1
  have zl := ht.2.2.2.2.2.2.2.2.2.2.2.2.1
  have rl := hR.2.2.2.2
  intro A2 e2
  intro A5 e5
  intro F7 e7
  have b7 : F7 3039 o = b := by rw [e7, upF_f (by decide)]; exact hb
  rw [b7]
  refine ⟨fun (v9 : Int) (A10 : jAr) => (0 ≤ v9 ∧ v9 ≤ W 3 0 0) ∧ (∀ a, (a < o + 28 ∨ o + 34 < a) → A10 a = A a) ∧ A10 (o + 28) 0 = 0 ∧ A10 (o + 34) 0 = 0 ∧ ∀ l : Int, 0 ≤ l → l < v9 → A10 (o + 29) l = l ∧ A10 (o + 30) l = L 2 l 0 ∧ A10 (o + 31) l = L 3 l 0 ∧ A10 (o + 32) l = L 4 l 0 ∧ ∀ k : Int, 0 ≤ k → k < L 2 l 0 + L 3 l 0 → A10 (o + 33) (12 * l + k) = L 5 l k, fun v9 A10 => (W 3 0 0 - v9).toNat, ?_, ?_⟩ -- loop I12 I12 0 A5
  ·
    -- l1: I12 0 A5
    exact ⟨by omega, fun a ha => by rw [e5, upA_o (by omega), e2, upA_o (by omega)], by rw [e5, upA_o (by omega), e2, upA_s], by rw [e5, upA_s], fun l l0 l1 => by omega⟩
  intro v9 A10 i12
  obtain ⟨i1, i2, i3, i4, i5⟩ := i12
  have c10 : A10 (o + 17) b = W 3 0 0 := by rw [i2 _ (by omega)]; exact m0
  rw [c10]
  refine ⟨by exact hb2, ?_⟩ -- s1: (0 ≤ F7 3039 o ∧ F7 3039 o < 2)
  refine ⟨fun hc => ?_, fun hc => ?_⟩ -- c1
  · -- case ((A10 (o + 17) (F7 3039 o)) ≤ v9)
    -- l2: Q F7 A10
    refine ⟨e7, i2, ⟨by rw [i3, z0], fun p p0 p1 => ?_, fun l l0 l1 => ?_⟩, i4⟩
    · rw [show 12 * 0 + p = p by omega, (i5 p p0 (by omega)).1, z1]
    · obtain ⟨-, j2, j3, j4, j5⟩ := i5 l l0 (by omega)
      rw [show 12 * 0 + l = l by omega]
      exact ⟨j2, j3, j4, j5⟩
  · -- case ¬ ((A10 (o + 17) (F7 3039 o)) ≤ v9)
    refine ⟨by omega, ?_⟩ -- s2: jR ((12 * (F7 3039 o)) + v9)
    intro v17 e17
    refine ⟨by omega, ?_⟩ -- s3: (0 ≤ v9 ∧ v9 < 264)
    intro A19 e19
    refine ⟨by omega, ?_⟩ -- s4: (0 ≤ v17 ∧ v17 < 24)
    refine ⟨by omega, ?_⟩ -- s5: (0 ≤ v9 ∧ v9 < 264)
    intro A23 e23
    refine ⟨by omega, ?_⟩ -- s6: (0 ≤ v17 ∧ v17 < 24)
    refine ⟨by omega, ?_⟩ -- s7: (0 ≤ v9 ∧ v9 < 264)
    intro A27 e27
    refine ⟨by omega, ?_⟩ -- s8: (0 ≤ v17 ∧ v17 < 24)
    refine ⟨by omega, ?_⟩ -- s9: (0 ≤ v9 ∧ v9 < 264)
    intro A31 e31
    have g31 : ∀ a, (a < o + 29 ∨ o + 32 < a) → A31 a = A10 a := fun a ha => by rw [e31, upA_o (by omega), e27, upA_o (by omega), e23, upA_o (by omega), e19, upA_o (by omega)]
    have g31i : ∀ (a : Nat) (i : Int), i ≠ v9 → A31 a i = A10 a i := fun a i hi => by rw [e31, upA_i hi, e27, upA_i hi, e23, upA_i hi, e19, upA_i hi]
    obtain ⟨r0, r4, r2, r3, r5⟩ := rl v9 i1.1 (by omega)
    have lim := zl v9 i1.1 (by omega)
    have g29 : A31 (o + 29) v9 = v9 := by rw [e31, upA_o (by omega), e27, upA_o (by omega), e23, upA_o (by omega), e19, upA_s]
    have g30 : A31 (o + 30) v9 = L 2 v9 0 := by rw [e31, upA_o (by omega), e27, upA_o (by omega), e23, upA_s, e19, upA_o (by omega), i2 _ (by omega), e17]; exact r2
    have g31' : A31 (o + 31) v9 = L 3 v9 0 := by rw [e31, upA_o (by omega), e27, upA_s, e23, upA_o (by omega), e19, upA_o (by omega), i2 _ (by omega), e17]; exact r3
    have g32 : A31 (o + 32) v9 = L 4 v9 0 := by rw [e31, upA_s, e27, upA_o (by omega), e23, upA_o (by omega), e19, upA_o (by omega), i2 _ (by omega), e17]; exact r4
    refine ⟨fun (v33 : Int) (A34 : jAr) => (0 ≤ v33 ∧ v33 ≤ 12) ∧ (∀ a, a ≠ o + 33 → A34 a = A31 a) ∧ (∀ i : Int, i < 12 * v9 → A34 (o + 33) i = A31 (o + 33) i) ∧ ∀ k : Int, 0 ≤ k → k < v33 → A34 (o + 33) (12 * v9 + k) = A (o + 22) (12 * v17 + k), fun v33 A34 => (12 - v33).toNat, ?_, ?_⟩ -- loop I36 I36 0 A31
    ·
      -- l3: I36 0 A31
      exact ⟨by omega, fun _ _ => rfl, fun _ _ => rfl, fun k k0 k1 => by omega⟩
    intro v33 A34 i36
    obtain ⟨j1, j2, j3, j4⟩ := i36
    refine ⟨fun hc => ?_, fun hc => ?_⟩ -- c2
    · -- case (12 ≤ v33)
      refine ⟨by omega, ?_⟩ -- s10: jR (v9 + 1)
      refine ⟨?_, ?_⟩ -- l4: I12 (v9 + 1) A34
      · refine ⟨by omega, fun a ha => by rw [j2 _ (by omega), g31 _ (by omega)]; exact i2 a ha, by rw [j2 _ (by omega), g31 _ (by omega)]; exact i3, by rw [j2 _ (by omega), g31 _ (by omega)]; exact i4, fun l l0 l1 => ?_⟩
        rw [j2 _ (by omega), j2 _ (by omega), j2 _ (by omega), j2 _ (by omega)]
        by_cases w : l = v9
        · rw [w]
          refine ⟨g29, g30, g31', g32, fun k k0 k1 => ?_⟩
          rw [j4 k k0 (by omega), e17]
          exact r5 k k0 k1
        · obtain ⟨k1, k2, k3, k4, k5⟩ := i5 l l0 (by omega)
          rw [g31i _ _ w, g31i _ _ w, g31i _ _ w, g31i _ _ w]
          have lim2 := zl l l0 (by omega)
          exact ⟨k1, k2, k3, k4, fun k y0 y1 => by rw [j3 _ (by omega), g31 _ (by omega)]; exact k5 k y0 y1⟩
      · dsimp only; omega
    · -- case ¬ (12 ≤ v33)
      refine ⟨by omega, ?_⟩ -- s11: (0 ≤ (12 * v17) + v33 ∧ (12 * v17) + v33 < 288)
      refine ⟨by omega, ?_⟩ -- s12: (0 ≤ (12 * v9) + v33 ∧ (12 * v9) + v33 < 3168)
      intro A42 e42
      refine ⟨by omega, ?_⟩ -- s13: jR (v33 + 1)
      refine ⟨?_, ?_⟩ -- l5: I36 (v33 + 1) A42
      · refine ⟨by omega, fun a ha => by rw [e42, upA_o ha]; exact j2 a ha, fun i hi => by rw [e42, upA_i (by omega)]; exact j3 i hi, fun k k0 k1 => ?_⟩
        by_cases w : k = v33
        · rw [w, e42, upA_s, j2 _ (by omega), g31 _ (by omega), i2 _ (by omega)]
        · rw [e42, upA_i (by omega)]; exact j4 k k0 (by omega)
      · dsimp only; omega

theorem tnC_sm {o : Nat} {q : Int → Int} {n b p : Int} {F F' : jFl} {A A' : jAr} {W L : sTb} {c : Int × Int} (h : c = (smS W L q n p).1 ∨ ((smS W L q n p).1.1 = 0 ∧ c = (1, tkAt q n (smS W L q n p).2.1) ∧ tkKd q n (tkAt q n (smS W L q n p).2.1) = 1 ∧ tkBad q n (tkAt q n (smS W L q n p).2.1) = -1)) : fb c (asS 59 q n (smS W L q n p).2.1) = tnC W L q n p := by
  unfold tnC
  rcases h with w | ⟨w1, w2, w3, w4⟩
  · rw [w]
  · have e : asS 59 q n (smS W L q n p).2.1 = (1, tkAt q n (smS W L q n p).2.1) := asF_no w4 (fun y => by omega)
    rw [fb_ok w1, w2, fb_no (by show (1 : Int) ≠ 0; decide), e]
theorem fb_as (a b c : Int × Int) : fb a (fb b c) = fb (fb a b) c := by
  by_cases w : a.1 = 0
  · rw [fb_ok w, fb_ok w]
  · rw [fb_no w, fb_no w, fb_no w]
theorem mrR0 {o : Nat} {A : jAr} {b : Int} (h : A (o + 2) b = 0 ∧ A (o + 9) b = 0 ∧ A (o + 12) b = 0 ∧ A (o + 17) b = 0) (h2 : A (o + 23) b = 12 ∧ A (o + 24) b = 2 ∧ A (o + 25) b = 0) : mrR o A b sW0 sL0 := ⟨⟨h, h2⟩, fun w x y => by have y : w < 0 := y; omega, fun w x y => by have y : w < 0 := y; omega, fun w x y => by have y : w < 0 := y; omega, fun w x y => by have y : w < 0 := y; omega⟩
set_option maxHeartbeats 2000000 in
theorem sX9_town {o : Nat} {F : jFl} {A : jAr} {R : Int} {W L : sTb} {B : sBk} {U : sUn} {Q : sMi} (h : mst R o F A W L B U Q) (hR : R < 1000000000) : wpX9_town o F A (fun z F' A' => ((sTn (Q 1) (Q 0 0)).1.1 ≠ 0 → z = -1 ∧ mst (R + 1) o F' A' W L B U (qRef (qFlt (qLen Q 0) (sTn (Q 1) (Q 0 0)).1) 1)) ∧ ((sTn (Q 1) (Q 0 0)).1.1 = 0 → z = (sTn (Q 1) (Q 0 0)).2.1 ∧ mst (R + 1) o F' A' (sTn (Q 1) (Q 0 0)).2.2.1 (sTn (Q 1) (Q 0 0)).2.2.2 (0, B.2) (0, U.2) (qFlt (qLen Q 0) (0, -1)))) := by
  unfold wpX9_town
  obtain ⟨⟨⟨hk, hW, hL, hh, hv⟩, h9⟩, hB, hU, hM⟩ := id h
  obtain ⟨bb1, bb2⟩ : mBk o F := hW.1
  obtain ⟨⟨q1, q2, q3⟩, q4, g3, -, g5, g6, g7⟩ := id hM
  obtain ⟨RR, hRR⟩ : ∃ RR, RR = sTn (Q 1) (Q 0 0) := ⟨_, rfl⟩
  obtain ⟨b, hb⟩ : ∃ b, b = 1 - F 3039 o := ⟨_, rfl⟩
  have hb2 : 0 ≤ b ∧ b < 2 := by omega
  rw [← hRR, ← hb]
  refine ⟨by omega, ?_⟩ -- s1: jR (1 - (F 3039 o))
  intro F2 e2
  have b2 : F2 3114 o = b := by rw [e2, upF_s]
  have f2 : ∀ f, f ≠ 3114 → F2 f o = F f o := fun f hf => by rw [e2, upF_f hf]
  rw [b2]
  refine ⟨by omega, ?_⟩ -- s2: (0 ≤ F2 3114 o ∧ F2 3114 o < 2)
  intro A5 e5
  refine ⟨by omega, ?_⟩ -- s3: (0 ≤ F2 3114 o ∧ F2 3114 o < 2)
  intro A8 e8
  refine ⟨by omega, ?_⟩ -- s4: (0 ≤ F2 3114 o ∧ F2 3114 o < 2)
  intro A11 e11
  refine ⟨by omega, ?_⟩ -- s5: (0 ≤ F2 3114 o ∧ F2 3114 o < 2)
  intro A14 e14
  refine ⟨by omega, ?_⟩ -- s6: (0 ≤ F2 3114 o ∧ F2 3114 o < 2)
  intro A17 e17
  refine ⟨by omega, ?_⟩ -- s7: (0 ≤ F2 3114 o ∧ F2 3114 o < 2)
  intro A20 e20
  refine ⟨by omega, ?_⟩ -- s8: (0 ≤ F2 3114 o ∧ F2 3114 o < 2)
  intro A23 e23
  have i1 : 1 * b ≤ b ∧ b < 1 * b + 1 := by omega
  have m23 : mfB o b A A23 := by
    rw [e23, e20, e17, e14, e11, e8, e5]
    exact ((((((((mfB.refl o b A).up (k := 2) (by decide) i1).up (k := 9) (by decide) i1).up (k := 12) (by decide) i1).up (k := 17) (by decide) i1).up (k := 23) (by decide) i1).up (k := 24) (by decide) i1).up (k := 25) (by decide) i1)
  have r23 : mrR o A23 b sW0 sL0 := mrR0 ⟨by rw [e23, upA_o (by omega), e20, upA_o (by omega), e17, upA_o (by omega), e14, upA_o (by omega), e11, upA_o (by omega), e8, upA_o (by omega), e5, upA_s], by rw [e23, upA_o (by omega), e20, upA_o (by omega), e17, upA_o (by omega), e14, upA_o (by omega), e11, upA_o (by omega), e8, upA_s], by rw [e23, upA_o (by omega), e20, upA_o (by omega), e17, upA_o (by omega), e14, upA_o (by omega), e11, upA_s], by rw [e23, upA_o (by omega), e20, upA_o (by omega), e17, upA_o (by omega), e14, upA_s]⟩ ⟨by rw [e23, upA_o (by omega), e20, upA_o (by omega), e17, upA_s], by rw [e23, upA_o (by omega), e20, upA_s], by rw [e23, upA_s]⟩
  refine ⟨_, sX9_takesTape (R := R) (Q := Q) (hM.of (fun f hf => f2 f (by omega)) (m23.1 _ (by omega)) (m23.1 _ (by omega)) (m23.1 _ (by omega))), ?_⟩ -- call wpX9_takesTape o F2 A23 P25
  intro F28 A29 p25
  obtain ⟨t1, t2, t3, t4, t7, t5, t6⟩ := p25
  subst t1
  have T28 : mTp o F28 A29 (Q 1) (Q 0 0) := ⟨fun i i0 i1 => by rw [m23.1 _ (by omega)]; exact q4 i i0 i1, t3, q2, q3⟩
  refine ⟨fun (v33 : Int) (F34 : jFl) (A35 : jAr) => (0 ≤ v33 ∧ v33 ≤ 90) ∧ mgF o F28 F34 ∧ mfB o b A A35 ∧ ∃ c : Int × Int, ((c.1 ≠ 0 ∧ RR.1 = c ∧ ∃ p, mG o (Q 1) (Q 0 0) c p F34) ∨ (c = (0, 0) ∧ ∃ (p : Int) (W1 L1 : sTb), mG o (Q 1) (Q 0 0) (0, 0) p F34 ∧ (v33 = 90 → Q 0 0 ≤ tkAt (Q 1) (Q 0 0) p) ∧ RR = tnN (Q 1) (Q 0 0) (91 - v33).toNat v33 p W1 L1 ∧ tOk W1 L1 ∧ mrR o A35 b W1 L1)), fun v33 F34 A35 => (90 - v33).toNat, ?_, ?_⟩ -- loop I37 I37 0 F28 A29
  ·
    -- l1: I37 0 F28 A29
    exact ⟨by omega, mgF.refl o F28, m23, _, Or.inr ⟨rfl, 0, sW0, sL0, ⟨⟨t2, Int.le_refl 0⟩, fun _ => ⟨t7, t5, Int.le_refl 0, q2⟩, fun w => absurd rfl w⟩, fun w => by omega, hRR, tOk_0, r23⟩⟩
  intro v33 F34 A35 i37
  obtain ⟨i1', i2, i3, c, i4⟩ := i37
  have T34 : mTp o F34 A35 (Q 1) (Q 0 0) := ⟨fun i i0 i1 => by rw [i3.1 _ (by omega)]; exact q4 i i0 i1, by rw [i2 _ _ (fun _ => by decide)]; exact t3, q2, q3⟩
  have fr : ∀ f, (f ≠ 3003 ∧ f ≠ 3006 ∧ f ≠ 3009 ∧ f ≠ 3012 ∧ f ≠ 3015 ∧ f ≠ 3018 ∧ f ≠ 3022 ∧ f ≠ 3036 ∧ f ≠ 3024 ∧ f ≠ 3027 ∧ f ≠ 3120 ∧ f ≠ 3123 ∧ f ≠ 3114) → F34 f o = F f o := fun f hf => by rw [i2 _ _ (fun _ => by omega), t6 _ _ (fun _ => by omega), f2 _ (by omega)]
  have b34 : F34 3114 o = b := by rw [i2 _ _ (fun _ => by decide), t6 _ _ (fun _ => by decide)]; exact b2
  refine ⟨F34 3024 o ≠ 0 ∨ F34 3009 o = 0, ?_, ?_⟩ -- join K40
  · intro k40
    intro F43 e43
    intro F45 e45
    have h45 : ∀ f, f ≠ 3030 → f ≠ 3033 → F45 f o = F34 f o := fun f h1 h2 => by rw [e45, upF_f h2, e43, upF_f h1]
    have m30 : F45 3030 o = F34 3024 o := by rw [e45, upF_f (by decide), e43, upF_s]
    have m33 : F45 3033 o = F34 3027 o := by rw [e45, upF_s, e43, upF_f (by decide)]
    have s45 : F45 3003 o = 0 := by rw [h45 _ (by decide) (by decide), i2 _ _ (fun _ => by decide)]; exact t4
    have fs : ∀ g, g = 3039 ∨ g = 3186 ∨ g = 3153 ∨ g = 3156 ∨ g = 3160 ∨ g = 3237 → F45 g o = F g o := fun g hg => by rw [h45 _ (by omega) (by omega), fr _ (by omega)]
    have M45 : ∀ (F' : jFl) (A' : jAr) (f : Int × Int), F' 3003 o = 0 → F' 3030 o = f.1 → F' 3033 o = f.2 → F' 3160 o = F 3160 o → F' 3237 o = F 3237 o → A' (o + 27) = A (o + 27) → A' (o + 48) = A (o + 48) → mMi R o F' A' (qFlt (qLen Q 0) f) := fun F' A' f y1 y2 y3 y4 y5 y6 y7 => ⟨⟨y1, Int.le_refl 0, (by decide : (0 : Int) ≤ 1600)⟩, fun i i0 i1 => by have i1 : i < 0 := i1; omega, fun r r0 r1' => by rw [y6]; exact g3 r r0 r1', ⟨y2, y3⟩, by rw [y4]; exact g5, by rw [y5]; exact g6, fun k k0 k1 => by rw [y7]; exact g7 k k0 k1⟩
    refine ⟨fun hc => ?_, fun hc => ?_⟩ -- c1
    · -- case ((F45 3024 o) ≤ 0)
      intro F48 e48
      obtain ⟨p, W1, L1, G, w90, eR, ht1, hR1⟩ : ∃ (p : Int) (W1 L1 : sTb), mG o (Q 1) (Q 0 0) (0, 0) p F34 ∧ (v33 = 90 → Q 0 0 ≤ tkAt (Q 1) (Q 0 0) p) ∧ RR = tnN (Q 1) (Q 0 0) (91 - v33).toNat v33 p W1 L1 ∧ tOk W1 L1 ∧ mrR o A35 b W1 L1 := by
        rcases i4 with ⟨w, -, p, w2⟩ | ⟨-, w⟩
        · exfalso
          have := w2.1
          rw [h45 _ (by decide) (by decide)] at hc
          omega
        · exact w
      have b48 : F48 3039 o = b := by rw [e48, upF_s, h45 _ (by decide) (by decide)]; exact b34
      refine ⟨_, sX9_begin b48 hb2 hR1 ht1, ?_⟩ -- call wpX9_begin o F48 A35 P50
      intro F53 A54 p50
      -- l2: Q v33 F53 A54
      obtain ⟨u1, u2, u3, u4⟩ := p50
      obtain ⟨y1, y2, y3⟩ := G.2.1 rfl
      have ed : Q 0 0 ≤ tkAt (Q 1) (Q 0 0) p := by
        rcases k40 with w | w
        · exact absurd G.1.1 w
        · rw [y2.2.2.1] at w
          have t := nx_range (q := Q 1) y3
          rcases tk_cases (Q 1) (Q 0 0) (tkAt (Q 1) (Q 0 0) p) t.1.2 with z | z | z | z <;> omega
      rw [tnN_end ed] at eR
      have f53 : ∀ f, f ≠ 3156 → f ≠ 3039 → F53 f o = F45 f o := fun f h1 h2 => by rw [u1, upF_f h1, e48, upF_f h2]
      have b53 : F53 3039 o = b := by rw [u1, upF_f (by decide)]; exact b48
      rw [eR]
      refine ⟨fun w => absurd rfl w, fun _ => ⟨rfl, ⟨⟨⟨ht1.W, ht1.L⟩, ?_, u3, by rw [f53 _ (by decide) (by decide), fs _ (by decide)]; exact hh, by decide⟩, ht1.2.2.2.2.2.2.2.2.2.2.2.1.2.1⟩, ⟨u4, (by decide : (0 : Int) ≤ 0 ∧ (0 : Int) ≤ 100), fun k j k0 k1 => by have k1 : k < 0 := k1; omega⟩, ⟨(by decide : (0 : Int) ≤ 0 ∧ (0 : Int) ≤ 20), by rw [u1, upF_s], by rw [f53 _ (by decide) (by decide), fs _ (by decide)]; exact hU.2.2.1, fun i i0 i1 => by have i1 : i < 0 := i1; omega⟩, ?_⟩⟩
      · obtain ⟨⟨⟨a1, a2, a3, a4⟩, a5, a6, a7⟩, h1, h2, h3, h4⟩ := hR1
        unfold mrW mBk
        rw [b53]
        refine ⟨hb2, ⟨by rw [u2 _ (by omega)]; exact a1, by rw [u2 _ (by omega)]; exact a2, by rw [u2 _ (by omega)]; exact a3, by rw [u2 _ (by omega)]; exact a4⟩, ⟨by rw [u2 _ (by omega)]; exact a5, by rw [u2 _ (by omega)]; exact a6, by rw [u2 _ (by omega)]; exact a7⟩, fun w x y => ?_, fun s x y => ?_, fun s x y => ?_, fun l x y => ?_⟩
        · rw [u2 _ (by omega), u2 _ (by omega), u2 _ (by omega), u2 _ (by omega), u2 _ (by omega), u2 _ (by omega)]
          exact h1 w x y
        · rw [u2 _ (by omega), u2 _ (by omega)]
          have := ht1.1
          exact ⟨(h2 s x y).1, fun w x2 y2 => (h2 s x y).2 w x2 (by have y2 : w < W1 0 0 0 := y2; omega)⟩
        · rw [u2 _ (by omega), u2 _ (by omega), u2 _ (by omega), u2 _ (by omega)]
          have := ht1.1
          exact ⟨(h3 s x y).1, (h3 s x y).2.1, (h3 s x y).2.2.1, fun w x2 y2 => (h3 s x y).2.2.2 w x2 (by have y2 : w < W1 0 0 0 := y2; omega)⟩
        · rw [u2 _ (by omega)]
          exact (h4 l x y).1
      · exact (M45 F53 A54 (0, -1) (by rw [f53 _ (by decide) (by decide)]; exact s45) (by rw [f53 _ (by decide) (by decide), m30]; exact G.1.1) (by rw [f53 _ (by decide) (by decide), m33]; exact y1) (by rw [f53 _ (by decide) (by decide), fs _ (by decide)]) (by rw [f53 _ (by decide) (by decide), fs _ (by decide)]) (by rw [u2 _ (by omega), i3.1 _ (by omega)]) (by rw [u2 _ (by omega), i3.1 _ (by omega)])).mono (by omega)
    · -- case ¬ ((F45 3024 o) ≤ 0)
      obtain ⟨w1, w2, p, w3⟩ : c.1 ≠ 0 ∧ RR.1 = c ∧ ∃ p, mG o (Q 1) (Q 0 0) c p F34 := by
        rcases i4 with w | ⟨-, p, W1, L1, w2, -⟩
        · exact w
        · exfalso
          rw [h45 _ (by decide) (by decide), w2.1.1] at hc
          exact hc (Int.le_refl 0)
      have M : mst R o F45 A35 W L B U (qFlt (qLen Q 0) c) := by
        refine ⟨⟨⟨hk, hW.oth hk.1 (fs _ (by decide)) hb2 (by omega) i3, hL.of (fun k k0 k1 => i3.1 _ (by omega)), by rw [fs _ (by decide)]; exact hh, hv⟩, h9⟩, hB.of (i3.1 _ (by omega)) (i3.1 _ (by omega)), hU.fr hk.1 (fs _ (by decide)) (fs _ (by decide)) (fun k k0 k1 => i3.1 _ (by omega)), M45 F45 A35 c s45 (by rw [m30, w3.1.1]) (by rw [m33, w3.2.2 w1]) (fs _ (by decide)) (fs _ (by decide)) (i3.1 _ (by omega)) (i3.1 _ (by omega))⟩
      refine ⟨_, sX9_refuses M hR (by decide), ?_⟩ -- call wpX9_refuses o 1 F45 A35 P58
      intro z60 F61 A62 p58
      -- l3: Q z60 F61 A62
      rw [w2]
      exact ⟨fun _ => ⟨p58.1, p58.2⟩, fun w => absurd w w1⟩
  refine ⟨fun hc => ?_, fun hc => ?_⟩ -- c2
  · -- case (¬ (F34 3024 o) = 0)
    -- l4: K40
    exact Or.inl hc
  · -- case ¬ (¬ (F34 3024 o) = 0)
    refine ⟨fun hc => ?_, fun hc => ?_⟩ -- c3
    · -- case ((F34 3009 o) = 0)
      -- l5: K40
      exact Or.inr hc
    · -- case ¬ ((F34 3009 o) = 0)
      obtain ⟨p, W1, L1, G, w90, eR, ht1, hR1⟩ : ∃ (p : Int) (W1 L1 : sTb), mG o (Q 1) (Q 0 0) (0, 0) p F34 ∧ (v33 = 90 → Q 0 0 ≤ tkAt (Q 1) (Q 0 0) p) ∧ RR = tnN (Q 1) (Q 0 0) (91 - v33).toNat v33 p W1 L1 ∧ tOk W1 L1 ∧ mrR o A35 b W1 L1 := by
        rcases i4 with ⟨w, -, p, w2⟩ | ⟨-, w⟩
        · exfalso
          have := w2.1
          omega
        · exact w
      obtain ⟨y1, y2, y3⟩ := G.2.1 rfl
      have lt : tkAt (Q 1) (Q 0 0) p < Q 0 0 := tkKd_lt (by rw [← y2.2.2.1]; assumption)
      have v90 : v33 < 90 := by
        by_cases w : v33 = 90
        · have := w90 w; omega
        · omega
      rw [show (91 - v33).toNat = (90 - v33).toNat + 1 by omega] at eR
      refine ⟨_, sX9_statement T34 G b34 hb2 hR1 ht1, ?_⟩ -- call wpX9_statement o F34 A35 P67
      intro F70 A71 p67
      obtain ⟨u1, u2, c', u3, u4, u5⟩ := p67
      have T70 := T34.of u1 (u2.1 _ (by omega))
      refine ⟨by omega, ?_⟩ -- s9: jR (v33 + 1)
      refine ⟨_, sX9_finishes T70 u3, ?_⟩ -- call wpX9_finishes o (v33 + 1) F70 A71 P76
      intro F79 A80 p76
      refine ⟨?_, ?_⟩ -- l6: I37 (v33 + 1) F79 A80
      · obtain ⟨x1, x2, x3⟩ := p76
        subst x1
        rw [fb_as, tnC_sm (o := o) (b := b) (F := F) (F' := F) (A := A) (A' := A) u5] at x3
        refine ⟨by omega, (i2.trans u1).trans x2, i3.trans u2, ?_⟩
        by_cases z : (tnC W1 L1 (Q 1) (Q 0 0) p).1 = 0
        · rw [tnN_go lt (by omega) z] at eR
          rw [fb_ok z] at x3
          obtain ⟨z1, z2⟩ := tnC_0 z
          obtain ⟨o1, o2⟩ := smS_ok y3 ht1 z1
          have rx := nx_range (q := Q 1) (n := Q 0 0) (p := (smS W1 L1 (Q 1) (Q 0 0) p).2.1) (by omega)
          by_cases w : v33 + 1 = 90 ∧ tkAt (Q 1) (Q 0 0) (nx (Q 1) (Q 0 0) (smS W1 L1 (Q 1) (Q 0 0) p).2.1) < Q 0 0
          · have ex : tnX (v33 + 1) (Q 1) (Q 0 0) (smS W1 L1 (Q 1) (Q 0 0) p).2.1 = (5, tkAt (Q 1) (Q 0 0) (nx (Q 1) (Q 0 0) (smS W1 L1 (Q 1) (Q 0 0) p).2.1)) := if_pos w
            rw [ex] at x3
            rw [show (90 - v33).toNat = 0 + 1 by omega, tnN_90 w.2 w.1] at eR
            exact ⟨_, Or.inl ⟨by show (5 : Int) ≠ 0; decide, by rw [eR], _, x3⟩⟩
          · have ex : tnX (v33 + 1) (Q 1) (Q 0 0) (smS W1 L1 (Q 1) (Q 0 0) p).2.1 = (0, 0) := if_neg w
            rw [ex] at x3
            refine ⟨_, Or.inr ⟨rfl, _, _, _, x3, fun w2 => ?_, ?_, o2, ?_⟩⟩
            · exact Classical.byContradiction (fun w3 => w ⟨w2, by omega⟩)
            · rw [show (91 - (v33 + 1)).toNat = (90 - v33).toNat by omega]; exact eR
            · have c0 : c'.1 = 0 := by
                rcases u5 with y | ⟨-, y, yy⟩
                · rw [y]; exact z1
                · exfalso
                  rw [← tnC_sm (o := o) (b := b) (F := F) (F' := F) (A := A) (A' := A) (Or.inr ⟨z1, y, yy⟩), y, fb_no (by show (1 : Int) ≠ 0; decide)] at z
                  exact absurd z (by show ¬ (1 : Int) = 0; decide)
              exact u4 c0
        · rw [tnN_bad lt (by omega) z] at eR
          rw [fb_no z] at x3
          exact ⟨_, Or.inl ⟨z, by rw [eR], _, x3⟩⟩
      · dsimp only; omega

