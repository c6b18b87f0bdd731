set_option maxRecDepth 100000
set_option linter.unusedVariables false
/-! the model: a sitting becomes law, years; printed by gen/prove.py out of spec/78.ms4.spec -/
theorem sYear1_ok {W L : sTb} (h : sLok W L) (hy : L 0 0 0 < 9999) : sLok W (sYear1 L) := by
  obtain ⟨k1, k2, k3, k4, k5⟩ := h
  refine ⟨?_, k2, k3, k4, k5⟩
  show 0 ≤ L 0 0 0 + 1 ∧ L 0 0 0 + 1 ≤ 9999
  omega
set_option maxHeartbeats 2000000 in
theorem sX9_renews {o : Nat} {a1 : Int} {a2 : Int} {F : jFl} {A : jAr} {W L : sTb} {B : sBk} (hc0 : mct o F A a1 W L) (h9 : L 9 0 0 = 0) (hB : mrB o A a1 B) (h2 : 0 ≤ a2 ∧ a2 < W 2 0 0) : wpX9_renews o a1 a2 F A (fun F' A' => (mct o F' A' a1 W (sRenew W L a2 B).1 ∧ mrB o A' a1 (sRenew W L a2 B).2) ∧ mlf o a1 A A' ∧ (∀ f b, (b = o → (f < 3165 ∨ 3183 < f) ∧ f ≠ 3192) → F' f b = F f b) ∧ ∀ b, (b < o + 30 ∨ o + 42 < b) → A' b = A b) := by
  unfold wpX9_renews
  have hk := hc0.1.1
  have hLk := hc0.1.2
  have w3 := hk.2.2.2.1
  have ok := sSeats_ok hk hLk (n := W 3 0 0) (by omega)
  have inj := sSeats_inj hLk h9 (n := W 3 0 0) (by omega)
  refine ⟨_, sX9_seatsOf hc0, ?_⟩ -- call wpX9_seatsOf o a1 F A P1
  intro F4 A5 p1
  obtain ⟨⟨q1, q2⟩, q3, q4⟩ := p1
  have hc1 : mct o F4 A5 a1 W L := hc0.fr ⟨fun f b hb => q3 f b (fun w => (hb w).2.1), fun b hb => q4 b (by omega)⟩
  refine ⟨_, sX9_sittingOf (n := (sSeats L (W 3 0 0)).1) (seat := (sSeats L (W 3 0 0)).2) hc1 h2 ⟨q1, ok.1.1, by omega⟩ (fun i i0 i1 => ⟨(ok.2 i i0 i1).1, q2 i i0 i1⟩) inj, ?_⟩ -- call wpX9_sittingOf o a1 a2 F4 A5 P9
  intro F12 A13 p9
  obtain ⟨r1, r2, r3⟩ := p9
  have hR : sRenew W L a2 B = it (sRenewF a2 (sSits W L a2 (sSeats L (W 3 0 0)).2 (sSeats L (W 3 0 0)).1.toNat) (sSeats L (W 3 0 0)).2) (L, B) (sSeats L (W 3 0 0)).1.toNat := rfl
  have sok := sSits_ok (n := (sSeats L (W 3 0 0)).1.toNat) (seat := (sSeats L (W 3 0 0)).2) hk hLk h2 (fun i i0 i1 => (ok.2 i i0 (by omega)).1)
  have so1 := sSits_o1 (W := W) (c := a2) (n := (sSeats L (W 3 0 0)).1.toNat) (seat := (sSeats L (W 3 0 0)).2) hLk (fun i i0 i1 => (ok.2 i i0 (by omega)).1)
  rw [hR]
  generalize sSits W L a2 (sSeats L (W 3 0 0)).2 (sSeats L (W 3 0 0)).1.toNat = S at r1 sok so1 ⊢
  have q13 : F12 3192 o = (sSeats L (W 3 0 0)).1 := by rw [r2 _ _ (fun _ => by decide)]; exact q1
  have q38 : ∀ i : Int, 0 ≤ i → i < (sSeats L (W 3 0 0)).1 → A13 (o + 38) i = (sSeats L (W 3 0 0)).2 i := fun i i0 i1 => by rw [r3 _ (by omega)]; exact q2 i i0 i1
  have hc2 : mct o F12 A13 a1 W L := hc1.fr ⟨fun f b hb => r2 f b (fun w => (hb w).1), fun b hb => r3 b (by omega)⟩
  have hB2 : mrB o A13 a1 B := (hB.of (q4 _ (by omega)) (q4 _ (by omega))).of (r3 _ (by omega)) (r3 _ (by omega))
  have ff : ∀ f b, (b = o → (f < 3165 ∨ 3183 < f) ∧ f ≠ 3192) → F12 f b = F f b := fun f b hb => by rw [r2 f b (fun w => (hb w).1), q3 f b (fun w => (hb w).2)]
  have fa : ∀ b, (b < o + 30 ∨ o + 42 < b) → A13 b = A b := fun b hb => by rw [r3 b (by omega), q4 b (by omega)]
  have fl : mlf o a1 A A13 := mlf.eq (fun k _ _ => by rw [r3 _ (by omega), q4 _ (by omega)])
  clear q3 q4 r2 r3
  generalize (sSeats L (W 3 0 0)).2 = seat at *
  generalize (sSeats L (W 3 0 0)).1 = n at *
  refine ⟨fun (v17 : Int) (F18 : jFl) (A19 : jAr) => (0 ≤ v17 ∧ v17 ≤ n) ∧ (mct o F18 A19 a1 W (it (sRenewF a2 S seat) (L, B) v17.toNat).1 ∧ mrB o A19 a1 (it (sRenewF a2 S seat) (L, B) v17.toNat).2) ∧ mlf o a1 A A19 ∧ (∀ f b, (b = o → (f < 3165 ∨ 3183 < f)) → F18 f b = F12 f b) ∧ ∀ b, (b < o + 30 ∨ o + 37 < b) → A19 b = A13 b, fun v17 F18 A19 => (n - v17).toNat, ?_, ?_⟩ -- loop I21 I21 0 F12 A13
  ·
    -- l1: I21 0 F12 A13
    exact ⟨by omega, ⟨hc2, hB2⟩, fl, fun _ _ _ => rfl, fun _ _ => rfl⟩
  intro v17 F18 A19 i21
  obtain ⟨i1, ⟨i2, i3⟩, i4, i5, i6⟩ := i21
  have e1 : F18 3192 o = n := by rw [i5 _ _ (fun _ => by decide)]; exact q13
  rw [e1]
  have st : it (sRenewF a2 S seat) (L, B) (v17 + 1).toNat = sRenewF a2 S seat v17 (it (sRenewF a2 S seat) (L, B) v17.toNat) := it_succ _ _ i1.1
  refine ⟨fun hc => ?_, fun hc => ?_⟩ -- c1
  · -- case ((F18 3192 o) ≤ v17)
    -- l2: Q F18 A19
    have e : v17 = n := by omega
    subst e
    exact ⟨⟨i2, i3⟩, i4, fun f b hb => by rw [i5 f b (fun w => (hb w).1)]; exact ff f b hb, fun b hb => by rw [i6 b (by omega)]; exact fa b hb⟩
  · -- case ¬ ((F18 3192 o) ≤ v17)
    refine ⟨by omega, ?_⟩ -- s1: (0 ≤ v17 ∧ v17 < 12)
    intro v25 e25
    have y1 := ok.2 v17 i1.1 (by omega)
    rw [i6 (o + 38) (by omega), q38 v17 i1.1 (by omega)] at e25
    subst e25
    have y2 := r1 v17 i1.1 (by omega)
    have y3 := (sok.2 (seat v17)).2
    have y4 := y3.1
    have y5 := y3.2.1
    refine ⟨by omega, ?_⟩ -- s2: (0 ≤ v25 ∧ v25 < 12)
    intro F27 e27
    refine ⟨by omega, ?_⟩ -- s3: (0 ≤ v25 ∧ v25 < 12)
    intro F30 e30
    have g1 : F30 3177 o = (S.2.2 (seat v17)).1 := by rw [e30, upF_f (by decide), e27, upF_s, i6 _ (by omega)]; exact y2.2.1
    have g2 : F30 3180 o = (S.2.2 (seat v17)).2.1 := by rw [e30, upF_s, i6 _ (by omega)]; exact y2.2.2.1
    have g3 : ∀ f b, (b = o → (f < 3165 ∨ 3183 < f)) → F30 f b = F18 f b := fun f b hb => by
      rw [e30, e27]
      by_cases w : b = o
      · have := hb w
        rw [upF_f (by omega), upF_f (by omega)]
      · rw [upF_a w, upF_a w]
    refine ⟨fun (v32 : Int) (A33 : jAr) => (0 ≤ v32 ∧ v32 ≤ 12) ∧ (∀ b, b ≠ o + 37 → A33 b = A19 b) ∧ ∀ k : Int, 0 ≤ k → k < v32 → A33 (o + 37) k = A19 (o + 42) (12 * seat v17 + k), fun v32 A33 => (12 - v32).toNat, ?_, ?_⟩ -- loop I35 I35 0 A19
    ·
      -- l3: I35 0 A19
      exact ⟨by omega, fun _ _ => rfl, fun k k0 k1 => by omega⟩
    intro v32 A33 i35
    obtain ⟨j1, j2, j3⟩ := i35
    refine ⟨fun hc => ?_, fun hc => ?_⟩ -- c2
    · -- case (12 ≤ v32)
      refine ⟨by omega, ?_⟩ -- s4: (0 ≤ v25 ∧ v25 < 12)
      refine ⟨_, sX9_becomesSaid (L := (it (sRenewF a2 S seat) (L, B) v17.toNat).1) (B := (it (sRenewF a2 S seat) (L, B) v17.toNat).2) (U := S.2.2 (seat v17)) (i2.fr ⟨fun f b hb => g3 f b (fun w => (hb w).1), fun b hb => j2 b (by omega)⟩) (i3.of (j2 _ (by omega)) (j2 _ (by omega))) y1.1 y3 g1 g2 (fun k k0 k1 => by rw [j3 k k0 (by omega), i6 _ (by omega)]; exact y2.2.2.2 k k0 k1), ?_⟩ -- call wpX9_becomesSaid o a1 v25 a2 (A33 (o + 39) v25) F30 A33 P39
      intro F42 A43 p39
      obtain ⟨p1, ⟨p2, p3⟩, p4, p5⟩ := p39
      rw [j2 _ (by omega), i6 (o + 39) (by omega), y2.1] at p2 p3
      have ep : sBecome a2 (seat v17) (S.2.1 (seat v17)) (S.2.2 (seat v17)) ((it (sRenewF a2 S seat) (L, B) v17.toNat).1, (it (sRenewF a2 S seat) (L, B) v17.toNat).2) = it (sRenewF a2 S seat) (L, B) (v17 + 1).toNat := st.symm
      have bo := sBecome_ok (c := a2) (kind := S.2.1 (seat v17)) (p := it (sRenewF a2 S seat) (L, B) v17.toNat) i2.1.2 y1.1 y3 (so1 _) i3.2.1
      have ep2 : sBecome a2 (seat v17) (S.2.1 (seat v17)) (S.2.2 (seat v17)) (it (sRenewF a2 S seat) (L, B) v17.toNat) = it (sRenewF a2 S seat) (L, B) (v17 + 1).toNat := st.symm
      rw [ep] at p2 p3
      rw [ep2] at bo
      refine ⟨by omega, ?_⟩ -- s5: jR (v17 + 1)
      refine ⟨?_, ?_⟩ -- l4: I21 (v17 + 1) F42 A43
      · refine ⟨by omega, ⟨⟨⟨hk, bo.1⟩, ?_, p2, ?_, hc0.2.2.2.2⟩, p3⟩, i4.trans ((mlf.eq (fun k _ _ => j2 _ (by omega))).trans p4), fun f b hb => by rw [p1, g3 f b hb]; exact i5 f b hb, fun b hb => by rw [p5 b (by omega), j2 b (by omega)]; exact i6 b hb⟩
        · exact i2.2.1.of (by rw [p1]; exact g3 _ _ (fun _ => by decide)) (fun k _ _ => by rw [p5 _ (by omega), j2 _ (by omega)])
        · rw [p1, g3 _ _ (fun _ => by decide)]; exact i2.2.2.2.1
      · dsimp only; omega
    · -- case ¬ (12 ≤ v32)
      refine ⟨by omega, ?_⟩ -- s6: (0 ≤ (12 * v25) + v32 ∧ (12 * v25) + v32 < 144)
      refine ⟨by omega, ?_⟩ -- s7: (0 ≤ v32 ∧ v32 < 12)
      intro A50 e50
      refine ⟨by omega, ?_⟩ -- s8: jR (v32 + 1)
      refine ⟨?_, ?_⟩ -- l5: I35 (v32 + 1) A50
      · refine ⟨by omega, fun b hb => by rw [e50, upA_o hb]; exact j2 b hb, fun k k0 k1 => ?_⟩
        rw [e50]
        by_cases w : k = v32
        · rw [w, upA_s, j2 _ (by omega)]
        · rw [upA_i w]; exact j3 k k0 (by omega)
      · dsimp only; omega

theorem sX9_draw {o : Nat} {a1 : Int} {F : jFl} {A : jAr} {s : Int} (hs : F 3160 o = s) (h0 : 0 ≤ s ∧ s < 2147483648) (h1 : 0 < a1 ∧ a1 ≤ 10) : wpX9_draw o a1 F A (fun z F' A' => z = sSeedF s / 64 % a1 ∧ F' = upF F 3160 o (sSeedF s) ∧ A' = A) := by
  unfold wpX9_draw
  rw [hs]
  refine ⟨by omega, ?_⟩ -- s1: (((0 : Int) ≤ (1103515245 * (F 3160 o)) + 12345 ∧ ((1103515245 * (F 3160 o)) + 12345 : Int) ≤ 9223372036854775807) ∧ ((0 : Int) < 2147483648 ∧ (2147483648 : Int
  refine ⟨by (show jRL (sSeedF s); unfold sSeedF; omega), ?_⟩ -- s2: jRL (((1103515245 * (F 3160 o)) + 12345) % 2147483648)
  intro F3 e3
  have e : F3 3160 o = sSeedF s := by rw [e3, upF_s]; rfl
  have r : 0 ≤ sSeedF s ∧ sSeedF s < 2147483648 := by unfold sSeedF; omega
  rw [e]
  refine ⟨by omega, ?_⟩ -- s3: (((0 : Int) ≤ F3 3160 o ∧ (F3 3160 o : Int) ≤ 9223372036854775807) ∧ ((0 : Int) < 64 ∧ (64 : Int) ≤ 9223372036854775807))
  refine ⟨by omega, ?_⟩ -- s4: (((0 : Int) ≤ (F3 3160 o) / 64 ∧ ((F3 3160 o) / 64 : Int) ≤ 9223372036854775807) ∧ ((0 : Int) < a1 ∧ (a1 : Int) ≤ 9223372036854775807))
  refine ⟨by (have : 0 ≤ sSeedF s / 64 % a1 ∧ sSeedF s / 64 % a1 < a1 := ⟨Int.emod_nonneg _ (by omega), Int.emod_lt_of_pos _ (by omega)⟩; omega), ?_⟩ -- s5: jR (((F3 3160 o) / 64) % a1)
  -- l1: Q (((F3 3160 o) / 64) % a1) F3 A
  exact ⟨rfl, e3, rfl⟩

set_option maxHeartbeats 2000000 in
theorem sX9_yearGoes {o : Nat} {a1 : Int} {F : jFl} {A : jAr} {W L : sTb} {B : sBk} {s : Int} (hc0 : mct o F A a1 W L) (h9 : L 9 0 0 = 0) (hB : mrB o A a1 B) (hs : F 3160 o = s) (h0 : 0 ≤ s ∧ s < 2147483648) (hy : L 0 0 0 < 9999) : wpX9_yearGoes o a1 F A (fun F' A' => (mct o F' A' a1 W (sYear W (L, B, s)).1 ∧ mrB o A' a1 (sYear W (L, B, s)).2.1 ∧ F' 3160 o = (sYear W (L, B, s)).2.2 ∧ (0 ≤ (sYear W (L, B, s)).2.2 ∧ (sYear W (L, B, s)).2.2 < 2147483648)) ∧ mlf o a1 A A' ∧ (∀ f b, (b = o → (f < 3165 ∨ 3183 < f) ∧ f ≠ 3192 ∧ f ≠ 3160) → F' f b = F f b) ∧ ∀ b, (b < o + 28 ∨ o + 42 < b) → A' b = A b) := by
  unfold wpX9_yearGoes
  obtain ⟨⟨hk, hLk⟩, hW, hL, hh, hv⟩ := id hc0
  have g0 := hL.1
  have k0 := hLk.1
  have hb := hW.1
  have g2 := hW.2.1.2.2.1
  have w2 := hk.2.2.1
  have es : sYear W (L, B, s) = (if (L 0 0 0 + 1) % 9 = 0 ∧ 0 < W 2 0 0 then ((sRenew W (sYear1 L) (sSeedF s / 64 % W 2 0 0) B).1, (sRenew W (sYear1 L) (sSeedF s / 64 % W 2 0 0) B).2, sSeedF s) else (sYear1 L, B, s)) := rfl
  rw [es]
  refine ⟨by omega, ?_⟩ -- s1: (0 ≤ a1 ∧ a1 < 22)
  refine ⟨by omega, ?_⟩ -- s2: (0 ≤ a1 ∧ a1 < 22)
  refine ⟨by (rw [g0]; omega), ?_⟩ -- s3: jR ((A (o + 28) a1) + 1)
  intro A4 e4
  have f28 : A4 (o + 28) a1 = L 0 0 0 + 1 := by rw [e4, upA_s, g0]
  have fo : ∀ b, b ≠ o + 28 → A4 b = A b := fun b hb => by rw [e4, upA_o hb]
  have hl4 : mlf o a1 A A4 := ⟨fun i hi => ⟨by rw [e4, upA_i hi], by rw [fo _ (by omega)]⟩, fun i _ => by rw [fo _ (by omega), fo _ (by omega), fo _ (by omega), fo _ (by omega)]; exact ⟨rfl, rfl, rfl, rfl⟩, fun i _ => by rw [fo _ (by omega)], fun i _ => by rw [fo _ (by omega)]⟩
  have hL4 : mrL o A4 a1 (W 3 0 0) (sYear1 L) := by
    obtain ⟨x1, x2, x3⟩ := hL
    refine ⟨f28, ?_, ?_⟩
    · rw [fo _ (by omega)]; exact x2
    · rw [fo _ (by omega), fo _ (by omega), fo _ (by omega), fo _ (by omega)]; exact x3
  have hc4 : mct o F A4 a1 W (sYear1 L) := ⟨⟨hk, sYear1_ok hLk hy⟩, hW.of rfl (fun k _ _ => fo _ (by omega)), hL4, hh, hv⟩
  have hB4 : mrB o A4 a1 B := hB.of (fo _ (by omega)) (fo _ (by omega))
  have f12 : A4 (o + 12) (F 3039 o) = W 2 0 0 := by rw [fo _ (by omega)]; exact g2
  rw [f28, f12]
  refine ⟨by omega, ?_⟩ -- s4: (0 ≤ a1 ∧ a1 < 22)
  refine ⟨by omega, ?_⟩ -- s5: (((0 : Int) ≤ A4 (o + 28) a1 ∧ (A4 (o + 28) a1 : Int) ≤ 2147483647) ∧ ((0 : Int) < 9 ∧ (9 : Int) ≤ 2147483647))
  refine ⟨by omega, ?_⟩ -- s6: jR ((A4 (o + 28) a1) % 9)
  refine ⟨fun hc => ?_, fun hc => ?_⟩ -- c1
  · -- case (¬ ((A4 (o + 28) a1) % 9) = 0)
    -- l1: Q F A4
    rw [if_neg (fun w => hc w.1)]
    exact ⟨⟨hc4, hB4, hs, h0⟩, hl4, fun _ _ _ => rfl, fun b hb => fo b (by omega)⟩
  · -- case ¬ (¬ ((A4 (o + 28) a1) % 9) = 0)
    refine ⟨by omega, ?_⟩ -- s7: (0 ≤ F 3039 o ∧ F 3039 o < 2)
    refine ⟨fun hc => ?_, fun hc => ?_⟩ -- c2
    · -- case ((A4 (o + 12) (F 3039 o)) ≤ 0)
      -- l2: Q F A4
      rw [if_neg (fun w => by omega)]
      exact ⟨⟨hc4, hB4, hs, h0⟩, hl4, fun _ _ _ => rfl, fun b hb => fo b (by omega)⟩
    · -- case ¬ ((A4 (o + 12) (F 3039 o)) ≤ 0)
      refine ⟨by omega, ?_⟩ -- s8: (0 ≤ F 3039 o ∧ F 3039 o < 2)
      refine ⟨_, sX9_draw hs h0 (by omega), ?_⟩ -- call wpX9_draw o (A4 (o + 12) (F 3039 o)) F A4 P13
      intro z15 F16 A17 p13
      obtain ⟨p1, p2, p3⟩ := p13
      subst p3
      have r : 0 ≤ sSeedF s ∧ sSeedF s < 2147483648 := by unfold sSeedF; omega
      have rz : 0 ≤ z15 ∧ z15 < W 2 0 0 := by rw [p1]; exact ⟨Int.emod_nonneg _ (by omega), Int.emod_lt_of_pos _ (by omega)⟩
      have hc5 : mct o F16 A17 a1 W (sYear1 L) := ⟨hc4.1, hc4.2.1.of (by rw [p2, upF_f (by decide)]) (fun _ _ _ => rfl), hc4.2.2.1, by rw [p2, upF_f (by decide)]; exact hh, hv⟩
      refine ⟨_, sX9_renews hc5 h9 hB4 rz, ?_⟩ -- call wpX9_renews o a1 z15 F16 A17 P21
      intro F24 A25 p21
      obtain ⟨⟨t1, t2⟩, t3, t4, t5⟩ := p21
      -- l3: Q F24 A25
      rw [if_pos ⟨by omega, by omega⟩, ← p1]
      refine ⟨⟨t1, t2, ?_, r⟩, hl4.trans t3, fun f b hb => ?_, fun b hb => by rw [t5 b (by omega)]; exact fo b (by omega)⟩
      · rw [t4 _ _ (fun _ => by decide), p2, upF_s]
      · rw [t4 f b (fun w => ⟨(hb w).1, (hb w).2.1⟩), p2]
        by_cases w : b = o
        · rw [upF_f (hb w).2.2]
        · rw [upF_a w]

theorem sX9_standing {o : Nat} {a1 : Int} {F : jFl} {A : jAr} {W L : sTb} (hc0 : mct o F A a1 W L) : wpX9_standing o a1 F A (fun z => z = sStand L (W 3 0 0) ∧ 0 ≤ z ∧ z ≤ W 3 0 0) := by
  unfold wpX9_standing
  obtain ⟨⟨hk, hLk⟩, hW, hL, hh, hv⟩ := id hc0
  have hb := hW.1
  have g3 := hW.2.1.2.2.2
  have w3 := hk.2.2.2.1
  rw [g3]
  refine ⟨fun (v1 : Int) (v2 : Int) => (0 ≤ v2 ∧ v2 ≤ W 3 0 0) ∧ v1 = sStand L v2 ∧ 0 ≤ v1 ∧ v1 ≤ v2, fun v1 v2 => (W 3 0 0 - v2).toNat, ?_, ?_⟩ -- loop I3 I3 0 0
  ·
    -- l1: I3 0 0
    exact ⟨by omega, rfl, by omega, by omega⟩
  intro v1 v2 i3
  obtain ⟨i1, i2, i3, i4⟩ := i3
  have st : sStand L (v2 + 1) = (if 0 < L 2 v2 0 then sStand L v2 + 1 else sStand L v2) := it_succ _ _ i1.1
  refine ⟨by omega, ?_⟩ -- s1: (0 ≤ F 3039 o ∧ F 3039 o < 2)
  refine ⟨fun hc => ?_, fun hc => ?_⟩ -- c1
  · -- case ((A (o + 17) (F 3039 o)) ≤ v2)
    -- l2: Q v1
    exact ⟨by rw [i2, show v2 = W 3 0 0 by omega], by omega, by omega⟩
  · -- case ¬ ((A (o + 17) (F 3039 o)) ≤ v2)
    refine ⟨_, sX9_stands (L := L) hL hv (by omega) hk, ?_⟩ -- call wpX9_stands o a1 v2 F A P7
    intro z9 p7
    intro z13 e13
    have ez : z13 = (if 0 < L 2 v2 0 then 1 else 0) := by rw [e13, p7]; by_cases w : 0 < L 2 v2 0 <;> simp [w]
    refine ⟨by (rw [ez]; split <;> omega), ?_⟩ -- s2: jR (v1 + z13)
    intro v16 e16
    refine ⟨by omega, ?_⟩ -- s3: jR (v2 + 1)
    refine ⟨?_, ?_⟩ -- l3: I3 v16 (v2 + 1)
    · refine ⟨by omega, ?_, by rw [e16, ez]; split <;> omega, by rw [e16, ez]; split <;> omega⟩
      rw [st, e16, ez, i2]
      by_cases w : 0 < L 2 v2 0 <;> simp [w]
    · dsimp only; omega

theorem sX9_standsBy {o : Nat} {a1 : Int} {a2 : Int} {F : jFl} {A : jAr} {W L : sTb} {h : Int} (hk : sWok W) (hLk : sLok W L) (hW : mrW o F A W) (hL : mrL o A 0 (W 3 0 0) L) (h5 : F 3186 o = -1 ∨ 0 ≤ F 3186 o ∧ F 3186 o ≤ 60) (h1 : 0 ≤ a1 ∧ a1 < W 3 0 0) (h2 : 0 ≤ a2 ∧ a2 < W 2 0 0) (hh : h = (if F 3186 o = -1 then W 20 a2 0 else F 3186 o) + (if L 4 a1 0 = 0 then 0 else W 6 0 0)) : wpX9_standsBy o a1 a2 F A (fun z F' A' => z = (if sKind W a2 (sRw L a1) h = 0 then 1 else 0) ∧ mfr o F A F' A') := by
  unfold wpX9_standsBy
  refine ⟨_, sX9_loads hL hk hLk (by omega) h1, ?_⟩ -- call wpX9_loads o 0 a1 F A P1
  intro F4 A5 p1
  obtain ⟨⟨q1, q2, q3⟩, q4, q5, q6⟩ := p1
  have e86 : F4 3186 o = F 3186 o := q4 _ _ (fun _ => by decide)
  refine ⟨_, sX9_utters (R := sRw L a1) (left := h) (hW.of (q4 _ _ (fun _ => by decide)) (fun k _ _ => q5 _ (by omega))) hk h2 (sRw_ok hLk h1) q1 q2 q6 (by rw [e86]; exact h5) (by rw [e86, q3]; exact hh), ?_⟩ -- call wpX9_utters o a2 F4 A5 P9
  intro F12 A13 p9
  obtain ⟨⟨r1, r2, r3⟩, r4, r5, r6⟩ := p9
  intro z18 e18
  -- l1: Q z18 F12 A13
  refine ⟨by rw [e18, r3]; by_cases w : sKind W a2 (sRw L a1) h = 0 <;> simp [w], ⟨fun f b hb => ?_, fun b hb => by rw [r5 b (by omega)]; exact q5 b (by omega)⟩⟩
  rw [r4 f b (fun w => by have := hb w; omega), q4 f b (fun w => by have := hb w; omega)]

theorem sX9_childrenOf {o : Nat} {a1 : Int} {F : jFl} {A : jAr} {W L : sTb} (hc0 : mct o F A 0 W L) (h1 : 0 ≤ a1 ∧ a1 < W 3 0 0) : wpX9_childrenOf o a1 F A (fun z F' A' => z = sBy W L a1 ∧ (0 ≤ z ∧ z ≤ W 2 0 0) ∧ mfr o F A F' A') := by
  unfold wpX9_childrenOf
  have w2 := hc0.1.1.2.2.1
  refine ⟨fun (v1 : Int) (v2 : Int) (F3 : jFl) (A4 : jAr) => (0 ≤ v2 ∧ v2 ≤ W 2 0 0) ∧ v1 = it (fun c n => if sKind W c (sRw L a1) (sHolds W L c a1) = 0 then n + 1 else n) 0 v2.toNat ∧ (0 ≤ v1 ∧ v1 ≤ v2) ∧ mfr o F A F3 A4, fun v1 v2 F3 A4 => (W 2 0 0 - v2).toNat, ?_, ?_⟩ -- loop I6 I6 0 0 F A
  ·
    -- l1: I6 0 0 F A
    exact ⟨by omega, rfl, by omega, mfr.refl _ _ _⟩
  intro v1 v2 F3 A4 i6
  obtain ⟨i1, i2, i3, i4⟩ := i6
  obtain ⟨⟨hk, hLk⟩, hW, hL, hh, hv⟩ := hc0.fr i4
  have hb := hW.1
  rw [hW.2.1.2.2.1]
  refine ⟨by omega, ?_⟩ -- s1: (0 ≤ F3 3039 o ∧ F3 3039 o < 2)
  refine ⟨fun hc => ?_, fun hc => ?_⟩ -- c1
  · -- case ((A4 (o + 12) (F3 3039 o)) ≤ v2)
    -- l2: Q v1 F3 A4
    exact ⟨by rw [i2, show v2 = W 2 0 0 by omega]; rfl, by omega, i4⟩
  · -- case ¬ ((A4 (o + 12) (F3 3039 o)) ≤ v2)
    refine ⟨_, sX9_standsBy (h := sHolds W L v2 a1) hk hLk hW hL (Or.inl hh) h1 (by omega) (by rw [if_pos hh]; rfl), ?_⟩ -- call wpX9_standsBy o a1 v2 F3 A4 P10
    intro z12 F13 A14 p10
    obtain ⟨q1, q2⟩ := p10
    intro z19 e19
    have ez : z19 = (if sKind W v2 (sRw L a1) (sHolds W L v2 a1) = 0 then 1 else 0) := by rw [e19, q1]; by_cases w : sKind W v2 (sRw L a1) (sHolds W L v2 a1) = 0 <;> simp [w]
    refine ⟨by (rw [ez]; split <;> omega), ?_⟩ -- s2: jR (v1 + z19)
    intro v22 e22
    refine ⟨by omega, ?_⟩ -- s3: jR (v2 + 1)
    refine ⟨?_, ?_⟩ -- l3: I6 v22 (v2 + 1) F13 A14
    · refine ⟨by omega, ?_, by rw [e22, ez]; split <;> omega, i4.trans q2⟩
      rw [it_succ _ _ i1.1, ← i2, e22, ez]
      by_cases w : sKind W v2 (sRw L a1) (sHolds W L v2 a1) = 0 <;> simp [w]
    · dsimp only; omega

theorem sX9_sitsNow {o : Nat} {a1 : Int} {F : jFl} {A : jAr} {W L : sTb} (hc0 : mct o F A 0 W L) (h9 : L 9 0 0 = 0) (h2 : 0 ≤ a1 ∧ a1 < W 2 0 0) : wpX9_sitsNow o a1 F A (fun z F' A' => (F' 3192 o = (sSeats L (W 3 0 0)).1 ∧ ∀ i : Int, 0 ≤ i → i < (sSeats L (W 3 0 0)).1 → A' (o + 38) i = (sSeats L (W 3 0 0)).2 i) ∧ (∀ i : Int, 0 ≤ i → i < (sSeats L (W 3 0 0)).1 → A' (o + 39) ((sSeats L (W 3 0 0)).2 i) = (sSits W L a1 (sSeats L (W 3 0 0)).2 (sSeats L (W 3 0 0)).1.toNat).2.1 ((sSeats L (W 3 0 0)).2 i) ∧ A' (o + 40) ((sSeats L (W 3 0 0)).2 i) = ((sSits W L a1 (sSeats L (W 3 0 0)).2 (sSeats L (W 3 0 0)).1.toNat).2.2 ((sSeats L (W 3 0 0)).2 i)).1 ∧ A' (o + 41) ((sSeats L (W 3 0 0)).2 i) = ((sSits W L a1 (sSeats L (W 3 0 0)).2 (sSeats L (W 3 0 0)).1.toNat).2.2 ((sSeats L (W 3 0 0)).2 i)).2.1 ∧ ∀ k : Int, 0 ≤ k → k < ((sSits W L a1 (sSeats L (W 3 0 0)).2 (sSeats L (W 3 0 0)).1.toNat).2.2 ((sSeats L (W 3 0 0)).2 i)).1 + ((sSits W L a1 (sSeats L (W 3 0 0)).2 (sSeats L (W 3 0 0)).1.toNat).2.2 ((sSeats L (W 3 0 0)).2 i)).2.1 → A' (o + 42) (12 * (sSeats L (W 3 0 0)).2 i + k) = ((sSits W L a1 (sSeats L (W 3 0 0)).2 (sSeats L (W 3 0 0)).1.toNat).2.2 ((sSeats L (W 3 0 0)).2 i)).2.2 k) ∧ mfr o F A F' A') := by
  unfold wpX9_sitsNow
  have hk := hc0.1.1
  have hLk := hc0.1.2
  have w3 := hk.2.2.2.1
  have ok := sSeats_ok hk hLk (n := W 3 0 0) (by omega)
  have inj := sSeats_inj hLk h9 (n := W 3 0 0) (by omega)
  refine ⟨_, sX9_seatsOf hc0, ?_⟩ -- call wpX9_seatsOf o 0 F A P1
  intro F4 A5 p1
  obtain ⟨⟨q1, q2⟩, q3, q4⟩ := p1
  have hf1 : mfr o F A F4 A5 := ⟨fun f b hb => q3 f b (fun w => (hb w).2.1), fun b hb => q4 b (by omega)⟩
  refine ⟨_, sX9_sittingOf (n := (sSeats L (W 3 0 0)).1) (seat := (sSeats L (W 3 0 0)).2) (hc0.fr hf1) h2 ⟨q1, ok.1.1, by omega⟩ (fun i i0 i1 => ⟨(ok.2 i i0 i1).1, q2 i i0 i1⟩) inj, ?_⟩ -- call wpX9_sittingOf o 0 a1 F4 A5 P9
  intro F12 A13 p9
  obtain ⟨r1, r2, r3⟩ := p9
  -- l1: Q 1 F12 A13
  exact ⟨⟨by rw [r2 _ _ (fun _ => by decide)]; exact q1, fun i i0 i1 => by rw [r3 _ (by omega)]; exact q2 i i0 i1⟩, r1, hf1.trans ⟨fun f b hb => r2 f b (fun w => (hb w).1), fun b hb => r3 b (by omega)⟩⟩

