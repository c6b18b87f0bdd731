set_option maxRecDepth 100000
set_option linter.unusedVariables false
/-! harm, needs on both sides; printed by gen/prove.py out of spec/9z.harm.spec -/
def iAbs (z : Int) : Int := if z < 0 then -z else z
noncomputable def sHarmF (W L : sTb) (c : Int) : Int → Int → Int := fun i s => s + iAbs (sMeaning W (sRw L ((sSeats L (W 3 0 0)).2 i)) - sMeaning W ((sSitN W L c).2.2 ((sSeats L (W 3 0 0)).2 i)))
noncomputable def rHarm (W L : sTb) (c : Int) : Int := if 0 ≤ c ∧ c < W 2 0 0 then it (sHarmF W L c) 0 (sSeats L (W 3 0 0)).1.toNat else -1
theorem sMeaning_range {W : sTb} {R : sRow} (hW : sWok W) (hk : sRok (W 0 0 0) R) : -1188 ≤ sMeaning W R ∧ sMeaning W R ≤ 1188 := by
  have sr : ∀ (g : Int → Int) (n : Nat), n ≤ 12 → (∀ k : Int, 0 ≤ k → k < n → 0 ≤ g k ∧ g k < W 0 0 0) → 0 ≤ sSumW W g n ∧ sSumW W g n ≤ 99 * n := fun g n hn h => by
    unfold sSumW
    exact it_inv (f := fun k s => s + W 14 (g k) 0) (a := (0 : Int)) (n := n) (fun k s => 0 ≤ s ∧ s ≤ 99 * k) (by omega) (fun k k0 k1 s hs => by
      have g1 := h k k0 k1
      have g2 := (hW.2.2.2.2.2.2.2.1 _ g1.1 g1.2).2.2.2.1
      omega)
  obtain ⟨h1, h2, h3⟩ := hk
  have a := sr R.2.2 R.1.toNat (by omega) (fun k k0 k1 => h3 k k0 (by omega))
  have b := sr (fun k => R.2.2 (R.1 + k)) R.2.1.toNat (by omega) (fun k k0 k1 => h3 _ (by omega) (by omega))
  unfold sMeaning
  split <;> omega
set_option maxHeartbeats 1000000 in
theorem sX9_harm {o : Nat} {a1 : Int} {F : jFl} {A : jAr} {W L : sTb} (h : mct o F A 0 W L) (h9 : L 9 0 0 = 0) : wpX9_harm o a1 F A (fun z F' A' => z = rHarm W L a1 ∧ mfr o F A F' A') := by
  unfold wpX9_harm
  have h0 := h
  obtain ⟨⟨hk, hLk⟩, hW, hL, hh, hv⟩ := h
  have w3 := hk.2.2.2.1
  have ok := sSeats_ok hk hLk (n := W 3 0 0) (by omega)
  refine ⟨_, sX9_isChild hW, ?_⟩ -- call wpX9_isChild o a1 F A P1
  intro z3 p1
  refine ⟨fun hc => ?_, fun hc => ?_⟩ -- c1
  · -- case (¬ z3 = 0)
    have h1 : 0 ≤ a1 ∧ a1 < W 2 0 0 := by grind
    refine ⟨_, sX9_sitsNow h0 h9 h1, ?_⟩ -- call wpX9_sitsNow o a1 F A P7
    intro z9 F10 A11 p7
    obtain ⟨⟨q1, q2⟩, q3, q4⟩ := p7
    have so := sSits_ok (c := a1) (seat := (sSeats L (W 3 0 0)).2) (n := (sSeats L (W 3 0 0)).1.toNat) hk hLk h1 (fun i i0 i1 => (ok.2 i i0 (by omega)).1)
    refine ⟨fun (v15 : Int) (v16 : Int) (F17 : jFl) (A18 : jAr) => (0 ≤ v16 ∧ v16 ≤ (sSeats L (W 3 0 0)).1) ∧ v15 = it (sHarmF W L a1) 0 v16.toNat ∧ (0 ≤ v15 ∧ v15 ≤ 2376 * v16) ∧ F17 3192 o = (sSeats L (W 3 0 0)).1 ∧ mfr o F A F17 A18 ∧ ∀ b, b ≠ o + 36 → b ≠ o + 37 → A18 b = A11 b, fun v15 v16 F17 A18 => ((sSeats L (W 3 0 0)).1 - v16).toNat, ?_, ?_⟩ -- loop I20 I20 0 0 F10 A11
    ·
      -- l1: I20 0 0 F10 A11
      exact ⟨by omega, rfl, by omega, q1, q4, fun _ _ _ => rfl⟩
    intro v15 v16 F17 A18 i20
    obtain ⟨i1, i2, i3, i4, i5, i6⟩ := i20
    obtain ⟨-, hW1, hL1, hh1, -⟩ := h0.fr i5
    rw [i4]
    refine ⟨fun hc => ?_, fun hc => ?_⟩ -- c2
    · -- case ((F17 3192 o) ≤ v16)
      -- l2: Q v15 F17 A18
      refine ⟨?_, i5⟩
      unfold rHarm
      rw [if_pos h1, i2, show v16 = (sSeats L (W 3 0 0)).1 by omega]
    · -- case ¬ ((F17 3192 o) ≤ v16)
      refine ⟨by omega, ?_⟩ -- s1: (0 ≤ v16 ∧ v16 < 12)
      intro v24 e24
      have hv16 : 0 ≤ v16 ∧ v16 < (sSeats L (W 3 0 0)).1 := by omega
      have es : v24 = (sSeats L (W 3 0 0)).2 v16 := by rw [e24, i6 _ (by omega) (by omega)]; exact q2 v16 hv16.1 hv16.2
      have ol := (ok.2 v16 hv16.1 hv16.2).1
      obtain ⟨y1, y2, y3, y4⟩ := q3 v16 hv16.1 hv16.2
      rw [← es] at ol y1 y2 y3 y4
      have sk := (so.2 v24).2
      have ei := it_succ (sHarmF W L a1) 0 i1.1
      rw [← i2] at ei
      have ef : sHarmF W L a1 v16 v15 = v15 + iAbs (sMeaning W (sRw L v24) - sMeaning W ((sSitN W L a1).2.2 v24)) := by unfold sHarmF; rw [← es]
      refine ⟨_, sX9_loads hL1 hk hLk (by omega) ol, ?_⟩ -- call wpX9_loads o 0 v24 F17 A18 P25
      intro F28 A29 p25
      obtain ⟨⟨r1, r2, r3⟩, r4, r5, r6⟩ := p25
      have f1 : mfr o F A F28 A29 := i5.trans ⟨fun f b hb => r4 f b (fun w => by have := hb w; omega), fun b hb => r5 b (by omega)⟩
      refine ⟨_, sX9_saysAsTold2 (R := sRw L v24) (sRw_ok hLk ol) ⟨r1, r2, r6⟩, ?_⟩ -- call wpX9_saysAsTold o F28 A29 P33
      intro F36 A37 p33
      obtain ⟨u1, u2, u3⟩ := p33
      have f2 : mfr o F A F36 A37 := f1.trans ⟨fun f b hb => u2 f b (fun w => by have := hb w; omega), fun b hb => u3 b (by omega)⟩
      refine ⟨_, sX9_saidMeans (R := sRw L v24) hk ((h0.fr f2).2.1) (sRw_ok hLk ol) u1.1 u1.2.1 u1.2.2, ?_⟩ -- call wpX9_saidMeans o F36 A37 P41
      intro z43 p41
      refine ⟨by omega, ?_⟩ -- s2: (0 ≤ v24 ∧ v24 < 12)
      intro F47 e47
      refine ⟨by omega, ?_⟩ -- s3: (0 ≤ v24 ∧ v24 < 12)
      intro F50 e50
      have f3 : ∀ f b, (b = o → f ≠ 3177 ∧ f ≠ 3180) → F50 f b = F36 f b := fun f b hb => by
        rw [e50, show ∀ (G : jFl) y, upF G 3180 o y f b = G f b from fun G y => if_neg (fun w => by have := hb w.2; omega), e47]
        exact if_neg (fun w => by have := hb w.2; omega)
      have k37 : ∀ b, b ≠ o + 36 → b ≠ o + 37 → A37 b = A11 b := fun b b1 b2 => by rw [u3 b b2, r5 b b1, i6 b b1 b2]
      have g77 : F50 3177 o = ((sSits W L a1 (sSeats L (W 3 0 0)).2 (sSeats L (W 3 0 0)).1.toNat).2.2 v24).1 := by rw [e50, upF_f (by decide), e47, upF_s, k37 _ (by omega) (by omega)]; exact y2
      have g80 : F50 3180 o = ((sSits W L a1 (sSeats L (W 3 0 0)).2 (sSeats L (W 3 0 0)).1.toNat).2.2 v24).2.1 := by rw [e50, upF_s, k37 _ (by omega) (by omega)]; exact y3
      refine ⟨fun (v52 : Int) (A53 : jAr) => (0 ≤ v52 ∧ v52 ≤ 12) ∧ (∀ k : Int, 0 ≤ k → k < v52 → A53 (o + 37) k = A11 (o + 42) (12 * v24 + k)) ∧ ∀ b, b ≠ o + 37 → A53 b = A37 b, fun v52 A53 => (12 - v52).toNat, ?_, ?_⟩ -- loop I55 I55 0 A37
      ·
        -- l3: I55 0 A37
        exact ⟨by omega, fun k k0 k1 => by omega, fun _ _ => rfl⟩
      intro v52 A53 i55
      obtain ⟨j1, j2, j3⟩ := i55
      have f4 : mfr o F A F50 A53 := f2.trans ⟨fun f b hb => f3 f b (fun w => by have := hb w; omega), fun b hb => j3 b (by omega)⟩
      refine ⟨fun hc => ?_, fun hc => ?_⟩ -- c3
      · -- case (12 ≤ v52)
        refine ⟨_, sX9_saidMeans (R := (sSits W L a1 (sSeats L (W 3 0 0)).2 (sSeats L (W 3 0 0)).1.toNat).2.2 v24) hk ((h0.fr f4).2.1) sk g77 g80 (fun k k0 k1 => by rw [j2 k k0 (by have := sk.1; have := sk.2.1; omega)]; exact y4 k k0 k1), ?_⟩ -- call wpX9_saidMeans o F50 A53 P58
        intro z60 p58
        have m1 := sMeaning_range hk (sRw_ok hLk ol)
        have m2 := sMeaning_range hk sk
        have e2 : sMeaning W ((sSitN W L a1).2.2 v24) = z60 := p58.symm
        rw [e2, ← p41] at ef
        rw [← p41] at m1
        rw [← p58] at m2
        refine ⟨by omega, ?_⟩ -- s4: jR (z43 - z60)
        intro v64 e64
        intro z66 e66
        have ez : z66 = iAbs (z43 - z60) := by
          rw [e66, e64]
          unfold iAbs
          split <;> split <;> omega
        have za : 0 ≤ iAbs (z43 - z60) ∧ iAbs (z43 - z60) ≤ 2376 := by unfold iAbs; split <;> omega
        refine ⟨by rw [ez]; omega, ?_⟩ -- s5: jR (v15 + z66)
        intro v69 e69
        refine ⟨by omega, ?_⟩ -- s6: jR (v16 + 1)
        refine ⟨?_, ?_⟩ -- l4: I20 v69 (v16 + 1) F50 A53
        · refine ⟨by omega, by rw [ei, ef, e69, ez], by rw [e69, ez]; omega, ?_, f4, fun b b1 b2 => by rw [j3 b b2, k37 b b1 b2]⟩
          rw [f3 _ _ (fun _ => by decide), u2 _ _ (fun _ => by decide), r4 _ _ (fun _ => by decide)]
          exact i4
        · dsimp only; omega
      · -- case ¬ (12 ≤ v52)
        refine ⟨by omega, ?_⟩ -- s7: (0 ≤ (12 * v24) + v52 ∧ (12 * v24) + v52 < 144)
        refine ⟨by omega, ?_⟩ -- s8: (0 ≤ v52 ∧ v52 < 12)
        intro A73 e73
        refine ⟨by omega, ?_⟩ -- s9: jR (v52 + 1)
        refine ⟨?_, ?_⟩ -- l5: I55 (v52 + 1) A73
        · refine ⟨by omega, fun k k0 k1 => ?_, fun b hb => by rw [e73, upA_o hb]; exact j3 b hb⟩
          by_cases w : k = v52
          · rw [w, e73, upA_s, j3 _ (by omega), k37 _ (by omega) (by omega)]
          · rw [e73, upA_i w]; exact j2 k k0 (by omega)
        · dsimp only; omega
  · -- case ¬ (¬ z3 = 0)
    -- l6: Q (-1) F A
    exact ⟨by unfold rHarm; rw [if_neg (by grind)], mfr.refl _ _ _⟩

set_option maxHeartbeats 1000000 in
theorem sX0_harm {o : Nat} {a1 : Int} {N : jSh} {F : jFl} {A : jAr} {wA sA cA lA : Int → Int} {W L : sTb} {t : Nat} (hx : ctx N F A o t W L wA sA cA lA) (hy : lay N o) (hs : sarr A o) (h9 : L 9 0 0 = 0) : wqX0_harm o a1 N F A (fun z F' A' => z = rHarm W L a1 ∧ fr (o + 14) (o + 53) F A F' A' ∧ sarr A' o) := by
  unfold wqX0_harm
  have hcc : ∀ a : Int, 0 ≤ a ∧ a < W 2 0 0 → 0 ≤ cA a := fun a h => by obtain ⟨b, u1, -⟩ := hx.ch h; omega
  have hk := hx.oW
  have hLk := hx.oL
  have w3 := hk.2.2.2.1
  have ok := sSeats_ok hk hLk (n := W 3 0 0) (by omega)
  have inj := sSeats_inj hLk h9 (n := W 3 0 0) (by omega)
  refine ⟨_, sX0_childOf hx, ?_⟩ -- call wqX0_childOf o a1 N F A P1
  intro z3 p1
  refine ⟨fun hc => ?_, fun hc => ?_⟩ -- c1
  · -- case (¬ z3 < 0)
    have h1 : 0 ≤ a1 ∧ a1 < W 2 0 0 := by grind
    rw [if_pos h1] at p1
    have so := sSits_ok (c := a1) (seat := (sSeats L (W 3 0 0)).2) (n := (sSeats L (W 3 0 0)).1.toNat) hk hLk h1 (fun i i0 i1 => (ok.2 i i0 (by omega)).1)
    refine ⟨_, by exact hy.p329, ?_⟩ -- d9: jfn N 329 o = (b9 : Int)
    refine ⟨by exact (hy.sit hs.1).1.1, ?_⟩ -- s1: jtg N b9 = 5
    refine ⟨_, sX4_inOrder hx (hy.sit hs.1) (hy.scr.mono (by omega) (by omega)), ?_⟩ -- call wqX4_inOrder b9 N F A P12
    intro z14 F15 A16 p12
    obtain ⟨q1, ⟨q2, q3⟩, q4, q5⟩ := p12
    have f1 : fr (o + 14) (o + 17) F A F15 A16 := fun a ha => ⟨fun f => q4 f a (by omega), q5 a (by omega)⟩
    have hx2 := hx.fr (hy.scr.mono (by omega) (by omega)) f1
    have s2 := sarr_of hs (q5 _ (by omega)) (q5 _ (by omega)) (q5 _ (by omega))
    refine ⟨_, by exact q1, ?_⟩ -- d21: z14 = (b21 : Int)
    refine ⟨by exact (hy.sit hs.1).1.1, ?_⟩ -- s2: jtg N b21 = 5
    refine ⟨_, sX4_saidBy (n := (sSeats L (W 3 0 0)).1) (seat := (sSeats L (W 3 0 0)).2) hx2 (hy.sit s2.1) (hy.scr.mono (by omega) (by omega)) p1 h1 ⟨q2, by omega, by omega⟩ (fun i i0 i1 => ⟨(ok.2 i i0 i1).1, q3 i i0 i1⟩) inj, ?_⟩ -- call wqX4_saidBy b21 z3 N F15 A16 P24
    intro z26 F27 A28 p24
    obtain ⟨r1, r2, r3⟩ := p24
    have f2 : fr (o + 14) (o + 53) F A F27 A28 := (f1.mono (by omega) (by omega)).trans (r3.mono (by omega) (by omega))
    have hx3 := hx2.fr (hy.scr.mono (by omega) (by omega)) r3
    have s3 := sarr_of s2 (r3 _ (by omega)).2 (r3 _ (by omega)).2 (r3 _ (by omega)).2
    have g6 : F27 1506 (o + 14) = (sSeats L (W 3 0 0)).1 := by rw [(r3 (o + 14) (by omega)).1]; exact q2
    have g16 : ∀ i : Int, 0 ≤ i → i < (sSeats L (W 3 0 0)).1 → A28 (o + 16) i = lA ((sSeats L (W 3 0 0)).2 i) := fun i i0 i1 => by rw [(r3 (o + 16) (by omega)).2]; exact q3 i i0 i1
    refine ⟨fun (v33 : Int) (v34 : Int) => (0 ≤ v34 ∧ v34 ≤ (sSeats L (W 3 0 0)).1) ∧ v33 = it (sHarmF W L a1) 0 v34.toNat ∧ (0 ≤ v33 ∧ v33 ≤ 2376 * v34), fun v33 v34 => ((sSeats L (W 3 0 0)).1 - v34).toNat, ?_, ?_⟩ -- loop I36 I36 0 0
    ·
      -- l1: I36 0 0
      exact ⟨by omega, rfl, by omega⟩
    intro v33 v34 i36
    obtain ⟨i1, i2, i3⟩ := i36
    rw [g6]
    refine ⟨fun hc => ?_, fun hc => ?_⟩ -- c2
    · -- case ((F27 1506 b9) ≤ v34)
      -- l2: Q v33 F27 A28
      refine ⟨?_, f2, s3⟩
      unfold rHarm
      rw [if_pos h1, i2, show v34 = (sSeats L (W 3 0 0)).1 by omega]
    · -- case (¬ ((F27 1506 b9) ≤ v34))
      have hv : 0 ≤ v34 ∧ v34 < (sSeats L (W 3 0 0)).1 := by omega
      have e1 := g16 v34 hv.1 hv.2
      have ol := (ok.2 v34 hv.1 hv.2).1
      have hsy := r2 v34 hv.1 hv.2
      have sk := (so.2 ((sSeats L (W 3 0 0)).2 v34)).2
      obtain ⟨bl, l1, l2, l3, l4⟩ := hx3.lw ol
      have l16 := hy.2.2 (16, 12) (by decide)
      dsimp only at l16
      have ei := it_succ (sHarmF W L a1) 0 i1.1
      rw [← i2] at ei
      refine ⟨_, by exact (show jfn N 1505 (o + 14) = ((o + 16 : Nat) : Int) from hy.2.1 (1505, 14, 16) (by decide)), ?_⟩ -- d39: jfn N 1505 b9 = (b39 : Int)
      refine ⟨by exact (hy.1 16 (by decide)).1, ?_⟩ -- s3: jtg N b39 = 113
      refine ⟨by rw [l16]; omega, ?_⟩ -- s4: ((0 : Int) ≤ v34 ∧ (v34 : Int) < (jln N b39 : Int))
      refine ⟨_, by exact e1.trans l1, ?_⟩ -- d43: A28 b39 v34 = (b43 : Int)
      refine ⟨by exact l2.1, ?_⟩ -- s5: jtg N b43 = 17
      refine ⟨_, by exact l2.2.2.2.1, ?_⟩ -- d46: jfn N 5102 b43 = (b46 : Int)
      refine ⟨by exact l2.2.2.2.2.1, ?_⟩ -- s6: jtg N b46 = 4
      refine ⟨_, sX3_meaning l4 (sRw_ok hLk ol) hx3.wd hk, ?_⟩ -- call wqX3_meaning b46 N F27 A28 P49
      intro z51 p49
      refine ⟨by rw [l16]; omega, ?_⟩ -- s7: ((0 : Int) ≤ v34 ∧ (v34 : Int) < (jln N b39 : Int))
      refine ⟨_, sX4_of (l := (sSeats L (W 3 0 0)).2 v34) hx3 (hy.sit s3.1) e1 ol, ?_⟩ -- call wqX4_of b9 (A28 b39 v34) N F27 A28 P57
      intro z59 p57
      refine ⟨_, by exact p57, ?_⟩ -- d64: z59 = (b64 : Int)
      have hyy : sayOk N o (sy (o + 14) ((sSeats L (W 3 0 0)).2 v34)) := ((hy.sit s3.1).2.2.2 ((sSeats L (W 3 0 0)).2 v34).toNat (by omega)).2
      refine ⟨by exact hyy.1, ?_⟩ -- s8: jtg N b64 = 3
      refine ⟨_, by exact hyy.2.2.1, ?_⟩ -- d67: jfn N 902 b64 = (b67 : Int)
      refine ⟨by exact hsy.2.1.1, ?_⟩ -- s9: jtg N b67 = 4
      refine ⟨_, sX3_meaning hsy.2 sk hx3.wd hk, ?_⟩ -- call wqX3_meaning b67 N F27 A28 P70
      intro z72 p70
      have ef : sHarmF W L a1 v34 v33 = v33 + (if z51 - z72 < 0 then -(z51 - z72) else z51 - z72) := by
        unfold sHarmF iAbs
        rw [show sMeaning W ((sSitN W L a1).2.2 ((sSeats L (W 3 0 0)).2 v34)) = z72 from p70.1.symm, ← p49.1]
      have za : 0 ≤ (if z51 - z72 < 0 then -(z51 - z72) else z51 - z72) ∧ (if z51 - z72 < 0 then -(z51 - z72) else z51 - z72) ≤ 2376 := by split <;> omega
      refine ⟨by omega, ?_⟩ -- s10: jR (z51 - z72)
      refine ⟨by omega, ?_⟩ -- s11: jR (v33 + (if z51 - z72 < 0 then -(z51 - z72) else z51 - z72))
      intro v79 e79
      refine ⟨by omega, ?_⟩ -- s12: jR (v34 + 1)
      refine ⟨?_, ?_⟩ -- l3: I36 v79 (v34 + 1)
      · exact ⟨by omega, by rw [ei, ef, e79], by rw [e79]; omega⟩
      · dsimp only; omega
  · -- case (z3 < 0)
    -- l4: Q (-1) F A
    exact ⟨by unfold rHarm; rw [if_neg (by grind)], fr.refl _ _ _ _, hs⟩

noncomputable def sNeedP (W L : sTb) (l c : Int) : Int → Prop := fun j => sKind W c (sRw L l) (j + 1 + (if L 4 l 0 = 0 then 0 else W 6 0 0)) = 0
noncomputable def rNeeds (W L : sTb) (l c : Int) : Int := if (0 ≤ c ∧ c < W 2 0 0) ∧ (0 ≤ l ∧ l < W 3 0 0 ∧ 0 < L 2 l 0) then (if sFirst (sNeedP W L l c) 60 = -1 then -1 else sFirst (sNeedP W L l c) 60 + 1) else -1
set_option maxHeartbeats 1000000 in
theorem sX9_needs {o : Nat} {a1 : Int} {a2 : Int} {F : jFl} {A : jAr} {W L : sTb} (h : mct o F A 0 W L) : wpX9_needs o a1 a2 F A (fun z F' A' => z = rNeeds W L a1 a2 ∧ mfr o F A F' A') := by
  unfold wpX9_needs
  have h0 := h
  obtain ⟨⟨hk, hLk⟩, hW, hL, hh, hv⟩ := h
  have w2 := hk.2.2.1
  have w3 := hk.2.2.2.1
  refine ⟨_, sX9_isChild hW, ?_⟩ -- call wpX9_isChild o a2 F A P1
  intro z3 p1
  refine ⟨fun hc => ?_, fun hc => ?_⟩ -- c1
  · -- case (z3 = 0)
    -- l1: Q (-1) F A
    exact ⟨by unfold rNeeds; rw [if_neg (by grind)], mfr.refl _ _ _⟩
  · -- case ¬ (z3 = 0)
    refine ⟨_, sX9_isStanding hW hk hL, ?_⟩ -- call wpX9_isStanding o a1 F A P7
    intro z9 p7
    refine ⟨fun hc => ?_, fun hc => ?_⟩ -- c2
    · -- case (¬ z9 = 0)
      have h1 : 0 ≤ a1 ∧ a1 < W 3 0 0 ∧ 0 < L 2 a1 0 := by grind
      have h2 : 0 ≤ a2 ∧ a2 < W 2 0 0 := by grind
      have hl : 0 ≤ a1 ∧ a1 < W 3 0 0 := by omega
      have hr : rNeeds W L a1 a2 = (if sFirst (sNeedP W L a1 a2) 60 = -1 then -1 else sFirst (sNeedP W L a1 a2) 60 + 1) := if_pos ⟨h2, h1⟩
      refine ⟨fun (v13 : Int) (v14 : Int) (F15 : jFl) (A16 : jAr) => (1 ≤ v14 ∧ v14 ≤ 61) ∧ (v13 = -1 ∨ (v13 = v14 - 1 ∧ 1 ≤ v13 ∧ v13 ≤ 60 ∧ sNeedP W L a1 a2 (v13 - 1))) ∧ (∀ j : Int, 0 ≤ j → j < v14 - 1 → (v13 ≠ -1 → j < v13 - 1) → ¬ sNeedP W L a1 a2 j) ∧ (∀ f b, (b = o → (f < 3165 ∨ 3183 < f) ∧ f ≠ 3192 ∧ (f < 3222 ∨ 3231 < f) ∧ f ≠ 3186) → F15 f b = F f b) ∧ ∀ b, (b < o + 36 ∨ o + 47 < b) → A16 b = A b, fun v13 v14 F15 A16 => (61 - v14).toNat, ?_, ?_⟩ -- loop I18 I18 (-1) 1 F A
      ·
        -- l2: I18 (-1) 1 F A
        exact ⟨by omega, Or.inl rfl, fun j j0 j1 => by omega, fun _ _ _ => rfl, fun _ _ => rfl⟩
      intro v13 v14 F15 A16 i18
      obtain ⟨i1, i2, i3, i4, i5⟩ := i18
      have fin : ∀ F21 : jFl, F21 = upF F15 3186 o (-1) → mfr o F A F21 A16 := fun F21 e => ⟨fun f b hb => by
        rw [e]
        by_cases w : f = 3186 ∧ b = o
        · rw [w.1, w.2, upF_s]; exact hh.symm
        · rw [show upF F15 3186 o (-1) f b = F15 f b from if_neg w]
          exact i4 f b (fun q => by have := hb q; exact ⟨this.1, this.2.1, this.2.2, fun q2 => w ⟨q2, q⟩⟩), fun b hb => i5 b hb⟩
      refine ⟨fun hc => ?_, fun hc => ?_⟩ -- c3
      · -- case (60 < v14)
        intro F21 e21
        -- l3: Q v13 F21 A16
        refine ⟨?_, fin _ e21⟩
        rw [hr]
        rcases i2 with q | ⟨q1, q2, q3, q4⟩
        · rw [sFirst_none (fun j j0 j1 => i3 j j0 (by omega) (fun w => absurd q w)), if_pos rfl]; exact q
        · rw [sFirst_some (v := v13 - 1) (by omega) (by omega) q4 (fun j j0 j1 => i3 j j0 (by omega) (fun _ => j1)), if_neg (by omega)]; omega
      · -- case ¬ (60 < v14)
        refine ⟨fun hc => ?_, fun hc => ?_⟩ -- c4
        · -- case (¬ v13 = (-1))
          intro F24 e24
          -- l4: Q v13 F24 A16
          refine ⟨?_, fin _ e24⟩
          rw [hr]
          rcases i2 with q | ⟨q1, q2, q3, q4⟩
          · omega
          · rw [sFirst_some (v := v13 - 1) (by omega) (by omega) q4 (fun j j0 j1 => i3 j j0 (by omega) (fun _ => j1)), if_neg (by omega)]; omega
        · -- case ¬ (¬ v13 = (-1))
          intro F26 e26
          have f26 : F26 3186 o = v14 := by rw [e26, upF_s]
          have g26 : ∀ f b, (b = o → f ≠ 3186) → F26 f b = F15 f b := fun f b hb => by rw [e26]; exact if_neg (fun w => (hb w.2) w.1)
          have hW2 : mrW o F26 A16 W := hW.of (by rw [g26 _ _ (fun _ => by decide), i4 _ _ (fun _ => by decide)]) (fun k _ _ => i5 _ (by omega))
          have hL2 : mrL o A16 0 (W 3 0 0) L := hL.of (fun k _ _ => i5 _ (by omega))
          refine ⟨_, sX9_standsBy (h := v14 + (if L 4 a1 0 = 0 then 0 else W 6 0 0)) hk hLk hW2 hL2 (Or.inr (by rw [f26]; omega)) hl h2 (by rw [f26, if_neg (show ¬ v14 = -1 by omega)]), ?_⟩ -- call wpX9_standsBy o a1 a2 F26 A16 P28
          intro z30 F31 A32 p28
          obtain ⟨q1, q2⟩ := p28
          have eP : sNeedP W L a1 a2 (v14 - 1) ↔ sKind W a2 (sRw L a1) (v14 + (if L 4 a1 0 = 0 then 0 else W 6 0 0)) = 0 := by
            unfold sNeedP
            rw [show v14 - 1 + 1 = v14 by omega]
          intro z37 e37
          have ez : z37 = (if z30 = 0 then -1 else v14) := by rw [e37]
          refine ⟨by omega, ?_⟩ -- s1: jR (v14 + 1)
          refine ⟨?_, ?_⟩ -- l5: I18 z37 (v14 + 1) F31 A32
          · refine ⟨by omega, ?_, fun j j0 j1 j2 => ?_, fun f b hb => ?_, fun b hb => by rw [q2.2 b hb]; exact i5 b hb⟩
            · by_cases w : sKind W a2 (sRw L a1) (v14 + (if L 4 a1 0 = 0 then 0 else W 6 0 0)) = 0
              · rw [if_pos w] at q1
                rw [if_neg (by omega)] at ez
                exact Or.inr ⟨by omega, by omega, by omega, by rw [ez]; exact eP.mpr w⟩
              · rw [if_neg w] at q1
                rw [if_pos q1] at ez
                exact Or.inl ez
            · by_cases wj : j = v14 - 1
              · rw [wj]
                intro q
                have w := eP.mp q
                rw [if_pos w] at q1
                rw [if_neg (by omega)] at ez
                have := j2 (by omega)
                omega
              · exact i3 j j0 (by omega) (fun q => absurd (show v13 = -1 by omega) q)
            · rw [q2.1 f b (fun w => by have := hb w; exact ⟨this.1, this.2.1, this.2.2.1⟩), g26 f b (fun w => (hb w).2.2.2)]
              exact i4 f b hb
          · dsimp only; omega
    · -- case ¬ (¬ z9 = 0)
      -- l6: Q (-1) F A
      exact ⟨by unfold rNeeds; rw [if_neg (by grind)], mfr.refl _ _ _⟩

set_option maxHeartbeats 1000000 in
theorem sX0_needs {o : Nat} {a1 : Int} {a2 : Int} {N : jSh} {F : jFl} {A : jAr} {wA sA cA lA : Int → Int} {W L : sTb} {t : Nat} (hx : ctx N F A o t W L wA sA cA lA) (hy : lay N o) : wqX0_needs o a1 a2 N F A (fun z F' A' => z = rNeeds W L a1 a2 ∧ fr (o + 11) (o + 14) F A F' A') := by
  unfold wqX0_needs
  have hll : ∀ a : Int, 0 ≤ a ∧ a < W 3 0 0 → 0 ≤ lA a := fun a h => by obtain ⟨b, u1, -⟩ := hx.lw h; omega
  have hcc : ∀ a : Int, 0 ≤ a ∧ a < W 2 0 0 → 0 ≤ cA a := fun a h => by obtain ⟨b, u1, -⟩ := hx.ch h; omega
  refine ⟨_, sX0_childOf hx, ?_⟩ -- call wqX0_childOf o a2 N F A P1
  intro z3 p1
  refine ⟨_, sX0_standingOf hx, ?_⟩ -- call wqX0_standingOf o a1 N F A P8
  intro z10 p8
  refine ⟨fun hc => ?_, fun hc => ?_⟩ -- c1
  · -- case (z3 < 0)
    -- l1: Q (-1) F A
    exact ⟨by unfold rNeeds; rw [if_neg (by grind)], fr.refl _ _ _ _⟩
  · -- case (¬ (z3 < 0))
    refine ⟨fun hc => ?_, fun hc => ?_⟩ -- c2
    · -- case (¬ z10 < 0)
      have h1 : 0 ≤ a1 ∧ a1 < W 3 0 0 ∧ 0 < L 2 a1 0 := by grind
      have h2 : 0 ≤ a2 ∧ a2 < W 2 0 0 := by grind
      have hl : 0 ≤ a1 ∧ a1 < W 3 0 0 := by omega
      rw [if_pos h1] at p8
      rw [if_pos h2] at p1
      have hr : rNeeds W L a1 a2 = (if sFirst (sNeedP W L a1 a2) 60 = -1 then -1 else sFirst (sNeedP W L a1 a2) 60 + 1) := if_pos ⟨h2, h1⟩
      have k4 := (hx.oL.2.2.2.1 a1 hl.1 hl.2).2.2.2
      refine ⟨fun (v17 : Int) (F18 : jFl) (A19 : jAr) => (1 ≤ v17 ∧ v17 ≤ 61) ∧ (∀ j : Int, 0 ≤ j → j < v17 - 1 → ¬ sNeedP W L a1 a2 j) ∧ fr (o + 11) (o + 14) F A F18 A19, fun v17 F18 A19 => (61 - v17).toNat, ?_, ?_⟩ -- loop I22 I22 1 F A
      ·
        -- l2: I22 1 F A
        exact ⟨by omega, fun j j0 j1 => by omega, fr.refl _ _ _ _⟩
      intro v17 F18 A19 i22
      obtain ⟨i1, i2, i3⟩ := i22
      have hx1 := hx.fr (hy.scr.mono (by omega) (by omega)) i3
      obtain ⟨bl, l1, l2, l3, l4⟩ := hx1.lw hl
      obtain ⟨bc, c1, c2⟩ := hx1.ch h2
      refine ⟨fun hc => ?_, fun hc => ?_⟩ -- c3
      · -- case (60 < v17)
        -- l3: Q (-1) F18 A19
        exact ⟨by rw [hr, sFirst_none (fun j j0 j1 => i2 j j0 (by omega)), if_pos rfl], i3⟩
      · -- case (¬ (60 < v17))
        refine ⟨_, by exact p8.trans l1, ?_⟩ -- d25: z10 = (b25 : Int)
        refine ⟨by exact l2.1, ?_⟩ -- s1: jtg N b25 = 17
        refine ⟨_, by exact hy.p326, ?_⟩ -- d28: jfn N 326 o = (b28 : Int)
        refine ⟨by exact hy.alone.1, ?_⟩ -- s2: jtg N b28 = 3
        refine ⟨by rw [l3]; exact k4, ?_⟩ -- s3: (F18 5103 b25 = 0 ∨ F18 5103 b25 = 1)
        refine ⟨_, sX2_of_2 (left := v17 + (if L 4 a1 0 = 0 then 0 else W 6 0 0)) hy.alone hx.tx hx1.ft hx.tt hx1.f6 (p1.trans c1) c2 h2 l2.2.2.2.1 l4 (sRw_ok hx.oL hl) hx1.wd hx.oW (fun w => by have := l2.1; have := hy.scr.out3 (a := bl) (by omega); omega) (by rw [l3]) (by omega), ?_⟩ -- call wqX2_of_2 b28 z3 (jfn N 5102 b25) (F18 5103 b25) v17 N F18 A19 P32
        intro z34 F35 A36 p32
        obtain ⟨q1, q2, q3⟩ := p32
        have eP : sNeedP W L a1 a2 (v17 - 1) ↔ sKind W a2 (sRw L a1) (v17 + (if L 4 a1 0 = 0 then 0 else W 6 0 0)) = 0 := by
          unfold sNeedP
          rw [show v17 - 1 + 1 = v17 by omega]
        refine ⟨_, by exact q1, ?_⟩ -- d41: z34 = (b41 : Int)
        refine ⟨by exact hy.alone.1, ?_⟩ -- s4: jtg N b41 = 3
        rw [q2.1, ← eP]
        refine ⟨fun hc => ?_, fun hc => ?_⟩ -- c4
        · -- case (¬ (F35 903 b41) = 0)
          refine ⟨by omega, ?_⟩ -- s5: jR (v17 + 1)
          refine ⟨?_, ?_⟩ -- l4: I22 (v17 + 1) F35 A36
          · refine ⟨by omega, fun j j0 j1 => ?_, i3.trans q3⟩
            by_cases w : j = v17 - 1
            · rw [w]; exact hc
            · exact i2 j j0 (by omega)
          · dsimp only; omega
        · -- case ((F35 903 b41) = 0)
          -- l5: Q v17 F35 A36
          refine ⟨?_, i3.trans q3⟩
          rw [hr, sFirst_some (v := v17 - 1) (by omega) (by omega) hc (fun j j0 j1 => i2 j j0 (by omega)), if_neg (by omega)]
          omega
    · -- case (z10 < 0)
      -- l6: Q (-1) F A
      exact ⟨by unfold rNeeds; rw [if_neg (by grind)], fr.refl _ _ _ _⟩

