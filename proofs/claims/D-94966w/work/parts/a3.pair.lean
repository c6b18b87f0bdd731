set_option maxRecDepth 100000
set_option linter.unusedVariables false
/-! apart, against: the model; printed by gen/prove.py out of spec/a3.pair.spec -/
def sBgn (R R' : sRow) : Prop := 1 < R.1 ∧ 1 < R'.1 ∧ R.2.2 0 = R'.2.2 0 ∧ R.2.2 1 = R'.2.2 1
def sAgt (W : sTb) (R R' : sRow) : Prop := ¬ sNevers W R % 2 = sNevers W R' % 2 ∧ sAgs W R R'
def rPrP (W L : sTb) (begun a b : Int) : Prop := 0 < L 2 a 0 ∧ 0 < L 2 b 0 ∧ ((begun = 0 ∧ sAgt W (sRw L a) (sRw L b)) ∨ (begun ≠ 0 ∧ sBgn (sRw L a) (sRw L b)))
noncomputable def rPair (W L : sTb) (k begun : Int) : Int := sPr (rPrP W L begun) k (W 3 0 0)
theorem mrL.at0 {o : Nat} {A : jAr} {n : Int} {L : sTb} (hL : mrL o A 0 n L) {a : Int} (h : 0 ≤ a ∧ a < n) : A (o + 30) a = L 2 a 0 ∧ ∀ k : Int, 0 ≤ k → k < L 2 a 0 + L 3 a 0 → A (o + 33) (12 * a + k) = L 5 a k := by
  obtain ⟨x1, -, -, x4⟩ := hL.2.2 a h.1 h.2
  rw [show 12 * 0 + a = a by omega] at x1 x4
  exact ⟨x1, x4⟩
theorem sX9_nevers {o : Nat} {a1 : Int} {F : jFl} {A : jAr} {W L : sTb} (hk : sWok W) (hLk : sLok W L) (hW : mrW o F A W) (hL : mrL o A 0 (W 3 0 0) L) (h1 : 0 ≤ a1 ∧ a1 < W 3 0 0) : wpX9_nevers o a1 F A (fun z => z = sNevers W (sRw L a1) ∧ 0 ≤ z ∧ z ≤ 8) := by
  unfold wpX9_nevers
  have w3 := hk.2.2.2.1
  obtain ⟨x1, x4⟩ := hL.at0 h1
  have r1 := hLk.2.2.2.1 a1 h1.1 h1.2
  have hRk := sRw_ok hLk h1
  rw [x1]
  refine ⟨fun (v1 : Int) (v2 : Int) => (0 ≤ v2 ∧ v2 ≤ L 2 a1 0) ∧ v1 = it (fun k n => if W 15 (L 5 a1 k) 0 = 0 then n else n + 1) 0 v2.toNat ∧ 0 ≤ v1 ∧ v1 ≤ v2, fun v1 v2 => (L 2 a1 0 - v2).toNat, ?_, ?_⟩ -- loop I3 I3 0 0
  ·
    -- l1: I3 0 0
    exact ⟨by omega, rfl, by omega⟩
  intro v1 v2 i3
  obtain ⟨i1, i2, i3⟩ := i3
  refine ⟨by omega, ?_⟩ -- s1: (0 ≤ a1 ∧ a1 < 264)
  refine ⟨fun hc => ?_, fun hc => ?_⟩ -- c1
  · -- case ((A (o + 30) a1) ≤ v2)
    -- l2: Q v1
    refine ⟨?_, by omega, by omega⟩
    rw [i2, show v2 = L 2 a1 0 by omega]; rfl
  · -- case ¬ ((A (o + 30) a1) ≤ v2)
    refine ⟨by omega, ?_⟩ -- s2: (0 ≤ (12 * a1) + v2 ∧ (12 * a1) + v2 < 3168)
    rw [x4 v2 i1.1 (by omega)]
    have hr := hRk.2.2 v2 i1.1 (by show v2 < L 2 a1 0 + L 3 a1 0; omega)
    refine ⟨_, sX9_isNever hW hk hr, ?_⟩ -- call wpX9_isNever o (A (o + 33) ((12 * a1) + v2)) F A P8
    intro z10 p8
    intro z14 e14
    have ez : z14 = (if W 15 (L 5 a1 v2) 0 = 0 then 0 else 1) := by
      rw [e14, p8]
      by_cases w : W 15 (L 5 a1 v2) 0 = 0
      · rw [if_pos (by rw [show (sRw L a1).2.2 v2 = L 5 a1 v2 from rfl] at *; rw [if_pos w]), if_pos w]
      · rw [if_neg (by rw [if_neg w]; decide), if_neg w]
    have zr : 0 ≤ z14 ∧ z14 ≤ 1 := by rw [ez]; split <;> decide
    refine ⟨by omega, ?_⟩ -- s3: jR (v1 + z14)
    intro v17 e17
    refine ⟨by omega, ?_⟩ -- s4: jR (v2 + 1)
    refine ⟨?_, ?_⟩ -- l3: I3 v17 (v2 + 1)
    · refine ⟨by omega, ?_, by omega⟩
      rw [it_succ _ _ i1.1, ← i2, e17, ez]
      split <;> omega
    · dsimp only; omega

theorem sX9_nextPlain {o : Nat} {a1 : Int} {a2 : Int} {F : jFl} {A : jAr} {W L : sTb} (hk : sWok W) (hLk : sLok W L) (hW : mrW o F A W) (hL : mrL o A 0 (W 3 0 0) L) (h1 : 0 ≤ a1 ∧ a1 < W 3 0 0) (h2 : 0 ≤ a2 ∧ a2 ≤ L 2 a1 0) : wpX9_nextPlain o a1 a2 F A (fun z => z = sPlain W (sRw L a1) a2 ∧ a2 ≤ z ∧ z ≤ L 2 a1 0) := by
  unfold wpX9_nextPlain
  have w3 := hk.2.2.2.1
  obtain ⟨x1, x4⟩ := hL.at0 h1
  have r1 := hLk.2.2.2.1 a1 h1.1 h1.2
  have hRk := sRw_ok hLk h1
  have e1 : (sRw L a1).1 = L 2 a1 0 := rfl
  rw [x1]
  refine ⟨fun (v1 : Int) => (a2 ≤ v1 ∧ v1 ≤ L 2 a1 0) ∧ sPlain W (sRw L a1) a2 = sPlain W (sRw L a1) v1, fun v1 => (L 2 a1 0 - v1).toNat, ?_, ?_⟩ -- loop I2 I2 a2
  ·
    -- l1: I2 a2
    exact ⟨by omega, rfl⟩
  intro v1 i2
  obtain ⟨i1, i2⟩ := i2
  refine ⟨by omega, ?_⟩ -- s1: (0 ≤ a1 ∧ a1 < 264)
  refine ⟨fun hc => ?_, fun hc => ?_⟩ -- c1
  · -- case ((A (o + 30) a1) ≤ v1)
    -- l2: Q v1
    exact ⟨by rw [i2, sPlain_end (by omega)], by omega, by omega⟩
  · -- case ¬ ((A (o + 30) a1) ≤ v1)
    refine ⟨by omega, ?_⟩ -- s2: (0 ≤ (12 * a1) + v1 ∧ (12 * a1) + v1 < 3168)
    rw [x4 v1 (by omega) (by omega)]
    have hr := hRk.2.2 v1 (by omega) (by show v1 < L 2 a1 0 + L 3 a1 0; omega)
    refine ⟨_, sX9_isNever hW hk hr, ?_⟩ -- call wpX9_isNever o (A (o + 33) ((12 * a1) + v1)) F A P7
    intro z9 p7
    refine ⟨fun hc => ?_, fun hc => ?_⟩ -- c2
    · -- case (z9 = 0)
      -- l3: Q v1
      have w : W 15 (L 5 a1 v1) 0 = 0 := by
        by_cases w : W 15 (L 5 a1 v1) 0 = 0
        · exact w
        · have p7 : z9 = (if W 15 (L 5 a1 v1) 0 = 0 then 0 else 1) := p7
          rw [if_neg w] at p7; omega
      exact ⟨by rw [i2, sPlain_at (by omega) w], by omega, by omega⟩
    · -- case ¬ (z9 = 0)
      refine ⟨by omega, ?_⟩ -- s3: jR (v1 + 1)
      refine ⟨?_, ?_⟩ -- l4: I2 (v1 + 1)
      · have w : ¬ W 15 (L 5 a1 v1) 0 = 0 := fun w => by
          have p7 : z9 = (if W 15 (L 5 a1 v1) 0 = 0 then 0 else 1) := p7
          rw [if_pos w] at p7; omega
        exact ⟨by omega, by rw [i2, sPlain_go (by omega) w]⟩
      · dsimp only; omega

theorem sX9_isApart {o : Nat} {a1 : Int} {a2 : Int} {F : jFl} {A : jAr} {W L : sTb} (hk : sWok W) (hLk : sLok W L) (hW : mrW o F A W) (hL : mrL o A 0 (W 3 0 0) L) (h1 : 0 ≤ a1 ∧ a1 < W 3 0 0) (h2 : 0 ≤ a2 ∧ a2 < W 3 0 0) : wpX9_isApart o a1 a2 F A (fun z => z = cif (0 < L 2 a1 0 ∧ 0 < L 2 a2 0 ∧ sBgn (sRw L a1) (sRw L a2)) 1 0) := by
  unfold wpX9_isApart
  have w3 := hk.2.2.2.1
  obtain ⟨x1, x4⟩ := hL.at0 h1
  obtain ⟨y1, y4⟩ := hL.at0 h2
  have r1 := hLk.2.2.2.1 a1 h1.1 h1.2
  have r2 := hLk.2.2.2.1 a2 h2.1 h2.2
  have b0 : ∀ {v : Int}, ¬ (0 < L 2 a1 0 ∧ 0 < L 2 a2 0 ∧ sBgn (sRw L a1) (sRw L a2)) → v = 0 → v = cif (0 < L 2 a1 0 ∧ 0 < L 2 a2 0 ∧ sBgn (sRw L a1) (sRw L a2)) 1 0 := fun w e => by rw [cif_neg w]; exact e
  refine ⟨_, sX9_stands hL (by decide) h1 hk, ?_⟩ -- call wpX9_stands o 0 a1 F A P1
  intro z3 p1
  refine ⟨fun hc => ?_, fun hc => ?_⟩ -- c1
  · -- case (z3 = 0)
    -- l1: Q 0
    exact b0 (fun w => by rw [if_pos w.1] at p1; omega) rfl
  · -- case ¬ (z3 = 0)
    refine ⟨_, sX9_stands hL (by decide) h2 hk, ?_⟩ -- call wpX9_stands o 0 a2 F A P7
    intro z9 p7
    refine ⟨fun hc => ?_, fun hc => ?_⟩ -- c2
    · -- case (z9 = 0)
      -- l2: Q 0
      exact b0 (fun w => by rw [if_pos w.2.1] at p7; omega) rfl
    · -- case ¬ (z9 = 0)
      refine ⟨by omega, ?_⟩ -- s1: (0 ≤ a1 ∧ a1 < 264)
      rw [x1]
      refine ⟨fun hc => ?_, fun hc => ?_⟩ -- c3
      · -- case ((A (o + 30) a1) ≤ 1)
        -- l3: Q 0
        exact b0 (fun w => by have q : 1 < L 2 a1 0 := w.2.2.1; omega) rfl
      · -- case ¬ ((A (o + 30) a1) ≤ 1)
        refine ⟨by omega, ?_⟩ -- s2: (0 ≤ a2 ∧ a2 < 264)
        rw [y1]
        refine ⟨fun hc => ?_, fun hc => ?_⟩ -- c4
        · -- case ((A (o + 30) a2) ≤ 1)
          -- l4: Q 0
          exact b0 (fun w => by have q : 1 < L 2 a2 0 := w.2.2.2.1; omega) rfl
        · -- case ¬ ((A (o + 30) a2) ≤ 1)
          refine ⟨by omega, ?_⟩ -- s3: (0 ≤ 12 * a1 ∧ 12 * a1 < 3168)
          refine ⟨by omega, ?_⟩ -- s4: (0 ≤ 12 * a2 ∧ 12 * a2 < 3168)
          have s1 : A (o + 33) (12 * a1) = L 5 a1 0 := by have := x4 0 (by omega) (by omega); rw [Int.add_zero] at this; exact this
          have s2 : A (o + 33) (12 * a2) = L 5 a2 0 := by have := y4 0 (by omega) (by omega); rw [Int.add_zero] at this; exact this
          rw [s1, s2, x4 1 (by omega) (by omega), y4 1 (by omega) (by omega)]
          refine ⟨fun hc => ?_, fun hc => ?_⟩ -- c5
          · -- case (¬ (A (o + 33) (12 * a1)) = (A (o + 33) (12 * a2)))
            -- l5: Q 0
            exact b0 (fun w => hc w.2.2.2.2.1) rfl
          · -- case ¬ (¬ (A (o + 33) (12 * a1)) = (A (o + 33) (12 * a2)))
            refine ⟨by omega, ?_⟩ -- s5: (0 ≤ (12 * a1) + 1 ∧ (12 * a1) + 1 < 3168)
            refine ⟨by omega, ?_⟩ -- s6: (0 ≤ (12 * a2) + 1 ∧ (12 * a2) + 1 < 3168)
            intro z23 e23
            -- l6: Q z23
            rw [e23]
            have h5 : L 5 a1 0 = L 5 a2 0 := by omega
            by_cases q : L 5 a1 1 = L 5 a2 1
            · rw [if_neg (fun w => w q), cif_pos ⟨by omega, by omega, by show 1 < L 2 a1 0; omega, by show 1 < L 2 a2 0; omega, h5, q⟩]
            · rw [if_pos q, cif_neg (fun w => q w.2.2.2.2.2)]

theorem sX9_isAgainst {o : Nat} {a1 : Int} {a2 : Int} {F : jFl} {A : jAr} {W L : sTb} (hk : sWok W) (hLk : sLok W L) (hW : mrW o F A W) (hL : mrL o A 0 (W 3 0 0) L) (h1 : 0 ≤ a1 ∧ a1 < W 3 0 0) (h2 : 0 ≤ a2 ∧ a2 < W 3 0 0) : wpX9_isAgainst o a1 a2 F A (fun z => z = cif (0 < L 2 a1 0 ∧ 0 < L 2 a2 0 ∧ sAgt W (sRw L a1) (sRw L a2)) 1 0) := by
  unfold wpX9_isAgainst
  have w3 := hk.2.2.2.1
  obtain ⟨x1, x4⟩ := hL.at0 h1
  obtain ⟨y1, y4⟩ := hL.at0 h2
  have r1 := hLk.2.2.2.1 a1 h1.1 h1.2
  have r2 := hLk.2.2.2.1 a2 h2.1 h2.2
  have b0 : ∀ {v : Int}, ¬ (0 < L 2 a1 0 ∧ 0 < L 2 a2 0 ∧ sAgt W (sRw L a1) (sRw L a2)) → v = 0 → v = cif (0 < L 2 a1 0 ∧ 0 < L 2 a2 0 ∧ sAgt W (sRw L a1) (sRw L a2)) 1 0 := fun w e => by rw [cif_neg w]; exact e
  have e1 : (sRw L a1).1 = L 2 a1 0 := rfl
  have e2 : (sRw L a2).1 = L 2 a2 0 := rfl
  refine ⟨_, sX9_stands hL (by decide) h1 hk, ?_⟩ -- call wpX9_stands o 0 a1 F A P1
  intro z3 p1
  refine ⟨fun hc => ?_, fun hc => ?_⟩ -- c1
  · -- case (z3 = 0)
    -- l1: Q 0
    exact b0 (fun w => by rw [if_pos w.1] at p1; omega) rfl
  · -- case ¬ (z3 = 0)
    refine ⟨_, sX9_stands hL (by decide) h2 hk, ?_⟩ -- call wpX9_stands o 0 a2 F A P7
    intro z9 p7
    refine ⟨fun hc => ?_, fun hc => ?_⟩ -- c2
    · -- case (z9 = 0)
      -- l2: Q 0
      exact b0 (fun w => by rw [if_pos w.2.1] at p7; omega) rfl
    · -- case ¬ (z9 = 0)
      have g1 : 0 < L 2 a1 0 := by
        by_cases w : 0 < L 2 a1 0
        · exact w
        · rw [if_neg w] at p1; omega
      have g2 : 0 < L 2 a2 0 := by
        by_cases w : 0 < L 2 a2 0
        · exact w
        · rw [if_neg w] at p7; omega
      refine ⟨_, sX9_nevers hk hLk hW hL h1, ?_⟩ -- call wpX9_nevers o a1 F A P13
      intro z15 p13
      refine ⟨_, sX9_nevers hk hLk hW hL h2, ?_⟩ -- call wpX9_nevers o a2 F A P18
      intro z20 p18
      refine ⟨by omega, ?_⟩ -- s1: (((0 : Int) ≤ z15 + z20 ∧ (z15 + z20 : Int) ≤ 2147483647) ∧ ((0 : Int) < 2 ∧ (2 : Int) ≤ 2147483647))
      refine ⟨by omega, ?_⟩ -- s2: jR ((z15 + z20) % 2)
      refine ⟨fun hc => ?_, fun hc => ?_⟩ -- c3
      · -- case (¬ ((z15 + z20) % 2) = 0)
        have hn : ¬ sNevers W (sRw L a1) % 2 = sNevers W (sRw L a2) % 2 := by rw [← p13.1, ← p18.1]; omega
        refine ⟨_, sX9_nextPlain hk hLk hW hL h1 (by omega), ?_⟩ -- call wpX9_nextPlain o a1 0 F A P26
        intro z28 p26
        refine ⟨_, sX9_nextPlain hk hLk hW hL h2 (by omega), ?_⟩ -- call wpX9_nextPlain o a2 0 F A P31
        intro z33 p31
        refine ⟨fun (v36 : Int) (v37 : Int) => (0 ≤ v36 ∧ v36 ≤ L 2 a1 0 ∧ 0 ≤ v37 ∧ v37 ≤ L 2 a2 0) ∧ ∃ n : Nat, sAgN W (sRw L a1) (sRw L a2) n = (v36, v37), fun v36 v37 => (L 2 a1 0 - v36).toNat, ?_, ?_⟩ -- loop I38 I38 z28 z33
        ·
          -- l3: I38 z28 z33
          exact ⟨by omega, 0, by rw [p26.1, p31.1]; rfl⟩
        intro v36 v37 i38
        obtain ⟨i1, n, i2⟩ := i38
        rw [x1, y1]
        refine ⟨by omega, ?_⟩ -- s3: (0 ≤ a1 ∧ a1 < 264)
        refine ⟨¬ sAgc (sRw L a1) (sRw L a2) (v36, v37), ?_, ?_⟩ -- join K42
        · intro k42
          have fin := sAg_final i2 k42
          refine ⟨by omega, ?_⟩ -- s4: (0 ≤ a1 ∧ a1 < 264)
          refine ⟨fun hc => ?_, fun hc => ?_⟩ -- c4
          · -- case (v36 < (A (o + 30) a1))
            -- l4: Q 0
            exact b0 (fun w => by have := congrArg Prod.fst (fin.mp w.2.2.2); dsimp only at this; omega) rfl
          · -- case ¬ (v36 < (A (o + 30) a1))
            refine ⟨by omega, ?_⟩ -- s5: (0 ≤ a2 ∧ a2 < 264)
            intro z49 e49
            -- l5: Q z49
            rw [e49]
            by_cases q : v37 < L 2 a2 0
            · rw [if_pos q]; exact b0 (fun w => by have := congrArg Prod.snd (fin.mp w.2.2.2); dsimp only at this; omega) rfl
            · rw [if_neg q, cif_pos ⟨g1, g2, hn, fin.mpr (by rw [e1, e2, show v36 = L 2 a1 0 by omega, show v37 = L 2 a2 0 by omega])⟩]
        refine ⟨fun hc => ?_, fun hc => ?_⟩ -- c5
        · -- case ((A (o + 30) a1) ≤ v36)
          -- l6: K42
          intro w; have := w.1; dsimp only at this; omega
        · -- case ¬ ((A (o + 30) a1) ≤ v36)
          refine ⟨by omega, ?_⟩ -- s6: (0 ≤ a2 ∧ a2 < 264)
          refine ⟨fun hc => ?_, fun hc => ?_⟩ -- c6
          · -- case ((A (o + 30) a2) ≤ v37)
            -- l7: K42
            intro w; have := w.2.1; dsimp only at this; omega
          · -- case ¬ ((A (o + 30) a2) ≤ v37)
            refine ⟨by omega, ?_⟩ -- s7: (0 ≤ (12 * a1) + v36 ∧ (12 * a1) + v36 < 3168)
            refine ⟨by omega, ?_⟩ -- s8: (0 ≤ (12 * a2) + v37 ∧ (12 * a2) + v37 < 3168)
            rw [x4 v36 (by omega) (by omega), y4 v37 (by omega) (by omega)]
            refine ⟨fun hc => ?_, fun hc => ?_⟩ -- c7
            · -- case (¬ (A (o + 33) ((12 * a1) + v36)) = (A (o + 33) ((12 * a2) + v37)))
              -- l8: K42
              intro w; exact hc w.2.2
            · -- case ¬ (¬ (A (o + 33) ((12 * a1) + v36)) = (A (o + 33) ((12 * a2) + v37)))
              refine ⟨by omega, ?_⟩ -- s9: jR (v36 + 1)
              refine ⟨_, sX9_nextPlain hk hLk hW hL h1 (by omega), ?_⟩ -- call wpX9_nextPlain o a1 (v36 + 1) F A P57
              intro z59 p57
              refine ⟨by omega, ?_⟩ -- s10: jR (v37 + 1)
              refine ⟨_, sX9_nextPlain hk hLk hW hL h2 (by omega), ?_⟩ -- call wpX9_nextPlain o a2 (v37 + 1) F A P63
              intro z65 p63
              refine ⟨?_, ?_⟩ -- l9: I38 z59 z65
              · have hc5 : L 5 a1 v36 = L 5 a2 v37 := by omega
                refine ⟨by omega, n + 1, ?_⟩
                show sAgSt W (sRw L a1) (sRw L a2) (sAgN W (sRw L a1) (sRw L a2) n) = _
                rw [i2, p57.1, p63.1]
                exact cif_pos ⟨by dsimp only; omega, by dsimp only; omega, hc5⟩
              · dsimp only; omega
      · -- case ¬ (¬ ((z15 + z20) % 2) = 0)
        -- l10: Q 0
        exact b0 (fun w => w.2.2.1 (by rw [← p13.1, ← p18.1]; omega)) rfl

theorem sX9_pairAt {o : Nat} {a1 : Int} {a2 : Int} {F : jFl} {A : jAr} {W L : sTb} (hk : sWok W) (hLk : sLok W L) (hW : mrW o F A W) (hL : mrL o A 0 (W 3 0 0) L) : wpX9_pairAt o a1 a2 F A (fun z => z = rPair W L a1 a2) := by
  unfold wpX9_pairAt
  have w3 := hk.2.2.2.1
  have hb := hW.1
  have hn : A (o + 17) (F 3039 o) = W 3 0 0 := hW.2.1.2.2.2
  rw [hn]
  refine ⟨fun (v1 : Int) (v2 : Int) => (0 ≤ v2 ∧ v2 ≤ W 3 0 0) ∧ (0 ≤ v1 ∧ v1 ≤ 12 * v2) ∧ it (sPrR (rPrP W L a2) a1 (W 3 0 0)) (0, -1) v2.toNat = (v1, -1), fun v1 v2 => (W 3 0 0 - v2).toNat, ?_, ?_⟩ -- loop I3 I3 0 0
  ·
    -- l1: I3 0 0
    exact ⟨by omega, by omega, rfl⟩
  intro v1 v2 i3
  obtain ⟨i1, i2, i3⟩ := i3
  refine ⟨by omega, ?_⟩ -- s1: (0 ≤ F 3039 o ∧ F 3039 o < 2)
  refine ⟨fun hc => ?_, fun hc => ?_⟩ -- c1
  · -- case ((A (o + 17) (F 3039 o)) ≤ v2)
    -- l2: Q (-1)
    show (-1 : Int) = (it (sPrR (rPrP W L a2) a1 (W 3 0 0)) (0, -1) (W 3 0 0).toNat).2
    have ev : v2 = W 3 0 0 := by omega
    rw [ev] at i3
    rw [i3]
  · -- case ¬ ((A (o + 17) (F 3039 o)) ≤ v2)
    refine ⟨by omega, ?_⟩ -- s2: jR (v2 + 1)
    intro v8 e8
    refine ⟨fun (v9 : Int) (v10 : Int) => (v2 + 1 ≤ v10 ∧ v10 ≤ W 3 0 0) ∧ (v1 ≤ v9 ∧ v9 ≤ v1 + (v10 - v2 - 1)) ∧ it (sPrI (rPrP W L a2) a1 v2) (v1, -1) v10.toNat = (v9, -1), fun v9 v10 => (W 3 0 0 - v10).toNat, ?_, ?_⟩ -- loop I11 I11 v1 v8
    ·
      -- l3: I11 v1 v8
      exact ⟨by omega, by omega, by rw [e8]; exact sPrI_skip i1.1⟩
    intro v9 v10 i11
    obtain ⟨j1, j2, j3⟩ := i11
    have st : ∀ v : Int × Int, sPrI (rPrP W L a2) a1 v2 v10 (v9, -1) = v → it (sPrI (rPrP W L a2) a1 v2) (v1, -1) (v10 + 1).toNat = v := fun v h => by rw [it_succ _ _ (by omega), j3]; exact h
    refine ⟨by omega, ?_⟩ -- s3: (0 ≤ F 3039 o ∧ F 3039 o < 2)
    refine ⟨fun hc => ?_, fun hc => ?_⟩ -- c2
    · -- case ((A (o + 17) (F 3039 o)) ≤ v10)
      refine ⟨by omega, ?_⟩ -- s4: jR (v2 + 1)
      refine ⟨?_, ?_⟩ -- l4: I3 v9 (v2 + 1)
      · refine ⟨by omega, by omega, ?_⟩
        rw [it_succ _ _ i1.1, i3]
        show it (sPrI (rPrP W L a2) a1 v2) (v1, -1) (W 3 0 0).toNat = _
        rw [show W 3 0 0 = v10 by omega]
        exact j3
      · dsimp only; omega
    · -- case ¬ ((A (o + 17) (F 3039 o)) ≤ v10)
      refine ⟨fun hc => ?_, fun hc => ?_⟩ -- c3
      · -- case (a2 = 0)
        refine ⟨_, sX9_isAgainst hk hLk hW hL (by omega) (by omega), ?_⟩ -- call wpX9_isAgainst o v2 v10 F A P17
        intro z19 p17
        have ep : rPrP W L a2 v2 v10 ↔ (0 < L 2 v2 0 ∧ 0 < L 2 v10 0 ∧ sAgt W (sRw L v2) (sRw L v10)) := ⟨fun w => ⟨w.1, w.2.1, w.2.2.elim (fun x => x.2) (fun x => absurd (by assumption) x.1)⟩, fun w => ⟨w.1, w.2.1, Or.inl ⟨by assumption, w.2.2⟩⟩⟩
        refine ⟨fun hc => ?_, fun hc => ?_⟩ -- c4
        · -- case (¬ z19 = 0)
          refine ⟨fun hc => ?_, fun hc => ?_⟩ -- c5
          · -- case (¬ v9 = a1)
            refine ⟨by omega, ?_⟩ -- s5: jR (v9 + 1)
            refine ⟨by omega, ?_⟩ -- s6: jR (v10 + 1)
            refine ⟨?_, ?_⟩ -- l5: I11 (v9 + 1) (v10 + 1)
            · have pp : rPrP W L a2 v2 v10 := ep.mpr (Classical.byContradiction fun w => by rw [cif_neg w] at p17; omega)
              refine ⟨by omega, by omega, st _ ?_⟩
              show cif _ _ _ = _
              rw [cif_pos ⟨rfl, by omega, pp⟩, if_neg hc]
            · dsimp only; omega
          · -- case ¬ (¬ v9 = a1)
            refine ⟨by omega, ?_⟩ -- s7: jR ((100 * v2) + v10)
            -- l6: Q ((100 * v2) + v10)
            have pp : rPrP W L a2 v2 v10 := ep.mpr (Classical.byContradiction fun w => by rw [cif_neg w] at p17; omega)
            have e : sPrI (rPrP W L a2) a1 v2 v10 (v9, -1) = (v9, 100 * v2 + v10) := by
              show cif _ _ _ = _
              rw [cif_pos ⟨rfl, by omega, pp⟩, if_pos (show v9 = a1 by omega)]
            have := sPr_found (p := rPrP W L a2) (k := a1) (n := W 3 0 0) (a := v2) (b := v10) (by omega) (by omega) i3 j3 (by rw [e]; dsimp only; omega)
            rw [e] at this
            exact this.symm
        · -- case ¬ (¬ z19 = 0)
          refine ⟨by omega, ?_⟩ -- s8: jR (v10 + 1)
          refine ⟨?_, ?_⟩ -- l7: I11 v9 (v10 + 1)
          · have pp : ¬ rPrP W L a2 v2 v10 := fun w => by rw [cif_pos (ep.mp w)] at p17; omega
            refine ⟨by omega, by omega, st _ ?_⟩
            show cif _ _ _ = _
            rw [cif_neg (fun w => pp w.2.2)]
          · dsimp only; omega
      · -- case ¬ (a2 = 0)
        refine ⟨_, sX9_isApart hk hLk hW hL (by omega) (by omega), ?_⟩ -- call wpX9_isApart o v2 v10 F A P28
        intro z30 p28
        have ep : rPrP W L a2 v2 v10 ↔ (0 < L 2 v2 0 ∧ 0 < L 2 v10 0 ∧ sBgn (sRw L v2) (sRw L v10)) := ⟨fun w => ⟨w.1, w.2.1, w.2.2.elim (fun x => absurd x.1 (by assumption)) (fun x => x.2)⟩, fun w => ⟨w.1, w.2.1, Or.inr ⟨by assumption, w.2.2⟩⟩⟩
        refine ⟨fun hc => ?_, fun hc => ?_⟩ -- c6
        · -- case (¬ z30 = 0)
          refine ⟨fun hc => ?_, fun hc => ?_⟩ -- c7
          · -- case (¬ v9 = a1)
            refine ⟨by omega, ?_⟩ -- s9: jR (v9 + 1)
            refine ⟨by omega, ?_⟩ -- s10: jR (v10 + 1)
            refine ⟨?_, ?_⟩ -- l8: I11 (v9 + 1) (v10 + 1)
            · have pp : rPrP W L a2 v2 v10 := ep.mpr (Classical.byContradiction fun w => by rw [cif_neg w] at p28; omega)
              refine ⟨by omega, by omega, st _ ?_⟩
              show cif _ _ _ = _
              rw [cif_pos ⟨rfl, by omega, pp⟩, if_neg hc]
            · dsimp only; omega
          · -- case ¬ (¬ v9 = a1)
            refine ⟨by omega, ?_⟩ -- s11: jR ((100 * v2) + v10)
            -- l9: Q ((100 * v2) + v10)
            have pp : rPrP W L a2 v2 v10 := ep.mpr (Classical.byContradiction fun w => by rw [cif_neg w] at p28; omega)
            have e : sPrI (rPrP W L a2) a1 v2 v10 (v9, -1) = (v9, 100 * v2 + v10) := by
              show cif _ _ _ = _
              rw [cif_pos ⟨rfl, by omega, pp⟩, if_pos (show v9 = a1 by omega)]
            have := sPr_found (p := rPrP W L a2) (k := a1) (n := W 3 0 0) (a := v2) (b := v10) (by omega) (by omega) i3 j3 (by rw [e]; dsimp only; omega)
            rw [e] at this
            exact this.symm
        · -- case ¬ (¬ z30 = 0)
          refine ⟨by omega, ?_⟩ -- s12: jR (v10 + 1)
          refine ⟨?_, ?_⟩ -- l10: I11 v9 (v10 + 1)
          · have pp : ¬ rPrP W L a2 v2 v10 := fun w => by rw [cif_pos (ep.mp w)] at p28; omega
            refine ⟨by omega, by omega, st _ ?_⟩
            show cif _ _ _ = _
            rw [cif_neg (fun w => pp w.2.2)]
          · dsimp only; omega

theorem sX9_apart {o : Nat} {a1 : Int} {F : jFl} {A : jAr} {W L : sTb} (h : mct o F A 0 W L) : wpX9_apart o a1 F A (fun z => z = rPair W L a1 1) := by
  unfold wpX9_apart
  refine ⟨_, sX9_pairAt h.1.1 h.1.2 h.2.1 h.2.2.1, ?_⟩ -- call wpX9_pairAt o a1 1 F A P1
  intro z3 p1
  -- l1: Q z3
  exact p1

theorem sX9_against {o : Nat} {a1 : Int} {F : jFl} {A : jAr} {W L : sTb} (h : mct o F A 0 W L) : wpX9_against o a1 F A (fun z => z = rPair W L a1 0) := by
  unfold wpX9_against
  refine ⟨_, sX9_pairAt h.1.1 h.1.2 h.2.1 h.2.2.1, ?_⟩ -- call wpX9_pairAt o a1 0 F A P1
  intro z3 p1
  -- l1: Q z3
  exact p1

