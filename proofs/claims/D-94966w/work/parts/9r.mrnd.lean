set_option maxRecDepth 100000
set_option linter.unusedVariables false
/-! the model: becomes, round; printed by gen/prove.py out of spec/9r.mrnd.spec -/
/-- a row that is remembered -/
def mHs (o : Nat) (A : jAr) (j : Int) (R : sRow) : Prop := A (o + 43) (14 * j) = R.1 ∧ A (o + 43) (14 * j + 1) = R.2.1 ∧ ∀ k : Int, 0 ≤ k → k < R.1 + R.2.1 → A (o + 43) (14 * j + 2 + k) = R.2.2 k
/-- what is said, what is told -/
def mSd (o : Nat) (F : jFl) (A : jAr) (R : sRow) : Prop := F 3177 o = R.1 ∧ F 3180 o = R.2.1 ∧ ∀ k : Int, 0 ≤ k → k < R.1 + R.2.1 → A (o + 37) k = R.2.2 k
def mTd (o : Nat) (F : jFl) (A : jAr) (R : sRow) : Prop := F 3165 o = R.1 ∧ F 3168 o = R.2.1 ∧ ∀ k : Int, 0 ≤ k → k < R.1 + R.2.1 → A (o + 36) k = R.2.2 k
theorem sX9_remembers {o : Nat} {a1 : Int} {F : jFl} {A : jAr} {nw : Int} {R : sRow} (hR : sRok nw R) (hs : mSd o F A R) (h1 : 0 ≤ a1 ∧ a1 ≤ 2099) : wpX9_remembers o a1 F A (fun F' A' => F' = F ∧ mHs o A' a1 R ∧ (∀ i : Int, (i < 14 * a1 ∨ 14 * a1 + 14 ≤ i) → A' (o + 43) i = A (o + 43) i) ∧ ∀ b, b ≠ o + 43 → A' b = A b) := by
  unfold wpX9_remembers
  obtain ⟨s1, s2, s3⟩ := hs
  obtain ⟨r1, r2, r3⟩ := hR
  refine ⟨by omega, ?_⟩ -- s1: (0 ≤ 14 * a1 ∧ 14 * a1 < 29400)
  intro A2 e2
  refine ⟨by omega, ?_⟩ -- s2: (0 ≤ (14 * a1) + 1 ∧ (14 * a1) + 1 < 29400)
  intro A5 e5
  refine ⟨fun (v7 : Int) (A8 : jAr) => (0 ≤ v7 ∧ v7 ≤ R.1 + R.2.1) ∧ (A8 (o + 43) (14 * a1) = R.1 ∧ A8 (o + 43) (14 * a1 + 1) = R.2.1 ∧ ∀ k : Int, 0 ≤ k → k < v7 → A8 (o + 43) (14 * a1 + 2 + k) = R.2.2 k) ∧ (∀ i : Int, (i < 14 * a1 ∨ 14 * a1 + 14 ≤ i) → A8 (o + 43) i = A (o + 43) i) ∧ ∀ b, b ≠ o + 43 → A8 b = A b, fun v7 A8 => (R.1 + R.2.1 - v7).toNat, ?_, ?_⟩ -- loop I10 I10 0 A5
  ·
    -- l1: I10 0 A5
    refine ⟨by omega, ⟨?_, ?_, fun k k0 k1 => by omega⟩, fun i hi => ?_, fun b hb => ?_⟩
    · rw [e5, upA_i (by omega), e2, upA_s]; exact s1
    · rw [e5, upA_s]; exact s2
    · rw [e5, upA_i (by omega), e2, upA_i (by omega)]
    · rw [e5, upA_o hb, e2, upA_o hb]
  intro v7 A8 i10
  obtain ⟨i1, ⟨i2, i3, i4⟩, i5, i6⟩ := i10
  refine ⟨by omega, ?_⟩ -- s3: jR ((F 3177 o) + (F 3180 o))
  refine ⟨fun hc => ?_, fun hc => ?_⟩ -- c1
  · -- case (((F 3177 o) + (F 3180 o)) ≤ v7)
    -- l2: Q F A8
    have e : v7 = R.1 + R.2.1 := by omega
    rw [e] at i4
    exact ⟨rfl, ⟨i2, i3, i4⟩, i5, i6⟩
  · -- case ¬ (((F 3177 o) + (F 3180 o)) ≤ v7)
    refine ⟨by omega, ?_⟩ -- s4: (0 ≤ v7 ∧ v7 < 12)
    refine ⟨by omega, ?_⟩ -- s5: (0 ≤ ((14 * a1) + 2) + v7 ∧ ((14 * a1) + 2) + v7 < 29400)
    intro A16 e16
    refine ⟨by omega, ?_⟩ -- s6: jR (v7 + 1)
    refine ⟨?_, ?_⟩ -- l3: I10 (v7 + 1) A16
    · have e37 : A8 (o + 37) v7 = R.2.2 v7 := by rw [i6 _ (by omega)]; exact s3 v7 i1.1 (by omega)
      refine ⟨by omega, ⟨?_, ?_, fun k k0 k1 => ?_⟩, fun i hi => ?_, fun b hb => ?_⟩
      · rw [e16, upA_i (by omega)]; exact i2
      · rw [e16, upA_i (by omega)]; exact i3
      · by_cases w : k = v7
        · rw [w, e16, upA_s]; exact e37
        · rw [e16, upA_i (by omega)]; exact i4 k k0 (by omega)
      · rw [e16, upA_i (by omega)]; exact i5 i hi
      · rw [e16, upA_o hb]; exact i6 b hb
    · dsimp only; omega

theorem sX9_isRemembered {o : Nat} {a1 : Int} {F : jFl} {A : jAr} {nw : Int} {R R' : sRow} (hR : sRok nw R) (hs : mSd o F A R) (hh : mHs o A a1 R') (hR' : sRok nw R') (h1 : 0 ≤ a1 ∧ a1 ≤ 2099) : wpX9_isRemembered o a1 F A (fun z => z = cif (sAlike R' R) 1 0) := by
  unfold wpX9_isRemembered
  obtain ⟨s1, s2, s3⟩ := hs
  obtain ⟨r1, r2, r3⟩ := hR
  obtain ⟨t1, t2, t3⟩ := hh
  refine ⟨by omega, ?_⟩ -- s1: (0 ≤ 14 * a1 ∧ 14 * a1 < 29400)
  refine ⟨fun hc => ?_, fun hc => ?_⟩ -- c1
  · -- case (¬ (A (o + 43) (14 * a1)) = (F 3177 o))
    -- l1: Q 0
    exact (cif_neg (fun w => hc (by rw [t1, s1, w.1]))).symm
  · -- case ¬ (¬ (A (o + 43) (14 * a1)) = (F 3177 o))
    refine ⟨by omega, ?_⟩ -- s2: (0 ≤ (14 * a1) + 1 ∧ (14 * a1) + 1 < 29400)
    have h11 : R'.1 = R.1 := by omega
    refine ⟨fun hc => ?_, fun hc => ?_⟩ -- c2
    · -- case ((A (o + 43) ((14 * a1) + 1)) = (F 3180 o))
      refine ⟨fun (v5 : Int) => (0 ≤ v5 ∧ v5 ≤ R.1 + R.2.1) ∧ ∀ k : Int, 0 ≤ k → k < v5 → R'.2.2 k = R.2.2 k, fun v5 => (R.1 + R.2.1 - v5).toNat, ?_, ?_⟩ -- loop I6 I6 0
      ·
        -- l2: I6 0
        exact ⟨by omega, fun k k0 k1 => by omega⟩
      intro v5 i6
      obtain ⟨i1, i2⟩ := i6
      have h22 : R'.2.1 = R.2.1 := by omega
      refine ⟨by omega, ?_⟩ -- s3: jR ((F 3177 o) + (F 3180 o))
      refine ⟨fun hc => ?_, fun hc => ?_⟩ -- c3
      · -- case (((F 3177 o) + (F 3180 o)) ≤ v5)
        -- l3: Q 1
        exact (cif_pos ⟨h11, h22, fun k k0 k1 => i2 k k0 (by omega)⟩).symm
      · -- case ¬ (((F 3177 o) + (F 3180 o)) ≤ v5)
        refine ⟨by omega, ?_⟩ -- s4: (0 ≤ ((14 * a1) + 2) + v5 ∧ ((14 * a1) + 2) + v5 < 29400)
        refine ⟨by omega, ?_⟩ -- s5: (0 ≤ v5 ∧ v5 < 12)
        have u1 := t3 v5 i1.1 (by omega)
        have u2 := s3 v5 i1.1 (by omega)
        refine ⟨fun hc => ?_, fun hc => ?_⟩ -- c4
        · -- case ((A (o + 43) (((14 * a1) + 2) + v5)) = (A (o + 37) v5))
          refine ⟨by omega, ?_⟩ -- s6: jR (v5 + 1)
          refine ⟨?_, ?_⟩ -- l4: I6 (v5 + 1)
          · refine ⟨by omega, fun k k0 k1 => ?_⟩
            by_cases w : k = v5
            · rw [w, ← u1, ← u2]; exact hc
            · exact i2 k k0 (by omega)
          · dsimp only; omega
        · -- case ¬ ((A (o + 43) (((14 * a1) + 2) + v5)) = (A (o + 37) v5))
          -- l5: Q 0
          exact (cif_neg (fun w => hc (by rw [u1, u2]; exact w.2.2 v5 i1.1 (by omega)))).symm
    · -- case ¬ ((A (o + 43) ((14 * a1) + 1)) = (F 3180 o))
      -- l6: Q 0
      exact (cif_neg (fun w => hc (by rw [t2, s2, w.2.1]))).symm

theorem sX9_recalled {o : Nat} {a1 : Int} {F : jFl} {A : jAr} {nw : Int} {R : sRow} {Rs : Int → sRow} (hR : sRok nw R) (hs : mSd o F A R) (hh : ∀ j : Int, 0 ≤ j → j < a1 → mHs o A j (Rs j) ∧ sRok nw (Rs j)) (h1 : 0 ≤ a1 ∧ a1 ≤ 2100) : wpX9_recalled o a1 F A (fun z => z = sFirst (fun j => sAlike (Rs j) R) a1.toNat) := by
  unfold wpX9_recalled
  refine ⟨fun (v1 : Int) => (0 ≤ v1 ∧ v1 ≤ a1) ∧ ∀ j : Int, 0 ≤ j → j < v1 → ¬ sAlike (Rs j) R, fun v1 => (a1 - v1).toNat, ?_, ?_⟩ -- loop I2 I2 0
  ·
    -- l1: I2 0
    exact ⟨by omega, fun j j0 j1 => by omega⟩
  intro v1 i2
  obtain ⟨i1, i2⟩ := i2
  refine ⟨fun hc => ?_, fun hc => ?_⟩ -- c1
  · -- case (a1 ≤ v1)
    -- l2: Q (-1)
    exact (sFirst_none (fun j j0 j1 => i2 j j0 (by omega))).symm
  · -- case ¬ (a1 ≤ v1)
    refine ⟨_, sX9_isRemembered hR hs (hh v1 i1.1 (by omega)).1 (hh v1 i1.1 (by omega)).2 (by omega), ?_⟩ -- call wpX9_isRemembered o v1 F A P5
    intro z7 p5
    refine ⟨fun hc => ?_, fun hc => ?_⟩ -- c2
    · -- case (z7 = 0)
      refine ⟨by omega, ?_⟩ -- s1: jR (v1 + 1)
      refine ⟨?_, ?_⟩ -- l3: I2 (v1 + 1)
      · refine ⟨by omega, fun j j0 j1 => ?_⟩
        by_cases w : j = v1
        · intro q
          rw [w] at q
          rw [cif_pos q] at p5
          omega
        · exact i2 j j0 (by omega)
      · dsimp only; omega
    · -- case ¬ (z7 = 0)
      -- l4: Q v1
      refine (sFirst_some i1.1 (by omega) ?_ i2).symm
      by_cases a : sAlike (Rs v1) R
      · exact a
      · rw [cif_neg a] at p5; exact absurd p5 hc

set_option maxHeartbeats 1000000 in
theorem sX9_becomes {o : Nat} {a1 : Int} {a2 : Int} {a3 : Int} {F : jFl} {A : jAr} {W L : sTb} (h : mct o F A 0 W L) : wpX9_becomes o a1 a2 a3 F A (fun z F' A' => z = rBecomes W L a1 a2 a3 ∧ mfr o F A F' A') := by
  unfold wpX9_becomes
  have h0 := h
  obtain ⟨⟨hk, hLk⟩, hW, hL, hh, hv⟩ := h
  have w2 := hk.2.2.1
  have w3 := hk.2.2.2.1
  refine ⟨_, sX9_isStanding hW hk hL, ?_⟩ -- call wpX9_isStanding o a1 F A P1
  intro z3 p1
  refine ⟨fun hc => ?_, fun hc => ?_⟩ -- c1
  · -- case (z3 = 0)
    -- l1: Q (-1) F A
    exact ⟨by unfold rBecomes; rw [if_neg (by grind)], mfr.refl _ _ _⟩
  · -- case ¬ (z3 = 0)
    have h1 : 0 ≤ a1 ∧ a1 < W 3 0 0 ∧ 0 < L 2 a1 0 := by grind
    have hl : 0 ≤ a1 ∧ a1 < W 3 0 0 := by omega
    refine ⟨by exact hW.1, ?_⟩ -- s1: (0 ≤ F 3039 o ∧ F 3039 o < 2)
    rw [hW.2.1.2.2.1]
    refine ⟨fun hc => ?_, fun hc => ?_⟩ -- c2
    · -- case (¬ (A (o + 12) (F 3039 o)) = 0)
      refine ⟨_, sX9_loads hL hk hLk (by omega) hl, ?_⟩ -- call wpX9_loads o 0 a1 F A P9
      intro F12 A13 p9
      obtain ⟨⟨q1, q2, q3⟩, q4, q5, q6⟩ := p9
      have hf : mfr o F A F12 A13 := ⟨fun f b hb => q4 f b (fun w => by have := hb w; omega), fun b hb => q5 b (by omega)⟩
      have hn : 0 < W 2 0 0 := by omega
      have r0 : rBecomes W L a1 a2 a3 = (if a2 = -1 then (sUnl W L a1 (W 2 0 0)).1 else if 0 ≤ a2 ∧ a2 < (sUnl W L a1 (W 2 0 0)).1 then (if a3 = 0 then (sUnl W L a1 (W 2 0 0)).2.2.1 a2 else (sUnl W L a1 (W 2 0 0)).2.1 a2) else -1) := if_pos ⟨h1, hn⟩
      refine ⟨fun (v17 : Int) (v18 : Int) (F19 : jFl) (A20 : jAr) => (0 ≤ v18 ∧ v18 ≤ W 2 0 0) ∧ v17 = (sUnl W L a1 v18).1 ∧ (∀ j : Int, 0 ≤ j → j < v17 → A20 (o + 45) j = (sUnl W L a1 v18).2.1 j ∧ A20 (o + 44) j = (sUnl W L a1 v18).2.2.1 j ∧ mHs o A20 j ((sUnl W L a1 v18).2.2.2 j)) ∧ (mTd o F19 A20 (sRw L a1) ∧ F19 3171 o = L 4 a1 0) ∧ mfr o F A F19 A20, fun v17 v18 F19 A20 => (W 2 0 0 - v18).toNat, ?_, ?_⟩ -- loop I22 I22 0 0 F12 A13
      ·
        -- l2: I22 0 0 F12 A13
        refine ⟨by omega, rfl, fun j j0 j1 => by omega, ⟨⟨q1, q2, q6⟩, q3⟩, hf⟩
      intro v17 v18 F19 A20 i22
      obtain ⟨i1, i2, i3, ⟨i4, i5⟩, i6⟩ := i22
      obtain ⟨-, hW1, hL1, hh1, -⟩ := h0.fr i6
      obtain ⟨ok1, ok2⟩ := sUnl_ok (l := a1) hk hLk hl i1
      have es := sUnl_succ (W := W) (L := L) (l := a1) i1.1
      generalize hU : sUnl W L a1 v18 = U at *
      rw [hW1.2.1.2.2.1]
      refine ⟨by exact hW1.1, ?_⟩ -- s2: (0 ≤ F19 3039 o ∧ F19 3039 o < 2)
      have eU : W 2 0 0 ≤ v18 → sUnl W L a1 (W 2 0 0) = U := fun q => by rw [← hU, show v18 = W 2 0 0 by omega]
      refine ⟨fun hc => ?_, fun hc => ?_⟩ -- c3
      · -- case ((A20 (o + 12) (F19 3039 o)) ≤ v18)
        refine ⟨fun hc => ?_, fun hc => ?_⟩ -- c4
        · -- case (¬ a2 = (-1))
          refine ⟨by omega, ?_⟩ -- s3: jR (v17 - 1)
          refine ⟨_, sX9_is, ?_⟩ -- call wpX9_is o a2 0 (v17 - 1) F19 A20 P28
          intro z30 p28
          refine ⟨fun hc => ?_, fun hc => ?_⟩ -- c5
          · -- case (¬ z30 = 0)
            refine ⟨fun hc => ?_, fun hc => ?_⟩ -- c6
            · -- case (a3 = 0)
              refine ⟨by have := eU (by assumption); grind, ?_⟩ -- s4: (0 ≤ a2 ∧ a2 < 10)
              -- l3: Q (A20 (o + 44) a2) F19 A20
              rw [r0, eU (by assumption), if_neg (by omega), if_pos (by grind), if_pos (by assumption)]
              exact ⟨(i3 a2 (by grind) (by grind)).2.1, i6⟩
            · -- case ¬ (a3 = 0)
              refine ⟨by have := eU (by assumption); grind, ?_⟩ -- s5: (0 ≤ a2 ∧ a2 < 10)
              -- l4: Q (A20 (o + 45) a2) F19 A20
              rw [r0, eU (by assumption), if_neg (by omega), if_pos (by grind), if_neg (by assumption)]
              exact ⟨(i3 a2 (by grind) (by grind)).1, i6⟩
          · -- case ¬ (¬ z30 = 0)
            -- l5: Q (-1) F19 A20
            rw [r0, eU (by assumption), if_neg (by omega), if_neg (by grind)]
            exact ⟨rfl, i6⟩
        · -- case ¬ (¬ a2 = (-1))
          -- l6: Q v17 F19 A20
          rw [r0, eU (by assumption), if_pos (by omega)]
          exact ⟨i2, i6⟩
      · -- case ¬ ((A20 (o + 12) (F19 3039 o)) ≤ v18)
        refine ⟨_, sX9_utters (R := sRw L a1) (left := sHolds W L v18 a1) hW1 hk (by omega) (sRw_ok hLk hl) i4.1 i4.2.1 i4.2.2 (Or.inl hh1) (by rw [if_pos hh1, i5]; rfl), ?_⟩ -- call wpX9_utters o v18 F19 A20 P37
        intro F40 A41 p37
        obtain ⟨⟨y1, y2, y3⟩, y4, y5, y6⟩ := p37
        have hv : 0 ≤ v18 ∧ v18 < W 2 0 0 := by omega
        have hS : mSd o F40 A41 (sUnR W L a1 v18) := ⟨y1, y2, fun k k0 k1 => y6 k k0 (by rw [y1, y2]; exact k1)⟩
        have hRk := sUnR_ok (c := v18) hk hLk hl hv
        have i32 : ∀ j : Int, 0 ≤ j → j < v17 → A41 (o + 45) j = U.2.1 j ∧ A41 (o + 44) j = U.2.2.1 j ∧ mHs o A41 j (U.2.2.2 j) := fun j j0 j1 => by
          unfold mHs
          rw [y5 (o + 45) (by omega), y5 (o + 44) (by omega), y5 (o + 43) (by omega)]
          exact i3 j j0 j1
        have i42 : mTd o F40 A41 (sRw L a1) ∧ F40 3171 o = L 4 a1 0 := by
          unfold mTd
          rw [y5 (o + 36) (by omega), y4 3165 o (fun _ => by decide), y4 3168 o (fun _ => by decide), y4 3171 o (fun _ => by decide)]
          exact ⟨i4, i5⟩
        have i62 : mfr o F A F40 A41 := i6.trans ⟨fun f b hb => y4 f b (fun w => by have := hb w; omega), fun b hb => y5 b (by omega)⟩
        refine ⟨_, sX9_recalled hRk hS (fun j j0 j1 => ⟨(i32 j j0 j1).2.2, (ok2 j j0 (by omega)).2.2⟩) (by omega), ?_⟩ -- call wpX9_recalled o v17 F40 A41 P45
        intro z47 p45
        have hI : sUnI W L a1 v18 U = z47 := by rw [p45, i2]; rfl
        refine ⟨fun hc => ?_, fun hc => ?_⟩ -- c7
        · -- case (z47 = (-1))
          refine ⟨_, sX9_remembers hRk hS (by omega), ?_⟩ -- call wpX9_remembers o v17 F40 A41 P51
          intro F54 A55 p51
          obtain ⟨x1, x2, x3, x4⟩ := p51
          subst x1
          refine ⟨by omega, ?_⟩ -- s6: (0 ≤ v17 ∧ v17 < 10)
          intro A60 e60
          refine ⟨by omega, ?_⟩ -- s7: (0 ≤ v17 ∧ v17 < 10)
          intro A63 e63
          refine ⟨by omega, ?_⟩ -- s8: jR (v17 + 1)
          refine ⟨by omega, ?_⟩ -- s9: jR (v18 + 1)
          refine ⟨?_, ?_⟩ -- l7: I22 (v17 + 1) (v18 + 1) F54 A63
          · refine ⟨by omega, ?_, ?_, ?_, ?_⟩
            · rw [es]; unfold sUnF; rw [hI, if_pos hc, i2]
            · rw [es]; unfold sUnF; rw [hI, if_pos hc, ← i2]
              intro j j0 j1
              dsimp only
              by_cases w : j = v17
              · rw [w, upI_s, upI_s, upI_s]
                unfold mHs
                rw [e63, upA_s, upA_o (by omega), upA_o (by omega), e60, upA_s, upA_o (by omega)]
                exact ⟨rfl, rfl, x2⟩
              · rw [upI_n w, upI_n w, upI_n w]
                obtain ⟨g1, g2, g3, g4, g5⟩ := i32 j j0 (by omega)
                have gk := (ok2 j j0 (by omega)).2.2
                have a43 : A63 (o + 43) = A55 (o + 43) := by rw [e63, upA_o (by omega), e60, upA_o (by omega)]
                have a44 : A63 (o + 44) j = A41 (o + 44) j := by rw [e63, upA_o (by omega), e60, upA_i w, x4 _ (by omega)]
                have a45 : A63 (o + 45) j = A41 (o + 45) j := by rw [e63, upA_i w, e60, upA_o (by omega), x4 _ (by omega)]
                unfold mHs
                rw [a43, a44, a45]
                exact ⟨g1, g2, by rw [x3 _ (by omega)]; exact g3, by rw [x3 _ (by omega)]; exact g4, fun k k0 k1 => by rw [x3 _ (by have := gk.1; have := gk.2.1; omega)]; exact g5 k k0 k1⟩
            · unfold mTd
              rw [e63, upA_o (by omega), e60, upA_o (by omega), x4 _ (by omega)]
              exact i42
            · exact i62.trans ⟨fun f b hb => rfl, fun b hb => by rw [e63, upA_o (by omega), e60, upA_o (by omega), x4 _ (by omega)]⟩
          · dsimp only; omega
        · -- case ¬ (z47 = (-1))
          have hr : 0 ≤ z47 ∧ z47 < v17 := by
            have := sFirst_range (p := fun j => sAlike (U.2.2.2 j) (sUnR W L a1 v18)) (n := v17.toNat)
            omega
          refine ⟨by omega, ?_⟩ -- s10: (0 ≤ z47 ∧ z47 < 10)
          refine ⟨by omega, ?_⟩ -- s11: (0 ≤ z47 ∧ z47 < 10)
          refine ⟨by rw [(i32 z47 hr.1 hr.2).2.1]; have := (ok2 z47 hr.1 (by omega)).1; omega, ?_⟩ -- s12: jR ((A41 (o + 44) z47) + 1)
          intro A70 e70
          refine ⟨by omega, ?_⟩ -- s13: jR (v18 + 1)
          refine ⟨?_, ?_⟩ -- l8: I22 v17 (v18 + 1) F40 A70
          · refine ⟨by omega, ?_, ?_, ?_, ?_⟩
            · rw [es]; unfold sUnF; rw [hI, if_neg hc, i2]
            · rw [es]; unfold sUnF; rw [hI, if_neg hc]
              intro j j0 j1
              dsimp only
              obtain ⟨g1, g2, g3⟩ := i32 j j0 j1
              have a43 : A70 (o + 43) = A41 (o + 43) := by rw [e70, upA_o (by omega)]
              have a45 : A70 (o + 45) = A41 (o + 45) := by rw [e70, upA_o (by omega)]
              unfold mHs
              rw [a43, a45]
              by_cases w : j = z47
              · rw [w] at g1 g2 g3 ⊢
                rw [upI_s, e70, upA_s, g2]
                exact ⟨g1, rfl, g3⟩
              · rw [upI_n w, e70, upA_i w]
                exact ⟨g1, g2, g3⟩
            · unfold mTd
              rw [e70, upA_o (by omega)]
              exact i42
            · exact i62.trans ⟨fun f b hb => rfl, fun b hb => by rw [e70, upA_o (by omega)]⟩
          · dsimp only; omega
    · -- case ¬ (¬ (A (o + 12) (F 3039 o)) = 0)
      -- l9: Q (-1) F A
      exact ⟨by unfold rBecomes; rw [if_neg (by omega)], mfr.refl _ _ _⟩

theorem sX9_tellsBack {o : Nat} {F : jFl} {A : jAr} {nw : Int} {R : sRow} (hR : sRok nw R) (hs : mSd o F A R) : wpX9_tellsBack o F A (fun F' A' => mTd o F' A' R ∧ (∀ f b, (b = o → f ≠ 3165 ∧ f ≠ 3168) → F' f b = F f b) ∧ ∀ b, b ≠ o + 36 → A' b = A b) := by
  unfold wpX9_tellsBack
  obtain ⟨j1, j2, j3⟩ := hR
  obtain ⟨h1, h2, h3⟩ := hs
  intro F1 e1
  intro F3 e3
  have f1 : F3 3177 o = R.1 := by rw [e3, e1, upF_f (by decide), upF_f (by decide)]; exact h1
  have f2 : F3 3180 o = R.2.1 := by rw [e3, e1, upF_f (by decide), upF_f (by decide)]; exact h2
  have f3 : F3 3165 o = R.1 := by rw [e3, e1, upF_f (by decide), upF_s]; exact h1
  have f4 : F3 3168 o = R.2.1 := by rw [e3, upF_s, e1, upF_f (by decide)]; exact h2
  have ff : ∀ f b, (b = o → f ≠ 3165 ∧ f ≠ 3168) → F3 f b = F f b := fun f b hb => by
    rw [e3, e1]
    unfold upF
    grind
  refine ⟨fun (v5 : Int) (A6 : jAr) => (0 ≤ v5 ∧ v5 ≤ R.1 + R.2.1) ∧ (∀ k : Int, 0 ≤ k → k < v5 → A6 (o + 36) k = R.2.2 k) ∧ ∀ b, b ≠ o + 36 → A6 b = A b, fun v5 A6 => (R.1 + R.2.1 - v5).toNat, ?_, ?_⟩ -- loop I8 I8 0 A
  ·
    -- l1: I8 0 A
    exact ⟨by omega, fun k k0 k1 => by omega, fun _ _ => rfl⟩
  intro v5 A6 i8
  obtain ⟨i1, i2, i3⟩ := i8
  refine ⟨by omega, ?_⟩ -- s1: jR ((F3 3177 o) + (F3 3180 o))
  refine ⟨fun hc => ?_, fun hc => ?_⟩ -- c1
  · -- case (((F3 3177 o) + (F3 3180 o)) ≤ v5)
    -- l2: Q F3 A6
    have e : v5 = R.1 + R.2.1 := by omega
    rw [e] at i2
    exact ⟨⟨f3, f4, i2⟩, ff, i3⟩
  · -- case ¬ (((F3 3177 o) + (F3 3180 o)) ≤ v5)
    refine ⟨by omega, ?_⟩ -- s2: (0 ≤ v5 ∧ v5 < 12)
    refine ⟨by omega, ?_⟩ -- s3: (0 ≤ v5 ∧ v5 < 12)
    intro A14 e14
    refine ⟨by omega, ?_⟩ -- s4: jR (v5 + 1)
    refine ⟨?_, ?_⟩ -- l3: I8 (v5 + 1) A14
    · refine ⟨by omega, fun k k0 k1 => ?_, fun b hb => by rw [e14, upA_o hb]; exact i3 b hb⟩
      by_cases w : k = v5
      · rw [w, e14, upA_s, i3 _ (by omega)]; exact h3 v5 i1.1 (by omega)
      · rw [e14, upA_i w]; exact i2 k k0 (by omega)
    · dsimp only; omega

theorem sX9_saysAsTold2 {o : Nat} {F : jFl} {A : jAr} {R : sRow} {nw : Int} (hR : sRok nw R) (hs : mTd o F A R) : wpX9_saysAsTold o F A (fun F' A' => mSd o F' A' R ∧ (∀ f b, (b = o → f ≠ 3177 ∧ f ≠ 3180) → F' f b = F f b) ∧ ∀ b, b ≠ o + 37 → A' b = A b) := by
  unfold wpX9_saysAsTold
  obtain ⟨j1, j2, j3⟩ := hR
  obtain ⟨h1, h2, h3⟩ := hs
  intro F1 e1
  intro F3 e3
  have f1 : F3 3165 o = R.1 := by rw [e3, e1, upF_f (by decide), upF_f (by decide)]; exact h1
  have f2 : F3 3168 o = R.2.1 := by rw [e3, e1, upF_f (by decide), upF_f (by decide)]; exact h2
  have f3 : F3 3177 o = R.1 := by rw [e3, e1, upF_f (by decide), upF_s]; exact h1
  have f4 : F3 3180 o = R.2.1 := by rw [e3, upF_s, e1, upF_f (by decide)]; exact h2
  have ff : ∀ f b, (b = o → f ≠ 3177 ∧ f ≠ 3180) → F3 f b = F f b := fun f b hb => by
    rw [e3, e1]
    unfold upF
    grind
  refine ⟨fun (v5 : Int) (A6 : jAr) => (0 ≤ v5 ∧ v5 ≤ R.1 + R.2.1) ∧ (∀ k : Int, 0 ≤ k → k < v5 → A6 (o + 37) k = R.2.2 k) ∧ ∀ b, b ≠ o + 37 → A6 b = A b, fun v5 A6 => (R.1 + R.2.1 - v5).toNat, ?_, ?_⟩ -- loop I8 I8 0 A
  ·
    -- l1: I8 0 A
    exact ⟨by omega, fun k k0 k1 => by omega, fun _ _ => rfl⟩
  intro v5 A6 i8
  obtain ⟨i1, i2, i3⟩ := i8
  refine ⟨by omega, ?_⟩ -- s1: jR ((F3 3165 o) + (F3 3168 o))
  refine ⟨fun hc => ?_, fun hc => ?_⟩ -- c1
  · -- case (((F3 3165 o) + (F3 3168 o)) ≤ v5)
    -- l2: Q F3 A6
    have e : v5 = R.1 + R.2.1 := by omega
    rw [e] at i2
    exact ⟨⟨f3, f4, i2⟩, ff, i3⟩
  · -- case ¬ (((F3 3165 o) + (F3 3168 o)) ≤ v5)
    refine ⟨by omega, ?_⟩ -- s2: (0 ≤ v5 ∧ v5 < 12)
    refine ⟨by omega, ?_⟩ -- s3: (0 ≤ v5 ∧ v5 < 12)
    intro A14 e14
    refine ⟨by omega, ?_⟩ -- s4: jR (v5 + 1)
    refine ⟨?_, ?_⟩ -- l3: I8 (v5 + 1) A14
    · refine ⟨by omega, fun k k0 k1 => ?_, fun b hb => by rw [e14, upA_o hb]; exact i3 b hb⟩
      by_cases w : k = v5
      · rw [w, e14, upA_s, i3 _ (by omega)]; exact h3 v5 i1.1 (by omega)
      · rw [e14, upA_i w]; exact i2 k k0 (by omega)
    · dsimp only; omega

theorem sFirst_is {p : Int → Prop} {n : Nat} (h : ¬ sFirst p n = -1) : p (sFirst p n) := by
  have : sFirst p n = -1 ∨ p (sFirst p n) := by
    unfold sFirst
    exact it_inv (fun _ r => r = -1 ∨ p r) (Or.inl rfl) (fun k h0 h1 s hs => by
      by_cases q : s = -1 ∧ p k
      · rw [cif_pos q]; exact Or.inr q.2
      · rw [cif_neg q]; exact hs)
  rcases this with q | q
  · exact absurd q h
  · exact q
theorem sFirst_ex {p : Int → Prop} {n : Nat} {v : Int} (h0 : 0 ≤ v) (h1 : v < n) (hv : p v) : sFirst p n ≠ -1 := by
  have e := it_inv (f := fun j r => cif (r = -1 ∧ p j) j r) (a := (-1 : Int)) (n := n) (fun k r => k ≤ v ∨ r ≠ -1) (Or.inl h0) (fun k k0 k1 s hs => by
    by_cases q : s = -1 ∧ p k
    · rw [cif_pos q]; exact Or.inr (by omega)
    · rw [cif_neg q]
      by_cases w : k = v
      · rcases hs with hs | hs
        · refine Or.inr (fun e => q ⟨e, w ▸ hv⟩)
        · exact Or.inr hs
      · omega)
  unfold sFirst
  omega
/-- what round answers -/
def rRound (W L : sTb) (l c k z : Int) : Prop := if (0 ≤ c ∧ c < W 2 0 0) ∧ (0 ≤ l ∧ l < W 3 0 0 ∧ 0 < L 2 l 0) ∧ (0 ≤ k ∧ k ≤ 2) then ∃ n b r : Int, sRnd W c (sHolds W L c l) (sRw L l) n b r ∧ z = (if k = 0 then n else if k = 1 then b else r) else z = -1
theorem rRound.one {W L : sTb} {l c k z z' : Int} (hW : sWok W) (hk : sLok W L) (h : rRound W L l c k z) (h' : rRound W L l c k z') : z = z' := by
  unfold rRound at h h'
  by_cases q : (0 ≤ c ∧ c < W 2 0 0) ∧ (0 ≤ l ∧ l < W 3 0 0 ∧ 0 < L 2 l 0) ∧ (0 ≤ k ∧ k ≤ 2)
  · rw [if_pos q] at h h'
    obtain ⟨n, b, r, h1, h2⟩ := h
    obtain ⟨n', b', r', h1', h2'⟩ := h'
    obtain ⟨e1, e2, e3⟩ := h1.one hW q.1 (sRw_ok hk ⟨q.2.1.1, q.2.1.2.1⟩) h1'
    rw [h2, h2', e1, e2, e3]
  · rw [if_neg q] at h h'
    rw [h, h']
theorem sKind_3 {W : sTb} {c : Int} {R : sRow} {left : Int} (h : 0 < R.1) : sKind W c R left = 3 ↔ (sSayR W c R left).1 = 0 := by
  show sKind W c R left = 3 ↔ sMain W c R left = 0
  unfold sKind sMain
  by_cases q : sLost W c R left
  · rw [cif_pos q, cif_pos q]
    exact ⟨fun _ => rfl, fun _ => rfl⟩
  · rw [cif_neg q, cif_neg q]
    by_cases q : sCut W c R left
    · rw [cif_pos q]; omega
    · rw [cif_neg q]
      by_cases q : sSame W c R
      · rw [cif_pos q]; omega
      · rw [cif_neg q]; omega
set_option maxHeartbeats 1000000 in
theorem sX9_round {o : Nat} {a1 : Int} {a2 : Int} {a3 : Int} {F : jFl} {A : jAr} {W L : sTb} (h : mct o F A 0 W L) : wpX9_round o a1 a2 a3 F A (fun z F' A' => rRound W L a1 a2 a3 z ∧ mfr o F A F' A') := by
  unfold wpX9_round
  have h0 := h
  obtain ⟨⟨hk, hLk⟩, hW, hL, hh, hv⟩ := h
  have w2 := hk.2.2.1
  have w3 := hk.2.2.2.1
  refine ⟨_, sX9_isChild hW, ?_⟩ -- call wpX9_isChild o a2 F A P1
  intro z3 p1
  refine ⟨fun hc => ?_, fun hc => ?_⟩ -- c1
  · -- case (z3 = 0)
    -- l1: Q (-1) F A
    exact ⟨by unfold rRound; rw [if_neg (by grind)], mfr.refl _ _ _⟩
  · -- case ¬ (z3 = 0)
    refine ⟨_, sX9_isStanding hW hk hL, ?_⟩ -- call wpX9_isStanding o a1 F A P7
    intro z9 p7
    refine ⟨fun hc => ?_, fun hc => ?_⟩ -- c2
    · -- case (z9 = 0)
      -- l2: Q (-1) F A
      exact ⟨by unfold rRound; rw [if_neg (by grind)], mfr.refl _ _ _⟩
    · -- case ¬ (z9 = 0)
      refine ⟨_, sX9_is, ?_⟩ -- call wpX9_is o a3 0 2 F A P13
      intro z15 p13
      refine ⟨fun hc => ?_, fun hc => ?_⟩ -- c3
      · -- case (¬ z15 = 0)
        have h1 : 0 ≤ a1 ∧ a1 < W 3 0 0 ∧ 0 < L 2 a1 0 := by grind
        have h2 : 0 ≤ a2 ∧ a2 < W 2 0 0 := by grind
        have h3 : 0 ≤ a3 ∧ a3 ≤ 2 := by grind
        have hl : 0 ≤ a1 ∧ a1 < W 3 0 0 := by omega
        have hRk := sRw_ok hLk hl
        have hwk := sTo_wlk (H := sHolds W L a2 a1) hk h2 hRk
        obtain ⟨T, hT, hf⟩ := sTo_fst (H := sHolds W L a2 a1) hk h2 hRk
        have hxk := sTo_ok (H := sHolds W L a2 a1) hk h2 hRk
        have eR : ∀ z, (∃ n b r : Int, sRnd W a2 (sHolds W L a2 a1) (sRw L a1) n b r ∧ z = (if a3 = 0 then n else if a3 = 1 then b else r)) → rRound W L a1 a2 a3 z := fun z q => by
          unfold rRound
          rw [if_pos ⟨h2, h1, h3⟩]
          exact q
        refine ⟨_, sX9_loads hL hk hLk (by omega) hl, ?_⟩ -- call wpX9_loads o 0 a1 F A P19
        intro F22 A23 p19
        obtain ⟨⟨q1, q2, q3⟩, q4, q5, q6⟩ := p19
        have hf1 : mfr o F A F22 A23 := ⟨fun f b hb => q4 f b (fun w => by have := hb w; omega), fun b hb => q5 b (by omega)⟩
        refine ⟨_, sX9_saysAsTold2 hRk ⟨q1, q2, q6⟩, ?_⟩ -- call wpX9_saysAsTold o F22 A23 P27
        intro F30 A31 p27
        obtain ⟨r1, r2, r3⟩ := p27
        refine ⟨_, sX9_remembers hRk r1 (by omega), ?_⟩ -- call wpX9_remembers o 0 F30 A31 P35
        intro F38 A39 p35
        obtain ⟨x1, x2, x3, x4⟩ := p35
        subst x1
        have n0T : 0 < T := by
          rcases hf.1 with d | ⟨k, k1, -⟩
          · by_cases w : T = 0
            · rw [w] at d
              have d : L 2 a1 0 = 0 := d
              omega
            · omega
          · omega
        intro F43 e43
        refine ⟨fun (v45 : Int) (v46 : Int) (F47 : jFl) (A48 : jAr) => ∃ n : Nat, v45 = (n : Int) ∧ n ≤ T ∧ F47 3171 o = L 4 a1 0 ∧ mfr o F A F47 A48 ∧ ((v46 = -1 ∧ F47 3183 o ≠ 3 ∧ n < T ∧ mTd o F47 A48 (sTo W a2 (sHolds W L a2 a1) (sRw L a1) n) ∧ ∀ j : Int, 0 ≤ j → j ≤ (n : Int) → mHs o A48 j (sTo W a2 (sHolds W L a2 a1) (sRw L a1) j.toNat)) ∨ (v46 = -1 ∧ F47 3183 o = 3 ∧ n = T ∧ sToD W a2 (sHolds W L a2 a1) (sRw L a1) T) ∨ ∃ j : Nat, v46 = (j : Int) ∧ n = T ∧ j < T ∧ sToE W a2 (sHolds W L a2 a1) (sRw L a1) j T), fun v45 v46 F47 A48 => (2099 - v45).toNat, ?_, ?_⟩ -- loop I50 I50 0 (-1) F43 A39
        ·
          -- l3: I50 0 (-1) F43 A39
          refine ⟨0, rfl, by omega, ?_, ?_, Or.inl ⟨rfl, by rw [e43, upF_s]; decide, n0T, ⟨?_, ?_, fun k k0 k1 => ?_⟩, fun j j0 j1 => ?_⟩⟩
          · rw [e43, upF_f (by decide), r2 _ _ (fun _ => by decide)]; exact q3
          · refine hf1.trans ⟨fun f b hb => ?_, fun b hb => by rw [x4 b (by omega), r3 b (by omega)]⟩
            rw [e43, show upF F38 3183 o 0 f b = F38 f b from if_neg (fun w => by have := hb w.2; omega)]
            exact r2 f b (fun w => by have := hb w; omega)
          · rw [e43, upF_f (by decide)]; rw [r2 _ _ (fun _ => by decide)]; exact q1
          · rw [e43, upF_f (by decide)]; rw [r2 _ _ (fun _ => by decide)]; exact q2
          · rw [x4 _ (by omega), r3 _ (by omega)]; exact q6 k k0 k1
          · have : j = 0 := by omega
            rw [this]; exact x2
        intro v45 v46 F47 A48 i50
        obtain ⟨n, i1, i2, i3, i4, i5⟩ := i50
        obtain ⟨-, hW1, hL1, hh1, -⟩ := h0.fr i4
        refine ⟨n = T ∧ ((v46 = -1 ∧ sToD W a2 (sHolds W L a2 a1) (sRw L a1) T) ∨ ∃ j : Nat, v46 = (j : Int) ∧ j < T ∧ sToE W a2 (sHolds W L a2 a1) (sRw L a1) j T), ?_, ?_⟩ -- join K53
        · intro k53
          obtain ⟨k1, k2⟩ := k53
          have kz : ∃ r : Int, sRnd W a2 (sHolds W L a2 a1) (sRw L a1) v45 v46 r ∧ r = (if v46 = -1 then 0 else v45 - v46) := by
            rcases k2 with ⟨u1, u2⟩ | ⟨j, u1, u2, u3⟩
            · exact ⟨0, ⟨T, hT, hf, by omega, Or.inl ⟨u2, u1, rfl⟩⟩, by rw [if_pos u1]⟩
            · exact ⟨v45 - v46, ⟨T, hT, hf, by omega, Or.inr ⟨j, u2, u3, u1, by omega⟩⟩, by rw [if_neg (by omega)]⟩
          obtain ⟨r, kz1, kz2⟩ := kz
          have v46r : -1 ≤ v46 ∧ v46 ≤ v45 := by
            rcases k2 with ⟨u1, -⟩ | ⟨j, u1, u2, -⟩ <;> omega
          refine ⟨fun hc => ?_, fun hc => ?_⟩ -- c4
          · -- case (¬ a3 = 0)
            intro z59 e59
            have ez : z59 = (if a3 = 1 then v46 else r) := by
              rw [e59, kz2]
              split <;> split <;> omega
            refine ⟨by rw [ez, kz2]; (repeat' split) <;> omega, ?_⟩ -- s1: jR z59
            -- l4: Q z59 F47 A48
            exact ⟨eR _ ⟨_, _, _, kz1, by rw [ez, if_neg hc]⟩, i4⟩
          · -- case ¬ (¬ a3 = 0)
            -- l5: Q v45 F47 A48
            exact ⟨eR _ ⟨_, _, _, kz1, by rw [if_pos (by omega)]⟩, i4⟩
        refine ⟨fun hc => ?_, fun hc => ?_⟩ -- c5
        · -- case (¬ v46 = (-1))
          -- l6: K53
          rcases i5 with ⟨u1, -⟩ | ⟨u1, -⟩ | ⟨j, u1, u2, u3, u4⟩
          · exact absurd u1 hc
          · exact absurd u1 hc
          · exact ⟨u2, Or.inr ⟨j, u1, u3, u4⟩⟩
        · -- case ¬ (¬ v46 = (-1))
          refine ⟨fun hc => ?_, fun hc => ?_⟩ -- c6
          · -- case ((F47 3183 o) = 3)
            -- l7: K53
            rcases i5 with ⟨u1, u2, -⟩ | ⟨u1, u2, u3, u4⟩ | ⟨j, u1, u2, u3, u4⟩
            · exact absurd hc u2
            · exact ⟨u3, Or.inl ⟨u1, u4⟩⟩
            · exact ⟨u2, Or.inr ⟨j, u1, u3, u4⟩⟩
          · -- case ¬ ((F47 3183 o) = 3)
            refine ⟨fun hc => ?_, fun hc => ?_⟩ -- c7
            · -- case (2099 ≤ v45)
              -- l8: K53
              omega
            · -- case ¬ (2099 ≤ v45)
              obtain ⟨u1, u2, u3, u4, u5⟩ : v46 = -1 ∧ F47 3183 o ≠ 3 ∧ n < T ∧ mTd o F47 A48 (sTo W a2 (sHolds W L a2 a1) (sRw L a1) n) ∧ ∀ j : Int, 0 ≤ j → j ≤ (n : Int) → mHs o A48 j (sTo W a2 (sHolds W L a2 a1) (sRw L a1) j.toNat) := by
                rcases i5 with q | ⟨-, q, -⟩ | ⟨j, q, -⟩
                · exact q
                · omega
                · omega
              have hD := (hf.2 n u3).1
              have hpos : 0 < (sTo W a2 (sHolds W L a2 a1) (sRw L a1) n).1 := by
                have := (hxk n).1
                have hD : ¬ (sTo W a2 (sHolds W L a2 a1) (sRw L a1) n).1 = 0 := hD
                omega
              refine ⟨_, sX9_utters (R := sTo W a2 (sHolds W L a2 a1) (sRw L a1) n) (left := sHolds W L a2 a1) hW1 hk h2 (hxk n) u4.1 u4.2.1 u4.2.2 (Or.inl hh1) (by rw [if_pos hh1, i3]; rfl), ?_⟩ -- call wpX9_utters o a2 F47 A48 P64
              intro F67 A68 p64
              obtain ⟨⟨y1, y2, y3⟩, y4, y5, y6⟩ := p64
              have hS : mSd o F67 A68 (sTo W a2 (sHolds W L a2 a1) (sRw L a1) (n + 1)) := ⟨y1, y2, fun k k0 k1 => y6 k k0 (by rw [y1, y2]; exact k1)⟩
              have i42 : mfr o F A F67 A68 := i4.trans ⟨fun f b hb => y4 f b (fun w => by have := hb w; omega), fun b hb => y5 b (by omega)⟩
              have i32 : F67 3171 o = L 4 a1 0 := by rw [y4 _ _ (fun _ => by decide)]; exact i3
              have k3 := sKind_3 (W := W) (c := a2) (left := sHolds W L a2 a1) hpos
              rw [← y3] at k3
              have u52 : ∀ j : Int, 0 ≤ j → j ≤ (n : Int) → mHs o A68 j (sTo W a2 (sHolds W L a2 a1) (sRw L a1) j.toNat) := fun j j0 j1 => by
                unfold mHs
                rw [y5 (o + 43) (by omega)]
                exact u5 j j0 j1
              refine ⟨by omega, ?_⟩ -- s2: jR (v45 + 1)
              refine ⟨fun hc => ?_, fun hc => ?_⟩ -- c8
              · -- case (¬ (F67 3183 o) = 3)
                refine ⟨_, sX9_recalled (Rs := fun j => sTo W a2 (sHolds W L a2 a1) (sRw L a1) j.toNat) (hxk (n + 1)) hS (fun j j0 j1 => ⟨u52 j j0 (by omega), hxk _⟩) (by omega), ?_⟩ -- call wpX9_recalled o (v45 + 1) F67 A68 P74
                intro z76 p74
                have nD : ¬ sToD W a2 (sHolds W L a2 a1) (sRw L a1) (n + 1) := fun d => hc (k3.mpr d)
                refine ⟨fun hc => ?_, fun hc => ?_⟩ -- c9
                · -- case (¬ z76 = (-1))
                  refine ⟨_, sX9_tellsBack (hxk (n + 1)) hS, ?_⟩ -- call wpX9_tellsBack o F67 A68 P80
                  intro F83 A84 p80
                  obtain ⟨g1, g2, g3⟩ := p80
                  refine ⟨?_, ?_⟩ -- l9: I50 (v45 + 1) z76 F83 A84
                  · refine ⟨n + 1, by omega, by omega, by rw [g2 _ _ (fun _ => by decide)]; exact i32, i42.trans ⟨fun f b hb => g2 f b (fun w => by have := hb w; omega), fun b hb => g3 b (by omega)⟩, Or.inr (Or.inr ?_)⟩
                    have hr := sFirst_range (p := fun j => sAlike (sTo W a2 (sHolds W L a2 a1) (sRw L a1) j.toNat) (sTo W a2 (sHolds W L a2 a1) (sRw L a1) (n + 1))) (n := (v45 + 1).toNat)
                    rw [← p74] at hr
                    have hp := sFirst_is (p := fun j => sAlike (sTo W a2 (sHolds W L a2 a1) (sRw L a1) j.toNat) (sTo W a2 (sHolds W L a2 a1) (sRw L a1) (n + 1))) (n := (v45 + 1).toNat) (by rw [← p74]; exact hc)
                    rw [← p74] at hp
                    have hE : sToE W a2 (sHolds W L a2 a1) (sRw L a1) z76.toNat (n + 1) := hp
                    have nT : n + 1 = T := by
                      by_cases w : n + 1 < T
                      · exact absurd hE ((hf.2 (n + 1) w).2 _ (by omega))
                      · omega
                    exact ⟨z76.toNat, by omega, nT, by omega, by rw [← nT]; exact hE⟩
                  · dsimp only; omega
                · -- case ¬ (¬ z76 = (-1))
                  refine ⟨_, sX9_remembers (hxk (n + 1)) hS (by omega), ?_⟩ -- call wpX9_remembers o (v45 + 1) F67 A68 P88
                  intro F91 A92 p88
                  obtain ⟨x1, x2, x3, x4⟩ := p88
                  subst x1
                  refine ⟨_, sX9_tellsBack (hxk (n + 1)) (R := sTo W a2 (sHolds W L a2 a1) (sRw L a1) (n + 1)) (by unfold mSd; rw [x4 _ (by omega)]; exact hS), ?_⟩ -- call wpX9_tellsBack o F91 A92 P96
                  intro F99 A100 p96
                  obtain ⟨g1, g2, g3⟩ := p96
                  refine ⟨?_, ?_⟩ -- l10: I50 (v45 + 1) z76 F99 A100
                  · have nE : ∀ k, k < n + 1 → ¬ sToE W a2 (sHolds W L a2 a1) (sRw L a1) k (n + 1) := fun k hk q => by
                      have := sFirst_ex (p := fun j => sAlike (sTo W a2 (sHolds W L a2 a1) (sRw L a1) j.toNat) (sTo W a2 (sHolds W L a2 a1) (sRw L a1) (n + 1))) (n := (v45 + 1).toNat) (v := (k : Int)) (by omega) (by omega) q
                      omega
                    have nT : n + 1 < T := by
                      by_cases w : n + 1 = T
                      · rcases hf.1 with d | ⟨k, k1, k2⟩
                        · rw [← w] at d; exact absurd d nD
                        · rw [← w] at k1 k2; exact absurd k2 (nE k k1)
                      · omega
                    refine ⟨n + 1, by omega, by omega, by rw [g2 _ _ (fun _ => by decide)]; exact i32, i42.trans ⟨fun f b hb => g2 f b (fun w => by have := hb w; omega), fun b hb => by rw [g3 b (by omega), x4 b (by omega)]⟩, Or.inl ⟨by omega, by rw [g2 _ _ (fun _ => by decide)]; exact (by omega), nT, g1, fun j j0 j1 => ?_⟩⟩
                    by_cases w : j = v45 + 1
                    · unfold mHs at *
                      rw [g3 _ (by omega), w, show (v45 + 1).toNat = n + 1 by omega]
                      exact x2
                    · obtain ⟨b1, b2, b3⟩ := u52 j j0 (by omega)
                      have gk := hxk j.toNat
                      unfold mHs
                      rw [g3 _ (by omega), x3 _ (by omega), x3 _ (by omega)]
                      exact ⟨b1, b2, fun k k0 k1 => by rw [x3 _ (by have := gk.1; have := gk.2.1; omega)]; exact b3 k k0 k1⟩
                  · dsimp only; omega
              · -- case ¬ (¬ (F67 3183 o) = 3)
                refine ⟨?_, ?_⟩ -- l11: I50 (v45 + 1) v46 F67 A68
                · have d : sToD W a2 (sHolds W L a2 a1) (sRw L a1) (n + 1) := k3.mp (by omega)
                  have nT : n + 1 = T := by
                    by_cases w : n + 1 < T
                    · exact absurd d (hf.2 (n + 1) w).1
                    · omega
                  exact ⟨n + 1, by omega, by omega, i32, i42, Or.inr (Or.inl ⟨u1, by omega, nT, by rw [← nT]; exact d⟩)⟩
                · dsimp only; omega
      · -- case ¬ (¬ z15 = 0)
        -- l12: Q (-1) F A
        exact ⟨by unfold rRound; rw [if_neg (by grind)], mfr.refl _ _ _⟩

