set_option maxRecDepth 100000
set_option linter.unusedVariables false
/-! the model's reader: statements, town; printed by gen/prove.py out of spec/ay.mt6.spec -/
theorem sX9_countsG {o : Nat} {a1 : Int} {F : jFl} {A : jAr} {q : Int → Int} {n p : Int} {f : Int × Int} (hT : mTp o F A q n) (hG : mG o q n f p F) : wpX9_counts o a1 F A (fun z F' A' => A' = A ∧ mgF o F F' ∧ (f.1 ≠ 0 → z = 0 ∧ F' = F) ∧ (f.1 = 0 → a1 = 0 → z = 1 ∧ mG o q n (0, 0) (nx q n p) F')) := by
  unfold wpX9_counts
  have e0 : f.1 = 0 → F 3024 o = 0 := fun w => by rw [hG.1.1, w]
  have e1 : f.1 ≠ 0 → F 3024 o ≠ 0 := fun w => by rw [hG.1.1]; exact w
  refine ⟨fun (F2 : jFl) (A3 : jAr) => A3 = A ∧ mgF o F F2 ∧ ((f.1 ≠ 0 ∧ F2 = F) ∨ (f.1 = 0 ∧ ((a1 = 0 ∧ F2 = F) ∨ (a1 ≠ 0 ∧ F2 3024 o ≠ 0)))), ?_, ?_⟩ -- join K5
  · intro F2 A3 k5
    obtain ⟨y1, y0, y2⟩ := k5
    subst y1
    refine ⟨fun hc => ?_, fun hc => ?_⟩ -- c1
    · -- case (¬ (F2 3024 o) = 0)
      intro z10 e10
      -- l1: Q z10 F2 A3
      rcases y2 with ⟨w, e⟩ | ⟨w, ⟨w2, e⟩ | ⟨w2, e⟩⟩
      · exact ⟨rfl, y0, fun _ => ⟨by rw [e10, if_pos hc], e⟩, fun y => absurd y w⟩
      · rw [e] at hc; exact absurd (e0 w) hc
      · exact ⟨rfl, y0, fun y => absurd w y, fun _ y => absurd y w2⟩
    · -- case ¬ (¬ (F2 3024 o) = 0)
      obtain ⟨f0, w2, e⟩ : f.1 = 0 ∧ a1 = 0 ∧ F2 = F := by
        rcases y2 with ⟨w, e⟩ | ⟨w, ⟨w2, e⟩ | ⟨w2, e⟩⟩
        · rw [e] at hc; exact absurd (e1 w) hc
        · exact ⟨w, w2, e⟩
        · exact absurd e hc
      subst e
      obtain ⟨g1, g2, g3⟩ := hG.2.1 f0
      refine ⟨_, sX9_ahead (q := q) (n := n) (p := nx q n p) hT.1 hT.2.1 hT.2.2 g2.2.1 (nx_range (q := q) g3).2.2, ?_⟩ -- call wpX9_ahead o F2 A3 P12
      intro F15 A16 p12
      intro z21 e21
      -- l2: Q z21 F15 A16
      obtain ⟨u1, u2, u3⟩ := p12
      have g := hG.go (g := (0, 0)) f0 rfl u2 u3
      exact ⟨u1, u3.mgF, fun y => absurd f0 y, fun _ _ => ⟨by rw [e21, if_neg (fun y => y g.1.1)], g⟩⟩
  refine ⟨fun hc => ?_, fun hc => ?_⟩ -- c2
  · -- case (¬ (F 3024 o) = 0)
    -- l3: K5 F A
    exact ⟨rfl, mgF.refl o F, Or.inl ⟨fun w => hc (e0 w), rfl⟩⟩
  · -- case ¬ (¬ (F 3024 o) = 0)
    refine ⟨fun hc => ?_, fun hc => ?_⟩ -- c3
    · -- case (a1 = 0)
      -- l4: K5 F A
      exact ⟨rfl, mgF.refl o F, Or.inr ⟨Classical.byContradiction (fun w => e1 w (by omega)), Or.inl ⟨hc, rfl⟩⟩⟩
    · -- case ¬ (a1 = 0)
      refine ⟨_, sX9_blame, ?_⟩ -- call wpX9_blame o 5 (F 3012 o) F A P24
      intro F27 A28 p24
      -- l5: K5 F27 A28
      obtain ⟨u1, u2, -⟩ := p24
      have u2 := u2 (by omega)
      exact ⟨u1, by rw [u2]; exact mfl_g, Or.inr ⟨Classical.byContradiction (fun w => e1 w (by omega)), Or.inr ⟨hc, by rw [u2, mfl_k]; show (5 : Int) ≠ 0; decide⟩⟩⟩

theorem mrR.set {o : Nat} {A : jAr} {b : Int} {W L : sTb} {k : Nat} {z : Int} (h : mrR o A b W L) (hk : k = 4 ∨ k = 5 ∨ k = 6) : mrR o (upA A (o + (k + 19)) b z) b (stK W k z) L := by
  obtain ⟨⟨⟨a1, a2, a3, a4⟩, a5, a6, a7⟩, g1, g2, g3, g4⟩ := h
  have e : ∀ (k' : Nat) (i j : Int), k' ≠ k → stK W k z k' i j = W k' i j := fun k' i j h => by
    unfold stK
    rw [if_neg h]
  have es : ∀ i j, stK W k z k i j = z := fun _ _ => if_pos rfl
  have f : ∀ a : Nat, (a < o + 23 ∨ o + 25 < a) → upA A (o + (k + 19)) b z a = A a := fun a ha => upA_o (by omega)
  refine ⟨⟨⟨?_, ?_, ?_, ?_⟩, ?_, ?_, ?_⟩, ?_, ?_, ?_, ?_⟩
  · rw [f _ (by omega), e 0 _ _ (by omega)]; exact a1
  · rw [f _ (by omega), e 1 _ _ (by omega)]; exact a2
  · rw [f _ (by omega), e 2 _ _ (by omega)]; exact a3
  · rw [f _ (by omega), e 3 _ _ (by omega)]; exact a4
  · by_cases w : k = 4
    · subst w; rw [es, upA_s]
    · rw [upA_o (by omega), e 4 _ _ (by omega)]; exact a5
  · by_cases w : k = 5
    · subst w; rw [es, upA_s]
    · rw [upA_o (by omega), e 5 _ _ (by omega)]; exact a6
  · by_cases w : k = 6
    · subst w; rw [es, upA_s]
    · rw [upA_o (by omega), e 6 _ _ (by omega)]; exact a7
  · rw [e 0 _ _ (by omega)]
    exact g1.of (fun k' k0 k1 => f _ (by omega)) (fun k' k0 k1 i => e _ _ _ (by omega))
  · rw [e 1 _ _ (by omega)]
    exact g2.of ⟨f _ (by omega), f _ (by omega)⟩ (fun i j => ⟨e _ _ _ (by omega), e _ _ _ (by omega)⟩)
  · rw [e 2 _ _ (by omega)]
    exact g3.of (fun k' k0 k1 => f _ (by omega)) (fun k' k0 k1 i j => e _ _ _ (by omega))
  · rw [e 3 _ _ (by omega)]
    exact g4.of (fun k' k0 k1 => f _ (by omega)) (fun i => e _ _ _ (by omega))
theorem mTk.isW {o : Nat} {F : jFl} {q : Int → Int} {n p c z : Int} (h : mTk o F q n (tkAt q n p)) (hz : z = (if F 3009 o = 1 ∧ F 3022 o = c then 1 else 0)) : z ≠ 0 ↔ hw c q n p := by
  rw [hz, h.2.2.1]
  constructor
  · intro w
    by_cases y : tkKd q n (tkAt q n p) = 1 ∧ F 3022 o = c
    · exact ⟨y.1, by rw [← h.2.2.2.2.1 y.1]; exact y.2⟩
    · rw [if_neg y] at w; exact absurd rfl w
  · intro w
    rw [if_pos ⟨w.1, by rw [h.2.2.2.2.1 w.1]; exact w.2⟩]
    decide
theorem hw_ne {c d : Int} {q : Int → Int} {n p : Int} (h : hw c q n p) (hd : c ≠ d) : ¬ hw d q n p := fun w => hd (h.2.symm.trans w.2)
set_option maxHeartbeats 1000000 in
theorem sX9_sets {o : Nat} {F : jFl} {A : jAr} {q : Int → Int} {n p b : Int} {W L : sTb} (hT : mTp o F A q n) (hG : mG o q n (0, 0) p F) (hb : F 3114 o = b) (hb2 : 0 ≤ b ∧ b < 2) (hR : mrR o A b W L) (ht : tOk W L) : wpX9_sets o F A (fun F' A' => ∀ R : smR, (hw 1751474532 q n p → R = (nuF 1 12 q n (nx q n p), nxk q n p 2, stK W 4 (tkV q n (tkAt q n (nx q n p))), L)) → (hw 1835363940 q n p → R = (nuF 1 4 q n (nx q n p), nxk q n p 2, stK W 5 (tkV q n (tkAt q n (nx q n p))), L)) → (hw 1953853029 q n p → R = (nuF 0 20 q n (nx q n p), nxk q n p 2, stK W 6 (tkV q n (tkAt q n (nx q n p))), L)) → (¬ hw 1751474532 q n p → ¬ hw 1835363940 q n p → ¬ hw 1953853029 q n p → R = ((1, tkAt q n p), p, W, L)) → smP o q n b F A F' A' R) := by
  unfold wpX9_sets
  obtain ⟨g1, g2, g3⟩ := hG.2.1 rfl
  have r1 := nx_range (q := q) g3
  refine ⟨_, sX9_isWord, ?_⟩ -- call wpX9_isWord o 1751474532 F A P1
  intro z3 p1
  refine ⟨_, sX9_isWord, ?_⟩ -- call wpX9_isWord o 1835363940 F A P6
  intro z8 p6
  have h4 := g2.isW p1
  have h5 := g2.isW p6
  refine ⟨fun (F12 : jFl) (A13 : jAr) => A13 = A ∧ mgF o F F12 ∧ ((F12 = F ∧ (hw 1751474532 q n p ∨ hw 1835363940 q n p ∨ hw 1953853029 q n p)) ∨ (F12 = mfl o F (1, tkAt q n p) ∧ ¬ hw 1751474532 q n p ∧ ¬ hw 1835363940 q n p ∧ ¬ hw 1953853029 q n p)), ?_, ?_⟩ -- join K15
  · intro F12 A13 k15
    obtain ⟨y1, y0, y2⟩ := k15
    subst y1
    have k10 : ((1 : Int), tkAt q n p).1 ≠ 0 := by show (1 : Int) ≠ 0; decide
    obtain ⟨c, G12, y3⟩ : ∃ c : Int × Int, mG o q n c p F12 ∧ ((c.1 = 0 ∧ (hw 1751474532 q n p ∨ hw 1835363940 q n p ∨ hw 1953853029 q n p)) ∨ (c = (1, tkAt q n p) ∧ ¬ hw 1751474532 q n p ∧ ¬ hw 1835363940 q n p ∧ ¬ hw 1953853029 q n p)) := by
      rcases y2 with ⟨e, w⟩ | ⟨e, w⟩
      · exact ⟨(0, 0), by rw [e]; exact hG, Or.inl ⟨rfl, w⟩⟩
      · exact ⟨(1, tkAt q n p), by rw [e]; exact mG.fl (by show (0 : Int) < 1; decide), Or.inr ⟨rfl, w⟩⟩
    refine ⟨_, sX9_countsG (hT.of y0 rfl) G12, ?_⟩ -- call wpX9_counts o 0 F12 A13 P18
    intro z20 F21 A22 p18
    obtain ⟨u1, u2, u3, u4⟩ := p18
    subst u1
    refine ⟨fun hc => ?_, fun hc => ?_⟩ -- c1
    · -- case (¬ z20 = 0)
      have cc : c.1 = 0 ∧ (hw 1751474532 q n p ∨ hw 1835363940 q n p ∨ hw 1953853029 q n p) := by
        rcases y3 with w | ⟨w, -⟩
        · exact w
        · have := (u3 (by rw [w]; exact k10)).1
          omega
      have G21 := (u4 cc.1 rfl).2
      have g21 := y0.trans u2
      have T21 : mTp o F21 A22 q n := hT.of g21 rfl
      refine ⟨fun (v28 : Int) (F29 : jFl) (A30 : jAr) => A30 = A22 ∧ mgF o F F29 ∧ ∃ lo hi : Int, mG o q n (nuF lo hi q n (nx q n p)) (nxk q n p 2) F29 ∧ ((nuF lo hi q n (nx q n p)).1 = 0 → v28 = tkV q n (tkAt q n (nx q n p))) ∧ ((z3 ≠ 0 ∧ lo = 1 ∧ hi = 12) ∨ (z3 = 0 ∧ z8 ≠ 0 ∧ lo = 1 ∧ hi = 4) ∨ (z3 = 0 ∧ z8 = 0 ∧ lo = 0 ∧ hi = 20)), ?_, ?_⟩ -- join K32
      · intro v28 F29 A30 k32
        obtain ⟨x1, x2, lo, hi, x3, x4, x5⟩ := k32
        subst x1
        have b29 : F29 3114 o = b := by rw [x2 _ _ (fun _ => by decide)]; exact hb
        have n0 : F29 3024 o ≤ 0 → (nuF lo hi q n (nx q n p)).1 = 0 := fun w => by
          have := x3.1
          omega
        refine ⟨fun hc => ?_, fun hc => ?_⟩ -- c2
        · -- case ((F29 3024 o) ≤ 0)
          refine ⟨fun hc => ?_, fun hc => ?_⟩ -- c3
          · -- case (z3 = 0)
            refine ⟨fun hc => ?_, fun hc => ?_⟩ -- c4
            · -- case (z8 = 0)
              refine ⟨by (rw [b29]; exact hb2), ?_⟩ -- s1: (0 ≤ F29 3114 o ∧ F29 3114 o < 2)
              intro A39 e39
              -- l1: Q F29 A39
              intro R hR1 hR2 hR3 hR4
              have z0 := n0 (by assumption)
              have h6 : hw 1953853029 q n p := by
                rcases cc.2 with w | w | w
                · exact absurd (by assumption) (h4.mpr w)
                · exact absurd (by assumption) (h5.mpr w)
                · exact w
              obtain ⟨e1, e2⟩ : lo = 0 ∧ hi = 20 := by
                rcases x5 with ⟨w, -⟩ | ⟨w, w2, -⟩ | ⟨w, w2, w3⟩
                · exact absurd (by assumption) w
                · exact absurd (by assumption) w2
                · exact w3
              subst e1 e2
              have e := hR3 h6
              subst e
              rw [b29] at e39
              exact ⟨x2, by rw [e39]; exact (mfB.refl o b _).up (k := 25) (by decide) (by show 1 * b ≤ b ∧ b < 1 * b + 1; omega), _, x3, fun _ => by rw [e39, x4 z0]; exact hR.set (k := 6) (by decide), Or.inl rfl⟩
            · -- case ¬ (z8 = 0)
              refine ⟨by (rw [b29]; exact hb2), ?_⟩ -- s2: (0 ≤ F29 3114 o ∧ F29 3114 o < 2)
              intro A42 e42
              -- l2: Q F29 A42
              intro R hR1 hR2 hR3 hR4
              have z0 := n0 (by assumption)
              have h6 : hw 1835363940 q n p := h5.mp (by assumption)
              obtain ⟨e1, e2⟩ : lo = 1 ∧ hi = 4 := by
                rcases x5 with ⟨w, -⟩ | ⟨w, w2, w3⟩ | ⟨w, w2, w3⟩
                · exact absurd (by assumption) w
                · exact w3
                · contradiction
              subst e1 e2
              have e := hR2 h6
              subst e
              rw [b29] at e42
              exact ⟨x2, by rw [e42]; exact (mfB.refl o b _).up (k := 24) (by decide) (by show 1 * b ≤ b ∧ b < 1 * b + 1; omega), _, x3, fun _ => by rw [e42, x4 z0]; exact hR.set (k := 5) (by decide), Or.inl rfl⟩
          · -- case ¬ (z3 = 0)
            refine ⟨by (rw [b29]; exact hb2), ?_⟩ -- s3: (0 ≤ F29 3114 o ∧ F29 3114 o < 2)
            intro A45 e45
            -- l3: Q F29 A45
            intro R hR1 hR2 hR3 hR4
            have z0 := n0 (by assumption)
            have h6 : hw 1751474532 q n p := h4.mp (by assumption)
            obtain ⟨e1, e2⟩ : lo = 1 ∧ hi = 12 := by
              rcases x5 with ⟨w, w3⟩ | ⟨w, w2, w3⟩ | ⟨w, w2, w3⟩
              · exact w3
              · contradiction
              · contradiction
            subst e1 e2
            have e := hR1 h6
            subst e
            rw [b29] at e45
            exact ⟨x2, by rw [e45]; exact (mfB.refl o b _).up (k := 23) (by decide) (by show 1 * b ≤ b ∧ b < 1 * b + 1; omega), _, x3, fun _ => by rw [e45, x4 z0]; exact hR.set (k := 4) (by decide), Or.inl rfl⟩
        · -- case ¬ ((F29 3024 o) ≤ 0)
          -- l4: Q F29 A30
          intro R hR1 hR2 hR3 hR4
          have nz : (nuF lo hi q n (nx q n p)).1 ≠ 0 := fun w => hc (by rw [x3.1.1, w]; exact Int.le_refl 0)
          have key : R.1 = nuF lo hi q n (nx q n p) ∧ R.2.1 = nxk q n p 2 := by
            rcases x5 with ⟨w, w3, w4⟩ | ⟨w, w2, w3, w4⟩ | ⟨w, w2, w3, w4⟩
            · rw [hR1 (h4.mp w), w3, w4]; exact ⟨rfl, rfl⟩
            · rw [hR2 (h5.mp w2), w3, w4]; exact ⟨rfl, rfl⟩
            · have h6 : hw 1953853029 q n p := by
                rcases cc.2 with y | y | y
                · exact absurd w (h4.mpr y)
                · exact absurd w2 (h5.mpr y)
                · exact y
              rw [hR3 h6, w3, w4]; exact ⟨rfl, rfl⟩
          exact ⟨x2, mfB.refl o b _, _, by rw [key.2]; exact x3, fun w => absurd w nz, Or.inl key.1.symm⟩
      refine ⟨fun hc => ?_, fun hc => ?_⟩ -- c5
      · -- case (z3 = 0)
        refine ⟨fun hc => ?_, fun hc => ?_⟩ -- c6
        · -- case (z8 = 0)
          refine ⟨_, sX9_number T21 G21, ?_⟩ -- call wpX9_number o 0 20 F21 A22 P48
          intro z50 F51 A52 p48
          -- l5: K32 z50 F51 A52
          obtain ⟨v1, v2, v3, v4⟩ := p48
          rw [fb_ok rfl] at v3
          exact ⟨v1, g21.trans v2, 0, 20, v3, v4 rfl, Or.inr (Or.inr ⟨by assumption, by assumption, rfl, rfl⟩)⟩
        · -- case ¬ (z8 = 0)
          refine ⟨_, sX9_number T21 G21, ?_⟩ -- call wpX9_number o 1 4 F21 A22 P56
          intro z58 F59 A60 p56
          -- l6: K32 z58 F59 A60
          obtain ⟨v1, v2, v3, v4⟩ := p56
          rw [fb_ok rfl] at v3
          exact ⟨v1, g21.trans v2, 1, 4, v3, v4 rfl, Or.inr (Or.inl ⟨by assumption, by assumption, rfl, rfl⟩)⟩
      · -- case ¬ (z3 = 0)
        refine ⟨_, sX9_number T21 G21, ?_⟩ -- call wpX9_number o 1 12 F21 A22 P64
        intro z66 F67 A68 p64
        -- l7: K32 z66 F67 A68
        obtain ⟨v1, v2, v3, v4⟩ := p64
        rw [fb_ok rfl] at v3
        exact ⟨v1, g21.trans v2, 1, 12, v3, v4 rfl, Or.inl ⟨by assumption, rfl, rfl⟩⟩
    · -- case ¬ (¬ z20 = 0)
      -- l8: Q F21 A22
      intro R hR1 hR2 hR3 hR4
      rcases y3 with ⟨w, -⟩ | ⟨w, w1, w2, w3⟩
      · have := (u4 w rfl).1
        omega
      · have e := hR4 w1 w2 w3
        subst e
        have := (u3 (by rw [w]; exact k10)).2
        subst this
        subst w
        exact ⟨y0, mfB.refl o b _, _, G12, fun w => absurd w k10, Or.inl rfl⟩
  refine ⟨fun hc => ?_, fun hc => ?_⟩ -- c7
  · -- case (¬ z3 = 0)
    -- l9: K15 F A
    exact ⟨rfl, mgF.refl o F, Or.inl ⟨rfl, Or.inl (h4.mp hc)⟩⟩
  · -- case ¬ (¬ z3 = 0)
    refine ⟨fun hc => ?_, fun hc => ?_⟩ -- c8
    · -- case (¬ z8 = 0)
      -- l10: K15 F A
      exact ⟨rfl, mgF.refl o F, Or.inl ⟨rfl, Or.inr (Or.inl (h5.mp hc))⟩⟩
    · -- case ¬ (¬ z8 = 0)
      refine ⟨_, sX9_isWord, ?_⟩ -- call wpX9_isWord o 1953853029 F A P73
      intro z75 p73
      have h6 := g2.isW p73
      refine ⟨fun hc => ?_, fun hc => ?_⟩ -- c9
      · -- case (¬ z75 = 0)
        -- l11: K15 F A
        exact ⟨rfl, mgF.refl o F, Or.inl ⟨rfl, Or.inr (Or.inr (h6.mp hc))⟩⟩
      · -- case ¬ (¬ z75 = 0)
        refine ⟨_, sX9_blame, ?_⟩ -- call wpX9_blame o 1 (F 3012 o) F A P79
        intro F82 A83 p79
        -- l12: K15 F82 A83
        obtain ⟨u1, u2, -⟩ := p79
        have u2 := u2 (by have := hG.1.1; have : F 3024 o = 0 := this; omega)
        rw [g2.1] at u2
        refine ⟨u1, by rw [u2]; exact mfl_g, Or.inr ⟨u2, fun w => ?_, fun w => ?_, fun w => ?_⟩⟩
        · have := h4.mpr w; contradiction
        · have := h5.mpr w; contradiction
        · have := h6.mpr w; contradiction

theorem sX9_statement {o : Nat} {F : jFl} {A : jAr} {q : Int → Int} {n p b : Int} {W L : sTb} (hT : mTp o F A q n) (hG : mG o q n (0, 0) p F) (hb : F 3114 o = b) (hb2 : 0 ≤ b ∧ b < 2) (hR : mrR o A b W L) (ht : tOk W L) : wpX9_statement o F A (fun F' A' => smP o q n b F A F' A' (smS W L q n p)) := by
  unfold wpX9_statement
  refine ⟨_, sX9_lex, ?_⟩ -- call wpX9_lex o F A P1
  intro F4 A5 p1
  obtain ⟨x1, x2, x3⟩ := p1
  subst x1
  have lx := hG.lex x2 x3
  refine ⟨fun hc => ?_, fun hc => ?_⟩ -- c1
  · -- case ((F4 3024 o) ≤ 0)
    obtain ⟨-, bd, e4⟩ : (0 : Int) = 0 ∧ tkBad q n (tkAt q n p) = -1 ∧ F4 = F := by
      rcases lx with w | ⟨w, -⟩
      · exact w
      · omega
    subst e4
    obtain ⟨g1, g2, g3⟩ := hG.2.1 rfl
    have nb : ¬ 0 ≤ tkBad q n (tkAt q n p) := by omega
    refine ⟨_, sX9_isWord, ?_⟩ -- call wpX9_isWord o 2003792484 F4 A5 P10
    intro z12 p10
    have h1 := g2.isW p10
    refine ⟨fun hc => ?_, fun hc => ?_⟩ -- c2
    · -- case (z12 = 0)
      refine ⟨_, sX9_isWord, ?_⟩ -- call wpX9_isWord o 126943972648308 F4 A5 P16
      intro z18 p16
      have h2 := g2.isW p16
      refine ⟨fun hc => ?_, fun hc => ?_⟩ -- c3
      · -- case (z18 = 0)
        refine ⟨_, sX9_isWord, ?_⟩ -- call wpX9_isWord o 426953501796 F4 A5 P22
        intro z24 p22
        have h3 := g2.isW p22
        refine ⟨fun hc => ?_, fun hc => ?_⟩ -- c4
        · -- case (z24 = 0)
          refine ⟨_, sX9_isWord, ?_⟩ -- call wpX9_isWord o 7102839 F4 A5 P28
          intro z30 p28
          have h4 := g2.isW p28
          refine ⟨fun hc => ?_, fun hc => ?_⟩ -- c5
          · -- case (z30 = 0)
            refine ⟨_, sX9_sets hT hG hb hb2 hR ht, ?_⟩ -- call wpX9_sets o F4 A5 P34
            intro F37 A38 p34
            -- l1: Q F37 A38
            refine p34 _ (fun w => smS_head nb w) (fun w => smS_mend nb w) (fun w => smS_tune nb w) (fun w1 w2 w3 => smS_no nb (fun w => ?_) (fun w => ?_) (fun w => ?_) (fun w => ?_) w1 w2 w3)
            · have := h1.mpr w; contradiction
            · have := h2.mpr w; contradiction
            · have := h3.mpr w; contradiction
            · have := h4.mpr w; contradiction
          · -- case ¬ (z30 = 0)
            refine ⟨_, sX9_lawing hT hG hb hb2 hR ht, ?_⟩ -- call wpX9_lawing o F4 A5 P42
            intro F45 A46 p42
            -- l2: Q F45 A46
            exact p42 _ (smS_law nb (h4.mp (by assumption)))
        · -- case ¬ (z24 = 0)
          refine ⟨_, sX9_childing hT hG hb hb2 hR ht, ?_⟩ -- call wpX9_childing o F4 A5 P50
          intro F53 A54 p50
          -- l3: Q F53 A54
          exact p50 _ (smS_child nb (h3.mp (by assumption)))
      · -- case ¬ (z18 = 0)
        refine ⟨_, sX9_streeting hT hG hb hb2 hR ht, ?_⟩ -- call wpX9_streeting o F4 A5 P58
        intro F61 A62 p58
        -- l4: Q F61 A62
        exact p58 _ (smS_street nb (h2.mp (by assumption)))
    · -- case ¬ (z12 = 0)
      refine ⟨_, sX9_wording hT hG hb hb2 hR ht, ?_⟩ -- call wpX9_wording o F4 A5 P66
      intro F69 A70 p66
      -- l5: Q F69 A70
      exact p66 _ (smS_word nb (h1.mp (by assumption)))
  · -- case ¬ ((F4 3024 o) ≤ 0)
    -- l6: Q F4 A5
    rcases lx with ⟨-, -, e⟩ | ⟨-, w2, w3⟩
    · exfalso
      apply hc
      rw [e, hG.1.1]
      exact Int.le_refl 0
    · rcases w3 with ⟨w, -⟩ | ⟨-, w, e⟩
      · exact absurd rfl w
      · rw [smS_bad w]
        exact ⟨w2, mfB.refl o b _, _, by rw [e]; exact mG.fl (g := (1, tkBad q n (tkAt q n p))) (by show (0 : Int) < 1; decide), fun y => absurd y (by show ¬ (1 : Int) = 0; decide), Or.inl rfl⟩

/-- one statement too many -/
noncomputable def tnX (a : Int) (q : Int → Int) (n p : Int) : Int × Int := if a = 90 ∧ tkAt q n (nx q n p) < n then (5, tkAt q n (nx q n p)) else (0, 0)
set_option maxHeartbeats 1000000 in
theorem sX9_finishes {o : Nat} {a1 : Int} {F : jFl} {A : jAr} {q : Int → Int} {n p : Int} {c : Int × Int} (hT : mTp o F A q n) (hG : mG o q n c p F) : wpX9_finishes o a1 F A (fun F' A' => A' = A ∧ mgF o F F' ∧ mG o q n (fb c (fb (asS 59 q n p) (tnX a1 q n p))) (nx q n p) F') := by
  unfold wpX9_finishes
  refine ⟨_, sX9_lex, ?_⟩ -- call wpX9_lex o F A P1
  intro F4 A5 p1
  obtain ⟨x1, x2, x3⟩ := p1
  subst x1
  have lx := hG.lex x2 x3
  refine ⟨fun hc => ?_, fun hc => ?_⟩ -- c1
  · -- case ((F4 3024 o) ≤ 0)
    intro v10 e10
    obtain ⟨c0, bd, e4⟩ : c.1 = 0 ∧ tkBad q n (tkAt q n p) = -1 ∧ F4 = F := by
      rcases lx with w | ⟨w, -⟩
      · exact w
      · omega
    subst e4
    obtain ⟨g1, g2, g3⟩ := hG.2.1 c0
    have r1 := nx_range (q := q) g3
    have e0 : F4 3024 o = 0 := by rw [hG.1.1, c0]
    have n6 := hT.2.1
    have n7 := hT.2.2
    have v10e : v10 = nx q n p := by rw [e10]; exact g2.2.1
    rw [n6]
    refine ⟨fun (v11 : Int) => (nx q n p ≤ v11 ∧ v11 ≤ n) ∧ tkAt q n v11 = tkAt q n (nx q n p), fun v11 => (n - v11).toNat, ?_, ?_⟩ -- loop I12 I12 v10
    ·
      -- l1: I12 v10
      exact ⟨by omega, by rw [v10e]⟩
    intro v11 i12
    obtain ⟨i1, i2⟩ := i12
    refine ⟨tkAt q n (nx q n p) = v11, ?_, ?_⟩ -- join K15
    · intro k15
      refine ⟨_, sX9_isSign, ?_⟩ -- call wpX9_isSign o 59 F4 A5 P18
      intro z20 p18
      have hs : z20 ≠ 0 ↔ (tkKd q n (tkAt q n p) = 3 ∧ q (tkAt q n p) = 59) := by
        rw [p18, g2.2.2.1]
        constructor
        · intro w
          by_cases y : tkKd q n (tkAt q n p) = 3 ∧ F4 3018 o = 59
          · exact ⟨y.1, by rw [← g2.2.2.2.2.2.2 y.1]; exact y.2⟩
          · rw [if_neg y] at w; exact absurd rfl w
        · intro w
          rw [if_pos ⟨w.1, by rw [g2.2.2.2.2.2.2 w.1]; exact w.2⟩]
          decide
      refine ⟨fun hc => ?_, fun hc => ?_⟩ -- c2
      · -- case (z20 = 0)
        refine ⟨_, sX9_must_2 hT hG, ?_⟩ -- call wpX9_must_2 o 59 F4 A5 P24
        intro F27 A28 p24
        -- l2: Q F27 A28
        obtain ⟨u1, u2, u3⟩ := p24
        refine ⟨u1, u2, ?_⟩
        have no : asS 59 q n p = (1, tkAt q n p) := asF_no bd (fun w => (hs.mpr w) (by assumption))
        rw [fb_ok c0, no] at u3
        rw [fb_ok c0, no, fb_no (by show (1 : Int) ≠ 0; decide)]
        exact u3
      · -- case ¬ (z20 = 0)
        refine ⟨fun hc => ?_, fun hc => ?_⟩ -- c3
        · -- case (¬ a1 = 90)
          refine ⟨_, sX9_must_2 hT hG, ?_⟩ -- call wpX9_must_2 o 59 F4 A5 P33
          intro F36 A37 p33
          -- l3: Q F36 A37
          obtain ⟨u1, u2, u3⟩ := p33
          refine ⟨u1, u2, ?_⟩
          have ys : asS 59 q n p = (0, 0) := asF_ok bd (hs.mp (by assumption))
          rw [fb_ok c0, ys] at u3
          rw [fb_ok c0, ys, fb_ok rfl, show tnX a1 q n p = (0, 0) from if_neg (fun w => by have := w.1; contradiction)]
          exact u3
        · -- case ¬ (¬ a1 = 90)
          refine ⟨fun hc => ?_, fun hc => ?_⟩ -- c4
          · -- case ((F4 3006 o) ≤ v11)
            refine ⟨_, sX9_must_2 hT hG, ?_⟩ -- call wpX9_must_2 o 59 F4 A5 P42
            intro F45 A46 p42
            -- l4: Q F45 A46
            obtain ⟨u1, u2, u3⟩ := p42
            refine ⟨u1, u2, ?_⟩
            have ys : asS 59 q n p = (0, 0) := asF_ok bd (hs.mp (by assumption))
            rw [fb_ok c0, ys] at u3
            rw [fb_ok c0, ys, fb_ok rfl, show tnX a1 q n p = (0, 0) from if_neg (fun w => by have := w.2; omega)]
            exact u3
          · -- case ¬ ((F4 3006 o) ≤ v11)
            refine ⟨_, sX9_blame, ?_⟩ -- call wpX9_blame o 5 v11 F4 A5 P50
            intro F53 A54 p50
            obtain ⟨v1, v2, -⟩ := p50
            subst v1
            have v2 := v2 (by omega)
            rw [← k15] at v2
            have G53 : mG o q n (5, tkAt q n (nx q n p)) p F53 := by rw [v2]; exact mG.fl (by show (0 : Int) < 5; decide)
            have g53 : mgF o F4 F53 := by rw [v2]; exact mfl_g
            refine ⟨_, sX9_must_2 (hT.of g53 rfl) G53, ?_⟩ -- call wpX9_must_2 o 59 F53 A54 P58
            intro F61 A62 p58
            -- l5: Q F61 A62
            obtain ⟨u1, u2, u3⟩ := p58
            refine ⟨u1, g53.trans u2, ?_⟩
            have ys : asS 59 q n p = (0, 0) := asF_ok bd (hs.mp (by assumption))
            rw [fb_no (by show (5 : Int) ≠ 0; decide)] at u3
            rw [fb_ok c0, ys, fb_ok rfl, show tnX a1 q n p = (5, tkAt q n (nx q n p)) from if_pos ⟨Classical.byContradiction (fun w => by contradiction), by omega⟩]
            exact u3
    refine ⟨fun hc => ?_, fun hc => ?_⟩ -- c5
    · -- case ((F4 3006 o) ≤ v11)
      -- l6: K15
      rw [← i2]
      exact scn_end hc
    · -- case ¬ ((F4 3006 o) ≤ v11)
      refine ⟨by omega, ?_⟩ -- s1: (0 ≤ v11 ∧ v11 < 1800)
      refine ⟨fun hc => ?_, fun hc => ?_⟩ -- c6
      · -- case ((A5 (o + 1) v11) = 32)
        refine ⟨by omega, ?_⟩ -- s2: jR (v11 + 1)
        refine ⟨?_, ?_⟩ -- l7: I12 (v11 + 1)
        · have hv := hT.1 v11 (by omega) (by omega)
          have go : tkAt q n v11 = tkAt q n (v11 + 1) := scn_go (P := fun i => isBl (q i)) (by omega) (Or.inl (by omega))
          exact ⟨by omega, by rw [← go]; exact i2⟩
        · dsimp only; omega
      · -- case ¬ ((A5 (o + 1) v11) = 32)
        refine ⟨by omega, ?_⟩ -- s3: (0 ≤ v11 ∧ v11 < 1800)
        refine ⟨fun hc => ?_, fun hc => ?_⟩ -- c7
        · -- case (¬ (A5 (o + 1) v11) = 10)
          -- l8: K15
          have hv := hT.1 v11 (by omega) (by omega)
          rw [← i2]
          exact scn_no (P := fun i => isBl (q i)) (by omega) (fun w => by rcases w with w | w <;> omega)
        · -- case ¬ (¬ (A5 (o + 1) v11) = 10)
          refine ⟨by omega, ?_⟩ -- s4: jR (v11 + 1)
          refine ⟨?_, ?_⟩ -- l9: I12 (v11 + 1)
          · have hv := hT.1 v11 (by omega) (by omega)
            have go : tkAt q n v11 = tkAt q n (v11 + 1) := scn_go (P := fun i => isBl (q i)) (by omega) (Or.inr (by omega))
            exact ⟨by omega, by rw [← go]; exact i2⟩
          · dsimp only; omega
  · -- case ¬ ((F4 3024 o) ≤ 0)
    -- l10: Q F4 A5
    rcases lx with ⟨w, -, e⟩ | ⟨-, w2, w3⟩
    · exfalso
      apply hc
      rw [e, hG.1.1, w]
      exact Int.le_refl 0
    · exact ⟨rfl, w2, hG.bad w3 (fun y => by rw [show asS 59 q n p = (1, tkBad q n (tkAt q n p)) from asF_bad y]; exact fb_no (by show (1 : Int) ≠ 0; decide))⟩

