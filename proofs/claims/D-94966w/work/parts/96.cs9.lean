set_option maxRecDepth 100000
set_option linter.unusedVariables false
/-! the component's answers; printed by gen/prove.py out of spec/96.cs9.spec -/
theorem sX0_fault {o : Nat} {a1 : Int} {N : jSh} {F : jFl} {A : jAr} {R : Int} {Q : sMi} (h : cMi R o F A Q) : wqX0_fault o a1 N F A (fun z => z = rFault Q a1) := by
  unfold wqX0_fault
  have g := h.2.2.2.1
  refine ⟨fun hc => ?_, fun hc => ?_⟩ -- c1
  · -- case (¬ a1 = 0)
    refine ⟨fun hc => ?_, fun hc => ?_⟩ -- c2
    · -- case (¬ a1 = 1)
      -- l1: Q (-1)
      grind [rFault]
    · -- case (a1 = 1)
      -- l2: Q (F 315 o)
      grind [rFault]
  · -- case (a1 = 0)
    -- l3: Q (F 312 o)
    grind [rFault]

theorem sX0_status {S : Nat → Nat} {o : Nat} {a1 : Int} {N : jSh} {F : jFl} {A : jAr} {R : Int} {Q : sMi} (hy : lay N o) (h : cMi R o F A Q) : wqX0_status S o a1 N F A (fun z => z = rStatus Q a1) := by
  unfold wqX0_status
  refine ⟨_, sX0_isIn, ?_⟩ -- call wqX0_isIn a1 0 5 N F A P1
  intro z3 p1
  refine ⟨fun hc => ?_, fun hc => ?_⟩ -- c1
  · -- case (z3 = 0)
    -- l1: Q (-1)
    grind [rStatus]
  · -- case (¬ (z3 = 0))
    refine ⟨_, by exact hy.p308, ?_⟩ -- d9: jfn N 308 o = (b9 : Int)
    refine ⟨by exact (hy.1 2 (by decide)).1, ?_⟩ -- s1: jtg N b9 = 102
    refine ⟨by (have e := hy.2.2 (2, 6) (by decide)); dsimp only at e; rw [e]; grind, ?_⟩ -- s2: ((0 : Int) ≤ a1 ∧ (a1 : Int) < (jln N b9 : Int))
    -- l2: Q (A b9 a1)
    have g := h.2.2.1 a1
    grind [rStatus]

theorem sX0_book {o : Nat} {a1 : Int} {a2 : Int} {N : jSh} {F : jFl} {A : jAr} {wA sA cA lA : Int → Int} {W L : sTb} {t : Nat} {B : sBk} (hx : ctx N F A o t W L wA sA cA lA) (hB : bkIs N F A (t + 6) B) : wqX0_book o a1 a2 N F A (fun z => z = rBook B a1 a2) := by
  unfold wqX0_book
  obtain ⟨e, hl, hb⟩ := hB
  have hn := hl.2.2.1
  refine ⟨_, by exact hx.1.2.2, ?_⟩ -- d1: F 311 o = (b1 : Int)
  refine ⟨by exact hx.2.2.1.1, ?_⟩ -- s1: jtg N b1 = 2
  refine ⟨_, by exact hx.2.2.1.2.2.2.2.2.2.2, ?_⟩ -- d4: jfn N 632 b1 = (b4 : Int)
  refine ⟨by exact hl.1.1, ?_⟩ -- s2: jtg N b4 = 20
  refine ⟨_, sJ2_size hl, ?_⟩ -- call wqJ2_size b4 N F A P7
  intro z9 p7
  refine ⟨by omega, ?_⟩ -- s3: jR (z9 - 1)
  refine ⟨_, sX0_isIn, ?_⟩ -- call wqX0_isIn a1 0 (z9 - 1) N F A P15
  intro z17 p15
  have hi : ¬ z17 = 0 → 0 ≤ a1 ∧ a1 < B.1 := by grind
  refine ⟨fun hc => ?_, fun hc => ?_⟩ -- c1
  · -- case (¬ z17 = 0)
    refine ⟨_, sJ2_get hl (hi hc), ?_⟩ -- call wqJ2_get b4 a1 N F A P23
    intro z25 p23
    have hi1 := hi hc
    obtain ⟨b, b1, b2, b3, b4, b5, b6⟩ := hb a1 hi1.1 hi1.2
    refine ⟨by exact jcst_line (p23.trans b1) b2, ?_⟩ -- s4: jcst N "ChildSays$Line" z25
    refine ⟨?_, ?_, ?_, ?_, ?_⟩ -- c2
    · intro hc -- case a2 = 0
      refine ⟨_, by exact p23.trans b1, ?_⟩ -- d31: z25 = (b31 : Int)
      refine ⟨by exact b2, ?_⟩ -- s5: jtg N b31 = 19
      -- l1: Q (jfn N 5700 b31)
      subst hc; simp [rBook, *]
    · intro hc -- case a2 = 1
      refine ⟨_, by exact p23.trans b1, ?_⟩ -- d34: z25 = (b34 : Int)
      refine ⟨by exact b2, ?_⟩ -- s6: jtg N b34 = 19
      -- l2: Q (jfn N 5703 b34)
      subst hc; simp [rBook, *]
    · intro hc -- case a2 = 2
      refine ⟨_, by exact p23.trans b1, ?_⟩ -- d37: z25 = (b37 : Int)
      refine ⟨by exact b2, ?_⟩ -- s7: jtg N b37 = 19
      -- l3: Q (jfn N 5706 b37)
      subst hc; simp [rBook, *]
    · intro hc -- case a2 = 3
      refine ⟨_, by exact p23.trans b1, ?_⟩ -- d40: z25 = (b40 : Int)
      refine ⟨by exact b2, ?_⟩ -- s8: jtg N b40 = 19
      -- l4: Q (jfn N 5709 b40)
      subst hc; simp [rBook, *]
    · intro hc1 hc2 hc3 hc4 -- case ¬ a2 = 0 ¬ a2 = 1 ¬ a2 = 2 ¬ a2 = 3
      -- l5: Q (-1)
      exact (if_neg (by omega)).symm
  · -- case (z17 = 0)
    -- l6: Q (-1)
    exact (if_neg (by grind)).symm

theorem sX0_order {o : Nat} {a1 : Int} {N : jSh} {F : jFl} {A : jAr} {wA sA cA lA : Int → Int} {W L : sTb} {t : Nat} (hx : ctx N F A o t W L wA sA cA lA) : wqX0_order o a1 N F A (fun z => z = rOrder W L a1) := by
  unfold wqX0_order
  refine ⟨_, sX0_isPlace hx, ?_⟩ -- call wqX0_isPlace o a1 N F A P1
  intro z3 p1
  refine ⟨fun hc => ?_, fun hc => ?_⟩ -- c1
  · -- case (z3 = 0)
    -- l1: Q (-1)
    exact (if_neg (by grind)).symm
  · -- case (¬ (z3 = 0))
    have hi : 0 ≤ a1 ∧ a1 < W 3 0 0 := by grind
    have gl := hx.2.1.2.2.1 a1 hi.1 hi.2
    obtain ⟨b, u1, u2, u3, u4⟩ := hx.lw gl
    refine ⟨_, by exact hx.1.2.2, ?_⟩ -- d9: F 311 o = (b9 : Int)
    refine ⟨by exact hx.2.2.1.1, ?_⟩ -- s1: jtg N b9 = 2
    refine ⟨_, by exact hx.2.2.1.2.2.2.2.2.2.1, ?_⟩ -- d12: jfn N 629 b9 = (b12 : Int)
    refine ⟨by exact hx.lO.1.1, ?_⟩ -- s2: jtg N b12 = 20
    refine ⟨_, sJ2_get hx.lO hi, ?_⟩ -- call wqJ2_get b12 a1 N F A P15
    intro z17 p15
    refine ⟨by exact jcst_law (p15.trans u1) u2.1, ?_⟩ -- s3: jcst N "ChildSays$Law" z17
    refine ⟨_, by exact p15.trans u1, ?_⟩ -- d23: z17 = (b23 : Int)
    refine ⟨by exact u2.1, ?_⟩ -- s4: jtg N b23 = 17
    -- l2: Q (jfn N 3903 b23)
    rw [u2.2.2.1]
    exact (if_pos hi).symm

theorem sX0_alike {o : Nat} {a1 : Int} {a2 : Int} {N : jSh} {F : jFl} {A : jAr} {wA sA cA lA : Int → Int} {W L : sTb} {t : Nat} (hx : ctx N F A o t W L wA sA cA lA) : wqX0_alike o a1 a2 N F A (fun z => z = rAlike W a1 a2) := by
  unfold wqX0_alike
  have hw : ∀ a : Int, 0 ≤ a ∧ a < W 0 0 0 → 0 ≤ wA a := fun a h => by obtain ⟨b, u1, -⟩ := hx.wd a h.1 h.2; omega
  refine ⟨_, sX0_wordOf hx, ?_⟩ -- call wqX0_wordOf o a1 N F A P1
  intro z3 p1
  refine ⟨_, sX0_wordOf hx, ?_⟩ -- call wqX0_wordOf o a2 N F A P8
  intro z10 p8
  refine ⟨fun hc => ?_, fun hc => ?_⟩ -- c1
  · -- case (z3 < 0)
    -- l1: Q (-1)
    exact (if_neg (by grind)).symm
  · -- case (¬ (z3 < 0))
    refine ⟨fun hc => ?_, fun hc => ?_⟩ -- c2
    · -- case (¬ z10 < 0)
      have h1 : 0 ≤ a1 ∧ a1 < W 0 0 0 := by grind
      have h2 : 0 ≤ a2 ∧ a2 < W 0 0 0 := by grind
      rw [if_pos h1] at p1
      rw [if_pos h2] at p8
      obtain ⟨b, u1, u2, u3⟩ := hx.wd a1 h1.1 h1.2
      refine ⟨_, by exact p1.trans u1, ?_⟩ -- d17: z3 = (b17 : Int)
      refine ⟨by exact u2, ?_⟩ -- s1: jtg N b17 = 14
      refine ⟨_, sX13_alike hx.wd u1 h1 p8 h2, ?_⟩ -- call wqX13_alike b17 z10 N F A P20
      intro z22 p20
      -- l2: Q z22
      rw [p20]; exact (if_pos ⟨h1, h2⟩).symm
    · -- case (z10 < 0)
      -- l3: Q (-1)
      exact (if_neg (by grind)).symm

theorem sX0_hears {o : Nat} {a1 : Int} {a2 : Int} {a3 : Int} {N : jSh} {F : jFl} {A : jAr} {wA sA cA lA : Int → Int} {W L : sTb} {t : Nat} (hx : ctx N F A o t W L wA sA cA lA) : wqX0_hears o a1 a2 a3 N F A (fun z => z = rHears W a1 a2 a3) := by
  unfold wqX0_hears
  have hw : ∀ a : Int, 0 ≤ a ∧ a < W 0 0 0 → 0 ≤ wA a := fun a h => by obtain ⟨b, u1, -⟩ := hx.wd a h.1 h.2; omega
  have hcc : ∀ a : Int, 0 ≤ a ∧ a < W 2 0 0 → 0 ≤ cA a := fun a h => by obtain ⟨b, u1, -⟩ := hx.ch h; omega
  refine ⟨_, sX0_childOf hx, ?_⟩ -- call wqX0_childOf o a1 N F A P1
  intro z3 p1
  refine ⟨_, sX0_wordOf hx, ?_⟩ -- call wqX0_wordOf o a2 N F A P8
  intro z10 p8
  refine ⟨fun hc => ?_, fun hc => ?_⟩ -- c1
  · -- case (z3 < 0)
    -- l1: Q (-1)
    exact (if_neg (by grind)).symm
  · -- case (¬ (z3 < 0))
    refine ⟨fun hc => ?_, fun hc => ?_⟩ -- c2
    · -- case (¬ z10 < 0)
      have h1 : 0 ≤ a1 ∧ a1 < W 2 0 0 := by grind
      have h2 : 0 ≤ a2 ∧ a2 < W 0 0 0 := by grind
      rw [if_pos h1] at p1
      rw [if_pos h2] at p8
      obtain ⟨b, u1, u2⟩ := hx.ch h1
      have gW := hx.2.1.1
      have gs := (gW.2.2.2.2.2.2.2.2.2.1 a1 h1.1 h1.2).1
      obtain ⟨s, s1, s2⟩ := hx.st gs
      obtain ⟨w, w1, w2, w3, w4, -⟩ := hx.wd _ (sHeard_range gW h1 h2).1 (sHeard_range gW h1 h2).2
      obtain ⟨y, y1, y2, y3, y4, -⟩ := hx.wd _ (sSaid_range gW h1 h2).1 (sSaid_range gW h1 h2).2
      have er : rHears W a1 a2 a3 = _ := if_pos ⟨h1, h2⟩
      rw [er]
      refine ⟨fun hc => ?_, fun hc => ?_⟩ -- c3
      · -- case (a3 = 0)
        refine ⟨_, by exact p1.trans u1, ?_⟩ -- d18: z3 = (b18 : Int)
        refine ⟨by exact u2.1.1, ?_⟩ -- s1: jtg N b18 = 16
        refine ⟨_, by exact u2.2.1.trans s1, ?_⟩ -- d21: jfn N 4802 b18 = (b21 : Int)
        refine ⟨by exact s2.1.1, ?_⟩ -- s2: jtg N b21 = 15
        refine ⟨_, sX14_heard (c := a1) (w := a2) hx.wd s2 rfl gs h2 p8 gW, ?_⟩ -- call wqX14_heard b21 z10 N F A P24
        intro z26 p24
        refine ⟨_, by exact p24.trans w1, ?_⟩ -- d31: z26 = (b31 : Int)
        refine ⟨by exact w2, ?_⟩ -- s3: jtg N b31 = 14
        -- l2: Q (jfn N 3903 b31)
        rw [w4, if_pos hc]
      · -- case (¬ (a3 = 0))
        refine ⟨_, by exact p1.trans u1, ?_⟩ -- d34: z3 = (b34 : Int)
        refine ⟨by exact u2.1.1, ?_⟩ -- s4: jtg N b34 = 16
        refine ⟨_, by exact u2.1.2.2.2.2.2.2.2.1, ?_⟩ -- d37: jfn N 4814 b34 = (b37 : Int)
        refine ⟨by exact u2.1.2.2.2.2.2.2.2.2.1, ?_⟩ -- s5: jtg N b37 = 107
        refine ⟨by (have q0 := gW.1); rw [u2.1.2.2.2.2.2.2.2.2.2.2]; omega, ?_⟩ -- s6: ((0 : Int) ≤ a2 ∧ (a2 : Int) < (jln N b37 : Int))
        refine ⟨_, by exact (u2.2.2.2.2.2 a2 h2.1 h2.2).trans y1, ?_⟩ -- d41: A b37 a2 = (b41 : Int)
        refine ⟨by exact y2, ?_⟩ -- s7: jtg N b41 = 14
        -- l3: Q (jfn N 3903 b41)
        rw [y4, if_neg hc]
    · -- case (z10 < 0)
      -- l4: Q (-1)
      exact (if_neg (by grind)).symm

theorem sX0_has {o : Nat} {a1 : Int} {N : jSh} {F : jFl} {A : jAr} {R M : Int} {S : Nat → Nat} {wA sA cA lA : Int → Int} {W L : sTb} {B : sBk} {U : sUn} {Q : sMi} {t : Nat} (h : cst S M N F A o t W L B U wA sA cA lA) (hM : cMi R o F A Q) : wqX0_has o a1 N F A (fun z => z = rHas W L B U Q a1) := by
  unfold wqX0_has
  obtain ⟨⟨hg, hy, hs⟩, hx, ⟨e, hl, hb⟩, ⟨hu, eu, hlu, _⟩⟩ := h
  have gx := hx.2.2.2.1
  have g5 := hM.2.2.2.2.1
  refine ⟨?_, ?_, ?_, ?_, ?_, ?_, ?_, ?_, ?_, ?_, ?_, ?_, ?_⟩ -- c1
  · intro hc -- case a1 = 0
    refine ⟨_, by exact hx.1.2.2, ?_⟩ -- d1: F 311 o = (b1 : Int)
    refine ⟨by exact hx.2.2.1.1, ?_⟩ -- s1: jtg N b1 = 2
    refine ⟨_, by exact hx.2.2.1.2.2.1, ?_⟩ -- d4: jfn N 617 b1 = (b4 : Int)
    refine ⟨by exact hx.lW.1.1, ?_⟩ -- s2: jtg N b4 = 20
    refine ⟨_, sJ2_size hx.lW, ?_⟩ -- call wqJ2_size b4 N F A P7
    intro z9 p7
    -- l1: Q z9
    subst hc; simp [rHas]; grind
  · intro hc -- case a1 = 1
    refine ⟨_, by exact hx.1.2.2, ?_⟩ -- d14: F 311 o = (b14 : Int)
    refine ⟨by exact hx.2.2.1.1, ?_⟩ -- s3: jtg N b14 = 2
    refine ⟨_, by exact hx.2.2.1.2.2.2.1, ?_⟩ -- d17: jfn N 620 b14 = (b17 : Int)
    refine ⟨by exact hx.2.2.2.2.1.2.1.1.1, ?_⟩ -- s4: jtg N b17 = 20
    refine ⟨_, sJ2_size hx.2.2.2.2.1.2.1, ?_⟩ -- call wqJ2_size b17 N F A P20
    intro z22 p20
    -- l2: Q z22
    subst hc; simp [rHas]; grind
  · intro hc -- case a1 = 2
    refine ⟨_, by exact hx.1.2.2, ?_⟩ -- d27: F 311 o = (b27 : Int)
    refine ⟨by exact hx.2.2.1.1, ?_⟩ -- s5: jtg N b27 = 2
    refine ⟨_, by exact hx.2.2.1.2.2.2.2.1, ?_⟩ -- d30: jfn N 623 b27 = (b30 : Int)
    refine ⟨by exact hx.lC.1.1, ?_⟩ -- s6: jtg N b30 = 20
    refine ⟨_, sJ2_size hx.lC, ?_⟩ -- call wqJ2_size b30 N F A P33
    intro z35 p33
    -- l3: Q z35
    subst hc; simp [rHas]; grind
  · intro hc -- case a1 = 3
    refine ⟨_, by exact hx.1.2.2, ?_⟩ -- d40: F 311 o = (b40 : Int)
    refine ⟨by exact hx.2.2.1.1, ?_⟩ -- s7: jtg N b40 = 2
    refine ⟨_, by exact hx.2.2.1.2.2.2.2.2.1, ?_⟩ -- d43: jfn N 626 b40 = (b43 : Int)
    refine ⟨by exact hx.lL.1.1, ?_⟩ -- s8: jtg N b43 = 20
    refine ⟨_, sJ2_size hx.lL, ?_⟩ -- call wqJ2_size b43 N F A P46
    intro z48 p46
    -- l4: Q z48
    subst hc; simp [rHas]; grind
  · intro hc -- case a1 = 4
    refine ⟨_, by exact hx.1.2.2, ?_⟩ -- d53: F 311 o = (b53 : Int)
    refine ⟨by exact hx.2.2.1.1, ?_⟩ -- s9: jtg N b53 = 2
    refine ⟨_, sX1_standing hx.2.2, ?_⟩ -- call wqX1_standing b53 N F A P56
    intro z58 p56
    -- l5: Q z58
    subst hc; simp [rHas]; grind
  · intro hc -- case a1 = 5
    refine ⟨_, by exact hx.1.2.2, ?_⟩ -- d63: F 311 o = (b63 : Int)
    refine ⟨by exact hx.2.2.1.1, ?_⟩ -- s10: jtg N b63 = 2
    -- l6: Q (F 603 b63)
    subst hc; simp [rHas]; grind
  · intro hc -- case a1 = 6
    refine ⟨_, by exact hx.1.2.2, ?_⟩ -- d66: F 311 o = (b66 : Int)
    refine ⟨by exact hx.2.2.1.1, ?_⟩ -- s11: jtg N b66 = 2
    -- l7: Q (F 606 b66)
    subst hc; simp [rHas]; grind
  · intro hc -- case a1 = 7
    refine ⟨_, by exact hx.1.2.2, ?_⟩ -- d69: F 311 o = (b69 : Int)
    refine ⟨by exact hx.2.2.1.1, ?_⟩ -- s12: jtg N b69 = 2
    -- l8: Q (F 609 b69)
    subst hc; simp [rHas]; grind
  · intro hc -- case a1 = 8
    refine ⟨_, by exact hx.1.2.2, ?_⟩ -- d72: F 311 o = (b72 : Int)
    refine ⟨by exact hx.2.2.1.1, ?_⟩ -- s13: jtg N b72 = 2
    -- l9: Q (F 612 b72)
    subst hc; simp [rHas]; grind
  · intro hc -- case a1 = 9
    refine ⟨_, by exact hx.1.2.2, ?_⟩ -- d75: F 311 o = (b75 : Int)
    refine ⟨by exact hx.2.2.1.1, ?_⟩ -- s14: jtg N b75 = 2
    refine ⟨_, by exact hx.2.2.1.2.2.2.2.2.2.2, ?_⟩ -- d78: jfn N 632 b75 = (b78 : Int)
    refine ⟨by exact hl.1.1, ?_⟩ -- s15: jtg N b78 = 20
    refine ⟨_, sJ2_size hl, ?_⟩ -- call wqJ2_size b78 N F A P81
    intro z83 p81
    -- l10: Q z83
    subst hc; simp [rHas]; grind
  · intro hc -- case a1 = 10
    refine ⟨_, by exact hy.p323, ?_⟩ -- d88: jfn N 323 o = (b88 : Int)
    refine ⟨by exact hlu.1.1, ?_⟩ -- s16: jtg N b88 = 20
    refine ⟨_, sJ2_size hlu, ?_⟩ -- call wqJ2_size b88 N F A P91
    intro z93 p91
    -- l11: Q z93
    subst hc; simp [rHas]; grind
  · intro hc -- case a1 = 11
    refine ⟨by omega, ?_⟩ -- s17: jR (F 319 o)
    -- l12: Q (F 319 o)
    subst hc; simp [rHas]; grind
  · intro hc1 hc2 hc3 hc4 hc5 hc6 hc7 hc8 hc9 hc10 hc11 hc12 -- case ¬ a1 = 0 ¬ a1 = 1 ¬ a1 = 2 ¬ a1 = 3 ¬ a1 = 4 ¬ a1 = 5 ¬ a1 = 6 ¬ a1 = 7 ¬ a1 = 8 ¬ a1 = 9 ¬ a1 = 10 ¬ a1 = 11
    -- l13: Q (-1)
    simp [rHas, *]

theorem sX0_word {o : Nat} {a1 : Int} {a2 : Int} {N : jSh} {F : jFl} {A : jAr} {wA sA cA lA : Int → Int} {W L : sTb} {t : Nat} (hx : ctx N F A o t W L wA sA cA lA) : wqX0_word o a1 a2 N F A (fun z => z = rWord W L a1 a2) := by
  unfold wqX0_word
  have hw : ∀ a : Int, 0 ≤ a ∧ a < W 0 0 0 → 0 ≤ wA a := fun a h => by obtain ⟨b, u1, -⟩ := hx.wd a h.1 h.2; omega
  have gW := hx.2.1.1
  have gL := hx.2.1.2
  have w3 := gW.2.2.2.1
  refine ⟨_, sX0_wordOf hx, ?_⟩ -- call wqX0_wordOf o a1 N F A P1
  intro z3 p1
  refine ⟨fun hc => ?_, fun hc => ?_⟩ -- c1
  · -- case (¬ z3 < 0)
    have h1 : 0 ≤ a1 ∧ a1 < W 0 0 0 := by grind
    rw [if_pos h1] at p1
    obtain ⟨b, u1, u2, u3, u4, u5⟩ := hx.wd a1 h1.1 h1.2
    have er : rWord W L a1 a2 = _ := if_pos h1
    rw [er]
    refine ⟨fun (v9 : Int) (v10 : Int) => (0 ≤ v10 ∧ v10 ≤ W 3 0 0) ∧ v9 = sHasN L v10 a1 ∧ 0 ≤ v9 ∧ v9 ≤ v10, fun v9 v10 => (W 3 0 0 - v10).toNat, ?_, ?_⟩ -- loop I12 I12 0 0
    ·
      -- l1: I12 0 0
      exact ⟨by omega, rfl, by omega, by omega⟩
    intro v9 v10 i12
    obtain ⟨i1, i2, i3, i4⟩ := i12
    have st : sHasN L (v10 + 1) a1 = cif (sHas (sRw L v10) a1) (sHasN L v10 a1 + 1) (sHasN L v10 a1) := it_succ _ _ i1.1
    refine ⟨_, by exact hx.1.2.2, ?_⟩ -- d14: F 311 o = (b14 : Int)
    refine ⟨by exact hx.2.2.1.1, ?_⟩ -- s1: jtg N b14 = 2
    refine ⟨_, by exact hx.2.2.1.2.2.2.2.2.1, ?_⟩ -- d17: jfn N 626 b14 = (b17 : Int)
    refine ⟨by exact hx.lL.1.1, ?_⟩ -- s2: jtg N b17 = 20
    refine ⟨_, sJ2_size hx.lL, ?_⟩ -- call wqJ2_size b17 N F A P20
    intro z22 p20
    refine ⟨fun hc => ?_, fun hc => ?_⟩ -- c2
    · -- case (z22 ≤ v10)
      refine ⟨?_, ?_, ?_, ?_, ?_, ?_, ?_⟩ -- c3
      · intro hc -- case a2 = 0
        refine ⟨_, by exact p1.trans u1, ?_⟩ -- d28: z3 = (b28 : Int)
        refine ⟨by exact u2, ?_⟩ -- s3: jtg N b28 = 14
        -- l2: Q (F 4200 b28)
        subst hc; simp; exact u5.1
      · intro hc -- case a2 = 1
        refine ⟨_, by exact p1.trans u1, ?_⟩ -- d31: z3 = (b31 : Int)
        refine ⟨by exact u2, ?_⟩ -- s4: jtg N b31 = 14
        -- l3: Q (F 4203 b31)
        subst hc; simp; exact u5.2.1
      · intro hc -- case a2 = 2
        refine ⟨_, by exact p1.trans u1, ?_⟩ -- d34: z3 = (b34 : Int)
        refine ⟨by exact u2, ?_⟩ -- s5: jtg N b34 = 14
        -- l4: Q (F 4206 b34)
        subst hc; simp; exact u5.2.2.1
      · intro hc -- case a2 = 3
        refine ⟨_, by exact p1.trans u1, ?_⟩ -- d37: z3 = (b37 : Int)
        refine ⟨by exact u2, ?_⟩ -- s6: jtg N b37 = 14
        -- l5: Q (F 4209 b37)
        subst hc; simp; exact u5.2.2.2.1
      · intro hc -- case a2 = 4
        refine ⟨_, by exact p1.trans u1, ?_⟩ -- d40: z3 = (b40 : Int)
        refine ⟨by exact u2, ?_⟩ -- s7: jtg N b40 = 14
        intro z44 e44
        -- l6: Q z44
        subst hc; simp; rw [e44, u5.2.2.2.2]; have := (gW.2.2.2.2.2.2.2.1 a1 h1.1 h1.2).2.2.2.2; grind
      · intro hc -- case a2 = 5
        -- l7: Q v9
        subst hc; simp; rw [i2, show v10 = W 3 0 0 by omega]
      · intro hc1 hc2 hc3 hc4 hc5 hc6 -- case ¬ a2 = 0 ¬ a2 = 1 ¬ a2 = 2 ¬ a2 = 3 ¬ a2 = 4 ¬ a2 = 5
        -- l8: Q (-1)
        simp [*]
    · -- case (¬ (z22 ≤ v10))
      refine ⟨_, sJ2_get hx.lL (by omega), ?_⟩ -- call wqJ2_get b17 v10 N F A P52
      intro z54 p52
      obtain ⟨y, y1, y2, y3, y4⟩ := hx.lw (l := v10) (by omega)
      refine ⟨by exact jcst_law (p52.trans y1) y2.1, ?_⟩ -- s8: jcst N "ChildSays$Law" z54
      refine ⟨_, by exact p52.trans y1, ?_⟩ -- d60: z54 = (b60 : Int)
      refine ⟨by exact y2.1, ?_⟩ -- s9: jtg N b60 = 17
      refine ⟨_, by exact y2.2.2.2.1, ?_⟩ -- d63: jfn N 5102 b60 = (b63 : Int)
      refine ⟨by exact y2.2.2.2.2.1, ?_⟩ -- s10: jtg N b63 = 4
      refine ⟨_, sX3_has (w := a1) p1 h1 y4 (sRw_ok gL (by omega)) hx.wd, ?_⟩ -- call wqX3_has b63 z3 N F A P66
      intro z68 p66
      refine ⟨fun hc => ?_, fun hc => ?_⟩ -- c4
      · -- case (z68 = 0)
        refine ⟨by omega, ?_⟩ -- s11: jR (v10 + 1)
        refine ⟨?_, ?_⟩ -- l9: I12 v9 (v10 + 1)
        · by_cases q : sHas (sRw L v10) a1
          · rw [cif_pos q] at p66; omega
          · rw [cif_neg q] at st; exact ⟨by omega, by rw [st]; exact i2, by omega, by omega⟩
        · dsimp only; omega
      · -- case (¬ (z68 = 0))
        refine ⟨by omega, ?_⟩ -- s12: jR (v9 + 1)
        refine ⟨by omega, ?_⟩ -- s13: jR (v10 + 1)
        refine ⟨?_, ?_⟩ -- l10: I12 (v9 + 1) (v10 + 1)
        · by_cases q : sHas (sRw L v10) a1
          · rw [cif_pos q] at st; exact ⟨by omega, by rw [st]; omega, by omega, by omega⟩
          · rw [cif_neg q] at p66; omega
        · dsimp only; omega
  · -- case (z3 < 0)
    -- l11: Q (-1)
    exact (if_neg (by grind)).symm

