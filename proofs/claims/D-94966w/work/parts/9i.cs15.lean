set_option maxRecDepth 100000
set_option linter.unusedVariables false
/-! the component: swap; printed by gen/prove.py out of spec/9i.cs15.spec -/
theorem sX0_swap {S : Nat → Nat} {o : Nat} {a1 : Int} {a2 : Int} {N : jSh} {F : jFl} {A : jAr} {S : Nat → Nat} {M R : Int} {W L : sTb} {B : sBk} {U : sUn} {Q : sMi} (h : xst S M R N F A o W L B U Q) (hM : M ≤ 700000000) (hR : R < 1000000000) : wqX0_swap S o a1 a2 N F A (fun z N' F' A' => (if ((0 ≤ a1 ∧ a1 < W 3 0 0) ∧ (0 ≤ a2 ∧ a2 < W 3 0 0)) ∧ a1 ≠ a2 then z = 1 ∧ xst S (M + 1000000) (R + 1) N' F' A' o W (sSwap L a1 a2) B (sKeep U (L, B)) Q else z = 0 ∧ xst S (M + 1000000) (R + 1) N' F' A' o W L B U (qRef Q 3)) ∧ xrs o N F A N' F' A') := by
  unfold wqX0_swap
  have h0 := h
  obtain ⟨t, wA, sA, cA, lA, c0, h9, h19, hQ, hX⟩ := h
  have hx := c0.2.1
  have hy := c0.1.2.1
  refine ⟨_, sX0_isPlace hx, ?_⟩ -- call wqX0_isPlace o a1 N F A P1
  intro z3 p1
  refine ⟨fun hc => ?_, fun hc => ?_⟩ -- c1
  · -- case (z3 = 0)
    refine ⟨_, sX0_refuses hy hQ hR (by decide), ?_⟩ -- call wqX0_refuses o 3 N F A P9
    intro z11 F12 A13 p9
    -- l1: Q z11 N F12 A13
    have g := h0.ref (by omega) p9.2.1 p9.2.2.1 p9.2.2.2
    rw [if_neg (by grind)]
    exact ⟨⟨p9.1, g.1⟩, g.2⟩
  · -- case (¬ (z3 = 0))
    refine ⟨_, sX0_isPlace hx, ?_⟩ -- call wqX0_isPlace o a2 N F A P18
    intro z20 p18
    refine ⟨fun hc => ?_, fun hc => ?_⟩ -- c2
    · -- case (z20 = 0)
      refine ⟨_, sX0_refuses hy hQ hR (by decide), ?_⟩ -- call wqX0_refuses o 3 N F A P26
      intro z28 F29 A30 p26
      -- l2: Q z28 N F29 A30
      have g := h0.ref (by omega) p26.2.1 p26.2.2.1 p26.2.2.2
      rw [if_neg (by grind)]
      exact ⟨⟨p26.1, g.1⟩, g.2⟩
    · -- case (¬ (z20 = 0))
      refine ⟨fun hc => ?_, fun hc => ?_⟩ -- c3
      · -- case (¬ a1 = a2)
        have h1 : 0 ≤ a1 ∧ a1 < W 3 0 0 := by grind
        have h2 : 0 ≤ a2 ∧ a2 < W 3 0 0 := by grind
        refine ⟨_, sX0_keeps c0 h19 h9 (by omega), ?_⟩ -- call wqX0_keeps S o N F A P36
        intro N41 F39 A40 p36
        obtain ⟨c1, e1, k1, r1, r2⟩ := p36
        have hx1 := c1.2.1
        have mQ := hQ.kq hy k1
        have g1 := hx1.2.1.2.2.1 a1 h1.1 h1.2
        have g2 := hx1.2.1.2.2.1 a2 h2.1 h2.2
        obtain ⟨b, u1, u2, -⟩ := hx1.lw g1
        obtain ⟨b', u1', u2', -⟩ := hx1.lw g2
        refine ⟨_, by exact hx1.1.2.2, ?_⟩ -- d47: F39 311 o = (b47 : Int)
        refine ⟨by exact hx1.2.2.1.1, ?_⟩ -- s1: jtg N41 b47 = 2
        refine ⟨_, by exact hx1.2.2.1.2.2.2.2.2.2.1, ?_⟩ -- d50: jfn N41 629 b47 = (b50 : Int)
        refine ⟨by exact hx1.lO.1.1, ?_⟩ -- s2: jtg N41 b50 = 20
        refine ⟨_, sJ2_get hx1.lO h1, ?_⟩ -- call wqJ2_get b50 a1 N41 F39 A40 P53
        intro z55 p53
        refine ⟨by exact jcst_law (p53.trans u1) u2.1, ?_⟩ -- s3: jcst N41 "ChildSays$Law" z55
        refine ⟨_, sJ2_get hx1.lO h2, ?_⟩ -- call wqJ2_get b50 a2 N41 F39 A40 P61
        intro z63 p61
        refine ⟨by exact jcst_law (p61.trans u1') u2'.1, ?_⟩ -- s4: jcst N41 "ChildSays$Law" z63
        refine ⟨_, sJ2_set hx1.lO h1 (jast_obj (p61.trans u1') u2'.1 rfl (List.elem_iff.mp (by decide +kernel))), ?_⟩ -- call wqJ2_set b50 a1 z63 N41 F39 A40 P69
        intro z71 F72 A73 p69
        obtain ⟨v1, v2, v3, v4, v5⟩ := p69
        rw [p61] at v2
        have c2 := c1.flag.ord (by show ¬ (1 : Int) = 0; decide) h1 g2 v2 v3 v4 v5
        have hx2 := c2.2.1
        refine ⟨_, by exact hx2.1.2.2, ?_⟩ -- d78: F72 311 o = (b78 : Int)
        refine ⟨by exact hx2.2.2.1.1, ?_⟩ -- s5: jtg N41 b78 = 2
        refine ⟨_, by exact hx2.2.2.1.2.2.2.2.2.2.1, ?_⟩ -- d81: jfn N41 629 b78 = (b81 : Int)
        refine ⟨by exact hx2.lO.1.1, ?_⟩ -- s6: jtg N41 b81 = 20
        refine ⟨_, sJ2_set hx2.lO h2 (jast_obj (p53.trans u1) u2.1 rfl (List.elem_iff.mp (by decide +kernel))), ?_⟩ -- call wqJ2_set b81 a2 z55 N41 F72 A73 P84
        intro z86 F87 A88 p84
        obtain ⟨y1, y2, y3, y4, y5⟩ := p84
        rw [p53] at y2
        have c3 := c2.ord (by show ¬ (1 : Int) = 0; decide) h2 g1 y2 y3 y4 y5
        have c4 := c3.leq (sSwap_ok hx.2.1.2 h1 h2) ⟨rfl, fun _ _ _ => rfl, fun _ _ _ => ⟨rfl, rfl, rfl, fun _ _ _ => rfl⟩⟩
        -- l3: Q 1 N41 F87 A88
        skip
        rw [if_pos ⟨⟨h1, h2⟩, hc⟩]
        have hy1 := c1.1.2.1
        have nf : F87 = F39 := y3.trans v3
        have ne : ∀ a, jtg N41 a ≠ 104 → A88 a = A40 a := fun a ha => by
          have il := hx1.lO.isL
          have w : a ≠ lar F39 (t + 5) := fun w => ha (by rw [w]; exact il.2.2)
          rw [y4 a (by rw [v3]; exact w), v4 a w]
        have kwb : kw o N41 F39 A40 F87 A88 := fun a hb2 => ⟨fun f => by rw [nf], ne a (fun w => by
          rcases hb2 with w2 | w2 | w2
          · omega
          · omega
          · have := (hy1.1 140 (by decide)).1
            rw [← w2, w] at this; exact absurd this (by decide))⟩
        refine ⟨⟨rfl, t, wA, sA, cA, lA, c4.mono (by omega) (by omega), h9, h19.ex c0.1.1.1 e1, (mQ.of (fun f _ => by rw [nf]) (ne _ (by rw [(hy1.1 1 (by decide)).1]; decide)) (ne _ (by rw [(hy1.1 2 (by decide)).1]; decide))).mono (by omega), hX.kw c0.1.1.1 e1 (k1.kw.trans kwb c0.1.1.1 e1)⟩, e1, k1.kz.trans (fun a ha hb2 => ⟨fun f => by rw [nf], ne a (by omega)⟩) c0.1.1.1 e1, by omega, by omega⟩
      · -- case (a1 = a2)
        refine ⟨_, sX0_refuses hy hQ hR (by decide), ?_⟩ -- call wqX0_refuses o 3 N F A P93
        intro z95 F96 A97 p93
        -- l4: Q z95 N F96 A97
        have g := h0.ref (by omega) p93.2.1 p93.2.2.1 p93.2.2.2
        rw [if_neg (by omega)]
        exact ⟨⟨p93.1, g.1⟩, g.2⟩

