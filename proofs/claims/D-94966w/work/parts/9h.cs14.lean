set_option maxRecDepth 100000
set_option linter.unusedVariables false
/-! the component: sing; printed by gen/prove.py out of spec/9h.cs14.spec -/
theorem sX0_sing {S : Nat → Nat} {o : Nat} {a1 : Int} {a2 : Int} {N : jSh} {F : jFl} {A : jAr} {S : Nat → Nat} {M R : Int} {W L : sTb} {B : sBk} {U : sUn} {Q : sMi} (h : xst S M R N F A o W L B U Q) (hM : M ≤ 700000000) (hR : R < 1000000000) (hb : a2 = 0 ∨ a2 = 1) : wqX0_sing S o a1 a2 N F A (fun z N' F' A' => (if (0 ≤ a1 ∧ a1 < W 3 0 0) ∧ L 4 a1 0 ≠ a2 then z = 1 ∧ xst S (M + 1000000) (R + 1) N' F' A' o W (sSset L a1 a2) B (sKeep U (L, B)) Q else z = 0 ∧ xst S (M + 1000000) (R + 1) N' F' A' o W L B U (qRef Q 2)) ∧ xrs o N F A N' F' A') := by
  unfold wqX0_sing
  have h0 := h
  obtain ⟨t, wA, sA, cA, lA, c0, h9, h19, hQ, hX⟩ := h
  have hx := c0.2.1
  have hy := c0.1.2.1
  have hll : ∀ a : Int, 0 ≤ a ∧ a < W 3 0 0 → 0 ≤ lA a := fun a h => by obtain ⟨b, u1, -⟩ := hx.lw h; omega
  refine ⟨_, sX0_lawOf hx, ?_⟩ -- call wqX0_lawOf o a1 N F A P1
  intro z3 p1
  refine ⟨fun hc => ?_, fun hc => ?_⟩ -- c1
  · -- case (z3 < 0)
    refine ⟨_, sX0_refuses hy hQ hR (by decide), ?_⟩ -- call wqX0_refuses o 2 N F A P9
    intro z11 F12 A13 p9
    -- l1: Q z11 N F12 A13
    have g := h0.ref (by omega) p9.2.1 p9.2.2.1 p9.2.2.2
    rw [if_neg (by grind)]
    exact ⟨⟨p9.1, g.1⟩, g.2⟩
  · -- case (¬ (z3 < 0))
    have h1 : 0 ≤ a1 ∧ a1 < W 3 0 0 := by grind
    rw [if_pos h1] at p1
    obtain ⟨b, u1, u2, u3, u4⟩ := hx.lw h1
    refine ⟨_, by exact p1.trans u1, ?_⟩ -- d18: z3 = (b18 : Int)
    refine ⟨by exact u2.1, ?_⟩ -- s1: jtg N b18 = 17
    refine ⟨fun hc => ?_, fun hc => ?_⟩ -- c2
    · -- case (¬ (F 5103 b18) = a2)
      refine ⟨_, sX0_keeps c0 h19 h9 (by omega), ?_⟩ -- call wqX0_keeps S o N F A P22
      intro N27 F25 A26 p22
      obtain ⟨c1, e1, k1, r1, r2⟩ := p22
      have mQ := hQ.kq hy k1
      refine ⟨by rw [e1.fn c0.1.1.1 u2.1 (by decide)]; exact u2.2.1, ?_⟩ -- s2: jfn N27 0 b18 = 1
      intro F35 e35
      -- l2: Q 1 N27 F35 A26
      rw [if_pos ⟨h1, by omega⟩]
      have tb : jtg N27 b = 17 := e1.tg c0.1.1.1 u2.1 (by decide)
      have nx : b ≠ o := fun w => by have := hx.1.1; rw [← w, u2.1] at this; omega
      have kwb : kw o N27 F25 A26 (upF F25 5103 b a2) A26 := fun a hb2 => ⟨fun f => upF_a (fun w => by
        rw [w, tb] at hb2
        have := (c1.1.2.1.1 140 (by decide)).1
        rcases hb2 with w2 | w2 | w2
        · omega
        · omega
        · rw [← w2, tb] at this; exact absurd this (by decide)), rfl⟩
      rw [e35]
      refine ⟨⟨rfl, t, wA, sA, cA, lA, (c1.sng h1 u1 hb).mono (by omega) (by omega), h9, h19.ex c0.1.1.1 e1, (mQ.of (fun f _ => upF_a nx.symm) rfl rfl).mono (by omega), hX.kw c0.1.1.1 e1 (k1.kw.trans kwb c0.1.1.1 e1)⟩, e1, k1.kz.trans (fun a ha hb2 => ⟨fun f => upF_a (fun w => by rw [w, tb] at hb2; omega), rfl⟩) c0.1.1.1 e1, by omega, by omega⟩
    · -- case ((F 5103 b18) = a2)
      refine ⟨_, sX0_refuses hy hQ hR (by decide), ?_⟩ -- call wqX0_refuses o 2 N F A P36
      intro z38 F39 A40 p36
      -- l3: Q z38 N F39 A40
      have g := h0.ref (by omega) p36.2.1 p36.2.2.1 p36.2.2.2
      rw [if_neg (by omega)]
      exact ⟨⟨p36.1, g.1⟩, g.2⟩

