set_option maxRecDepth 100000
set_option linter.unusedVariables false
/-! the component: undo, years, feed, end, seed; printed by gen/prove.py out of spec/9j.cs16.spec -/
/-- single fields of x are no part of the town -/
theorem cst.fx {S : Nat → Nat} {M : Int} {N : jSh} {F F' : jFl} {A : jAr} {x t : Nat} {W L : sTb} {B : sBk} {U : sUn} {wA sA cA lA : Int → Int} (h : cst S M N F A x t W L B U wA sA cA lA) (q2 : ∀ f b, (b = x → f ≠ 303 ∧ f ≠ 312 ∧ f ≠ 315 ∧ f ≠ 319) → F' f b = F f b) : cst S M N F' A x t W L B U wA sA cA lA := by
  have tx := h.2.1.tx
  have f0 : ∀ a : Nat, jtg N a ≠ 1 → ∀ f, F' f a = F f a := fun a ha f => q2 f a (fun w => absurd (by rw [w]; exact tx) ha)
  have hj : ∀ {l : Nat} {n : Int} {e : Int → Int}, jli N F A l n e → jli N F' A l n e := fun {l n e} q => by
    obtain ⟨q1, q2, q3, c, q4, q5⟩ := q
    exact ⟨q1, by rw [f0 l (by rw [q1.1]; decide), q2], q3, c, by rw [f0 l (by rw [q1.1]; decide), q4], q5⟩
  have hb : ∀ {l : Nat} {B : sBk}, bkIs N F A l B → bkIs N F' A l B := fun {l B} q => by
    obtain ⟨e, q1, q2⟩ := q
    exact ⟨e, hj q1, q2⟩
  have hr : ∀ {r : Nat} {R : sRow}, rowIs N F A wA r R → rowIs N F' A wA r R := fun {r R} q => q.of (f0 _ (by rw [q.1.1]; decide) _) (f0 _ (by rw [q.1.1]; decide) _) rfl
  obtain ⟨⟨g, ly, sa⟩, ⟨⟨x1, x2, x3⟩, ⟨hW, hL⟩, t1, t2, ⟨l1, l2, l3, l4, l5⟩, h4, h5, h6, h7⟩, hbk, ha1, e, ha2, ha3⟩ := h
  have ft : ∀ g, F' g t = F g t := f0 t (by rw [t1.1]; decide)
  refine ⟨⟨g.of (fun l hl => ⟨f0 l (by rw [hl]; decide) _, f0 l (by rw [hl]; decide) _⟩), ly, sa⟩, ⟨⟨x1, x2, by rw [q2 311 x (fun _ => by decide)]; exact x3⟩, ⟨hW, hL⟩, t1, by rw [ft, ft, ft, ft]; exact t2, ⟨hj l1, hj l2, hj l3, hj l4, hj l5⟩, h4.of (fun f a _ ha => f0 a (by rw [ha]; decide) f), h5, fun c c0 c1 => ?_, fun m m0 m1 => ?_⟩, hb hbk, ha1, e, hj ha2, fun i i0 i1 => ?_⟩
  · obtain ⟨d, d1, d2⟩ := h6 c c0 c1
    exact ⟨d, d1, d2.of (fun f _ => f0 d (by rw [d2.1.1]; decide) f) rfl rfl⟩
  · obtain ⟨d, d1, d2, d3, d4⟩ := h7 m m0 m1
    exact ⟨d, d1, d2, by rw [f0 d (by rw [d2.1]; decide)]; exact d3, hr d4⟩
  · obtain ⟨w, w1, w2, w3, w4, w5⟩ := ha3 i i0 i1
    refine ⟨w, w1, w2, w3, fun k hk => ?_, hb w5⟩
    obtain ⟨g1, g2, g3⟩ := w4 k hk
    exact ⟨g1, hr g2, g3⟩
theorem qPut_67 {Q : sMi} {a : Int} {k : Nat} (h : 2 ≤ k) : qPut Q a k = Q k := by
  funext i
  have : ∀ j : Nat, qPutN Q a j k i = Q k i := fun j => by
    induction j with
    | zero => rfl
    | succ j ih =>
      rw [qPutN_succ]
      unfold qPut1
      rw [if_neg (by omega), if_neg (by omega)]
      exact ih
  exact this 4
theorem qFeed_6 {Q : sMi} {a b c d e : Int} : qFeed Q a b c d e 6 = Q 6 := by
  unfold qFeed
  rw [qPut_67 (by decide), qPut_67 (by decide), qPut_67 (by decide), qPut_67 (by decide), qPut_67 (by decide)]
theorem qFeed_7 {Q : sMi} {a b c d e : Int} : qFeed Q a b c d e 7 = Q 7 := by
  unfold qFeed
  rw [qPut_67 (by decide), qPut_67 (by decide), qPut_67 (by decide), qPut_67 (by decide), qPut_67 (by decide)]
theorem sX0_undo {S : Nat → Nat} {o : Nat} {N : jSh} {F : jFl} {A : jAr} {M R : Int} {W L : sTb} {B : sBk} {U : sUn} {Q : sMi} (h : xst S M R N F A o W L B U Q) (hM : M ≤ 700000000) (hR : R < 1000000000) : wqX0_undo S o N F A (fun z N' F' A' => (z = (if U.1 = 0 then 0 else 1) ∧ (if U.1 = 0 then xst S (M + 1000000) (R + 1) N' F' A' o W L B U (qRef Q 4) else xst S (M + 1000000) (R + 1) N' F' A' o W (U.2 (U.1 - 1)).1 (U.2 (U.1 - 1)).2 (U.1 - 1, U.2) Q)) ∧ xrs o N F A N' F' A') := by
  unfold wqX0_undo
  have h0 := h
  obtain ⟨t, wA, sA, cA, lA, c0, h9, h19, hQ, hX⟩ := h
  have hx := c0.2.1
  have hy := c0.1.2.1
  have hhx := c0.hx
  obtain ⟨hU, ue, ul, uw⟩ := id c0.2.2.2
  refine ⟨_, by exact hy.p323, ?_⟩ -- d1: jfn N 323 o = (b1 : Int)
  refine ⟨by exact ul.1.1, ?_⟩ -- s1: jtg N b1 = 20
  refine ⟨_, sJ2_isEmpty ul, ?_⟩ -- call wqJ2_isEmpty b1 N F A P4
  intro z6 p4
  have hc0 : z6 = 0 → ¬ U.1 = 0 := fun e w => by rw [p4, if_pos w] at e; omega
  refine ⟨fun hc => ?_, fun hc => ?_⟩ -- c1
  · -- case (z6 = 0)
    refine ⟨_, sJ2_size ul, ?_⟩ -- call wqJ2_size b1 N F A P12
    intro z14 p12
    refine ⟨by have := hc0 hc; omega, ?_⟩ -- s2: jR (z14 - 1)
    have hn := hc0 hc
    refine ⟨_, sJ2_remove ul c0.1.1 (by omega) (by omega), ?_⟩ -- call wqJ2_remove b1 (z14 - 1) N F A P20
    intro z22 F23 A24 p20
    obtain ⟨r0, r1, r2, r3, r4⟩ := p20
    have hkp : kp N F A (o + 10) N F23 A24 := ⟨nex.refl _, fun a _ hao f => by rw [r3, upF_a hao, upF_a hao], fun a _ hao => r4 a hao⟩
    obtain ⟨w, w1, w2⟩ := uw (U.1 - 1) (by omega) (by omega)
    have hw1 : wasIs N F23 A24 o W wA lA w (U.2 (U.1 - 1)).1 (U.2 (U.1 - 1)).2 := hkp.was c0.1.1 ul.isL w2 (c0.w10 _ w2.1.1.2.1)
    have c1 : cst S (M + 1) N F23 A24 o t W L B (U.1 - 1, U.2) wA sA cA lA := c0.acts hkp r2 ⟨by dsimp only; omega, _, r1, fun i i0 i1 => by
      dsimp only at i1 ⊢
      rw [if_pos (by omega)]
      obtain ⟨z, z1, z2⟩ := uw i i0 (by omega)
      exact ⟨z, z1, hkp.was c0.1.1 ul.isL z2 (c0.w10 _ z2.1.1.2.1)⟩⟩
    have kq1 := hkp.kq c0.1.1 ul.isL hy hhx
    refine ⟨by exact jcst_at (r0.trans (by rw [p12]; exact w1)) w2.1.1.2.1 rfl rfl, ?_⟩ -- s3: jcst N "ChildSays$Was" z22
    refine ⟨_, by exact r0.trans (by rw [p12]; exact w1), ?_⟩ -- d30: z22 = (b30 : Int)
    refine ⟨by exact w2.1.1.2.1, ?_⟩ -- s4: jtg N b30 = 18
    refine ⟨_, sX17_comesBack c1 hw1 (by omega), ?_⟩ -- call wqX17_comesBack S b30 N F23 A24 P33
    intro N38 F36 A37 p33
    obtain ⟨q1, q2, q3, q4, q5, -⟩ := p33
    -- l1: Q 1 N38 F36 A37
    rw [if_neg hn, if_neg hn]
    obtain ⟨y1, y2, y3⟩ := q5
    refine ⟨⟨rfl, t, wA, sA, cA, lA, q1.mono (by omega) (by omega), w2.2.1.2, h19.ex c0.1.1.1 q3, ((hQ.kq hy kq1).kq hy q4).mono (by omega), hX.kw c0.1.1.1 q3 (kq1.kw.trans q4.kw c0.1.1.1 (nex.refl _))⟩, q3, kq1.kz.trans q4.kz c0.1.1.1 (nex.refl _), by omega, by omega⟩
  · -- case (¬ (z6 = 0))
    refine ⟨_, sX0_refuses hy hQ hR (by decide), ?_⟩ -- call wqX0_refuses o 4 N F A P43
    intro z45 F46 A47 p43
    -- l2: Q z45 N F46 A47
    have g := h0.ref (by omega) p43.2.1 p43.2.2.1 p43.2.2.2
    have hz : U.1 = 0 := by
      by_cases w : U.1 = 0
      · exact w
      · rw [if_neg w] at p4; exact absurd p4 hc
    rw [if_pos hz, if_pos hz]
    exact ⟨⟨p43.1, g.1⟩, g.2⟩

theorem sX0_years {S : Nat → Nat} {o : Nat} {a1 : Int} {N : jSh} {F : jFl} {A : jAr} {M R : Int} {W L : sTb} {B : sBk} {U : sUn} {Q : sMi} (h : xst S M R N F A o W L B U Q) (hM : M ≤ 700000000) (hR : R < 1000000000) : wqX0_years S o a1 N F A (fun z N' F' A' => (if (1 ≤ a1 ∧ a1 ≤ 99) ∧ L 0 0 0 + a1 ≤ 9999 then z = sStand (sYears W (L, B, Q 5 0) a1).1 (W 3 0 0) ∧ xst S (M + 1000000) (R + 1) N' F' A' o W (sYears W (L, B, Q 5 0) a1).1 (sYears W (L, B, Q 5 0) a1).2.1 (sKeep U (L, B)) (qSeed Q (sYears W (L, B, Q 5 0) a1).2.2) else z = -1 ∧ xst S (M + 1000000) (R + 1) N' F' A' o W L B U (qRef Q 3)) ∧ xrs o N F A N' F' A') := by
  unfold wqX0_years
  have h0 := h
  obtain ⟨t, wA, sA, cA, lA, c0, h9, h19, hQ, hX⟩ := h
  have hx := c0.2.1
  have hy := c0.1.2.1
  have k0 := hx.oL.1
  refine ⟨_, sX0_isIn, ?_⟩ -- call wqX0_isIn a1 1 99 N F A P1
  intro z3 p1
  refine ⟨fun hc => ?_, fun hc => ?_⟩ -- c1
  · -- case (z3 = 0)
    refine ⟨_, sX0_refused hy hQ hR (by decide), ?_⟩ -- call wqX0_refused o 3 N F A P9
    intro z11 F12 A13 p9
    -- l1: Q z11 N F12 A13
    have g := h0.ref (by omega) p9.2.1 p9.2.2.1 p9.2.2.2
    rw [if_neg (by grind)]
    exact ⟨⟨p9.1, g.1⟩, g.2⟩
  · -- case (¬ (z3 = 0))
    have h1 : 1 ≤ a1 ∧ a1 ≤ 99 := by grind
    refine ⟨_, by exact hx.ft, ?_⟩ -- d18: F 311 o = (b18 : Int)
    refine ⟨by exact hx.tt, ?_⟩ -- s1: jtg N b18 = 2
    have fy := hx.fy
    refine ⟨by omega, ?_⟩ -- s2: jR ((F 612 b18) + a1)
    refine ⟨fun hc => ?_, fun hc => ?_⟩ -- c2
    · -- case (((F 612 b18) + a1) ≤ 9999)
      refine ⟨_, sX0_keeps c0 h19 h9 (by omega), ?_⟩ -- call wqX0_keeps S o N F A P23
      intro N28 F26 A27 p23
      obtain ⟨c1, e1, k1, r1, r2⟩ := p23
      have hy1 := c1.1.2.1
      have mQ := hQ.kq hy k1
      refine ⟨fun (v33 : Int) (N34 : jSh) (F35 : jFl) (A36 : jAr) => (0 ≤ v33 ∧ v33 ≤ a1) ∧ cst S (M + 102 + 24 * v33) N34 F35 A36 o t W (sYears W (L, B, Q 5 0) v33).1 (sYears W (L, B, Q 5 0) v33).2.1 (sKeep U (L, B)) wA sA cA lA ∧ ((sYears W (L, B, Q 5 0) v33).1 0 0 0 = L 0 0 0 + v33 ∧ (sYears W (L, B, Q 5 0) v33).1 9 0 0 = 0) ∧ (F35 319 o = (sYears W (L, B, Q 5 0) v33).2.2 ∧ 0 ≤ (sYears W (L, B, Q 5 0) v33).2.2 ∧ (sYears W (L, B, Q 5 0) v33).2.2 < 2147483648) ∧ nex N28 N34 ∧ ky o N28 F26 A27 F35 A36 ∧ ((lcp N28 F26 (t + 6) ≤ lcp N34 F35 (t + 6) ∧ lcp N34 F35 (t + 6) ≤ 160) ∧ (jnx N34 : Int) + lcp N28 F26 (t + 6) ≤ jnx N28 + 12 * v33 + lcp N34 F35 (t + 6) ∧ (jsu N34 : Int) + 4 * lcp N28 F26 (t + 6) ≤ jsu N28 + 48 * v33 + 4 * lcp N34 F35 (t + 6)), fun v33 N34 F35 A36 => (a1 - v33).toNat, ?_, ?_⟩ -- loop I39 I39 0 N28 F26 A27
      ·
        -- l2: I39 0 N28 F26 A27
        obtain ⟨ee, hb, -⟩ := c1.2.2.1
        have := hb.cap
        exact ⟨by omega, c1.mono (by omega) (by omega), ⟨by show L 0 0 0 = _; omega, h9⟩, mQ.2.2.2.2.1, nex.refl _, ky.refl _ _ _ _, by omega⟩
      intro v33 N34 F35 A36 i39
      obtain ⟨i1, i2, i3, i4, i5, i6, i7⟩ := i39
      refine ⟨fun hc => ?_, fun hc => ?_⟩ -- c3
      · -- case (a1 ≤ v33)
        refine ⟨_, by exact i2.2.1.ft, ?_⟩ -- d43: F35 311 o = (b43 : Int)
        refine ⟨by exact i2.2.1.tt, ?_⟩ -- s3: jtg N34 b43 = 2
        refine ⟨_, sX1_standing i2.2.1.2.2, ?_⟩ -- call wqX1_standing b43 N34 F35 A36 P46
        intro z48 p46
        -- l3: Q z48 N34 F35 A36
        rw [if_pos ⟨h1, by have := hx.fy; omega⟩]
        have e : v33 = a1 := by omega
        rw [e] at i2 i3 i4 i7 p46
        refine ⟨⟨p46.1, t, wA, sA, cA, lA, i2.mono (by omega) (by omega), i3.2, (h19.ex c0.1.1.1 e1).ex c1.1.1.1 i5, ?_, ((hX.kw c0.1.1.1 e1 k1.kw).kw c1.1.1.1 i5 (i6.kw hy1)).q rfl rfl⟩, e1.trans i5, k1.kz.trans (i6.kz (hy1.1 0 (by decide)).1) c0.1.1.1 e1, by omega, by omega⟩
        have tx : jtg N28 o = 1 := (hy1.1 0 (by decide)).1
        have g := (mQ.seed i4.2).of (F' := F35) (A' := A36) (fun f hf => by
          by_cases w : f = 319
          · rw [w, i4.1, upF_s]
          · rw [upF_f w]; exact (i6 o (by rw [tx]; decide) (by omega)).1 f (Or.inl w)) (i6 _ (by rw [(hy1.1 1 (by decide)).1]; decide) (by omega)).2 (i6 _ (by rw [(hy1.1 2 (by decide)).1]; decide) (by omega)).2
        exact g.mono (by omega)
      · -- case (¬ (a1 ≤ v33))
        refine ⟨_, sX0_year (s := (sYears W (L, B, Q 5 0) v33).2.2) (d := 0) i2 i3.2 (by omega) i4.1 i4.2 (by
        have tx : jtg N28 o = 1 := (hy1.1 0 (by decide)).1
        exact ((i6 o (by rw [tx]; decide) (by omega)).1 330 (Or.inl (by decide))).trans mQ.2.2.2.2.2) (by rw [i3.1]; have := hx.fy; omega), ?_⟩ -- call wqX0_year S o N34 F35 A36 P54
        intro N59 F57 A58 p54
        obtain ⟨q1, ⟨q2, q3⟩, q4, q5, q6, -⟩ := p54
        have es := sYears_succ (W := W) (p := (L, B, Q 5 0)) i1.1
        rw [show ∀ B' : sBk, dB 0 B' (sYears W (L, B, Q 5 0) v33).2.1 = B' from fun _ => rfl] at q1
        have y9 : (sYears W (L, B, Q 5 0) (v33 + 1)).1 9 0 0 = 0 := by rw [es]; exact sYear_9.trans i3.2
        have y0 : (sYears W (L, B, Q 5 0) (v33 + 1)).1 0 0 0 = L 0 0 0 + (v33 + 1) := by
          rw [es]
          refine sYear_0.trans ?_
          have i3 : (it (fun _ p => sYear W p) (L, B, Q 5 0) v33.toNat).1 0 0 0 = L 0 0 0 + v33 := i3.1
          omega
        refine ⟨by omega, ?_⟩ -- s4: jR (v33 + 1)
        refine ⟨?_, ?_⟩ -- l4: I39 (v33 + 1) N59 F57 A58
        · obtain ⟨y1, y2, y3⟩ := q6
          refine ⟨by omega, ?_, ⟨y0, y9⟩, ?_, i5.trans q4, i6.trans q5 c1.1.1.1 i5, by omega⟩
          · rw [es]; exact q1.mono (by omega) (by omega)
          · rw [es]; exact ⟨q2, q3⟩
        · dsimp only; omega
    · -- case (¬ (((F 612 b18) + a1) ≤ 9999))
      refine ⟨_, sX0_refused hy hQ hR (by decide), ?_⟩ -- call wqX0_refused o 3 N F A P65
      intro z67 F68 A69 p65
      -- l5: Q z67 N F68 A69
      have g := h0.ref (by omega) p65.2.1 p65.2.2.1 p65.2.2.2
      rw [if_neg (by have := hx.fy; omega)]
      exact ⟨⟨p65.1, g.1⟩, g.2⟩

/-- only the tape, the seed are others -/
theorem xst.mi {S : Nat → Nat} {M R R' : Int} {N : jSh} {F F' : jFl} {A A' : jAr} {x : Nat} {W L : sTb} {B : sBk} {U : sUn} {Q Q' : sMi} (h : xst S M R N F A x W L B U Q) (hM : M ≤ 900000000) (q1 : cMi R' x F' A' Q') (q2 : ∀ f b, (b = x → f ≠ 303 ∧ f ≠ 312 ∧ f ≠ 315 ∧ f ≠ 319) → F' f b = F f b) (q3 : ∀ b, b ≠ x + 1 → b ≠ x + 2 → A' b = A b) (h6 : Q' 6 = Q 6) (h7 : Q' 7 = Q 7) : xst S (M + 1000000) R' N F' A' x W L B U Q' ∧ xrs x N F A N F' A' := by
  obtain ⟨t, wA, sA, cA, lA, c0, h9, h19, hQ, hX⟩ := h
  have hy := c0.1.2.1
  have t0 : jtg N x = 1 := (hy.1 0 (by decide)).1
  have t1 : jtg N (x + 1) = 111 := (hy.1 1 (by decide)).1
  have t2 : jtg N (x + 2) = 102 := (hy.1 2 (by decide)).1
  have c1 := (c0.mono (M' := M + 1000000) (by omega) (by omega)).ar (A' := A') (fun b hb1 hb2 => q3 b (fun w => hb1 (by rw [w]; exact t1)) (fun w => hb2 (by rw [w]; exact t2)))
  refine ⟨⟨t, wA, sA, cA, lA, c1.fx q2, h9, h19, q1, (hX.kw c0.1.1.1 (nex.refl _) (fun a hb => ⟨fun f => q2 f a (fun w => by rw [w, t0] at hb; omega), q3 a (fun w => ?_) (fun w => ?_)⟩)).q h6 h7⟩, nex.refl _, fun a ha hb => ⟨fun f => q2 f a (fun w => by omega), q3 a (by omega) (by omega)⟩, by omega, by omega⟩
  · rw [w, t1] at hb; omega
  · rw [w, t2] at hb; omega
theorem sX0_feed {o : Nat} {a1 : Int} {a2 : Int} {a3 : Int} {a4 : Int} {a5 : Int} {N : jSh} {F : jFl} {A : jAr} {S : Nat → Nat} {M R : Int} {W L : sTb} {B : sBk} {U : sUn} {Q : sMi} (h : xst S M R N F A o W L B U Q) (hM : M ≤ 700000000) (hR : R < 1000000000) : wqX0_feed o a1 a2 a3 a4 a5 N F A (fun z F' A' => (if Q 0 0 + 20 ≤ 1600 then z = Q 0 0 + 20 ∧ xst S (M + 1000000) (R + 1) N F' A' o W L B U (qFeed Q a1 a2 a3 a4 a5) else z = -1 ∧ xst S (M + 1000000) (R + 1) N F' A' o W L B U (qRef Q 0)) ∧ xrs o N F A N F' A') := by
  unfold wqX0_feed
  have h0 := h
  obtain ⟨t, wA, sA, cA, lA, c0, h9, h19, hQ, hX⟩ := h
  have hy := c0.1.2.1
  have g0 := hQ.1
  refine ⟨by omega, ?_⟩ -- s1: jR ((F 303 o) + 20)
  refine ⟨fun hc => ?_, fun hc => ?_⟩ -- c1
  · -- case (((F 303 o) + 20) ≤ 1600)
    refine ⟨_, sX0_lays hy hQ (by omega), ?_⟩ -- call wqX0_lays o a1 N F A P3
    intro F6 A7 p3
    refine ⟨_, sX0_lays hy p3.1 (by rw [qPut_len]; omega), ?_⟩ -- call wqX0_lays o a2 N F6 A7 P12
    intro F15 A16 p12
    refine ⟨_, sX0_lays hy p12.1 (by rw [qPut_len, qPut_len]; omega), ?_⟩ -- call wqX0_lays o a3 N F15 A16 P21
    intro F24 A25 p21
    refine ⟨_, sX0_lays hy p21.1 (by rw [qPut_len, qPut_len, qPut_len]; omega), ?_⟩ -- call wqX0_lays o a4 N F24 A25 P30
    intro F33 A34 p30
    refine ⟨_, sX0_lays hy p30.1 (by rw [qPut_len, qPut_len, qPut_len, qPut_len]; omega), ?_⟩ -- call wqX0_lays o a5 N F33 A34 P39
    intro F42 A43 p39
    -- l1: Q (F42 303 o) F42 A43
    rw [if_pos (by omega)]
    have g := h0.mi (Q' := qFeed Q a1 a2 a3 a4 a5) (by omega) (p39.1.mono (R' := R + 1) (by omega)) (fun f b hb => by
      obtain ⟨-, ⟨z1, u1⟩, -⟩ := p3
      obtain ⟨-, ⟨z2, u2⟩, -⟩ := p12
      obtain ⟨-, ⟨z3, u3⟩, -⟩ := p21
      obtain ⟨-, ⟨z4, u4⟩, -⟩ := p30
      obtain ⟨-, ⟨z5, u5⟩, -⟩ := p39
      have q : ∀ (G : jFl) y, upF G 303 o y f b = G f b := fun G y => if_neg (fun w => by have := hb w.2; omega)
      rw [u5, q, u4, q, u3, q, u2, q, u1, q]) (fun b hb1 _ => by rw [p39.2.2 b hb1, p30.2.2 b hb1, p21.2.2 b hb1, p12.2.2 b hb1, p3.2.2 b hb1]) qFeed_6 qFeed_7
    refine ⟨⟨?_, g.1⟩, g.2⟩
    have e := p39.1.1.1
    rw [qPut_len, qPut_len, qPut_len, qPut_len, qPut_len] at e
    rw [e]; omega
  · -- case (¬ (((F 303 o) + 20) ≤ 1600))
    refine ⟨_, sX0_refused hy hQ hR (by decide), ?_⟩ -- call wqX0_refused o 0 N F A P48
    intro z50 F51 A52 p48
    -- l2: Q z50 F51 A52
    have g := h0.ref (by omega) p48.2.1 p48.2.2.1 p48.2.2.2
    rw [if_neg (by omega)]
    exact ⟨⟨p48.1, g.1⟩, g.2⟩

