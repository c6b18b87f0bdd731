set_option maxRecDepth 100000
set_option linter.unusedVariables false
/-! the component: anew; printed by gen/prove.py out of spec/9g.cs13.spec -/
theorem ky.kz {x : Nat} {N : jSh} {F F' : jFl} {A A' : jAr} (h : ky x N F A F' A') (hx : jtg N x = 1) : kz x N F A F' A' := fun a ha hb => by
  have q := h a (by omega) (by omega)
  exact ⟨fun f => q.1 f (by omega), q.2⟩
theorem cMi.ky {R : Int} {x : Nat} {N : jSh} {F F' : jFl} {A A' : jAr} {Q : sMi} (h : cMi R x F A Q) (hy : lay N x) (k : ky x N F A F' A') (h3 : F' 319 x = F 319 x) : cMi R x F' A' Q :=
  have t0 : jtg N x = 1 := (hy.1 0 (by decide)).1
  have t1 : jtg N (x + 1) = 111 := (hy.1 1 (by decide)).1
  have t2 : jtg N (x + 2) = 102 := (hy.1 2 (by decide)).1
  h.of (fun f hf => by
    by_cases w : f = 319
    · rw [w]; exact h3
    · exact (k x (by omega) (by omega)).1 f (Or.inl w)) (k _ (by omega) (by omega)).2 (k _ (by omega) (by omega)).2
theorem sX0_anew {S : Nat → Nat} {o : Nat} {a1 : Int} {N : jSh} {F : jFl} {A : jAr} {S : Nat → Nat} {M R : Int} {W L : sTb} {B : sBk} {U : sUn} {Q : sMi} (h : xst S M R N F A o W L B U Q) (hM : M ≤ 700000000) (hR : R < 1000000000) : wqX0_anew S o a1 N F A (fun z N' F' A' => (if 0 ≤ a1 ∧ a1 < W 2 0 0 then z = sStand (sRenew W L a1 B).1 (W 3 0 0) ∧ xst S (M + 1000000) (R + 1) N' F' A' o W (sRenew W L a1 B).1 (sRenew W L a1 B).2 (sKeep U (L, B)) Q else z = -1 ∧ xst S (M + 1000000) (R + 1) N' F' A' o W L B U (qRef Q 2)) ∧ xrs o N F A N' F' A') := by
  unfold wqX0_anew
  have h0 := h
  obtain ⟨t, wA, sA, cA, lA, c0, h9, h19, hQ, hX⟩ := h
  have hx := c0.2.1
  have hy := c0.1.2.1
  have hcc : ∀ a : Int, 0 ≤ a ∧ a < W 2 0 0 → 0 ≤ cA a := fun a h => by obtain ⟨b, u1, -⟩ := hx.ch h; omega
  refine ⟨_, sX0_childOf hx, ?_⟩ -- call wqX0_childOf o a1 N F A P1
  intro z3 p1
  refine ⟨fun hc => ?_, fun hc => ?_⟩ -- c1
  · -- case (¬ z3 < 0)
    have h1 : 0 ≤ a1 ∧ a1 < W 2 0 0 := by grind
    rw [if_pos h1] at p1
    refine ⟨_, sX0_keeps c0 h19 h9 (by omega), ?_⟩ -- call wqX0_keeps S o N F A P9
    intro N14 F12 A13 p9
    obtain ⟨c1, e1, k1, r1, r2⟩ := p9
    have hy1 := c1.1.2.1
    have mQ := hQ.kq hy k1
    refine ⟨_, sX0_allAnew (d := 0) c1 h9 (by omega) h1 p1 mQ.2.2.2.2.2, ?_⟩ -- call wqX0_allAnew S o z3 N14 F12 A13 P20
    intro N25 F23 A24 p20
    obtain ⟨c3, e3, k3, f3, r3, -⟩ := p20
    rw [show ∀ B' : sBk, dB 0 B' B = B' from fun _ => rfl] at c3
    refine ⟨_, by exact c3.2.1.1.2.2, ?_⟩ -- d31: F23 311 o = (b31 : Int)
    refine ⟨by exact c3.2.1.2.2.1.1, ?_⟩ -- s1: jtg N25 b31 = 2
    refine ⟨_, sX1_standing c3.2.1.2.2, ?_⟩ -- call wqX1_standing b31 N25 F23 A24 P34
    intro z36 p34
    -- l1: Q z36 N25 F23 A24
    skip
    rw [if_pos h1]
    obtain ⟨y1, y2, y3⟩ := r3
    refine ⟨⟨p34.1, t, wA, sA, cA, lA, c3.mono (by omega) (by omega), by rw [sRenew_9]; exact h9, (h19.ex c0.1.1.1 e1).ex c1.1.1.1 e3, (mQ.ky hy1 k3 f3).mono (by omega), (hX.kw c0.1.1.1 e1 k1.kw).kw c1.1.1.1 e3 (k3.kw hy1)⟩, e1.trans e3, k1.kz.trans (k3.kz (hy1.1 0 (by decide)).1) c0.1.1.1 e1, by omega, by omega⟩
  · -- case (z3 < 0)
    refine ⟨_, sX0_refused hy hQ hR (by decide), ?_⟩ -- call wqX0_refused o 2 N F A P41
    intro z43 F44 A45 p41
    -- l2: Q z43 N F44 A45
    have g := h0.ref (by omega) p41.2.1 p41.2.2.1 p41.2.2.2
    rw [if_neg (by grind)]
    exact ⟨⟨p41.1, g.1⟩, g.2⟩

