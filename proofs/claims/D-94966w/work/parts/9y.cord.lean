set_option maxRecDepth 100000
set_option linter.unusedVariables false
/-! the component: forty, sorted; printed by gen/prove.py out of spec/9y.cord.spec -/
/-- the scratch of orders -/
def frO (x : Nat) (F : jFl) (A : jAr) (F' : jFl) (A' : jAr) : Prop := ∀ a : Nat, (a < x + 97 ∨ x + 138 ≤ a ∨ a = x + 99) → (∀ f, F' f a = F f a) ∧ A' a = A a
theorem frO.refl (x : Nat) (F : jFl) (A : jAr) : frO x F A F A := fun _ _ => ⟨fun _ => rfl, rfl⟩
theorem frO.trans {x : Nat} {F F' F'' : jFl} {A A' A'' : jAr} (h : frO x F A F' A') (h2 : frO x F' A' F'' A'') : frO x F A F'' A'' := fun a ha => ⟨fun f => ((h2 a ha).1 f).trans ((h a ha).1 f), (h2 a ha).2.trans (h a ha).2⟩
theorem frO.fr {x : Nat} {F F' : jFl} {A A' : jAr} (h : frO x F A F' A') : fr (x + 97) (x + 138) F A F' A' := fun a ha => h a (by omega)
theorem fr.O {x lo hi : Nat} {F F' : jFl} {A A' : jAr} (h : fr lo hi F A F' A') (h1 : x + 100 ≤ lo ∧ hi ≤ x + 138) : frO x F A F' A' := fun a ha => h a (by omega)
theorem frO.upF {x f b : Nat} {F F' : jFl} {A A' : jAr} {z : Int} (h : frO x F A F' A') (hb : b = x + 97 ∨ b = x + 98) : frO x F A (upF F' f b z) A' := fun a ha => ⟨fun g => by rw [upF_a (by omega)]; exact (h a ha).1 g, (h a ha).2⟩
theorem frO.arr {x : Nat} {F F' : jFl} {A A' A'' : jAr} (h : frO x F A F' A') (h2 : ∀ b, b ≠ x + 100 → b ≠ x + 137 → A'' b = A' b) : frO x F A F' A'' := fun a ha => ⟨(h a ha).1, by rw [h2 a (by omega) (by omega)]; exact (h a ha).2⟩
/-- who sits there -/
def otR (F : jFl) (A : jAr) (x : Nat) (nl : Int) (lA : Int → Int) (n : Int) (P : Int → Int) : Prop := F 1506 (x + 98) = n ∧ ∀ i : Int, 0 ≤ i → i < n → (0 ≤ P i ∧ P i < nl) ∧ A (x + 100) i = lA (P i)
theorem otR.of {F F' : jFl} {A A' : jAr} {x : Nat} {nl : Int} {lA : Int → Int} {n : Int} {P : Int → Int} (h : otR F A x nl lA n P) (h1 : F' 1506 (x + 98) = F 1506 (x + 98)) (h2 : A' (x + 100) = A (x + 100)) : otR F' A' x nl lA n P := ⟨by rw [h1]; exact h.1, by rw [h2]; exact h.2⟩
theorem otR.to {F : jFl} {A : jAr} {x : Nat} {nl : Int} {lA : Int → Int} {n : Int} {P P' : Int → Int} (h : otR F A x nl lA n P) (e : ∀ j : Int, 0 ≤ j → j < n → P j = P' j) : otR F A x nl lA n P' := ⟨h.1, fun i i0 i1 => by rw [← e i i0 i1]; exact h.2 i i0 i1⟩
theorem sX8_whole {o : Nat} {a1 : Int} {N : jSh} {F : jFl} {A : jAr} {W L : sTb} {x t : Nat} {wA sA cA lA : Int → Int} {c n : Int} {P : Int → Int} (hx : ctx N F A x t W L wA sA cA lA) (hy : lay N x) (h99 : ∀ k : Nat, k < 12 → A (x + 99) k = ((x + 101 + 3 * k : Nat) : Int)) (ho : o = x + 97) (ha1 : a1 = cA c) (hc1 : 0 ≤ c ∧ c < W 2 0 0) (hn : 0 ≤ n ∧ n ≤ 12) (hp : otR F A x (W 3 0 0) lA n P) (hin : ∀ i j : Int, 0 ≤ i → i < n → 0 ≤ j → j < n → P i = P j → i = j) : wqX8_whole o a1 N F A (fun z F' A' => z = sWh W L c n P ∧ (0 ≤ z ∧ z ≤ n) ∧ fr (x + 101) (x + 137) F A F' A') := by
  unfold wqX8_whole
  subst ho
  have sit := hy.sit2 h99
  refine ⟨_, by exact (show jfn N 2702 (x + 97) = ((x + 98 : Nat) : Int) from hy.2.1 (2702, 97, 98) (by decide)), ?_⟩ -- d1: jfn N 2702 o = (b1 : Int)
  refine ⟨by exact (hy.1 98 (by decide)).1, ?_⟩ -- s1: jtg N b1 = 5
  refine ⟨_, sX4_saidBy (n := n) (seat := P) hx sit (hy.scr.mono (by omega) (by omega)) ha1 hc1 ⟨hp.1, hn⟩ hp.2 hin, ?_⟩ -- call wqX4_saidBy b1 a1 N F A P4
  intro z6 F7 A8 p4
  obtain ⟨q1, q2, q3⟩ := p4
  have hx1 := hx.fr (hy.scr.mono (lo2 := x + 98 + 3) (hi2 := x + 98 + 39) (by omega) (by omega)) q3
  refine ⟨_, by exact q1, ?_⟩ -- d13: z6 = (b13 : Int)
  refine ⟨by exact (hy.1 98 (by decide)).1, ?_⟩ -- s2: jtg N b13 = 5
  refine ⟨_, sX4_kinds (n := n) (seat := P) (kd := (sSits W L c P n.toNat).2.1) (R := (sSits W L c P n.toNat).2.2) hx1 (hy.sit2 (by rw [(q3 _ (by omega)).2]; exact h99)) ⟨by rw [(q3 _ (by omega)).1]; exact hp.1, hn⟩ (fun i i0 i1 => by rw [(q3 (x + 98 + 2) (by omega)).2]; exact hp.2 i i0 i1) q2, ?_⟩ -- call wqX4_kinds b13 0 N F7 A8 P16
  intro z18 p16
  -- l1: Q z18 F7 A8
  have e : z18 = sWh W L c n P := p16
  exact ⟨e, by rw [e]; exact sWh_range hn.1, q3.mono (by omega) (by omega)⟩

theorem sX8_isFirst {o : Nat} {N : jSh} {F : jFl} {A : jAr} {W L : sTb} {x t : Nat} {wA sA cA lA : Int → Int} {n : Int} {P : Int → Int} (hx : ctx N F A x t W L wA sA cA lA) (hy : lay N x) (ho : o = x + 97) (hn : 0 ≤ n ∧ n ≤ 12) (hp : otR F A x (W 3 0 0) lA n P) : wqX8_isFirst o N F A (fun F' A' => F' = F ∧ (∀ i : Int, 0 ≤ i → i < n → A' (x + 137) i = lA (P i)) ∧ ∀ b, b ≠ x + 137 → A' b = A b) := by
  unfold wqX8_isFirst
  subst ho
  have l100 := hy.2.2 (100, 12) (by decide)
  have l137 := hy.2.2 (137, 12) (by decide)
  dsimp only at l100 l137
  refine ⟨fun (v1 : Int) (A2 : jAr) => (0 ≤ v1 ∧ v1 ≤ n) ∧ (∀ i : Int, 0 ≤ i → i < v1 → A2 (x + 137) i = lA (P i)) ∧ ∀ b, b ≠ x + 137 → A2 b = A b, fun v1 A2 => (n - v1).toNat, ?_, ?_⟩ -- loop I5 I5 0 A
  ·
    -- l1: I5 0 A
    exact ⟨by omega, fun i i0 i1 => by omega, fun _ _ => rfl⟩
  intro v1 A2 i5
  obtain ⟨i1, i2, i3⟩ := i5
  refine ⟨_, by exact (show jfn N 2702 (x + 97) = ((x + 98 : Nat) : Int) from hy.2.1 (2702, 97, 98) (by decide)), ?_⟩ -- d7: jfn N 2702 o = (b7 : Int)
  refine ⟨by exact (hy.1 98 (by decide)).1, ?_⟩ -- s1: jtg N b7 = 5
  rw [hp.1]
  refine ⟨fun hc => ?_, fun hc => ?_⟩ -- c1
  · -- case ((F 1506 b7) ≤ v1)
    -- l2: Q F A2
    exact ⟨rfl, fun i i0 i1' => i2 i i0 (by omega), i3⟩
  · -- case (¬ ((F 1506 b7) ≤ v1))
    refine ⟨_, by exact (show jfn N 1505 (x + 98) = ((x + 100 : Nat) : Int) from hy.2.1 (1505, 98, 100) (by decide)), ?_⟩ -- d11: jfn N 1505 b7 = (b11 : Int)
    refine ⟨by exact (hy.1 100 (by decide)).1, ?_⟩ -- s2: jtg N b11 = 113
    refine ⟨by rw [l100]; omega, ?_⟩ -- s3: ((0 : Int) ≤ v1 ∧ (v1 : Int) < (jln N b11 : Int))
    refine ⟨_, by exact (show jfn N 2705 (x + 97) = ((x + 137 : Nat) : Int) from hy.2.1 (2705, 97, 137) (by decide)), ?_⟩ -- d15: jfn N 2705 o = (b15 : Int)
    refine ⟨by exact (hy.1 137 (by decide)).1, ?_⟩ -- s4: jtg N b15 = 113
    refine ⟨by exact (hy.1 137 (by decide)).2, ?_⟩ -- s5: jfn N 0 b15 = 1
    refine ⟨by rw [l137]; omega, ?_⟩ -- s6: ((0 : Int) ≤ v1 ∧ (v1 : Int) < (jln N b15 : Int))
    have hv := hp.2 v1 i1.1 (by omega)
    have e1 : A2 (x + 100) v1 = lA (P v1) := by rw [i3 _ (by omega)]; exact hv.2
    obtain ⟨bl, l1, l2, -⟩ := hx.lw hv.1
    refine ⟨by rw [e1]; exact jast_law l1 l2.1, ?_⟩ -- s7: jast N "ChildSays$Law" (A2 b11 v1)
    intro A20 e20
    refine ⟨by omega, ?_⟩ -- s8: jR (v1 + 1)
    refine ⟨?_, ?_⟩ -- l3: I5 (v1 + 1) A20
    · refine ⟨by omega, fun i i0 i1' => ?_, fun b hb => by rw [e20, upA_o hb]; exact i3 b hb⟩
      by_cases w : i = v1
      · rw [w, e20, upA_s]; exact e1
      · rw [e20, upA_i w]; exact i2 i i0 (by omega)
    · dsimp only; omega

theorem sX4_swaps {o : Nat} {a1 : Int} {a2 : Int} {N : jSh} {F : jFl} {A : jAr} {W L : sTb} {x t : Nat} {wA sA cA lA : Int → Int} {n : Int} {P : Int → Int} (hx : ctx N F A x t W L wA sA cA lA) (hy : lay N x) (ho : o = x + 98) (hn : 0 ≤ n ∧ n ≤ 12) (hp : otR F A x (W 3 0 0) lA n P) (h1 : 0 ≤ a1 ∧ a1 < n) (h2 : 0 ≤ a2 ∧ a2 < n) : wqX4_swaps o a1 a2 N F A (fun F' A' => F' = F ∧ otR F' A' x (W 3 0 0) lA n (sX P a1 a2) ∧ ∀ b, b ≠ x + 100 → A' b = A b) := by
  unfold wqX4_swaps
  subst ho
  have l100 := hy.2.2 (100, 12) (by decide)
  dsimp only at l100
  have e1 := hp.2 a1 h1.1 h1.2
  have e2 := hp.2 a2 h2.1 h2.2
  obtain ⟨b1, u1, u2, -⟩ := hx.lw e1.1
  obtain ⟨b2, w1, w2, -⟩ := hx.lw e2.1
  refine ⟨_, by exact (show jfn N 1505 (x + 98) = ((x + 100 : Nat) : Int) from hy.2.1 (1505, 98, 100) (by decide)), ?_⟩ -- d1: jfn N 1505 o = (b1 : Int)
  refine ⟨by exact (hy.1 100 (by decide)).1, ?_⟩ -- s1: jtg N b1 = 113
  refine ⟨by rw [l100]; omega, ?_⟩ -- s2: ((0 : Int) ≤ a1 ∧ (a1 : Int) < (jln N b1 : Int))
  intro v5 e5
  refine ⟨by rw [l100]; omega, ?_⟩ -- s3: ((0 : Int) ≤ a2 ∧ (a2 : Int) < (jln N b1 : Int))
  refine ⟨by exact (hy.1 100 (by decide)).2, ?_⟩ -- s4: jfn N 0 b1 = 1
  refine ⟨by rw [l100]; omega, ?_⟩ -- s5: ((0 : Int) ≤ a1 ∧ (a1 : Int) < (jln N b1 : Int))
  refine ⟨by rw [e2.2]; exact jast_law w1 w2.1, ?_⟩ -- s6: jast N "ChildSays$Law" (A b1 a2)
  intro A9 e9
  refine ⟨by rw [l100]; omega, ?_⟩ -- s7: ((0 : Int) ≤ a2 ∧ (a2 : Int) < (jln N b1 : Int))
  refine ⟨by rw [e5, e1.2]; exact jast_law u1 u2.1, ?_⟩ -- s8: jast N "ChildSays$Law" v5
  intro A13 e13
  -- l1: Q F A13
  refine ⟨rfl, ⟨hp.1, fun i i0 i1 => ?_⟩, fun b hb => by rw [e13, upA_o hb, e9, upA_o hb]⟩
  have g := hp.2 i i0 i1
  unfold sX
  rw [e13]
  by_cases w : i = a2
  · rw [w, upA_s, upI_s, e5]; exact e1
  · rw [upA_i w, upI_n w, e9]
    by_cases w2 : i = a1
    · rw [w2, upA_s, upI_s]; exact e2
    · rw [upA_i w2, upI_n w2]; exact g

set_option maxHeartbeats 1000000 in
theorem sX8_isBetter {o : Nat} {a1 : Int} {N : jSh} {F : jFl} {A : jAr} {W L : sTb} {x t : Nat} {wA sA cA lA : Int → Int} {c n most : Int} {P : Int → Int} (hx : ctx N F A x t W L wA sA cA lA) (hy : lay N x) (h99 : ∀ k : Nat, k < 12 → A (x + 99) k = ((x + 101 + 3 * k : Nat) : Int)) (ho : o = x + 97) (ha1 : a1 = cA c) (hc1 : 0 ≤ c ∧ c < W 2 0 0) (hn : 0 ≤ n ∧ n ≤ 12) (hp : otR F A x (W 3 0 0) lA n P) (hin : ∀ i j : Int, 0 ≤ i → i < n → 0 ≤ j → j < n → P i = P j → i = j) (h6 : F 2706 o = most) : wqX8_isBetter o a1 N F A (fun z F' A' => (if (sExA (sWh W L c n) P n most).2.1 = -1 then z = 0 ∧ otR F' A' x (W 3 0 0) lA n P ∧ F' 2706 o = most else z = 1 ∧ otR F' A' x (W 3 0 0) lA n (sX P (sExA (sWh W L c n) P n most).2.1 (sExA (sWh W L c n) P n most).2.2) ∧ F' 2706 o = (sExA (sWh W L c n) P n most).1) ∧ F' 2709 o = F 2709 o ∧ frO x F A F' A') := by
  unfold wqX8_isBetter
  subst ho
  have sc := hy.scr.mono (lo2 := x + 97) (hi2 := x + 138) (by omega) (by omega)
  have inX : ∀ p q : Int, 0 ≤ p ∧ p < n → 0 ≤ q ∧ q < n → ∀ i j : Int, 0 ≤ i → i < n → 0 ≤ j → j < n → sX P p q i = sX P p q j → i = j := fun p q hp hq => sX_inj hin hp hq
  intro v1 e1
  refine ⟨fun (v2 : Int) (v3 : Int) (v4 : Int) (v5 : Int) (F6 : jFl) (A7 : jAr) => (0 ≤ v5 ∧ v5 ≤ n) ∧ it (sExR (sWh W L c n) P n) (most, -1, -1) v5.toNat = (v4, v2, v3) ∧ (∀ f, F6 f (x + 97) = F f (x + 97)) ∧ otR F6 A7 x (W 3 0 0) lA n P ∧ frO x F A F6 A7, fun v2 v3 v4 v5 F6 A7 => (n - v5).toNat, ?_, ?_⟩ -- loop I10 I10 (-1) (-1) v1 0 F A
  ·
    -- l1: I10 (-1) (-1) v1 0 F A
    exact ⟨by omega, by rw [e1, h6]; rfl, fun _ => rfl, hp, frO.refl _ _ _⟩
  intro v2 v3 v4 v5 F6 A7 i10
  obtain ⟨i1, i2, i3, i4, i5⟩ := i10
  have hx1 := hx.fr sc i5.fr
  refine ⟨_, by exact (show jfn N 2702 (x + 97) = ((x + 98 : Nat) : Int) from hy.2.1 (2702, 97, 98) (by decide)), ?_⟩ -- d12: jfn N 2702 o = (b12 : Int)
  refine ⟨by exact (hy.1 98 (by decide)).1, ?_⟩ -- s1: jtg N b12 = 5
  rw [i4.1]
  refine ⟨fun hc => ?_, fun hc => ?_⟩ -- c1
  · -- case ((F6 1506 b12) ≤ v5)
    have ev : v5 = n := by omega
    have eA : sExA (sWh W L c n) P n most = (v4, v2, v3) := by
      unfold sExA
      rw [← ev] at i2 ⊢
      exact i2
    have okA := sExA_ok (G := sWh W L c n) (P := P) (n := n) (most := most) (v := n) (by omega)
    have eA2 : it (sExR (sWh W L c n) P n) (most, -1, -1) n.toNat = (v4, v2, v3) := eA
    rw [eA2] at okA
    dsimp only at okA
    rw [eA]
    dsimp only
    refine ⟨fun hc => ?_, fun hc => ?_⟩ -- c2
    · -- case (¬ v2 = (-1))
      refine ⟨_, sX4_swaps hx1 hy rfl hn i4 (by omega) (by omega), ?_⟩ -- call wqX4_swaps b12 v2 v3 N F6 A7 P17
      intro F20 A21 p17
      obtain ⟨q1, q2, q3⟩ := p17
      subst q1
      refine ⟨by exact (hy.1 97 (by decide)).2, ?_⟩ -- s2: jfn N 0 o = 1
      intro F28 e28
      -- l2: Q 1 F28 A21
      rw [if_neg hc]
      refine ⟨⟨rfl, q2.of (by rw [e28, upF_f (by decide)]) rfl, by rw [e28, upF_s]⟩, by rw [e28, upF_f (by decide), i3], ?_⟩
      rw [e28]
      exact (i5.upF (Or.inl rfl)).arr (fun b b1 _ => q3 b b1)
    · -- case (v2 = (-1))
      -- l3: Q 0 F6 A7
      rw [if_pos hc]
      exact ⟨⟨rfl, i4, by rw [i3]; exact h6⟩, i3 _, i5⟩
  · -- case (¬ ((F6 1506 b12) ≤ v5))
    refine ⟨by omega, ?_⟩ -- s3: jR (v5 + 1)
    intro v30 e30
    refine ⟨fun (v31 : Int) (v32 : Int) (v33 : Int) (v34 : Int) (F35 : jFl) (A36 : jAr) => (v5 + 1 ≤ v34 ∧ v34 ≤ n) ∧ it (sExI (sWh W L c n) P v5) (v4, v2, v3) v34.toNat = (v33, v31, v32) ∧ (∀ f, F35 f (x + 97) = F f (x + 97)) ∧ otR F35 A36 x (W 3 0 0) lA n P ∧ frO x F A F35 A36, fun v31 v32 v33 v34 F35 A36 => (n - v34).toNat, ?_, ?_⟩ -- loop I39 I39 v2 v3 v4 v30 F6 A7
    ·
      -- l4: I39 v2 v3 v4 v30 F6 A7
      refine ⟨by omega, ?_, i3, i4, i5⟩
      rw [e30]
      exact sExI_skip i1.1
    intro v31 v32 v33 v34 F35 A36 i39
    obtain ⟨j1, j2, j3, j4, j5⟩ := i39
    have hx2 := hx.fr sc j5.fr
    rw [j4.1]
    refine ⟨fun hc => ?_, fun hc => ?_⟩ -- c3
    · -- case ((F35 1506 b12) ≤ v34)
      refine ⟨by omega, ?_⟩ -- s4: jR (v5 + 1)
      refine ⟨?_, ?_⟩ -- l5: I10 v31 v32 v33 (v5 + 1) F35 A36
      · refine ⟨by omega, ?_, j3, j4, j5⟩
        rw [it_succ _ _ i1.1, i2]
        show it (sExI (sWh W L c n) P v5) (v4, v2, v3) n.toNat = _
        rw [show n.toNat = v34.toNat by omega]
        exact j2
      · dsimp only; omega
    · -- case (¬ ((F35 1506 b12) ≤ v34))
      refine ⟨_, sX4_swaps hx2 hy rfl hn j4 (by omega) (by omega), ?_⟩ -- call wqX4_swaps b12 v5 v34 N F35 A36 P43
      intro F46 A47 p43
      obtain ⟨q1, q2, q3⟩ := p43
      subst q1
      have f1 := j5.arr (fun b b1 _ => q3 b b1)
      have hx3 := hx.fr sc f1.fr
      refine ⟨_, sX8_whole hx3 hy (by rw [(f1 (x + 99) (by omega)).2]; exact h99) rfl ha1 hc1 hn q2 (inX v5 v34 (by omega) (by omega)), ?_⟩ -- call wqX8_whole o a1 N F46 A47 P52
      intro z54 F55 A56 p52
      obtain ⟨r1, r2, r3⟩ := p52
      have f2 := f1.trans (r3.O (by omega))
      refine ⟨_, sX4_swaps (hx.fr sc f2.fr) hy rfl hn (q2.of ((r3 _ (by omega)).1 _) (r3 _ (by omega)).2) (by omega) (by omega), ?_⟩ -- call wqX4_swaps b12 v5 v34 N F55 A56 P61
      intro F64 A65 p61
      obtain ⟨s1, s2, s3⟩ := p61
      subst s1
      rw [sX_sX (by omega)] at s2
      have f3 := f2.arr (fun b b1 _ => s3 b b1)
      have ff : ∀ f, F64 f (x + 97) = F f (x + 97) := fun f => by rw [(r3 _ (by omega)).1, j3]
      have eI := it_succ (sExI (sWh W L c n) P v5) (v4, v2, v3) (show 0 ≤ v34 by omega)
      rw [j2] at eI
      have eS : sExI (sWh W L c n) P v5 v34 (v33, v31, v32) = (if v5 < v34 ∧ v33 < z54 then (z54, v5, v34) else (v33, v31, v32)) := by
        unfold sExI
        rw [r1]
      refine ⟨fun hc => ?_, fun hc => ?_⟩ -- c4
      · -- case (v33 < z54)
        refine ⟨by omega, ?_⟩ -- s5: jR (v34 + 1)
        refine ⟨?_, ?_⟩ -- l6: I39 v5 v34 z54 (v34 + 1) F64 A65
        · refine ⟨by omega, ?_, ff, s2, f3⟩
          rw [eI, eS, if_pos ⟨by omega, hc⟩]
        · dsimp only; omega
      · -- case (¬ (v33 < z54))
        refine ⟨by omega, ?_⟩ -- s6: jR (v34 + 1)
        refine ⟨?_, ?_⟩ -- l7: I39 v31 v32 v33 (v34 + 1) F64 A65
        · refine ⟨by omega, ?_, ff, s2, f3⟩
          rw [eI, eS, if_neg (fun w => hc w.2)]
        · dsimp only; omega

set_option maxHeartbeats 1000000 in
theorem sX8_sorts {o : Nat} {a1 : Int} {N : jSh} {F : jFl} {A : jAr} {W L : sTb} {x t : Nat} {wA sA cA lA : Int → Int} {c : Int} (hx : ctx N F A x t W L wA sA cA lA) (hy : lay N x) (h9 : L 9 0 0 = 0) (h99 : ∀ k : Nat, k < 12 → A (x + 99) k = ((x + 101 + 3 * k : Nat) : Int)) (ho : o = x + 97) (ha1 : a1 = cA c) (hc1 : 0 ≤ c ∧ c < W 2 0 0) : wqX8_sorts o a1 N F A (fun z F' A' => z = (o : Int) ∧ (∃ m : Nat, sMdE (sWh W L c (sSeats L (W 3 0 0)).1) (sSeats L (W 3 0 0)).2 (sSeats L (W 3 0 0)).1 m ∧ F' 2706 o = (sMd (sWh W L c (sSeats L (W 3 0 0)).1) (sSeats L (W 3 0 0)).2 (sSeats L (W 3 0 0)).1 m).2 ∧ F' 2709 o = (m : Int) ∧ ∀ j : Int, 0 ≤ j → j < (sSeats L (W 3 0 0)).1 → A' (x + 137) j = lA ((sMd (sWh W L c (sSeats L (W 3 0 0)).1) (sSeats L (W 3 0 0)).2 (sSeats L (W 3 0 0)).1 m).1 j) ∧ 0 ≤ (sMd (sWh W L c (sSeats L (W 3 0 0)).1) (sSeats L (W 3 0 0)).2 (sSeats L (W 3 0 0)).1 m).1 j ∧ (sMd (sWh W L c (sSeats L (W 3 0 0)).1) (sSeats L (W 3 0 0)).2 (sSeats L (W 3 0 0)).1 m).1 j < W 3 0 0) ∧ F' 1506 (x + 98) = (sSeats L (W 3 0 0)).1 ∧ frO x F A F' A') := by
  unfold wqX8_sorts
  subst ho
  have w3 := hx.oW.2.2.2.1
  have ok := sSeats_ok hx.oW hx.oL (n := W 3 0 0) (by omega)
  have inj := sSeats_inj hx.oL h9 (n := W 3 0 0) (by omega)
  have sc := hy.scr.mono (lo2 := x + 97) (hi2 := x + 138) (by omega) (by omega)
  have gr := fun P => sWh_le12 (W := W) (L := L) (c := c) (n := (sSeats L (W 3 0 0)).1) (seat := P) (by omega)
  have o1 : jfn N 0 (x + 97) = 1 := (hy.1 97 (by decide)).2
  refine ⟨_, by exact (show jfn N 2702 (x + 97) = ((x + 98 : Nat) : Int) from hy.2.1 (2702, 97, 98) (by decide)), ?_⟩ -- d1: jfn N 2702 o = (b1 : Int)
  refine ⟨by exact (hy.1 98 (by decide)).1, ?_⟩ -- s1: jtg N b1 = 5
  refine ⟨_, sX4_inOrder hx (hy.sit2 h99) (hy.scr.mono (by omega) (by omega)), ?_⟩ -- call wqX4_inOrder b1 N F A P4
  intro z6 F7 A8 p4
  obtain ⟨q1, ⟨q2, q3⟩, q4, q5⟩ := p4
  have f1 : frO x F A F7 A8 := fun a ha => ⟨fun f => q4 f a (by omega), q5 a (by omega)⟩
  generalize hn : (sSeats L (W 3 0 0)).1 = n at *
  generalize hP : (sSeats L (W 3 0 0)).2 = P0 at *
  refine ⟨_, sX8_whole (P := P0) (n := n) (hx.fr sc f1.fr) hy (by rw [(f1 (x + 99) (by omega)).2]; exact h99) rfl ha1 hc1 (by omega) ⟨q2, fun i i0 i1 => ⟨(ok.2 i i0 i1).1, q3 i i0 i1⟩⟩ inj, ?_⟩ -- call wqX8_whole o a1 N F7 A8 P13
  intro z15 F16 A17 p13
  obtain ⟨r1, r2, r3⟩ := p13
  have f2 := f1.trans (r3.O (by omega))
  refine ⟨by exact o1, ?_⟩ -- s2: jfn N 0 o = 1
  intro F24 e24
  intro F26 e26
  refine ⟨fun (F27 : jFl) (A28 : jAr) => ∃ m : Nat, (∀ j, j < m → ¬ sMdF (sWh W L c n) P0 n j) ∧ otR F27 A28 x (W 3 0 0) lA n (sMd (sWh W L c n) P0 n m).1 ∧ (∀ i j : Int, 0 ≤ i → i < n → 0 ≤ j → j < n → (sMd (sWh W L c n) P0 n m).1 i = (sMd (sWh W L c n) P0 n m).1 j → i = j) ∧ F27 2706 (x + 97) = (sMd (sWh W L c n) P0 n m).2 ∧ F27 2709 (x + 97) = (m : Int) ∧ frO x F A F27 A28, fun F27 A28 => (20 - (F27 2709 (x + 97)).toNat), ?_, ?_⟩ -- loop I31 I31 F26 A17
  ·
    -- l1: I31 F26 A17
    refine ⟨0, fun j hj => by omega, ⟨by rw [e26, upF_f (by decide), e24, upF_f (by decide), (r3 _ (by omega)).1]; exact q2, fun i i0 i1 => ⟨(ok.2 i i0 i1).1, by rw [(r3 _ (by omega)).2]; exact q3 i i0 i1⟩⟩, inj, by rw [e26, upF_f (by decide), e24, upF_s, r1]; rfl, by rw [e26, upF_s]; rfl, ?_⟩
    rw [e26, e24]
    exact (f2.upF (Or.inl rfl)).upF (Or.inl rfl)
  intro F27 A28 i31
  obtain ⟨m, i1, i2, i3, i4, i5, i6⟩ := i31
  have hcu := sMd_up (G := sWh W L c n) (P0 := P0) (n := n) (k := m) (by omega) (gr _).1 i1
  have hcl := sMd_le (G := sWh W L c n) (P0 := P0) (n := n) (m := 12) (fun P => (gr P).2) m
  refine ⟨_, sX8_isBetter (most := (sMd (sWh W L c n) P0 n m).2) (hx.fr sc i6.fr) hy (by rw [(i6 (x + 99) (by omega)).2]; exact h99) rfl ha1 hc1 (by omega) i2 i3 i4, ?_⟩ -- call wqX8_isBetter o a1 N F27 A28 P33
  intro z35 F36 A37 p33
  obtain ⟨u1, u2, u3⟩ := p33
  have hF : sMdF (sWh W L c n) P0 n m ↔ z35 = 0 := by
    unfold sMdF
    by_cases w : (sExA (sWh W L c n) (sMd (sWh W L c n) P0 n m).1 n (sMd (sWh W L c n) P0 n m).2).2.1 = -1
    · rw [if_pos w] at u1
      exact ⟨fun _ => u1.1, fun _ => w⟩
    · rw [if_neg w] at u1
      exact ⟨fun q => absurd q w, fun q => by omega⟩
  refine ⟨fun hc => ?_, fun hc => ?_⟩ -- c1
  · -- case (z35 = 0)
    rw [if_pos (show (sExA (sWh W L c n) (sMd (sWh W L c n) P0 n m).1 n (sMd (sWh W L c n) P0 n m).2).2.1 = -1 from hF.mpr hc)] at u1
    obtain ⟨-, y1, y2⟩ := u1
    have f3 := i6.trans u3
    refine ⟨_, sX8_isFirst (hx.fr sc f3.fr) hy rfl (by omega) y1, ?_⟩ -- call wqX8_isFirst o N F36 A37 P43
    intro F46 A47 p43
    obtain ⟨v1, v2, v3⟩ := p43
    -- l2: Q (o : Int) F46 A47
    refine ⟨rfl, ⟨m, ⟨hF.mpr hc, i1⟩, by rw [v1]; exact y2, by rw [v1, u2]; exact i5, fun j j0 j1 => ⟨v2 j j0 j1, (y1.2 j j0 j1).1⟩⟩, by rw [v1]; exact y1.1, ?_⟩
    rw [v1]
    exact f3.arr (fun b _ b2 => v3 b b2)
  · -- case (¬ (z35 = 0))
    refine ⟨by rw [u2, i5]; omega, ?_⟩ -- s3: jR ((F36 2709 o) + 1)
    intro F54 e54
    refine ⟨?_, ?_⟩ -- l3: I31 F54 A37
    · have nF : ¬ sMdF (sWh W L c n) P0 n m := fun q => hc (hF.mp q)
      have nF2 := nF
      unfold sMdF at nF2
      rw [if_neg nF2] at u1
      have okA := sExA_ok (G := sWh W L c n) (P := (sMd (sWh W L c n) P0 n m).1) (n := n) (most := (sMd (sWh W L c n) P0 n m).2) (v := n) (by omega)
      have okB : 0 ≤ (sExA (sWh W L c n) (sMd (sWh W L c n) P0 n m).1 n (sMd (sWh W L c n) P0 n m).2).2.1 ∧ (sExA (sWh W L c n) (sMd (sWh W L c n) P0 n m).1 n (sMd (sWh W L c n) P0 n m).2).2.1 < (sExA (sWh W L c n) (sMd (sWh W L c n) P0 n m).1 n (sMd (sWh W L c n) P0 n m).2).2.2 ∧ (sExA (sWh W L c n) (sMd (sWh W L c n) P0 n m).1 n (sMd (sWh W L c n) P0 n m).2).2.2 < n := by
        rcases okA.2 with q | q
        · exact absurd q nF2
        · exact q.2
      refine ⟨m + 1, fun j hj => ?_, u1.2.1.of (by rw [e54, upF_f (by decide)]) rfl, sX_inj i3 ⟨okB.1, by omega⟩ ⟨by omega, okB.2.2⟩, by rw [e54, upF_f (by decide)]; exact u1.2.2, by rw [e54, upF_s, u2, i5]; omega, ?_⟩
      · by_cases w : j = m
        · rw [w]; exact nF
        · exact i1 j (by omega)
      · rw [e54]; exact (i6.trans u3).upF (Or.inl rfl)
    · dsimp only; rw [e54, upF_s, u2, i5]; omega

theorem sX8_tells {o : Nat} {a1 : Int} {N : jSh} {F : jFl} {A : jAr} {W L : sTb} {x t : Nat} {wA sA cA lA : Int → Int} {n : Int} {P : Int → Int} (hx : ctx N F A x t W L wA sA cA lA) (hy : lay N x) (ho : o = x + 97) (hn : F 1506 (x + 98) = n ∧ 0 ≤ n ∧ n ≤ 12) (hP : a1 ≠ -1 → ∀ j : Int, 0 ≤ j → j < n → A (x + 137) j = lA (P j) ∧ 0 ≤ P j ∧ P j < W 3 0 0) : wqX8_tells o a1 N F A (fun z => z = (if a1 = -1 then F 2706 o else if 0 ≤ a1 ∧ a1 < n then P a1 else -1)) := by
  unfold wqX8_tells
  subst ho
  have l137 := hy.2.2 (137, 12) (by decide)
  dsimp only at l137
  refine ⟨fun hc => ?_, fun hc => ?_⟩ -- c1
  · -- case (¬ a1 = (-1))
    refine ⟨_, by exact (show jfn N 2702 (x + 97) = ((x + 98 : Nat) : Int) from hy.2.1 (2702, 97, 98) (by decide)), ?_⟩ -- d2: jfn N 2702 o = (b2 : Int)
    refine ⟨by exact (hy.1 98 (by decide)).1, ?_⟩ -- s1: jtg N b2 = 5
    refine ⟨by rw [hn.1]; omega, ?_⟩ -- s2: jR ((F 1506 b2) - 1)
    refine ⟨_, sX0_isIn, ?_⟩ -- call wqX0_isIn a1 0 ((F 1506 b2) - 1) N F A P6
    intro z8 p6
    refine ⟨fun hc => ?_, fun hc => ?_⟩ -- c2
    · -- case (z8 = 0)
      -- l1: Q (-1)
      rw [hn.1] at p6; rw [if_neg (by assumption), if_neg (by grind)]
    · -- case (¬ (z8 = 0))
      refine ⟨_, by exact (show jfn N 2705 (x + 97) = ((x + 137 : Nat) : Int) from hy.2.1 (2705, 97, 137) (by decide)), ?_⟩ -- d14: jfn N 2705 o = (b14 : Int)
      refine ⟨by exact (hy.1 137 (by decide)).1, ?_⟩ -- s3: jtg N b14 = 113
      have hr : 0 ≤ a1 ∧ a1 < n := by rw [hn.1] at p6; grind
      obtain ⟨h1, h2⟩ := hP (by assumption) a1 hr.1 hr.2
      obtain ⟨bl, l1, l2, -⟩ := hx.lw h2
      refine ⟨by rw [l137]; omega, ?_⟩ -- s4: ((0 : Int) ≤ a1 ∧ (a1 : Int) < (jln N b14 : Int))
      refine ⟨_, by exact h1.trans l1, ?_⟩ -- d18: A b14 a1 = (b18 : Int)
      refine ⟨by exact l2.1, ?_⟩ -- s5: jtg N b18 = 17
      -- l2: Q (jfn N 3903 b18)
      rw [if_neg (by assumption), if_pos hr]
      exact l2.2.2.1
  · -- case (a1 = (-1))
    -- l3: Q (F 2706 o)
    rw [if_pos hc]

theorem sX0_sorted {o : Nat} {a1 : Int} {a2 : Int} {N : jSh} {F : jFl} {A : jAr} {W L : sTb} {t : Nat} {wA sA cA lA : Int → Int} (hx : ctx N F A o t W L wA sA cA lA) (hy : lay N o) (h9 : L 9 0 0 = 0) (hs : sarr A o) : wqX0_sorted o a1 a2 N F A (fun z F' A' => rSorted W L a1 a2 z ∧ frO o F A F' A') := by
  unfold wqX0_sorted
  have hcc : ∀ a : Int, 0 ≤ a ∧ a < W 2 0 0 → 0 ≤ cA a := fun a h => by obtain ⟨b, u1, -⟩ := hx.ch h; omega
  have w3 := hx.oW.2.2.2.1
  have ok := sSeats_ok hx.oW hx.oL (n := W 3 0 0) (by omega)
  refine ⟨_, sX0_childOf hx, ?_⟩ -- call wqX0_childOf o a1 N F A P1
  intro z3 p1
  refine ⟨fun hc => ?_, fun hc => ?_⟩ -- c1
  · -- case (z3 < 0)
    -- l1: Q (-1) F A
    exact ⟨by unfold rSorted; rw [if_neg (by grind)], frO.refl _ _ _⟩
  · -- case (¬ (z3 < 0))
    refine ⟨_, by exact hx.ft, ?_⟩ -- d9: F 311 o = (b9 : Int)
    refine ⟨by exact hx.tt, ?_⟩ -- s1: jtg N b9 = 2
    refine ⟨_, sX1_standing hx.2.2, ?_⟩ -- call wqX1_standing b9 N F A P12
    intro z14 p12
    refine ⟨fun hc => ?_, fun hc => ?_⟩ -- c2
    · -- case (¬ z14 = 0)
      have h1 : 0 ≤ a1 ∧ a1 < W 2 0 0 := by grind
      rw [if_pos h1] at p1
      have h2 : sStand L (W 3 0 0) ≠ 0 := by omega
      refine ⟨_, by exact hy.p344, ?_⟩ -- d20: jfn N 344 o = (b20 : Int)
      refine ⟨by exact (hy.1 97 (by decide)).1, ?_⟩ -- s2: jtg N b20 = 9
      refine ⟨_, sX8_sorts hx hy h9 hs.2.1 rfl p1 h1, ?_⟩ -- call wqX8_sorts b20 z3 N F A P23
      intro z25 F26 A27 p23
      obtain ⟨q1, ⟨m, q2, q3, q4, q5⟩, q6, q7⟩ := p23
      have eR : ∀ z, z = (if a2 = 20 then (m : Int) else if a2 = -1 then (sMd (sWh W L a1 (sSeats L (W 3 0 0)).1) (sSeats L (W 3 0 0)).2 (sSeats L (W 3 0 0)).1 m).2 else if 0 ≤ a2 ∧ a2 < (sSeats L (W 3 0 0)).1 then (sMd (sWh W L a1 (sSeats L (W 3 0 0)).1) (sSeats L (W 3 0 0)).2 (sSeats L (W 3 0 0)).1 m).1 a2 else -1) → rSorted W L a1 a2 z := fun z q => by
        unfold rSorted
        rw [if_pos ⟨h1, h2⟩]
        exact ⟨m, q2, q⟩
      refine ⟨fun hc => ?_, fun hc => ?_⟩ -- c3
      · -- case (¬ a2 = 20)
        refine ⟨_, sX8_tells (n := (sSeats L (W 3 0 0)).1) (P := (sMd (sWh W L a1 (sSeats L (W 3 0 0)).1) (sSeats L (W 3 0 0)).2 (sSeats L (W 3 0 0)).1 m).1) (hx.fr (hy.scr.mono (by omega) (by omega)) q7.fr) hy rfl ⟨q6, by omega⟩ (fun _ => q5), ?_⟩ -- call wqX8_tells b20 a2 N F26 A27 P33
        intro z35 p33
        -- l2: Q z35 F26 A27
        exact ⟨eR _ (by rw [if_neg hc, p33, q3]), q7⟩
      · -- case (a2 = 20)
        -- l3: Q (F26 2709 b20) F26 A27
        exact ⟨eR _ (by rw [if_pos (by omega), q4]), q7⟩
    · -- case (z14 = 0)
      -- l4: Q (-1) F A
      exact ⟨by unfold rSorted; rw [if_neg (by omega)], frO.refl _ _ _⟩

/-- the best so far -/
def oFs (F : jFl) (A : jAr) (x : Nat) (nl : Int) (lA : Int → Int) (m : Int) (st : Int × List Nat) : Prop := F 2706 (x + 97) = st.1 ∧ -1 ≤ st.1 ∧ (st.1 ≠ -1 → ∀ j : Int, 0 ≤ j → j < m → A (x + 137) j = lA (lsF st.2 j) ∧ 0 ≤ lsF st.2 j ∧ lsF st.2 j < nl)
theorem oFs.of {F F' : jFl} {A A' : jAr} {x : Nat} {nl : Int} {lA : Int → Int} {m : Int} {st : Int × List Nat} (h : oFs F A x nl lA m st) (h1 : F' 2706 (x + 97) = F 2706 (x + 97)) (h2 : A' (x + 137) = A (x + 137)) : oFs F' A' x nl lA m st := ⟨by rw [h1]; exact h.1, h.2.1, by rw [h2]; exact h.2.2⟩
def prG (S : List Nat) (k : Nat) (p ys : List Nat) : List (List Nat) := ys.flatMap (fun f => if f ∈ p then [] else prA S k (p ++ [f]))
theorem prG_app (S : List Nat) (k : Nat) (p ys zs : List Nat) : prG S k p (ys ++ zs) = prG S k p ys ++ prG S k p zs := by
  unfold prG
  rw [List.flatMap_append]
theorem prG_one (S : List Nat) (k : Nat) (p : List Nat) (y : Nat) : prG S k p [y] = (if y ∈ p then [] else prA S k (p ++ [y])) := by
  unfold prG
  simp
set_option maxHeartbeats 1000000 in
theorem sX8_search : ∀ (n : Nat) {o : Nat} {a1 : Int} {a2 : Int} {a3 : Int} {N : jSh} {F : jFl} {A : jAr} {W L : sTb} {x t : Nat} {wA sA cA lA : Int → Int} {c : Int} {p : List Nat} {st : Int × List Nat} (hx : ctx N F A x t W L wA sA cA lA) (hy : lay N x) (h99 : ∀ k : Nat, k < 12 → A (x + 99) k = ((x + 101 + 3 * k : Nat) : Int)) (ho : o = x + 97) (ha1 : a1 = cA c) (hc1 : 0 ≤ c ∧ c < W 2 0 0) (hn : (n : Int) = a3 + 1) (ha3 : (p.length : Int) + a3 = (sStL L (W 3 0 0).toNat).length ∧ 0 ≤ a3) (hpd : p.Nodup) (hp : otR F A x (W 3 0 0) lA (p.length : Int) (lsF p)) (hm : (0 ≤ a2 ∧ a2 < 2 ^ 12) ∧ ∀ w : Int, 0 ≤ w → w < 12 → ((a2 / 2 ^ w.toNat) % 2 = 1 ↔ w.toNat ∈ p)) (hs : oFs F A x (W 3 0 0) lA ((sStL L (W 3 0 0).toNat).length : Int) st), wqX8_search n o a1 a2 a3 N F A (fun F' A' => otR F' A' x (W 3 0 0) lA (p.length : Int) (lsF p) ∧ oFs F' A' x (W 3 0 0) lA ((sStL L (W 3 0 0).toNat).length : Int) (sBst (fun q => sWh W L c (sStL L (W 3 0 0).toNat).length (lsF q)) (prA (sStL L (W 3 0 0).toNat) a3.toNat p) st) ∧ frO x F A F' A') := by
  intro n
  induction n with
  | zero =>
    intro o a1 a2 a3 N F A W L x t wA sA cA lA c p st hx hy h99 ho ha1 hc1 hn ha3 hpd hp hm hs
    omega
  | succ n ih =>
    intro o a1 a2 a3 N F A W L x t wA sA cA lA c p st hx hy h99 ho ha1 hc1 hn ha3 hpd hp hm hs
    unfold wqX8_search
    subst ho
    have sc := hy.scr.mono (lo2 := x + 97) (hi2 := x + 138) (by omega) (by omega)
    have w3 := hx.oW.2.2.2.1
    have hS12 : (sStL L (W 3 0 0).toNat).length ≤ 12 := by
      have := nodup_len (W 3 0 0).toNat _ (sStL_nodup L (W 3 0 0).toNat) (fun y hy => (sStL_mem.mp hy).1)
      omega
    have pin : ∀ i j : Int, 0 ≤ i → i < (p.length : Int) → 0 ≤ j → j < (p.length : Int) → lsF p i = lsF p j → i = j := fun i j i0 i1 j0 j1 e => by
      have := getD_inj hpd (i := i.toNat) (j := j.toNat) (by omega) (by omega) (by
        have e : ((p.getD i.toNat 0 : Nat) : Int) = ((p.getD j.toNat 0 : Nat) : Int) := e
        omega)
      omega
    generalize hG : (fun q => sWh W L c (sStL L (W 3 0 0).toNat).length (lsF q)) = G at *
    refine ⟨fun hc => ?_, fun hc => ?_⟩ -- c1
    · -- case (¬ a3 = 0)
      obtain ⟨k, hk⟩ : ∃ k : Nat, a3.toNat = k + 1 := ⟨a3.toNat - 1, by omega⟩
      rw [hk, show prA (sStL L (W 3 0 0).toNat) (k + 1) p = prG (sStL L (W 3 0 0).toNat) k p (sStL L (W 3 0 0).toNat) from rfl]
      refine ⟨fun (v2 : Int) (F3 : jFl) (A4 : jAr) => (0 ≤ v2 ∧ v2 ≤ W 3 0 0) ∧ otR F3 A4 x (W 3 0 0) lA (p.length : Int) (lsF p) ∧ oFs F3 A4 x (W 3 0 0) lA ((sStL L (W 3 0 0).toNat).length : Int) (sBst G (prG (sStL L (W 3 0 0).toNat) k p (sStL L v2.toNat)) st) ∧ frO x F A F3 A4, fun v2 F3 A4 => (W 3 0 0 - v2).toNat, ?_, ?_⟩ -- loop I7 I7 0 F A
      ·
        -- l1: I7 0 F A
        exact ⟨by omega, hp, hs, frO.refl _ _ _⟩
      intro v2 F3 A4 i7
      obtain ⟨i1, i2, i3, i4⟩ := i7
      have hx1 := hx.fr sc i4.fr
      refine ⟨_, by exact (show jfn N 2714 (x + 97) = ((x : Nat) : Int) from hy.2.1 (2714, 97, 0) (by decide)), ?_⟩ -- d9: jfn N 2714 o = (b9 : Int)
      refine ⟨by exact hx.tx, ?_⟩ -- s1: jtg N b9 = 1
      refine ⟨_, by exact hx1.ft, ?_⟩ -- d12: F3 311 b9 = (b12 : Int)
      refine ⟨by exact hx.tt, ?_⟩ -- s2: jtg N b12 = 2
      refine ⟨_, by exact hx.nL, ?_⟩ -- d15: jfn N 626 b12 = (b15 : Int)
      refine ⟨by exact hx1.lL.1.1, ?_⟩ -- s3: jtg N b15 = 20
      refine ⟨_, sJ2_size hx1.lL, ?_⟩ -- call wqJ2_size b15 N F3 A4 P18
      intro z20 p18
      refine ⟨fun hc => ?_, fun hc => ?_⟩ -- c2
      · -- case (z20 ≤ v2)
        -- l2: Q F3 A4
        rw [show v2 = W 3 0 0 by omega] at i3
        exact ⟨i2, i3, i4⟩
      · -- case (¬ (z20 ≤ v2))
        refine ⟨by omega, ?_⟩ -- s4: ((0 : Int) ≤ v2 ∧ (v2 : Int) < 32)
        have hv : 0 ≤ v2 ∧ v2 < W 3 0 0 := by omega
        have hbit := hm.2 v2 hv.1 (by omega)
        have es := sStL_succ L v2.toNat
        rw [show v2.toNat + 1 = (v2 + 1).toNat by omega, show ((v2.toNat : Nat) : Int) = v2 by omega] at es
        obtain ⟨bl, l1, l2, l3, l4⟩ := hx1.lw hv
        have hvp : v2.toNat ∈ p → prG (sStL L (W 3 0 0).toNat) k p (sStL L (v2 + 1).toNat) = prG (sStL L (W 3 0 0).toNat) k p (sStL L v2.toNat) := fun q => by
          rw [es, prG_app]
          split
          · rw [prG_one, if_pos q, List.append_nil]
          · show _ ++ [] = _
            rw [List.append_nil]
        refine ⟨fun hc => ?_, fun hc => ?_⟩ -- c3
        · -- case (((a2 / 2 ^ v2.toNat) % 2) = 1)
          refine ⟨by omega, ?_⟩ -- s5: jR (v2 + 1)
          refine ⟨?_, ?_⟩ -- l3: I7 (v2 + 1) F3 A4
          · exact ⟨by omega, i2, by rw [hvp (hbit.mp hc)]; exact i3, i4⟩
          · dsimp only; omega
        · -- case (¬ (((a2 / 2 ^ v2.toNat) % 2) = 1))
          refine ⟨_, sJ2_get hx1.lL hv, ?_⟩ -- call wqJ2_get b15 v2 N F3 A4 P29
          intro z31 p29
          refine ⟨by exact jcst_law (p29.trans l1) l2.1, ?_⟩ -- s6: jcst N "ChildSays$Law" z31
          refine ⟨_, by exact p29.trans l1, ?_⟩ -- d37: z31 = (b37 : Int)
          refine ⟨by exact l2.1, ?_⟩ -- s7: jtg N b37 = 17
          refine ⟨_, by exact l2.2.2.2.1, ?_⟩ -- d40: jfn N 5102 b37 = (b40 : Int)
          refine ⟨by exact l2.2.2.2.2.1, ?_⟩ -- s8: jtg N b40 = 4
          refine ⟨_, sX3_isOne l4, ?_⟩ -- call wqX3_isOne b40 N F3 A4 P43
          intro z45 p43
          refine ⟨fun hc => ?_, fun hc => ?_⟩ -- c4
          · -- case (¬ z45 = 0)
            refine ⟨_, sJ2_get hx1.lL hv, ?_⟩ -- call wqJ2_get b15 v2 N F3 A4 P51
            intro z53 p51
            refine ⟨by exact jcst_law (p51.trans l1) l2.1, ?_⟩ -- s9: jcst N "ChildSays$Law" z53
            refine ⟨_, by exact (show jfn N 2702 (x + 97) = ((x + 98 : Nat) : Int) from hy.2.1 (2702, 97, 98) (by decide)), ?_⟩ -- d59: jfn N 2702 o = (b59 : Int)
            refine ⟨by exact (hy.1 98 (by decide)).1, ?_⟩ -- s10: jtg N b59 = 5
            have hst : 0 < L 2 v2 0 := by
              by_cases w : 0 < (sRw L v2).1
              · exact w
              · rw [if_neg w] at p43; exact absurd p43 (by assumption)
            have hnp : ¬ v2.toNat ∈ p := fun w => by
              have := hbit.mpr w
              have h0 : ¬ (a2 / 2 ^ v2.toNat) % 2 = 1 := by assumption
              exact h0 this
            refine ⟨_, sX4_comes (hy.sit2 (by rw [(i4 (x + 99) (by omega)).2]; exact h99)) (by rw [i2.1]; omega) (p51.trans l1) l2.1, ?_⟩ -- call wqX4_comes b59 z53 N F3 A4 P62
            intro F65 A66 p62
            obtain ⟨q1, q2⟩ := p62
            have f65 : F65 1506 (x + 98) = ((p ++ [v2.toNat]).length : Int) := by rw [q1, upF_s, i2.1, List.length_append]; simp
            have fr65 : frO x F A F65 A66 := by
              rw [q1, q2]
              exact (i4.upF (Or.inr rfl)).arr (fun b b1 _ => upA_o b1)
            have hp65 : otR F65 A66 x (W 3 0 0) lA ((p ++ [v2.toNat]).length : Int) (lsF (p ++ [v2.toNat])) := by
              refine ⟨f65, fun i i0 i1' => ?_⟩
              rw [List.length_append] at i1'
              simp only [List.length_cons, List.length_nil] at i1'
              rw [lsF_app i0 (by omega), q2]
              by_cases w : i = (p.length : Int)
              · rw [w, upI_s, show x + 98 + 2 = x + 100 from rfl, i2.1, upA_s, show ((v2.toNat : Nat) : Int) = v2 by omega]
                exact ⟨hv, p51⟩
              · rw [upI_n w, show x + 98 + 2 = x + 100 from rfl, upA_i (by rw [i2.1]; exact w)]
                exact i2.2 i i0 (by omega)
            refine ⟨by omega, ?_⟩ -- s11: ((0 : Int) ≤ v2 ∧ (v2 : Int) < 32)
            refine ⟨by (have e1 := jor_lt (a := 0) (v := v2) (b := 12) (by decide) (by omega)); rw [show jor 0 (1 * 2 ^ v2.toNat) = (1 * 2 ^ v2.toNat) from jor_0 (by exact Int.mul_nonneg (by decide) (Int.pow_nonneg (by decide)))] at e1; omega, ?_⟩ -- s12: (((0 : Int) ≤ a2 ∧ (a2 : Int) ≤ 2147483647) ∧ ((0 : Int) ≤ 1 * 2 ^ v2.toNat ∧ (1 * 2 ^ v2.toNat : Int) ≤ 2147483647))
            refine ⟨by have e1 := jor_lt (a := a2) (v := v2) (b := 12) hm.1 (by omega); omega, ?_⟩ -- s13: jR (jor a2 (1 * 2 ^ v2.toNat))
            refine ⟨by omega, ?_⟩ -- s14: jR (a3 - 1)
            refine ⟨_, ih (p := p ++ [v2.toNat]) (st := sBst G (prG (sStL L (W 3 0 0).toNat) k p (sStL L v2.toNat)) st) (hx.fr sc fr65.fr) hy (by rw [(fr65 (x + 99) (by omega)).2]; exact h99) rfl ha1 hc1 (by omega) (by rw [List.length_append]; simp only [List.length_cons, List.length_nil]; omega) (List.nodup_append.mpr ⟨hpd, by simp, fun a ha b hb e => hnp (by rw [← List.mem_singleton.mp hb, ← e]; exact ha)⟩) hp65 ⟨jor_lt hm.1 (by omega), fun w w0 w1 => by
              rw [jor_bit hm.1.1 i1.1 w0, hm.2 w w0 w1, List.mem_append, List.mem_singleton]
              constructor
              · rintro (q | q)
                · exact Or.inl q
                · exact Or.inr (by omega)
              · rintro (q | q)
                · exact Or.inl q
                · exact Or.inr (by omega)⟩ (i3.of (by rw [q1, upF_f (by decide)]) (by rw [q2, upA_o (by omega)])), ?_⟩ -- call wqX8_search n o a1 (jor a2 (1 * 2 ^ v2.toNat)) (a3 - 1) N F65 A66 P75
            intro F78 A79 p75
            obtain ⟨r1, r2, r3⟩ := p75
            rw [hG] at r2
            refine ⟨by exact (hy.1 98 (by decide)).2, ?_⟩ -- s15: jfn N 0 b59 = 1
            refine ⟨by rw [r1.1, List.length_append]; simp only [List.length_cons, List.length_nil]; omega, ?_⟩ -- s16: jR ((F78 1506 b59) - 1)
            intro F87 e87
            refine ⟨by omega, ?_⟩ -- s17: jR (v2 + 1)
            refine ⟨?_, ?_⟩ -- l4: I7 (v2 + 1) F87 A79
            · refine ⟨by omega, ⟨?_, fun i i0 i1' => ?_⟩, ?_, ?_⟩
              · rw [e87, upF_s, r1.1, List.length_append]; simp only [List.length_cons, List.length_nil]; omega
              · have := r1.2 i i0 (by rw [List.length_append]; simp only [List.length_cons, List.length_nil]; omega)
                rw [lsF_app i0 (by omega), upI_n (by omega)] at this
                exact this
              · rw [es, if_pos hst, prG_app, prG_one, if_neg hnp, sBst_app]
                rw [show (a3 - 1).toNat = k by omega] at r2
                exact r2.of (by rw [e87, upF_f (by decide)]) rfl
              · rw [e87]; exact (fr65.trans r3).upF (Or.inr rfl)
            · dsimp only; omega
          · -- case (z45 = 0)
            refine ⟨by omega, ?_⟩ -- s18: jR (v2 + 1)
            refine ⟨?_, ?_⟩ -- l5: I7 (v2 + 1) F3 A4
            · have hst : ¬ 0 < L 2 v2 0 := fun w => by
                have w : 0 < (sRw L v2).1 := w
                rw [if_pos w] at p43; omega
              rw [if_neg hst, List.append_nil] at es
              dsimp only
              rw [es]
              exact ⟨by omega, i2, i3, i4⟩
            · dsimp only; omega
    · -- case (a3 = 0)
      refine ⟨_, sX8_whole (P := lsF p) hx hy h99 rfl ha1 hc1 (by omega) hp pin, ?_⟩ -- call wqX8_whole o a1 N F A P90
      intro z92 F93 A94 p90
      obtain ⟨q1, q2, q3⟩ := p90
      have ea : a3.toNat = 0 := by omega
      have el : (p.length : Int) = ((sStL L (W 3 0 0).toNat).length : Int) := by omega
      have f6 : F93 2706 (x + 97) = st.1 := by rw [(q3 _ (by omega)).1]; exact hs.1
      have eG : G p = z92 := by rw [← hG, q1, el]
      have hp2 := hp.of (F' := F93) (A' := A94) ((q3 _ (by omega)).1 _) (q3 _ (by omega)).2
      have hs2 := hs.of (F' := F93) (A' := A94) ((q3 _ (by omega)).1 _) (q3 _ (by omega)).2
      have eB : sBst G (prA (sStL L (W 3 0 0).toNat) 0 p) st = (if st.1 < z92 then (z92, p) else st) := by
        show sUpd G st p = _
        unfold sUpd
        rw [eG]
      rw [ea, eB]
      refine ⟨fun hc => ?_, fun hc => ?_⟩ -- c5
      · -- case ((F93 2706 o) < z92)
        refine ⟨by exact (hy.1 97 (by decide)).2, ?_⟩ -- s19: jfn N 0 o = 1
        intro F102 e102
        refine ⟨_, sX8_isFirst (n := (p.length : Int)) (P := lsF p) (hx.fr sc ((q3.O (by omega)).upF (f := 2706) (b := x + 97) (z := z92) (Or.inl rfl) |> fun q => by rw [← e102] at q; exact q.fr)) hy rfl (by omega) (hp2.of (by rw [e102, upF_f (by decide)]) rfl), ?_⟩ -- call wqX8_isFirst o N F102 A94 P103
        intro F106 A107 p103
        obtain ⟨v1, v2, v3⟩ := p103
        -- l6: Q F106 A107
        rw [if_pos (by omega)]
        refine ⟨(hp2.of (by rw [v1, e102, upF_f (by decide)]) (v3 _ (by omega))), ⟨by rw [v1, e102, upF_s], by dsimp only; omega, fun _ j j0 j1 => ⟨v2 j j0 (by omega), (hp.2 j j0 (by omega)).1⟩⟩, ?_⟩
        rw [v1, e102]
        exact ((q3.O (by omega)).upF (Or.inl rfl)).arr (fun b _ b2 => v3 b b2)
      · -- case (¬ ((F93 2706 o) < z92))
        -- l7: Q F93 A94
        rw [if_neg (by omega)]
        exact ⟨hp2, hs2, q3.O (by omega)⟩

theorem sX8_best {o : Nat} {a1 : Int} {N : jSh} {F : jFl} {A : jAr} {W L : sTb} {x t : Nat} {wA sA cA lA : Int → Int} {c : Int} (hx : ctx N F A x t W L wA sA cA lA) (hy : lay N x) (h99 : ∀ k : Nat, k < 12 → A (x + 99) k = ((x + 101 + 3 * k : Nat) : Int)) (ho : o = x + 97) (ha1 : a1 = cA c) (hc1 : 0 ≤ c ∧ c < W 2 0 0) : wqX8_best o a1 N F A (fun z F' A' => z = (o : Int) ∧ F' 1506 (x + 98) = sStand L (W 3 0 0) ∧ oFs F' A' x (W 3 0 0) lA (sStand L (W 3 0 0)) (sFortyS W L c) ∧ frO x F A F' A') := by
  unfold wqX8_best
  subst ho
  have sc := hy.scr.mono (lo2 := x + 97) (hi2 := x + 138) (by omega) (by omega)
  have w3 := hx.oW.2.2.2.1
  have hln := sStL_len L (W 3 0 0).toNat
  rw [show (((W 3 0 0).toNat : Nat) : Int) = W 3 0 0 by omega] at hln
  refine ⟨_, by exact (show jfn N 2702 (x + 97) = ((x + 98 : Nat) : Int) from hy.2.1 (2702, 97, 98) (by decide)), ?_⟩ -- d1: jfn N 2702 o = (b1 : Int)
  refine ⟨by exact (hy.1 98 (by decide)).1, ?_⟩ -- s1: jtg N b1 = 5
  refine ⟨by exact (hy.1 98 (by decide)).2, ?_⟩ -- s2: jfn N 0 b1 = 1
  intro F6 e6
  refine ⟨by exact (hy.1 97 (by decide)).2, ?_⟩ -- s3: jfn N 0 o = 1
  intro F9 e9
  have f1 : frO x F A F9 A := by rw [e9, e6]; exact ((frO.refl _ _ _).upF (Or.inr rfl)).upF (Or.inl rfl)
  have hx1 := hx.fr sc f1.fr
  refine ⟨_, by exact (show jfn N 2714 (x + 97) = ((x : Nat) : Int) from hy.2.1 (2714, 97, 0) (by decide)), ?_⟩ -- d10: jfn N 2714 o = (b10 : Int)
  refine ⟨by exact hx.tx, ?_⟩ -- s4: jtg N b10 = 1
  refine ⟨_, by exact hx1.ft, ?_⟩ -- d13: F9 311 b10 = (b13 : Int)
  refine ⟨by exact hx.tt, ?_⟩ -- s5: jtg N b13 = 2
  refine ⟨_, sX1_standing hx1.2.2, ?_⟩ -- call wqX1_standing b13 N F9 A P16
  intro z18 p16
  refine ⟨_, (show z18.toNat + 1 ≤ 60 by omega), ?_⟩ -- d26: fu26 ≤ 60
  refine ⟨_, sX8_search (z18.toNat + 1) (p := []) (st := (-1, [])) hx1 hy h99 rfl ha1 hc1 (by omega) (by rw [hln]; simp only [List.length_nil]; omega) List.nodup_nil ⟨by rw [e9, upF_f (by decide), e6, upF_s]; rfl, fun i i0 i1 => by simp only [List.length_nil] at i1; omega⟩ ⟨by decide, fun w w0 w1 => ⟨fun q => by rw [Int.zero_ediv] at q; exact absurd q (by decide), fun q => absurd q (by simp)⟩⟩ ⟨by rw [e9, upF_s], by decide, fun q => absurd rfl q⟩, ?_⟩ -- call wqX8_search fu26 o a1 0 z18 N F9 A P23
  intro F27 A28 p23
  obtain ⟨r1, r2, r3⟩ := p23
  have hx2 := hx1.fr sc r3.fr
  have ez : z18.toNat = (sStL L (W 3 0 0).toNat).length := by omega
  rw [ez] at r2
  have r2' : oFs F27 A28 x (W 3 0 0) lA (sStand L (W 3 0 0)) (sFortyS W L c) := by rw [← hln]; exact r2
  refine ⟨_, by exact hx2.ft, ?_⟩ -- d33: F27 311 b10 = (b33 : Int)
  refine ⟨by exact hx.tt, ?_⟩ -- s6: jtg N b33 = 2
  refine ⟨_, sX1_standing hx2.2.2, ?_⟩ -- call wqX1_standing b33 N F27 A28 P36
  intro z38 p36
  intro F44 e44
  -- l1: Q (o : Int) F44 A28
  refine ⟨rfl, by rw [e44, upF_s]; exact p36.1, r2'.of (by rw [e44, upF_f (by decide)]) rfl, ?_⟩
  rw [e44]
  exact (f1.trans r3).upF (Or.inr rfl)

theorem sX0_forty {S : Nat → Nat} {o : Nat} {a1 : Int} {a2 : Int} {N : jSh} {F : jFl} {A : jAr} {W L : sTb} {t : Nat} {wA sA cA lA : Int → Int} (hx : ctx N F A o t W L wA sA cA lA) (hy : lay N o) (hs : sarr A o) : wqX0_forty S o a1 a2 N F A (fun z F' A' => z = rForty W L a1 a2 ∧ frO o F A F' A') := by
  unfold wqX0_forty
  have hcc : ∀ a : Int, 0 ≤ a ∧ a < W 2 0 0 → 0 ≤ cA a := fun a h => by obtain ⟨b, u1, -⟩ := hx.ch h; omega
  have w3 := hx.oW.2.2.2.1
  refine ⟨_, sX0_childOf hx, ?_⟩ -- call wqX0_childOf o a1 N F A P1
  intro z3 p1
  refine ⟨fun hc => ?_, fun hc => ?_⟩ -- c1
  · -- case (z3 < 0)
    -- l1: Q (-1) F A
    exact ⟨by unfold rForty; rw [if_neg (by grind)], frO.refl _ _ _⟩
  · -- case (¬ (z3 < 0))
    refine ⟨_, by exact hx.ft, ?_⟩ -- d9: F 311 o = (b9 : Int)
    refine ⟨by exact hx.tt, ?_⟩ -- s1: jtg N b9 = 2
    refine ⟨_, sX1_standing hx.2.2, ?_⟩ -- call wqX1_standing b9 N F A P12
    intro z14 p12
    refine ⟨_, sX0_isIn, ?_⟩ -- call wqX0_isIn z14 1 6 N F A P19
    intro z21 p19
    refine ⟨fun hc => ?_, fun hc => ?_⟩ -- c2
    · -- case (¬ z21 = 0)
      have h1 : 0 ≤ a1 ∧ a1 < W 2 0 0 := by grind
      rw [if_pos h1] at p1
      have h2 : 1 ≤ sStand L (W 3 0 0) ∧ sStand L (W 3 0 0) ≤ 6 := by grind
      have hr : rForty W L a1 a2 = (if a2 = -1 then (sFortyS W L a1).1 else if 0 ≤ a2 ∧ a2 < sStand L (W 3 0 0) then lsF (sFortyS W L a1).2 a2 else -1) := if_pos ⟨h1, h2⟩
      have hs0 : (sFortyS W L a1).1 ≠ -1 := by
        have hln := sStL_len L (W 3 0 0).toNat
        rw [show (((W 3 0 0).toNat : Nat) : Int) = W 3 0 0 by omega] at hln
        rw [(sFortyS_eq (W := W) (L := L) (c := a1) rfl rfl).1]
        exact sBst_pos (chn6 _ (by omega)).2.2 (fun p => (sWh_range (by omega)).1)
      refine ⟨_, by exact hy.p344, ?_⟩ -- d27: jfn N 344 o = (b27 : Int)
      refine ⟨by exact (hy.1 97 (by decide)).1, ?_⟩ -- s2: jtg N b27 = 9
      refine ⟨_, sX8_best hx hy hs.2.1 rfl p1 h1, ?_⟩ -- call wqX8_best b27 z3 N F A P30
      intro z32 F33 A34 p30
      obtain ⟨q1, q2, q3, q4⟩ := p30
      refine ⟨_, by exact q1, ?_⟩ -- d39: z32 = (b39 : Int)
      refine ⟨by exact (hy.1 97 (by decide)).1, ?_⟩ -- s3: jtg N b39 = 9
      refine ⟨_, sX8_tells (n := sStand L (W 3 0 0)) (P := lsF (sFortyS W L a1).2) (hx.fr (hy.scr.mono (by omega) (by omega)) q4.fr) hy rfl ⟨q2, by omega⟩ (fun _ => q3.2.2 hs0), ?_⟩ -- call wqX8_tells b39 a2 N F33 A34 P42
      intro z44 p42
      -- l2: Q z44 F33 A34
      exact ⟨by rw [hr, p42, q3.1], q4⟩
    · -- case (z21 = 0)
      -- l3: Q (-1) F A
      exact ⟨by unfold rForty; rw [if_neg (by grind)], frO.refl _ _ _⟩

