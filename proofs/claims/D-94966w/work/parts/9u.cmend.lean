set_option maxRecDepth 100000
set_option linter.unusedVariables false
/-! the component: mended; printed by gen/prove.py out of spec/9u.cmend.spec -/
def rMended (W L : sTb) (l k z : Int) : Prop := if 0 ≤ l ∧ l < W 3 0 0 ∧ 0 < L 2 l 0 then ∃ c : Nat, sMdE (sGd W L l) (fun j => j) (L 2 l 0) c ∧ z = (if k = 20 then (c : Int) else if k = -1 then (sMd (sGd W L l) (fun j => j) (L 2 l 0) c).2 else if 0 ≤ k ∧ k < L 2 l 0 then (sMd (sGd W L l) (fun j => j) (L 2 l 0) c).1 k else -1) else z = -1
theorem rMended.one {W L : sTb} {l k z z' : Int} (h : rMended W L l k z) (h' : rMended W L l k z') : z = z' := by
  unfold rMended at h h'
  by_cases q : 0 ≤ l ∧ l < W 3 0 0 ∧ 0 < L 2 l 0
  · rw [if_pos q] at h h'
    obtain ⟨c, h1, h2⟩ := h
    obtain ⟨c', h1', h2'⟩ := h'
    have e := h1.one h1'
    subst e
    rw [h2, h2']
  · rw [if_neg q] at h h'
    rw [h, h']
theorem sGd_range {W L : sTb} {l : Int} (hW : sWok W) (P : Int → Int) : 0 ≤ sGd W L l P ∧ sGd W L l P ≤ 10 := by
  have g := sByR_range (W := W) (R := sPtR (sRw L l) P) (s := L 4 l 0) hW.2.2.1.1
  have := hW.2.2.1
  unfold sGd
  omega
theorem sX7_swaps {o : Nat} {a1 : Int} {a2 : Int} {N : jSh} {F : jFl} {A : jAr} {W L : sTb} {x t : Nat} {wA sA cA lA : Int → Int} {l : Int} {P : Int → Int} (hx : ctx N F A x t W L wA sA cA lA) (hy : lay N x) (ho : o = x + 92) (h11 : F 2411 o = lA l) (hl : 0 ≤ l ∧ l < W 3 0 0) (hp : ptR (W 0 0 0) N F A x wA (sRw L l) (sRw L l).1 P) (h1 : 0 ≤ a1 ∧ a1 < (sRw L l).1) (h2 : 0 ≤ a2 ∧ a2 < (sRw L l).1) : wqX7_swaps o a1 a2 N F A (fun F' A' => F' = F ∧ ptR (W 0 0 0) N F' A' x wA (sRw L l) (sRw L l).1 (sX P a1 a2) ∧ ∀ b, b ≠ x + 94 → b ≠ x + 95 → A' b = A b) := by
  unfold wqX7_swaps
  subst ho
  have hRk := sRw_ok hx.oL hl
  have m8 := hRk.1
  have l95 := hy.2.2 (95, 8) (by decide)
  dsimp only at l95
  have sc := hy.scr.mono (lo2 := x + 11) (hi2 := x + 97) (by omega) (by omega)
  obtain ⟨R', -, -, -, -, -, h6⟩ := id hp
  have e1 := h6 a1 h1.1 h1.2
  have e2 := h6 a2 h2.1 h2.2
  refine ⟨_, by exact (show jfn N 2405 (x + 92) = ((x + 95 : Nat) : Int) from hy.2.1 (2405, 92, 95) (by decide)), ?_⟩ -- d1: jfn N 2405 o = (b1 : Int)
  refine ⟨by exact (hy.1 95 (by decide)).1, ?_⟩ -- s1: jtg N b1 = 102
  refine ⟨by rw [l95]; omega, ?_⟩ -- s2: ((0 : Int) ≤ a1 ∧ (a1 : Int) < (jln N b1 : Int))
  intro v5 e5
  refine ⟨by rw [l95]; omega, ?_⟩ -- s3: ((0 : Int) ≤ a2 ∧ (a2 : Int) < (jln N b1 : Int))
  refine ⟨_, sX7_puts (k' := (sRw L l).1) hx hy rfl h11 hl hp h1 (by rw [e2.1]; exact e2.2) (Or.inl ⟨h1.2, rfl⟩), ?_⟩ -- call wqX7_puts o a1 (A b1 a2) N F A P7
  intro F10 A11 p7
  obtain ⟨q1, q2, q3⟩ := p7
  subst q1
  refine ⟨_, sX7_puts (k' := (sRw L l).1) (hx.fr sc ((frP.refl _ _ _).arr (fun b b1 b2 _ => q3 b b1 b2)).fr) hy rfl h11 hl q2 h2 (by rw [e5, e1.1]; exact e1.2) (Or.inl ⟨h2.2, rfl⟩), ?_⟩ -- call wqX7_puts o a2 v5 N F10 A11 P16
  intro F19 A20 p16
  obtain ⟨r1, r2, r3⟩ := p16
  -- l1: Q F19 A20
  refine ⟨r1, ?_, fun b b1 b2 => by rw [r3 b b1 b2, q3 b b1 b2]⟩
  rw [e5, e1.1, e2.1] at r2
  rw [r1]
  exact r2

set_option maxHeartbeats 1000000 in
theorem sX7_isBetter {o : Nat} {N : jSh} {F : jFl} {A : jAr} {W L : sTb} {x t : Nat} {wA sA cA lA : Int → Int} {l most : Int} {P : Int → Int} (hx : ctx N F A x t W L wA sA cA lA) (hy : lay N x) (ho : o = x + 92) (h11 : F 2411 o = lA l) (hl : 0 ≤ l ∧ l < W 3 0 0) (hst : 0 < L 2 l 0) (hp : ptR (W 0 0 0) N F A x wA (sRw L l) (sRw L l).1 P) (h12 : F 2412 o = most) : wqX7_isBetter o N F A (fun z F' A' => (if (sExA (sGd W L l) P (sRw L l).1 most).2.1 = -1 then z = 0 ∧ ptR (W 0 0 0) N F' A' x wA (sRw L l) (sRw L l).1 P ∧ F' 2412 o = most else z = 1 ∧ ptR (W 0 0 0) N F' A' x wA (sRw L l) (sRw L l).1 (sX P (sExA (sGd W L l) P (sRw L l).1 most).2.1 (sExA (sGd W L l) P (sRw L l).1 most).2.2) ∧ F' 2412 o = (sExA (sGd W L l) P (sRw L l).1 most).1) ∧ F' 2411 o = lA l ∧ F' 2415 o = F 2415 o ∧ frP x F A F' A') := by
  unfold wqX7_isBetter
  subst ho
  have hRk := sRw_ok hx.oL hl
  have m8 := hRk.1
  have sc := hy.scr.mono (lo2 := x + 11) (hi2 := x + 97) (by omega) (by omega)
  have ek : ∀ {F A P}, ptR (W 0 0 0) N F A x wA (sRw L l) (sRw L l).1 P → F 1203 (x + 93) = (sRw L l).1 := fun {F A P} q => by
    obtain ⟨R', q1, q2, q3, -⟩ := q
    rw [q1.2.1]; exact q3.1
  intro v1 e1
  refine ⟨fun (v2 : Int) (v3 : Int) (v4 : Int) (v5 : Int) (F6 : jFl) (A7 : jAr) => (0 ≤ v5 ∧ v5 ≤ (sRw L l).1) ∧ it (sExR (sGd W L l) P (sRw L l).1) (most, -1, -1) v5.toNat = (v4, v2, v3) ∧ (∀ f, F6 f (x + 92) = F f (x + 92)) ∧ ptR (W 0 0 0) N F6 A7 x wA (sRw L l) (sRw L l).1 P ∧ frP x F A F6 A7, fun v2 v3 v4 v5 F6 A7 => ((sRw L l).1 - v5).toNat, ?_, ?_⟩ -- loop I10 I10 (-1) (-1) v1 0 F A
  ·
    -- l1: I10 (-1) (-1) v1 0 F A
    exact ⟨by omega, by rw [e1, h12]; rfl, fun _ => rfl, hp, frP.refl _ _ _⟩
  intro v2 v3 v4 v5 F6 A7 i10
  obtain ⟨i1, i2, i3, i4, i5⟩ := i10
  have hx1 := hx.fr sc i5.fr
  refine ⟨_, by exact (show jfn N 2402 (x + 92) = ((x + 93 : Nat) : Int) from hy.2.1 (2402, 92, 93) (by decide)), ?_⟩ -- d12: jfn N 2402 o = (b12 : Int)
  refine ⟨by exact hy.put.1, ?_⟩ -- s1: jtg N b12 = 4
  rw [ek i4]
  refine ⟨fun hc => ?_, fun hc => ?_⟩ -- c1
  · -- case ((F6 1203 b12) ≤ v5)
    have ev : v5 = (sRw L l).1 := by omega
    have eA : sExA (sGd W L l) P (sRw L l).1 most = (v4, v2, v3) := by
      unfold sExA
      rw [← ev] at i2 ⊢
      exact i2
    have okA := sExA_ok (G := sGd W L l) (P := P) (n := (sRw L l).1) (most := most) (v := (sRw L l).1) (by omega)
    have eA2 : it (sExR (sGd W L l) P (sRw L l).1) (most, -1, -1) (sRw L l).1.toNat = (v4, v2, v3) := eA
    rw [eA2] at okA
    dsimp only at okA
    rw [eA]
    dsimp only
    refine ⟨fun hc => ?_, fun hc => ?_⟩ -- c2
    · -- case (¬ v2 = (-1))
      refine ⟨_, sX7_swaps hx1 hy rfl (by rw [i3]; exact h11) hl i4 (by omega) (by omega), ?_⟩ -- call wqX7_swaps o v2 v3 N F6 A7 P17
      intro F20 A21 p17
      obtain ⟨q1, q2, q3⟩ := p17
      subst q1
      refine ⟨by exact (hy.1 92 (by decide)).2, ?_⟩ -- s2: jfn N 0 o = 1
      intro F28 e28
      -- l2: Q 1 F28 A21
      rw [if_neg hc]
      refine ⟨⟨rfl, q2.of (by rw [e28, upF_f (by decide)]) (by rw [e28, upF_f (by decide)]) rfl rfl, by rw [e28, upF_s]⟩, by rw [e28, upF_f (by decide), i3]; exact h11, by rw [e28, upF_f (by decide), i3], ?_⟩
      rw [e28]
      exact (i5.upF).arr (fun b b1 b2 _ => q3 b b1 b2)
    · -- case (v2 = (-1))
      -- l3: Q 0 F6 A7
      rw [if_pos hc]
      exact ⟨⟨rfl, i4, by rw [i3]; exact h12⟩, by rw [i3]; exact h11, i3 _, i5⟩
  · -- case (¬ ((F6 1203 b12) ≤ v5))
    refine ⟨by omega, ?_⟩ -- s3: jR (v5 + 1)
    intro v30 e30
    refine ⟨fun (v31 : Int) (v32 : Int) (v33 : Int) (v34 : Int) (F35 : jFl) (A36 : jAr) => (v5 + 1 ≤ v34 ∧ v34 ≤ (sRw L l).1) ∧ it (sExI (sGd W L l) P v5) (v4, v2, v3) v34.toNat = (v33, v31, v32) ∧ (∀ f, F35 f (x + 92) = F f (x + 92)) ∧ ptR (W 0 0 0) N F35 A36 x wA (sRw L l) (sRw L l).1 P ∧ frP x F A F35 A36, fun v31 v32 v33 v34 F35 A36 => ((sRw L l).1 - v34).toNat, ?_, ?_⟩ -- loop I39 I39 v2 v3 v4 v30 F6 A7
    ·
      -- l4: I39 v2 v3 v4 v30 F6 A7
      refine ⟨by omega, ?_, i3, i4, i5⟩
      rw [e30]
      exact sExI_skip i1.1
    intro v31 v32 v33 v34 F35 A36 i39
    obtain ⟨j1, j2, j3, j4, j5⟩ := i39
    have hx2 := hx.fr sc j5.fr
    rw [ek j4]
    refine ⟨fun hc => ?_, fun hc => ?_⟩ -- c3
    · -- case ((F35 1203 b12) ≤ v34)
      refine ⟨by omega, ?_⟩ -- s4: jR (v5 + 1)
      refine ⟨?_, ?_⟩ -- l5: I10 v31 v32 v33 (v5 + 1) F35 A36
      · refine ⟨by omega, ?_, j3, j4, j5⟩
        rw [it_succ _ _ i1.1, i2]
        show it (sExI (sGd W L l) P v5) (v4, v2, v3) (sRw L l).1.toNat = _
        rw [show (sRw L l).1 = v34 by omega]
        exact j2
      · dsimp only; omega
    · -- case (¬ ((F35 1203 b12) ≤ v34))
      refine ⟨_, sX7_swaps hx2 hy rfl (by rw [j3]; exact h11) hl j4 (by omega) (by omega), ?_⟩ -- call wqX7_swaps o v5 v34 N F35 A36 P43
      intro F46 A47 p43
      obtain ⟨q1, q2, q3⟩ := p43
      subst q1
      have f1 := j5.arr (fun b b1 b2 _ => q3 b b1 b2)
      have hx3 := hx.fr sc f1.fr
      refine ⟨_, sX7_many hx3 hy rfl (by rw [j3]; exact h11) hl hst q2, ?_⟩ -- call wqX7_many o N F46 A47 P52
      intro z54 F55 A56 p52
      obtain ⟨r1, r2, r3⟩ := p52
      have f2 := f1.trans (r3.P (by omega))
      refine ⟨_, sX7_swaps (hx.fr sc f2.fr) hy rfl (by rw [(r3 _ (by omega)).1, j3]; exact h11) hl (q2.fr r3 (by omega)) (by omega) (by omega), ?_⟩ -- call wqX7_swaps o v5 v34 N F55 A56 P61
      intro F64 A65 p61
      obtain ⟨s1, s2, s3⟩ := p61
      subst s1
      rw [sX_sX (by omega)] at s2
      have f3 := f2.arr (fun b b1 b2 _ => s3 b b1 b2)
      have ff : ∀ f, F64 f (x + 92) = F f (x + 92) := fun f => by rw [(r3 _ (by omega)).1, j3]
      have eI := it_succ (sExI (sGd W L l) P v5) (v4, v2, v3) (show 0 ≤ v34 by omega)
      rw [j2] at eI
      have eS : sExI (sGd W L l) P v5 v34 (v33, v31, v32) = (if v5 < v34 ∧ v33 < z54 then (z54, v5, v34) else (v33, v31, v32)) := by
        unfold sExI
        rw [r1]
      refine ⟨fun hc => ?_, fun hc => ?_⟩ -- c4
      · -- case (v33 < z54)
        refine ⟨by omega, ?_⟩ -- s5: jR (v34 + 1)
        refine ⟨?_, ?_⟩ -- l6: I39 v5 v34 z54 (v34 + 1) F64 A65
        · refine ⟨by omega, ?_, ff, s2, f3⟩
          rw [eI, eS, if_pos ⟨by omega, hc⟩]
        · dsimp only; omega
      · -- case (¬ (v33 < z54))
        refine ⟨by omega, ?_⟩ -- s6: jR (v34 + 1)
        refine ⟨?_, ?_⟩ -- l7: I39 v31 v32 v33 (v34 + 1) F64 A65
        · refine ⟨by omega, ?_, ff, s2, f3⟩
          rw [eI, eS, if_neg (fun w => hc w.2)]
        · dsimp only; omega

set_option maxHeartbeats 1000000 in
theorem sX7_mends {o : Nat} {N : jSh} {F : jFl} {A : jAr} {W L : sTb} {x t : Nat} {wA sA cA lA : Int → Int} {l : Int} (hx : ctx N F A x t W L wA sA cA lA) (hy : lay N x) (ho : o = x + 92) (h11 : F 2411 o = lA l) (h15 : F 2415 o = 0) (hl : 0 ≤ l ∧ l < W 3 0 0) (hst : 0 < L 2 l 0) (hp : ptR (W 0 0 0) N F A x wA (sRw L l) (sRw L l).1 (fun j => j)) : wqX7_mends o N F A (fun z F' A' => z = (o : Int) ∧ (∃ c : Nat, sMdE (sGd W L l) (fun j => j) (sRw L l).1 c ∧ F' 2412 o = (sMd (sGd W L l) (fun j => j) (sRw L l).1 c).2 ∧ F' 2415 o = (c : Int) ∧ ∀ j : Int, 0 ≤ j → j < (sRw L l).1 → A' (x + 96) j = (sMd (sGd W L l) (fun j => j) (sRw L l).1 c).1 j) ∧ F' 1203 (x + 93) = (sRw L l).1 ∧ frP x F A F' A') := by
  unfold wqX7_mends
  subst ho
  have hRk := sRw_ok hx.oL hl
  have m8 := hRk.1
  have sc := hy.scr.mono (lo2 := x + 11) (hi2 := x + 97) (by omega) (by omega)
  have ek : ∀ {F A P}, ptR (W 0 0 0) N F A x wA (sRw L l) (sRw L l).1 P → F 1203 (x + 93) = (sRw L l).1 := fun {F A P} q => by
    obtain ⟨R', q1, q2, q3, -⟩ := q
    rw [q1.2.1]; exact q3.1
  have l95 := hy.2.2 (95, 8) (by decide)
  have l96 := hy.2.2 (96, 8) (by decide)
  dsimp only at l95 l96
  have gr := fun P => sGd_range (L := L) (l := l) hx.oW P
  refine ⟨_, sX7_many hx hy rfl h11 hl hst hp, ?_⟩ -- call wqX7_many o N F A P1
  intro z3 F4 A5 p1
  obtain ⟨q1, q2, q3⟩ := p1
  refine ⟨by exact (hy.1 92 (by decide)).2, ?_⟩ -- s1: jfn N 0 o = 1
  intro F12 e12
  refine ⟨fun (F13 : jFl) (A14 : jAr) => ∃ c : Nat, (∀ j, j < c → ¬ sMdF (sGd W L l) (fun j => j) (sRw L l).1 j) ∧ ptR (W 0 0 0) N F13 A14 x wA (sRw L l) (sRw L l).1 (sMd (sGd W L l) (fun j => j) (sRw L l).1 c).1 ∧ F13 2412 (x + 92) = (sMd (sGd W L l) (fun j => j) (sRw L l).1 c).2 ∧ F13 2415 (x + 92) = (c : Int) ∧ F13 2411 (x + 92) = lA l ∧ frP x F A F13 A14, fun F13 A14 => (20 - (F13 2415 (x + 92)).toNat), ?_, ?_⟩ -- loop I17 I17 F12 A5
  ·
    -- l1: I17 F12 A5
    refine ⟨0, fun j hj => by omega, (hp.fr q3 (by omega)).of (by rw [e12, upF_f (by decide)]) (by rw [e12, upF_f (by decide)]) rfl rfl, by rw [e12, upF_s, q1]; rfl, by rw [e12, upF_f (by decide), (q3 _ (by omega)).1]; exact h15, by rw [e12, upF_f (by decide), (q3 _ (by omega)).1]; exact h11, ?_⟩
    rw [e12]
    exact (q3.P (by omega)).upF
  intro F13 A14 i17
  obtain ⟨c, i1, i2, i3, i4, i5, i6⟩ := i17
  have hcu := sMd_up (G := sGd W L l) (P0 := fun j => j) (n := (sRw L l).1) (k := c) m8.1 (gr _).1 i1
  have hcl := sMd_le (G := sGd W L l) (P0 := fun j => j) (n := (sRw L l).1) (m := 10) (fun P => (gr P).2) c
  refine ⟨_, sX7_isBetter (most := (sMd (sGd W L l) (fun j => j) (sRw L l).1 c).2) (hx.fr sc i6.fr) hy rfl i5 hl hst i2 i3, ?_⟩ -- call wqX7_isBetter o N F13 A14 P19
  intro z21 F22 A23 p19
  obtain ⟨u1, u2, u3, u4⟩ := p19
  have hF : sMdF (sGd W L l) (fun j => j) (sRw L l).1 c ↔ z21 = 0 := by
    unfold sMdF
    by_cases w : (sExA (sGd W L l) (sMd (sGd W L l) (fun j => j) (sRw L l).1 c).1 (sRw L l).1 (sMd (sGd W L l) (fun j => j) (sRw L l).1 c).2).2.1 = -1
    · rw [if_pos w] at u1
      exact ⟨fun _ => u1.1, fun _ => w⟩
    · rw [if_neg w] at u1
      exact ⟨fun q => absurd q w, fun q => by omega⟩
  refine ⟨fun hc => ?_, fun hc => ?_⟩ -- c1
  · -- case (z21 = 0)
    rw [if_pos (show (sExA (sGd W L l) (sMd (sGd W L l) (fun j => j) (sRw L l).1 c).1 (sRw L l).1 (sMd (sGd W L l) (fun j => j) (sRw L l).1 c).2).2.1 = -1 from hF.mpr hc)] at u1
    obtain ⟨-, y1, y2⟩ := u1
    refine ⟨fun (v29 : Int) (A30 : jAr) => (0 ≤ v29 ∧ v29 ≤ (sRw L l).1) ∧ (∀ j : Int, 0 ≤ j → j < v29 → A30 (x + 96) j = (sMd (sGd W L l) (fun j => j) (sRw L l).1 c).1 j) ∧ ∀ b, b ≠ x + 96 → A30 b = A23 b, fun v29 A30 => ((sRw L l).1 - v29).toNat, ?_, ?_⟩ -- loop I33 I33 0 A23
    ·
      -- l2: I33 0 A23
      exact ⟨by omega, fun j j0 j1 => by omega, fun _ _ => rfl⟩
    intro v29 A30 i33
    obtain ⟨j1, j2, j3⟩ := i33
    refine ⟨_, by exact (show jfn N 2402 (x + 92) = ((x + 93 : Nat) : Int) from hy.2.1 (2402, 92, 93) (by decide)), ?_⟩ -- d35: jfn N 2402 o = (b35 : Int)
    refine ⟨by exact hy.put.1, ?_⟩ -- s2: jtg N b35 = 4
    rw [ek y1]
    refine ⟨fun hc => ?_, fun hc => ?_⟩ -- c2
    · -- case ((F22 1203 b35) ≤ v29)
      -- l3: Q (o : Int) F22 A30
      refine ⟨rfl, ⟨c, ⟨hF.mpr (by assumption), i1⟩, y2, by rw [u3, i4], fun j j0 j1' => j2 j j0 (by omega)⟩, ek y1, (i6.trans u4).arr (fun b _ _ b3 => j3 b b3)⟩
    · -- case (¬ ((F22 1203 b35) ≤ v29))
      refine ⟨_, by exact (show jfn N 2405 (x + 92) = ((x + 95 : Nat) : Int) from hy.2.1 (2405, 92, 95) (by decide)), ?_⟩ -- d39: jfn N 2405 o = (b39 : Int)
      refine ⟨by exact (hy.1 95 (by decide)).1, ?_⟩ -- s3: jtg N b39 = 102
      refine ⟨by rw [l95]; omega, ?_⟩ -- s4: ((0 : Int) ≤ v29 ∧ (v29 : Int) < (jln N b39 : Int))
      refine ⟨_, by exact (show jfn N 2408 (x + 92) = ((x + 96 : Nat) : Int) from hy.2.1 (2408, 92, 96) (by decide)), ?_⟩ -- d43: jfn N 2408 o = (b43 : Int)
      refine ⟨by exact (hy.1 96 (by decide)).1, ?_⟩ -- s5: jtg N b43 = 102
      refine ⟨by exact (hy.1 96 (by decide)).2, ?_⟩ -- s6: jfn N 0 b43 = 1
      refine ⟨by rw [l96]; omega, ?_⟩ -- s7: ((0 : Int) ≤ v29 ∧ (v29 : Int) < (jln N b43 : Int))
      intro A48 e48
      refine ⟨by omega, ?_⟩ -- s8: jR (v29 + 1)
      refine ⟨?_, ?_⟩ -- l4: I33 (v29 + 1) A48
      · refine ⟨by omega, fun j j0 j1' => ?_, fun b hb => by rw [e48, upA_o hb]; exact j3 b hb⟩
        by_cases w : j = v29
        · rw [w, e48, upA_s, j3 _ (by omega)]
          obtain ⟨R', -, -, -, -, -, h6⟩ := y1
          exact (h6 v29 j1.1 (by omega)).1
        · rw [e48, upA_i w]; exact j2 j j0 (by omega)
      · dsimp only; omega
  · -- case (¬ (z21 = 0))
    refine ⟨by rw [u3, i4]; omega, ?_⟩ -- s9: jR ((F22 2415 o) + 1)
    intro F53 e53
    refine ⟨?_, ?_⟩ -- l5: I17 F53 A23
    · have nF : ¬ sMdF (sGd W L l) (fun j => j) (sRw L l).1 c := fun q => hc (hF.mp q)
      have nF2 := nF
      unfold sMdF at nF2
      rw [if_neg nF2] at u1
      refine ⟨c + 1, fun j hj => ?_, u1.2.1.of (by rw [e53, upF_f (by decide)]) (by rw [e53, upF_f (by decide)]) rfl rfl, by rw [e53, upF_f (by decide)]; exact u1.2.2, by rw [e53, upF_s, u3, i4]; omega, by rw [e53, upF_f (by decide)]; exact u2, ?_⟩
      · by_cases w : j = c
        · rw [w]; exact nF
        · exact i1 j (by omega)
      · rw [e53]; exact (i6.trans u4).upF
    · dsimp only; rw [e53, upF_s, u3, i4]; omega

theorem sX0_mended {o : Nat} {a1 : Int} {a2 : Int} {N : jSh} {F : jFl} {A : jAr} {W L : sTb} {t : Nat} {wA sA cA lA : Int → Int} (hx : ctx N F A o t W L wA sA cA lA) (hy : lay N o) : wqX0_mended o a1 a2 N F A (fun z F' A' => rMended W L a1 a2 z ∧ frP o F A F' A') := by
  unfold wqX0_mended
  have hll : ∀ a : Int, 0 ≤ a ∧ a < W 3 0 0 → 0 ≤ lA a := fun a h => by obtain ⟨b, u1, -⟩ := hx.lw h; omega
  refine ⟨_, sX0_standingOf hx, ?_⟩ -- call wqX0_standingOf o a1 N F A P1
  intro z3 p1
  refine ⟨fun hc => ?_, fun hc => ?_⟩ -- c1
  · -- case (¬ z3 < 0)
    have h1 : 0 ≤ a1 ∧ a1 < W 3 0 0 ∧ 0 < L 2 a1 0 := by grind
    have hl : 0 ≤ a1 ∧ a1 < W 3 0 0 := by omega
    rw [if_pos h1] at p1
    have hRk := sRw_ok hx.oL hl
    have e1 : (sRw L a1).1 = L 2 a1 0 := rfl
    refine ⟨_, by exact hy.p341, ?_⟩ -- d9: jfn N 341 o = (b9 : Int)
    refine ⟨by exact (hy.1 92 (by decide)).1, ?_⟩ -- s1: jtg N b9 = 8
    refine ⟨_, sX7_of hx hy rfl p1 hl, ?_⟩ -- call wqX7_of b9 z3 N F A P12
    intro z14 F15 A16 p12
    obtain ⟨q1, ⟨q2, q3, q4⟩, q5, q6⟩ := p12
    refine ⟨_, by exact q1, ?_⟩ -- d21: z14 = (b21 : Int)
    refine ⟨by exact (hy.1 92 (by decide)).1, ?_⟩ -- s2: jtg N b21 = 8
    refine ⟨_, sX7_mends (hx.fr (hy.scr.mono (by omega) (by omega)) q6.fr) hy rfl q2 q4 hl h1.2.2 q5, ?_⟩ -- call wqX7_mends b21 N F15 A16 P24
    intro z26 F27 A28 p24
    obtain ⟨r1, ⟨c, r2, r3, r4, r5⟩, r6, r7⟩ := p24
    refine ⟨fun hc => ?_, fun hc => ?_⟩ -- c2
    · -- case (¬ a2 = 20)
      refine ⟨_, sX7_tells (m := (sRw L a1).1) hy rfl r6 hRk.1, ?_⟩ -- call wqX7_tells b9 a2 N F27 A28 P34
      intro z36 p34
      -- l1: Q z36 F27 A28
      refine ⟨?_, q6.trans r7⟩
      unfold rMended
      rw [if_pos h1]
      refine ⟨c, r2, ?_⟩
      rw [if_neg (by omega), p34, r3]
      by_cases w : a2 = -1
      · rw [if_pos w, if_pos w]; rfl
      · rw [if_neg w, if_neg w]
        by_cases w2 : 0 ≤ a2 ∧ a2 < L 2 a1 0
        · rw [if_pos w2, if_pos (by rw [e1]; exact w2)]
          exact r5 a2 w2.1 (by rw [e1]; exact w2.2)
        · rw [if_neg w2, if_neg (by rw [e1]; exact w2)]
    · -- case (a2 = 20)
      -- l2: Q (F27 2415 b9) F27 A28
      refine ⟨?_, q6.trans r7⟩
      unfold rMended
      rw [if_pos h1]
      exact ⟨c, r2, by rw [if_pos (by omega), r4]⟩
  · -- case (z3 < 0)
    -- l3: Q (-1) F A
    exact ⟨by unfold rMended; rw [if_neg (by grind)], frP.refl _ _ _⟩

