set_option maxRecDepth 100000
set_option linter.unusedVariables false
/-! the component says, sits; law, child, odds, meaning; printed by gen/prove.py out of spec/97.cs10.spec -/
theorem sX0_meaning {S : Nat → Nat} {o : Nat} {a1 : Int} {N : jSh} {F : jFl} {A : jAr} {wA sA cA lA : Int → Int} {W L : sTb} {t : Nat} (hx : ctx N F A o t W L wA sA cA lA) : wqX0_meaning S o a1 N F A (fun z => z = rMeaning W L a1) := by
  unfold wqX0_meaning
  refine ⟨_, sX0_lawOf hx, ?_⟩ -- call wqX0_lawOf o a1 N F A P1
  intro z3 p1
  refine ⟨fun hc => ?_, fun hc => ?_⟩ -- c1
  · -- case (¬ z3 < 0)
    have h1 : 0 ≤ a1 ∧ a1 < W 3 0 0 := by grind
    obtain ⟨b, u1, u2, u3, u4⟩ := hx.lw h1
    rw [if_pos h1] at p1
    refine ⟨_, by exact p1.trans u1, ?_⟩ -- d9: z3 = (b9 : Int)
    refine ⟨by exact u2.1, ?_⟩ -- s1: jtg N b9 = 17
    refine ⟨_, by exact u2.2.2.2.1, ?_⟩ -- d12: jfn N 5102 b9 = (b12 : Int)
    refine ⟨by exact u2.2.2.2.2.1, ?_⟩ -- s2: jtg N b12 = 4
    refine ⟨_, sX3_meaning (W := W) u4 (sRw_ok hx.2.1.2 h1) hx.wd hx.2.1.1, ?_⟩ -- call wqX3_meaning b12 N F A P15
    intro z17 p15
    -- l1: Q z17
    rw [p15.1]; exact (if_pos h1).symm
  · -- case (z3 < 0)
    -- l2: Q 1000000000
    have h1 : ¬ (0 ≤ a1 ∧ a1 < W 3 0 0) := fun h1 => by
      obtain ⟨b, u1, -⟩ := hx.lw h1
      rw [if_pos h1] at p1
      omega
    exact (if_neg h1).symm

theorem sX0_says {o : Nat} {a1 : Int} {a2 : Int} {a3 : Int} {N : jSh} {F : jFl} {A : jAr} {wA sA cA lA : Int → Int} {W L : sTb} {t : Nat} (hx : ctx N F A o t W L wA sA cA lA) (hy : lay N o) : wqX0_says o a1 a2 a3 N F A (fun z F' A' => z = rSays W L a1 a2 a3 ∧ fr (o + 11) (o + 14) F A F' A') := by
  unfold wqX0_says
  have hcc : ∀ a : Int, 0 ≤ a ∧ a < W 2 0 0 → 0 ≤ cA a := fun a h => by obtain ⟨b, u1, -⟩ := hx.ch h; omega
  have hll : ∀ a : Int, 0 ≤ a ∧ a < W 3 0 0 → 0 ≤ lA a := fun a h => by obtain ⟨b, u1, -⟩ := hx.lw h; omega
  refine ⟨_, sX0_childOf hx, ?_⟩ -- call wqX0_childOf o a1 N F A P1
  intro z3 p1
  refine ⟨_, sX0_standingOf hx, ?_⟩ -- call wqX0_standingOf o a2 N F A P8
  intro z10 p8
  refine ⟨fun hc => ?_, fun hc => ?_⟩ -- c1
  · -- case (z3 < 0)
    -- l1: Q (-1) F A
    exact ⟨(if_neg (by grind)).symm, fr.refl _ _ _ _⟩
  · -- case (¬ (z3 < 0))
    refine ⟨fun hc => ?_, fun hc => ?_⟩ -- c2
    · -- case (¬ z10 < 0)
      have h1 : 0 ≤ a1 ∧ a1 < W 2 0 0 := by grind
      have h2 : 0 ≤ a2 ∧ a2 < W 3 0 0 ∧ 0 < L 2 a2 0 := by grind
      have h3 : 0 ≤ a2 ∧ a2 < W 3 0 0 := by omega
      rw [if_pos h1] at p1
      rw [if_pos h2] at p8
      refine ⟨_, by exact hy.p326, ?_⟩ -- d17: jfn N 326 o = (b17 : Int)
      refine ⟨by exact hy.alone.1, ?_⟩ -- s1: jtg N b17 = 3
      refine ⟨_, sX2_of hx hy.alone (hy.scr.mono (by omega) (by omega)) p1 h1 p8 h3, ?_⟩ -- call wqX2_of b17 z3 z10 N F A P20
      intro z22 F23 A24 p20
      obtain ⟨q1, q2, q3⟩ := p20
      refine ⟨_, by exact q1, ?_⟩ -- d29: z22 = (b29 : Int)
      refine ⟨by exact hy.alone.1, ?_⟩ -- s2: jtg N b29 = 3
      refine ⟨_, sX2_tells (W := W) hy.alone q2 (sSayR_ok hx.2.1.1 h1 (sRw_ok hx.2.1.2 h3)) (hx.fr (hy.scr.mono (by omega) (by omega)) q3).wd, ?_⟩ -- call wqX2_tells b29 a3 N F23 A24 P32
      intro z34 p32
      -- l2: Q z34 F23 A24
      exact ⟨p32.trans (if_pos ⟨h1, h3, h2.2.2⟩).symm, q3⟩
    · -- case (z10 < 0)
      -- l3: Q (-1) F A
      exact ⟨(if_neg (by grind)).symm, fr.refl _ _ _ _⟩

theorem sX0_odds {o : Nat} {a1 : Int} {N : jSh} {F : jFl} {A : jAr} {wA sA cA lA : Int → Int} {W L : sTb} {t : Nat} (hx : ctx N F A o t W L wA sA cA lA) (hy : lay N o) : wqX0_odds o a1 N F A (fun z F' A' => z = rOdds W L a1 ∧ fr (o + 11) (o + 14) F A F' A') := by
  unfold wqX0_odds
  have hll : ∀ a : Int, 0 ≤ a ∧ a < W 3 0 0 → 0 ≤ lA a := fun a h => by obtain ⟨b, u1, -⟩ := hx.lw h; omega
  have w2 := hx.2.1.1.2.2.1
  refine ⟨_, sX0_standingOf hx, ?_⟩ -- call wqX0_standingOf o a1 N F A P1
  intro z3 p1
  refine ⟨fun hc => ?_, fun hc => ?_⟩ -- c1
  · -- case (z3 < 0)
    -- l1: Q (-1) F A
    exact ⟨(if_neg (by grind)).symm, fr.refl _ _ _ _⟩
  · -- case (¬ (z3 < 0))
    refine ⟨_, by exact hx.1.2.2, ?_⟩ -- d9: F 311 o = (b9 : Int)
    refine ⟨by exact hx.2.2.1.1, ?_⟩ -- s1: jtg N b9 = 2
    refine ⟨_, by exact hx.2.2.1.2.2.2.2.1, ?_⟩ -- d12: jfn N 623 b9 = (b12 : Int)
    refine ⟨by exact hx.lC.1.1, ?_⟩ -- s2: jtg N b12 = 20
    refine ⟨_, sJ2_isEmpty hx.lC, ?_⟩ -- call wqJ2_isEmpty b12 N F A P15
    intro z17 p15
    refine ⟨fun hc => ?_, fun hc => ?_⟩ -- c2
    · -- case (z17 = 0)
      have h2 : 0 ≤ a1 ∧ a1 < W 3 0 0 ∧ 0 < L 2 a1 0 := by grind
      have h3 : 0 ≤ a1 ∧ a1 < W 3 0 0 := by omega
      have h4 : 0 < W 2 0 0 := by grind
      rw [if_pos h2] at p1
      obtain ⟨b, u1, u2, u3, u4⟩ := hx.lw h3
      have hq := (hx.2.1.2.2.2.2.1 a1 h3.1 h3.2).2.2.2
      have hsc := hy.scr.2 b
      refine ⟨_, by exact p1.trans u1, ?_⟩ -- d23: z3 = (b23 : Int)
      refine ⟨by exact u2.1, ?_⟩ -- s3: jtg N b23 = 17
      refine ⟨by rw [u3]; exact hq, ?_⟩ -- s4: (F 5103 b23 = 0 ∨ F 5103 b23 = 1)
      refine ⟨_, sX0_byMany hx hy u2.2.2.2.1 u4 (sRw_ok hx.2.1.2 h3) (by have := u2.1; by_cases w : b + 4 < o + 11 <;> omega), ?_⟩ -- call wqX0_byMany o (jfn N 5102 b23) (F 5103 b23) N F A P27
      intro z29 F30 A31 p27
      obtain ⟨q1, q2, q3⟩ := p27
      have hx2 := hx.fr (hy.scr.mono (by omega) (by omega)) q3
      refine ⟨_, by exact hx2.1.2.2, ?_⟩ -- d36: F30 311 o = (b36 : Int)
      refine ⟨by exact hx2.2.2.1.1, ?_⟩ -- s5: jtg N b36 = 2
      refine ⟨_, by exact hx2.2.2.1.2.2.2.2.1, ?_⟩ -- d39: jfn N 623 b36 = (b39 : Int)
      refine ⟨by exact hx2.lC.1.1, ?_⟩ -- s6: jtg N b39 = 20
      refine ⟨_, sJ2_size hx2.lC, ?_⟩ -- call wqJ2_size b39 N F30 A31 P42
      intro z44 p42
      rw [p42]
      have dv : 0 ≤ 1000 * z29 / W 2 0 0 ∧ 1000 * z29 / W 2 0 0 ≤ 10000 := ⟨Int.ediv_nonneg (by omega) (by omega), Int.ediv_le_of_le_mul (by omega) (by omega)⟩
      refine ⟨by omega, ?_⟩ -- s7: (((0 : Int) ≤ 1000 * z29 ∧ (1000 * z29 : Int) ≤ 2147483647) ∧ ((0 : Int) < z44 ∧ (z44 : Int) ≤ 2147483647))
      refine ⟨by omega, ?_⟩ -- s8: jR ((1000 * z29) / z44)
      -- l2: Q ((1000 * z29) / z44) F30 A31
      refine ⟨?_, q3⟩
      have e1 : (sRw L a1).1 = L 2 a1 0 := rfl
      rw [q1, if_pos (by omega), u3]
      exact (if_pos ⟨h2, h4⟩).symm
    · -- case (¬ (z17 = 0))
      -- l3: Q (-1) F A
      exact ⟨(if_neg (by grind)).symm, fr.refl _ _ _ _⟩

theorem sX4_kinds {o : Nat} {a1 : Int} {N : jSh} {F : jFl} {A : jAr} {wA sA cA lA : Int → Int} {W L : sTb} {x t : Nat} {n : Int} {seat : Int → Int} {kd : Int → Int} {R : Int → sRow} (hx : ctx N F A x t W L wA sA cA lA) (hs : sitOk N A x o) (hn : F 1506 o = n ∧ 0 ≤ n ∧ n ≤ 12) (hse : ∀ i : Int, 0 ≤ i → i < n → (0 ≤ seat i ∧ seat i < W 3 0 0) ∧ A (o + 2) i = lA (seat i)) (hk : ∀ i : Int, 0 ≤ i → i < n → sayIs N F A wA (sy o (seat i)) (kd (seat i)) (R (seat i))) : wqX4_kinds o a1 N F A (fun z => z = it (fun i s => if kd (seat i) = a1 then s + 1 else s) 0 n.toNat) := by
  unfold wqX4_kinds
  have w3 := hx.2.1.1.2.2.2.1
  rw [hn.1]
  refine ⟨fun (v1 : Int) (v2 : Int) => (0 ≤ v2 ∧ v2 ≤ n) ∧ v1 = it (fun i s => if kd (seat i) = a1 then s + 1 else s) 0 v2.toNat ∧ 0 ≤ v1 ∧ v1 ≤ v2, fun v1 v2 => (n - v2).toNat, ?_, ?_⟩ -- loop I4 I4 0 0
  ·
    -- l1: I4 0 0
    exact ⟨by omega, rfl, by omega, by omega⟩
  intro v1 v2 i4
  obtain ⟨i1, i2, i3, i4⟩ := i4
  refine ⟨fun hc => ?_, fun hc => ?_⟩ -- c1
  · -- case ((F 1506 o) ≤ v2)
    -- l2: Q v1
    rw [i2, show v2 = n by omega]
  · -- case (¬ ((F 1506 o) ≤ v2))
    refine ⟨_, by exact hs.2.1.1, ?_⟩ -- d7: jfn N 1505 o = (b7 : Int)
    refine ⟨by exact hs.2.1.2.1, ?_⟩ -- s1: jtg N b7 = 113
    refine ⟨by (have e := hs.2.1.2.2.2); rw [e]; omega, ?_⟩ -- s2: ((0 : Int) ≤ v2 ∧ (v2 : Int) < (jln N b7 : Int))
    refine ⟨_, sX4_of hx hs (hse v2 i1.1 (by omega)).2 (hse v2 i1.1 (by omega)).1, ?_⟩ -- call wqX4_of o (A b7 v2) N F A P11
    intro z13 p11
    have g1 := (hse v2 i1.1 (by omega)).1
    have g2 := hk v2 i1.1 (by omega)
    have st : it (fun i (s : Int) => if kd (seat i) = a1 then s + 1 else s) 0 (v2 + 1).toNat = (if kd (seat v2) = a1 then it (fun i (s : Int) => if kd (seat i) = a1 then s + 1 else s) 0 v2.toNat + 1 else it (fun i (s : Int) => if kd (seat i) = a1 then s + 1 else s) 0 v2.toNat) := it_succ _ _ i1.1
    refine ⟨_, by exact p11, ?_⟩ -- d18: z13 = (b18 : Int)
    refine ⟨by (have gs := (hs.2.2.2 (seat v2).toNat (by omega)).2); exact gs.1, ?_⟩ -- s3: jtg N b18 = 3
    rw [g2.1]
    refine ⟨fun hc => ?_, fun hc => ?_⟩ -- c2
    · -- case (¬ (F 903 b18) = a1)
      refine ⟨by omega, ?_⟩ -- s4: jR (v2 + 1)
      refine ⟨?_, ?_⟩ -- l3: I4 v1 (v2 + 1)
      · refine ⟨by omega, by rw [st, if_neg hc]; exact i2, by omega, by omega⟩
      · dsimp only; omega
    · -- case ((F 903 b18) = a1)
      refine ⟨by omega, ?_⟩ -- s5: jR (v1 + 1)
      refine ⟨by omega, ?_⟩ -- s6: jR (v2 + 1)
      refine ⟨?_, ?_⟩ -- l4: I4 (v1 + 1) (v2 + 1)
      · refine ⟨by omega, by rw [st, if_pos hc, i2], by omega, by omega⟩
      · dsimp only; omega

theorem sX0_sits {o : Nat} {a1 : Int} {a2 : Int} {a3 : Int} {N : jSh} {F : jFl} {A : jAr} {wA sA cA lA : Int → Int} {W L : sTb} {t : Nat} (hx : ctx N F A o t W L wA sA cA lA) (hy : lay N o) (hs : sarr A o) (h9 : L 9 0 0 = 0) : wqX0_sits o a1 a2 a3 N F A (fun z F' A' => z = rSits W L a1 a2 a3 ∧ fr (o + 14) (o + 53) F A F' A' ∧ sarr A' o) := by
  unfold wqX0_sits
  have hcc : ∀ a : Int, 0 ≤ a ∧ a < W 2 0 0 → 0 ≤ cA a := fun a h => by obtain ⟨b, u1, -⟩ := hx.ch h; omega
  have hll : ∀ a : Int, 0 ≤ a ∧ a < W 3 0 0 → 0 ≤ lA a := fun a h => by obtain ⟨b, u1, -⟩ := hx.lw h; omega
  have w3 := hx.2.1.1.2.2.2.1
  have ok := sSeats_ok hx.2.1.1 hx.2.1.2 (n := W 3 0 0) (by omega)
  have inj := sSeats_inj hx.2.1.2 h9 (n := W 3 0 0) (by omega)
  refine ⟨_, sX0_childOf hx, ?_⟩ -- call wqX0_childOf o a1 N F A P1
  intro z3 p1
  refine ⟨_, sX0_standingOf hx, ?_⟩ -- call wqX0_standingOf o a2 N F A P8
  intro z10 p8
  refine ⟨fun hc => ?_, fun hc => ?_⟩ -- c1
  · -- case (z3 < 0)
    -- l1: Q (-1) F A
    exact ⟨(if_neg (by grind)).symm, fr.refl _ _ _ _, hs⟩
  · -- case (¬ (z3 < 0))
    refine ⟨fun hc => ?_, fun hc => ?_⟩ -- c2
    · -- case (¬ z10 < 0)
      have h1 : 0 ≤ a1 ∧ a1 < W 2 0 0 := by grind
      have h2 : 0 ≤ a2 ∧ a2 < W 3 0 0 ∧ 0 < L 2 a2 0 := by grind
      have h3 : 0 ≤ a2 ∧ a2 < W 3 0 0 := by omega
      rw [if_pos h1] at p1
      rw [if_pos h2] at p8
      obtain ⟨p, hp, hpl⟩ := sOrd_onto hx.2.1.2 h9 h3
      obtain ⟨i, i0, i1⟩ := sSeats_all (L := L) (n := W 3 0 0) (by omega) hp (by rw [hpl]; exact h2.2.2)
      rw [hpl] at i1
      refine ⟨_, by exact hy.p329, ?_⟩ -- d17: jfn N 329 o = (b17 : Int)
      refine ⟨by exact (hy.sit hs.1).1.1, ?_⟩ -- s1: jtg N b17 = 5
      refine ⟨_, sX4_inOrder hx (hy.sit hs.1) (hy.scr.mono (by omega) (by omega)), ?_⟩ -- call wqX4_inOrder b17 N F A P20
      intro z22 F23 A24 p20
      obtain ⟨q1, ⟨q2, q3⟩, q4, q5⟩ := p20
      have f1 : fr (o + 14) (o + 17) F A F23 A24 := fun a ha => ⟨fun f => q4 f a (by omega), q5 a (by omega)⟩
      have hx2 := hx.fr (hy.scr.mono (by omega) (by omega)) f1
      have s2 := sarr_of hs (q5 _ (by omega)) (q5 _ (by omega)) (q5 _ (by omega))
      refine ⟨_, by exact q1, ?_⟩ -- d29: z22 = (b29 : Int)
      refine ⟨by exact (hy.sit hs.1).1.1, ?_⟩ -- s2: jtg N b29 = 5
      refine ⟨_, sX4_saidBy (n := (sSeats L (W 3 0 0)).1) (seat := (sSeats L (W 3 0 0)).2) hx2 (hy.sit s2.1) (hy.scr.mono (by omega) (by omega)) p1 h1 ⟨q2, by omega, by omega⟩ (fun i i0 i1 => ⟨(ok.2 i i0 i1).1, q3 i i0 i1⟩) inj, ?_⟩ -- call wqX4_saidBy b29 z3 N F23 A24 P32
      intro z34 F35 A36 p32
      obtain ⟨r1, r2, r3⟩ := p32
      have f2 : fr (o + 14) (o + 53) F A F35 A36 := (f1.mono (by omega) (by omega)).trans (r3.mono (by omega) (by omega))
      have hx3 := hx2.fr (hy.scr.mono (by omega) (by omega)) r3
      have s3 := sarr_of s2 (r3 _ (by omega)).2 (r3 _ (by omega)).2 (r3 _ (by omega)).2
      have r4 := r2 i i0.1 i0.2
      rw [i1] at r4
      refine ⟨_, by exact r1, ?_⟩ -- d41: z34 = (b41 : Int)
      refine ⟨by exact (hy.sit hs.1).1.1, ?_⟩ -- s3: jtg N b41 = 5
      refine ⟨_, sX4_of hx3 (hy.sit s3.1) p8 h3, ?_⟩ -- call wqX4_of b41 z10 N F35 A36 P44
      intro z46 p44
      refine ⟨_, by exact p44, ?_⟩ -- d51: z46 = (b51 : Int)
      refine ⟨by (have gs := ((hy.sit hs.1).2.2.2 a2.toNat (by omega)).2); exact gs.1, ?_⟩ -- s4: jtg N b51 = 3
      refine ⟨_, sX2_tells (W := W) (x := o) ((hy.sit hs.1).2.2.2 a2.toNat (by omega)).2 r4 ((sSits_ok (n := (sSeats L (W 3 0 0)).1.toNat) hx3.2.1.1 hx3.2.1.2 h1 (fun i i0 i1 => (ok.2 i i0 (by omega)).1)).2 a2).2 hx3.wd, ?_⟩ -- call wqX2_tells b51 a3 N F35 A36 P54
      intro z56 p54
      -- l2: Q z56 F35 A36
      exact ⟨p54.trans (if_pos ⟨h1, h3, h2.2.2⟩).symm, f2, s3⟩
    · -- case (z10 < 0)
      -- l3: Q (-1) F A
      exact ⟨(if_neg (by grind)).symm, fr.refl _ _ _ _, hs⟩

theorem sX0_sitting {S : Nat → Nat} {o : Nat} {a1 : Int} {a2 : Int} {N : jSh} {F : jFl} {A : jAr} {wA sA cA lA : Int → Int} {W L : sTb} {t : Nat} (hx : ctx N F A o t W L wA sA cA lA) (hy : lay N o) (hs : sarr A o) (h9 : L 9 0 0 = 0) : wqX0_sitting S o a1 a2 N F A (fun z F' A' => z = rSitting W L a1 a2 ∧ fr (o + 14) (o + 53) F A F' A' ∧ sarr A' o) := by
  unfold wqX0_sitting
  have hcc : ∀ a : Int, 0 ≤ a ∧ a < W 2 0 0 → 0 ≤ cA a := fun a h => by obtain ⟨b, u1, -⟩ := hx.ch h; omega
  have w3 := hx.2.1.1.2.2.2.1
  have ok := sSeats_ok hx.2.1.1 hx.2.1.2 (n := W 3 0 0) (by omega)
  have inj := sSeats_inj hx.2.1.2 h9 (n := W 3 0 0) (by omega)
  refine ⟨_, sX0_childOf hx, ?_⟩ -- call wqX0_childOf o a1 N F A P1
  intro z3 p1
  refine ⟨fun hc => ?_, fun hc => ?_⟩ -- c1
  · -- case (z3 < 0)
    -- l1: Q (-1) F A
    exact ⟨(if_neg (by grind)).symm, fr.refl _ _ _ _, hs⟩
  · -- case (¬ (z3 < 0))
    refine ⟨_, sX0_isIn, ?_⟩ -- call wqX0_isIn a2 0 4 N F A P9
    intro z11 p9
    refine ⟨fun hc => ?_, fun hc => ?_⟩ -- c2
    · -- case (¬ z11 = 0)
      have h1 : 0 ≤ a1 ∧ a1 < W 2 0 0 := by grind
      have h2 : 0 ≤ a2 ∧ a2 ≤ 4 := by grind
      rw [if_pos h1] at p1
      refine ⟨_, by exact hy.p329, ?_⟩ -- d17: jfn N 329 o = (b17 : Int)
      refine ⟨by exact (hy.sit hs.1).1.1, ?_⟩ -- s1: jtg N b17 = 5
      refine ⟨_, sX4_inOrder hx (hy.sit hs.1) (hy.scr.mono (by omega) (by omega)), ?_⟩ -- call wqX4_inOrder b17 N F A P20
      intro z22 F23 A24 p20
      obtain ⟨q1, ⟨q2, q3⟩, q4, q5⟩ := p20
      have f1 : fr (o + 14) (o + 17) F A F23 A24 := fun a ha => ⟨fun f => q4 f a (by omega), q5 a (by omega)⟩
      have hx2 := hx.fr (hy.scr.mono (by omega) (by omega)) f1
      have s2 := sarr_of hs (q5 _ (by omega)) (q5 _ (by omega)) (q5 _ (by omega))
      refine ⟨_, by exact q1, ?_⟩ -- d29: z22 = (b29 : Int)
      refine ⟨by exact (hy.sit hs.1).1.1, ?_⟩ -- s2: jtg N b29 = 5
      refine ⟨_, sX4_saidBy (n := (sSeats L (W 3 0 0)).1) (seat := (sSeats L (W 3 0 0)).2) hx2 (hy.sit s2.1) (hy.scr.mono (by omega) (by omega)) p1 h1 ⟨q2, by omega, by omega⟩ (fun i i0 i1 => ⟨(ok.2 i i0 i1).1, q3 i i0 i1⟩) inj, ?_⟩ -- call wqX4_saidBy b29 z3 N F23 A24 P32
      intro z34 F35 A36 p32
      obtain ⟨r1, r2, r3⟩ := p32
      have f2 : fr (o + 14) (o + 53) F A F35 A36 := (f1.mono (by omega) (by omega)).trans (r3.mono (by omega) (by omega))
      have hx3 := hx2.fr (hy.scr.mono (by omega) (by omega)) r3
      have s3 := sarr_of s2 (r3 _ (by omega)).2 (r3 _ (by omega)).2 (r3 _ (by omega)).2
      refine ⟨_, by exact r1, ?_⟩ -- d41: z34 = (b41 : Int)
      refine ⟨by exact (hy.sit hs.1).1.1, ?_⟩ -- s3: jtg N b41 = 5
      refine ⟨_, sX4_kinds (n := (sSeats L (W 3 0 0)).1) (seat := (sSeats L (W 3 0 0)).2) hx3 (hy.sit s3.1) ⟨by rw [(r3 (o + 14) (by omega)).1]; exact q2, by omega, by omega⟩ (fun i i0 i1 => ⟨(ok.2 i i0 i1).1, by rw [(r3 (o + 14 + 2) (by omega)).2]; exact q3 i i0 i1⟩) r2, ?_⟩ -- call wqX4_kinds b41 a2 N F35 A36 P44
      intro z46 p44
      -- l2: Q z46 F35 A36
      exact ⟨p44.trans (if_pos ⟨h1, h2⟩).symm, f2, s3⟩
    · -- case (z11 = 0)
      -- l3: Q (-1) F A
      exact ⟨(if_neg (by grind)).symm, fr.refl _ _ _ _, hs⟩

theorem sJ2_indexOfRange {o : Nat} {a1 : Int} {a2 : Int} {a3 : Int} {N : jSh} {F : jFl} {A : jAr} {n v : Int} {e : Int → Int} (hl : jli N F A o n e) (h2 : a2 = 0) (h3 : a3 = n) (hv : 0 ≤ v ∧ v < n) (he : e v = a1) (hne : ∀ j : Int, 0 ≤ j → j < v → e j ≠ a1) (ht : ∃ b : Nat, a1 = (b : Int) ∧ jtg N b = 17) : wqJ2_indexOfRange o a1 a2 a3 N F A (fun z => z = v) := by
  unfold wqJ2_indexOfRange
  obtain ⟨b1, hb1, hb2⟩ := ht
  obtain ⟨y1, y2, y3, b, y4, y5, y6, y7, -⟩ := hl
  intro v1 e1
  refine ⟨fun hc => ?_, fun hc => ?_⟩ -- c1
  · -- case (¬ a1 < 0)
    refine ⟨fun (v3 : Int) => (0 ≤ v3 ∧ v3 ≤ v), fun v3 => (v - v3).toNat, ?_, ?_⟩ -- loop I5 I5 a2
    ·
      -- l1: I5 a2
      omega
    intro v3 i5
    refine ⟨fun hc => ?_, fun hc => ?_⟩ -- c2
    · -- case (a3 ≤ v3)
      -- l2: Q (-1)
      omega
    · -- case (¬ (a3 ≤ v3))
      refine ⟨_, by exact e1.trans y4, ?_⟩ -- d8: v1 = (b8 : Int)
      refine ⟨by exact y5, ?_⟩ -- s1: jtg N b8 = 104
      refine ⟨by omega, ?_⟩ -- s2: ((0 : Int) ≤ v3 ∧ (v3 : Int) < (jln N b8 : Int))
      refine ⟨_, by exact hb1, ?_⟩ -- d12: a1 = (b12 : Int)
      refine ⟨by exact hb2, ?_⟩ -- s3: jtg N b12 = 17
      rw [y7 v3 (by omega) (by omega)]
      refine ⟨fun hc => ?_, fun hc => ?_⟩ -- c3
      · -- case ((if a1 = A b8 v3 then (1 : Int) else 0) = 0)
        refine ⟨by omega, ?_⟩ -- s4: jR (v3 + 1)
        have hq : e v3 ≠ a1 := fun w => by rw [w, if_pos rfl] at hc; omega
        have hv3 : v3 ≠ v := fun w => hq (by rw [w]; exact he)
        refine ⟨?_, ?_⟩ -- l3: I5 (v3 + 1)
        · omega
        · dsimp only; omega
      · -- case (¬ ((if a1 = A b8 v3 then (1 : Int) else 0) = 0))
        -- l4: Q v3
        by_cases w : v3 = v
        · exact w
        · exact absurd (by rw [if_neg (fun w => hne v3 (by omega) (by omega) w.symm)]) hc
  · -- case (a1 < 0)
    omega

theorem sJ2_indexOf {o : Nat} {a1 : Int} {N : jSh} {F : jFl} {A : jAr} {n v : Int} {e : Int → Int} (hl : jli N F A o n e) (hv : 0 ≤ v ∧ v < n) (he : e v = a1) (hne : ∀ j : Int, 0 ≤ j → j < v → e j ≠ a1) (ht : ∃ b : Nat, a1 = (b : Int) ∧ jtg N b = 17) : wqJ2_indexOf o a1 N F A (fun z => z = v) := by
  unfold wqJ2_indexOf
  refine ⟨_, sJ2_indexOfRange hl rfl hl.2.1 hv he hne ht, ?_⟩ -- call wqJ2_indexOfRange o a1 0 (F 6003 o) N F A P1
  intro z3 p1
  -- l1: Q z3
  exact p1

theorem sX0_child {o : Nat} {a1 : Int} {a2 : Int} {N : jSh} {F : jFl} {A : jAr} {wA sA cA lA : Int → Int} {W L : sTb} {t : Nat} (hx : ctx N F A o t W L wA sA cA lA) (hy : lay N o) : wqX0_child o a1 a2 N F A (fun z F' A' => z = rChild W L a1 a2 ∧ fr (o + 11) (o + 14) F A F' A') := by
  unfold wqX0_child
  have hcc : ∀ a : Int, 0 ≤ a ∧ a < W 2 0 0 → 0 ≤ cA a := fun a h => by obtain ⟨b, u1, -⟩ := hx.ch h; omega
  have w3 := hx.2.1.1.2.2.2.1
  refine ⟨_, sX0_childOf hx, ?_⟩ -- call wqX0_childOf o a1 N F A P1
  intro z3 p1
  refine ⟨fun hc => ?_, fun hc => ?_⟩ -- c1
  · -- case (¬ z3 < 0)
    have h1 : 0 ≤ a1 ∧ a1 < W 2 0 0 := by grind
    rw [if_pos h1] at p1
    have es : rChild W L a1 a2 = _ := if_pos h1
    rw [es]
    refine ⟨fun (v9 : Int) (v10 : Int) (F11 : jFl) (A12 : jAr) => (0 ≤ v10 ∧ v10 ≤ W 3 0 0) ∧ v9 = sGoods W L a1 v10 ∧ (0 ≤ v9 ∧ v9 ≤ v10) ∧ fr (o + 11) (o + 14) F A F11 A12, fun v9 v10 F11 A12 => (W 3 0 0 - v10).toNat, ?_, ?_⟩ -- loop I15 I15 0 0 F A
    ·
      -- l1: I15 0 0 F A
      exact ⟨by omega, rfl, by omega, fr.refl _ _ _ _⟩
    intro v9 v10 F11 A12 i15
    obtain ⟨i1, i2, i3, i4⟩ := i15
    have hx2 := hx.fr (hy.scr.mono (by omega) (by omega)) i4
    obtain ⟨b, u1, u2⟩ := hx2.ch h1
    have gs := (hx.2.1.1.2.2.2.2.2.2.2.2.2.1 a1 h1.1 h1.2).1
    obtain ⟨s, s1, s2⟩ := hx2.st gs
    have st : sGoods W L a1 (v10 + 1) = if 0 < L 2 v10 0 ∧ sKind W a1 (sRw L v10) (sHolds W L a1 v10) = 0 then sGoods W L a1 v10 + 1 else sGoods W L a1 v10 := it_succ _ _ i1.1
    refine ⟨_, by exact hx2.1.2.2, ?_⟩ -- d17: F11 311 o = (b17 : Int)
    refine ⟨by exact hx2.2.2.1.1, ?_⟩ -- s1: jtg N b17 = 2
    refine ⟨_, by exact hx2.2.2.1.2.2.2.2.2.1, ?_⟩ -- d20: jfn N 626 b17 = (b20 : Int)
    refine ⟨by exact hx2.lL.1.1, ?_⟩ -- s2: jtg N b20 = 20
    refine ⟨_, sJ2_size hx2.lL, ?_⟩ -- call wqJ2_size b20 N F11 A12 P23
    intro z25 p23
    refine ⟨fun hc => ?_, fun hc => ?_⟩ -- c2
    · -- case (z25 ≤ v10)
      refine ⟨?_, ?_, ?_, ?_, ?_⟩ -- c3
      · intro hc -- case a2 = 0
        refine ⟨_, by exact p1.trans u1, ?_⟩ -- d31: z3 = (b31 : Int)
        refine ⟨by exact u2.1.1, ?_⟩ -- s3: jtg N b31 = 16
        refine ⟨_, by exact u2.2.1.trans s1, ?_⟩ -- d34: jfn N 4802 b31 = (b34 : Int)
        refine ⟨by exact s2.1.1, ?_⟩ -- s4: jtg N b34 = 15
        -- l2: Q (jfn N 3903 b34) F11 A12
        subst hc; exact ⟨by simp; exact s2.1.2.2.1, i4⟩
      · intro hc -- case a2 = 1
        refine ⟨_, by exact p1.trans u1, ?_⟩ -- d37: z3 = (b37 : Int)
        refine ⟨by exact u2.1.1, ?_⟩ -- s5: jtg N b37 = 16
        -- l3: Q (F11 4803 b37) F11 A12
        subst hc; exact ⟨by simp; exact u2.2.2.1, i4⟩
      · intro hc -- case a2 = 2
        refine ⟨_, by exact p1.trans u1, ?_⟩ -- d40: z3 = (b40 : Int)
        refine ⟨by exact u2.1.1, ?_⟩ -- s6: jtg N b40 = 16
        -- l4: Q (F11 4806 b40) F11 A12
        subst hc; exact ⟨by simp; exact u2.2.2.2.1, i4⟩
      · intro hc -- case a2 = 3
        -- l5: Q v9 F11 A12
        subst hc; exact ⟨by simp; rw [i2, show v10 = W 3 0 0 by omega], i4⟩
      · intro hc1 hc2 hc3 hc4 -- case ¬ a2 = 0 ¬ a2 = 1 ¬ a2 = 2 ¬ a2 = 3
        -- l6: Q (-1) F11 A12
        exact ⟨by simp [*], i4⟩
    · -- case (¬ (z25 ≤ v10))
      refine ⟨_, sJ2_get hx2.lL (by omega), ?_⟩ -- call wqJ2_get b20 v10 N F11 A12 P47
      intro z49 p47
      obtain ⟨y, y1, y2, y3, y4⟩ := hx2.lw (l := v10) (by omega)
      refine ⟨by exact jcst_law (p47.trans y1) y2.1, ?_⟩ -- s7: jcst N "ChildSays$Law" z49
      refine ⟨_, sX0_stands hx2 hy p47 (by omega) p1 h1, ?_⟩ -- call wqX0_stands o z49 z3 N F11 A12 P55
      intro z57 F58 A59 p55
      obtain ⟨t1, t2⟩ := p55
      refine ⟨fun hc => ?_, fun hc => ?_⟩ -- c4
      · -- case (z57 = 0)
        refine ⟨by omega, ?_⟩ -- s8: jR (v10 + 1)
        refine ⟨?_, ?_⟩ -- l7: I15 v9 (v10 + 1) F58 A59
        · rw [if_neg (by grind)] at st
          exact ⟨by omega, by omega, by omega, i4.trans t2⟩
        · dsimp only; omega
      · -- case (¬ (z57 = 0))
        refine ⟨by omega, ?_⟩ -- s9: jR (v9 + 1)
        refine ⟨by omega, ?_⟩ -- s10: jR (v10 + 1)
        refine ⟨?_, ?_⟩ -- l8: I15 (v9 + 1) (v10 + 1) F58 A59
        · rw [if_pos (by grind)] at st
          exact ⟨by omega, by omega, by omega, i4.trans t2⟩
        · dsimp only; omega
  · -- case (z3 < 0)
    -- l9: Q (-1) F A
    exact ⟨(if_neg (by grind)).symm, fr.refl _ _ _ _⟩

theorem sX0_law {o : Nat} {a1 : Int} {a2 : Int} {N : jSh} {F : jFl} {A : jAr} {wA sA cA lA : Int → Int} {W L : sTb} {t : Nat} (hx : ctx N F A o t W L wA sA cA lA) (hy : lay N o) (h9 : L 9 0 0 = 0) (ra : jR a2) : wqX0_law o a1 a2 N F A (fun z F' A' => z = rLaw W L a1 a2 ∧ fr (o + 11) (o + 14) F A F' A') := by
  unfold wqX0_law
  have hll : ∀ a : Int, 0 ≤ a ∧ a < W 3 0 0 → 0 ≤ lA a := fun a h => by obtain ⟨b, u1, -⟩ := hx.lw h; omega
  have w3 := hx.2.1.1.2.2.2.1
  refine ⟨_, sX0_lawOf hx, ?_⟩ -- call wqX0_lawOf o a1 N F A P1
  intro z3 p1
  refine ⟨fun hc => ?_, fun hc => ?_⟩ -- c1
  · -- case (¬ z3 < 0)
    have h1 : 0 ≤ a1 ∧ a1 < W 3 0 0 := by grind
    rw [if_pos h1] at p1
    obtain ⟨b, u1, u2, u3, u4⟩ := hx.lw h1
    have es : rLaw W L a1 a2 = _ := if_pos h1
    rw [es]
    have gk := hx.2.1.2.2.2.2.1 a1 h1.1 h1.2
    have eR : (sRw L a1).1 = L 2 a1 0 ∧ (sRw L a1).2.1 = L 3 a1 0 ∧ ∀ k, (sRw L a1).2.2 k = L 5 a1 k := ⟨rfl, rfl, fun _ => rfl⟩
    have hsc := hy.scr.2 b
    refine ⟨?_, ?_, ?_, ?_, ?_, ?_, ?_⟩ -- c2
    · intro hc -- case a2 = 0
      refine ⟨_, by exact p1.trans u1, ?_⟩ -- d9: z3 = (b9 : Int)
      refine ⟨by exact u2.1, ?_⟩ -- s1: jtg N b9 = 17
      refine ⟨_, by exact u2.2.2.2.1, ?_⟩ -- d12: jfn N 5102 b9 = (b12 : Int)
      refine ⟨by exact u2.2.2.2.2.1, ?_⟩ -- s2: jtg N b12 = 4
      -- l1: Q (F 1203 b12) F A
      subst hc; exact ⟨by simp; exact u4.2.1, fr.refl _ _ _ _⟩
    · intro hc -- case a2 = 1
      refine ⟨_, by exact p1.trans u1, ?_⟩ -- d15: z3 = (b15 : Int)
      refine ⟨by exact u2.1, ?_⟩ -- s3: jtg N b15 = 17
      refine ⟨_, by exact u2.2.2.2.1, ?_⟩ -- d18: jfn N 5102 b15 = (b18 : Int)
      refine ⟨by exact u2.2.2.2.2.1, ?_⟩ -- s4: jtg N b18 = 4
      -- l2: Q (F 1206 b18) F A
      subst hc; exact ⟨by simp; exact u4.2.2.1, fr.refl _ _ _ _⟩
    · intro hc -- case a2 = 2
      refine ⟨_, by exact p1.trans u1, ?_⟩ -- d21: z3 = (b21 : Int)
      refine ⟨by exact u2.1, ?_⟩ -- s5: jtg N b21 = 17
      intro z25 e25
      -- l3: Q z25 F A
      subst hc; exact ⟨by simp; rw [e25, u3]; grind, fr.refl _ _ _ _⟩
    · intro hc -- case a2 = 3
      refine ⟨_, by exact hx.1.2.2, ?_⟩ -- d27: F 311 o = (b27 : Int)
      refine ⟨by exact hx.2.2.1.1, ?_⟩ -- s6: jtg N b27 = 2
      refine ⟨_, by exact hx.2.2.1.2.2.2.2.2.2.1, ?_⟩ -- d30: jfn N 629 b27 = (b30 : Int)
      refine ⟨by exact hx.lO.1.1, ?_⟩ -- s7: jtg N b30 = 20
      subst hc
      obtain ⟨p, hp, hpl⟩ := sOrd_onto hx.2.1.2 h9 h1
      have linj : ∀ l, 0 ≤ l ∧ l < W 3 0 0 → lA l = lA a1 → l = a1 := fun l hl e => by
        obtain ⟨c, v1, v2, -⟩ := hx.lw hl
        have : c = b := by omega
        rw [this] at v2
        exact v2.2.2.1.symm.trans u2.2.2.1
      have hne : ∀ j : Int, 0 ≤ j → j < p → L 1 j 0 ≠ a1 := fun j j0 j1 w => by
        have := hx.2.1.2.2.2.1 j p j0 (by omega) hp.1 hp.2 h9 (w.trans hpl.symm)
        omega
      refine ⟨_, sJ2_indexOf (v := p) hx.lO hp (by rw [hpl]; exact p1.symm) (fun j j0 j1 w => hne j j0 j1 (linj _ (hx.2.1.2.2.1 j j0 (by omega)) (w.trans p1))) ⟨b, p1.trans u1, u2.1⟩, ?_⟩ -- call wqJ2_indexOf b30 z3 N F A P33
      intro z35 p33
      -- l4: Q z35 F A
      refine ⟨?_, fr.refl _ _ _ _⟩
      simp
      rw [p33]
      exact (sFirst_some (p := fun p => L 1 p 0 = a1) hp.1 (by omega) hpl hne).symm
    · intro hc -- case a2 = 4
      refine ⟨_, by exact p1.trans u1, ?_⟩ -- d40: z3 = (b40 : Int)
      refine ⟨by exact u2.1, ?_⟩ -- s8: jtg N b40 = 17
      refine ⟨_, by exact u2.2.2.2.1, ?_⟩ -- d43: jfn N 5102 b40 = (b43 : Int)
      refine ⟨by exact u2.2.2.2.2.1, ?_⟩ -- s9: jtg N b43 = 4
      refine ⟨_, sX3_beats (W := W) u4 (sRw_ok hx.2.1.2 h1) hx.wd hx.2.1.1, ?_⟩ -- call wqX3_beats b43 N F A P46
      intro z48 p46
      -- l5: Q z48 F A
      subst hc; exact ⟨by simp; exact p46, fr.refl _ _ _ _⟩
    · intro hc -- case a2 = 5
      refine ⟨_, by exact p1.trans u1, ?_⟩ -- d53: z3 = (b53 : Int)
      refine ⟨by exact u2.1, ?_⟩ -- s10: jtg N b53 = 17
      refine ⟨by rw [u3]; exact gk.2.2.2, ?_⟩ -- s11: (F 5103 b53 = 0 ∨ F 5103 b53 = 1)
      refine ⟨_, sX0_byMany hx hy u2.2.2.2.1 u4 (sRw_ok hx.2.1.2 h1) (by have := u2.1; by_cases w : b + 4 < o + 11 <;> omega), ?_⟩ -- call wqX0_byMany o (jfn N 5102 b53) (F 5103 b53) N F A P57
      intro z59 F60 A61 p57
      -- l6: Q z59 F60 A61
      subst hc; refine ⟨?_, p57.2.2⟩
      simp
      rw [p57.1, eR.1, u3]
      rfl
    · intro hc1 hc2 hc3 hc4 hc5 hc6 -- case ¬ a2 = 0 ¬ a2 = 1 ¬ a2 = 2 ¬ a2 = 3 ¬ a2 = 4 ¬ a2 = 5
      intro v66 e66
      obtain ⟨j1, q, j2⟩ := e66
      refine ⟨_, by exact p1.trans u1, ?_⟩ -- d67: z3 = (b67 : Int)
      refine ⟨by exact u2.1, ?_⟩ -- s12: jtg N b67 = 17
      refine ⟨_, by exact u2.2.2.2.1, ?_⟩ -- d70: jfn N 5102 b67 = (b70 : Int)
      refine ⟨by exact u2.2.2.2.2.1, ?_⟩ -- s13: jtg N b70 = 4
      refine ⟨_, sX3_size u4 (sRw_ok hx.2.1.2 h1), ?_⟩ -- call wqX3_size b70 N F A P73
      intro z75 p73
      refine ⟨by omega, ?_⟩ -- s14: jR (z75 - 1)
      refine ⟨_, sX0_isIn, ?_⟩ -- call wqX0_isIn v66 0 (z75 - 1) N F A P81
      intro z83 p81
      refine ⟨fun hc => ?_, fun hc => ?_⟩ -- c3
      · -- case (z83 = 0)
        -- l7: Q (-1) F A
        refine ⟨?_, fr.refl _ _ _ _⟩
        rw [if_neg (by grind)]
        simp [*]
      · -- case (¬ (z83 = 0))
        have hg : 10 ≤ a2 ∧ a2 ≤ 9 + L 2 a1 0 + L 3 a1 0 := by
          have : 0 ≤ v66 ∧ v66 ≤ z75 - 1 := by grind
          rw [p73, eR.1, eR.2.1] at this
          omega
        have gw := hx.2.1.2.2.2.2.2 a1 (a2 - 10) h1.1 h1.2 (by omega) (by omega)
        obtain ⟨w, y1, y2, y3, y4, -⟩ := hx.wd _ gw.1 gw.2
        refine ⟨_, by exact u4.1.2.2.1, ?_⟩ -- d89: jfn N 1202 b70 = (b89 : Int)
        refine ⟨by exact u4.1.2.2.2.1, ?_⟩ -- s15: jtg N b89 = 107
        refine ⟨by (have e := u4.1.2.2.2.2.2); rw [e]; omega, ?_⟩ -- s16: ((0 : Int) ≤ a2 - 10 ∧ (a2 - 10 : Int) < (jln N b89 : Int))
        refine ⟨_, by exact (u4.2.2.2 (a2 - 10) (by omega) (by rw [eR.1, eR.2.1]; omega)).trans y1, ?_⟩ -- d93: A b89 (a2 - 10) = (b93 : Int)
        refine ⟨by exact y2, ?_⟩ -- s17: jtg N b93 = 14
        -- l8: Q (jfn N 3903 b93) F A
        refine ⟨?_, fr.refl _ _ _ _⟩
        rw [y4, if_pos hg]
  · -- case (z3 < 0)
    -- l9: Q (-1) F A
    exact ⟨(if_neg (by grind)).symm, fr.refl _ _ _ _⟩

