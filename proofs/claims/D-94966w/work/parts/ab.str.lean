set_option maxRecDepth 100000
set_option linter.unusedVariables false
/-! a text out of chars: checks, compress; printed by gen/prove.py out of spec/ab.str.spec -/
theorem jor_small {x y : Int} (hx : 0 ≤ x ∧ x < 4096) (hy : 0 ≤ y ∧ y < 4096) : 0 ≤ jor x y ∧ jor x y < 4096 := by
  unfold jor
  have := Nat.or_lt_two_pow (x := x.toNat) (y := y.toNat) (n := 12) (by omega) (by omega)
  omega
theorem sJ9_checkFromIndexSize {a1 : Int} {a2 : Int} {a3 : Int} {a4 : Int} {N : jSh} {F : jFl} {A : jAr} (h1 : 0 ≤ a1) (h2 : 0 ≤ a2) (h3 : a1 + a2 ≤ a3 ∧ a3 ≤ 2000) : wqJ9_checkFromIndexSize a1 a2 a3 a4 N F A (fun z => z = a1) := by
  unfold wqJ9_checkFromIndexSize
  have j1 := jor_small (x := a3) (y := a1) (by omega) (by omega)
  have j2 := jor_small (x := jor a3 a1) (y := a2) j1 (by omega)
  refine ⟨by omega, ?_⟩ -- s1: (((0 : Int) ≤ a3 ∧ (a3 : Int) ≤ 2147483647) ∧ ((0 : Int) ≤ a1 ∧ (a1 : Int) ≤ 2147483647))
  refine ⟨by omega, ?_⟩ -- s2: (((0 : Int) ≤ jor a3 a1 ∧ (jor a3 a1 : Int) ≤ 2147483647) ∧ ((0 : Int) ≤ a2 ∧ (a2 : Int) ≤ 2147483647))
  refine ⟨by omega, ?_⟩ -- s3: jR (jor (jor a3 a1) a2)
  refine ⟨fun hc => ?_, fun hc => ?_⟩ -- c1
  · -- case ((jor (jor a3 a1) a2) < 0)
    -- l1: False
    omega
  · -- case (¬ ((jor (jor a3 a1) a2) < 0))
    refine ⟨by omega, ?_⟩ -- s4: jR (a3 - a1)
    refine ⟨fun hc => ?_, fun hc => ?_⟩ -- c2
    · -- case (a2 ≤ (a3 - a1))
      -- l2: Q a1
      rfl
    · -- case (¬ (a2 ≤ (a3 - a1)))
      -- l3: False
      omega

theorem sJ5_checkBoundsOffCount {S : Nat → Nat} {a1 : Int} {a2 : Int} {a3 : Int} {N : jSh} {F : jFl} {A : jAr} (h1 : 0 ≤ a1) (h2 : 0 ≤ a2) (h3 : a1 + a2 ≤ a3 ∧ a3 ≤ 2000) : wqJ5_checkBoundsOffCount S a1 a2 a3 N F A (fun z => z = a1) := by
  unfold wqJ5_checkBoundsOffCount
  refine ⟨_, sJ9_checkFromIndexSize h1 h2 h3, ?_⟩ -- call wqJ9_checkFromIndexSize a1 a2 a3 ((S 21 : Int) - 1) N F A P1
  intro z3 p1
  -- l1: Q z3
  exact p1

theorem sJ5_rangeCheck {S : Nat → Nat} {a1 : Int} {a2 : Int} {a3 : Int} {N : jSh} {F : jFl} {A : jAr} {c : Nat} (hc : a1 = (c : Int)) (ht : jtg N c = 111) (h1 : 0 ≤ a2) (h2 : 0 ≤ a3) (h3 : a2 + a3 ≤ (jln N c : Int) ∧ jln N c ≤ 2000) : wqJ5_rangeCheck S a1 a2 a3 N F A (fun z => z = -1) := by
  unfold wqJ5_rangeCheck
  refine ⟨_, by exact hc, ?_⟩ -- d1: a1 = (b1 : Int)
  refine ⟨by exact ht, ?_⟩ -- s1: jtg N b1 = 111
  refine ⟨by omega, ?_⟩ -- s2: jR (jln N b1 : Int)
  refine ⟨_, sJ5_checkBoundsOffCount h1 h2 (by omega), ?_⟩ -- call wqJ5_checkBoundsOffCount S a2 a3 (jln N b1 : Int) N F A P5
  intro z7 p5
  -- l1: Q (-1)
  rfl

theorem sJ6_compress_2 {a1 : Int} {a2 : Int} {a3 : Int} {a4 : Int} {a5 : Int} {N : jSh} {F : jFl} {A : jAr} {c v : Nat} {q : Int → Int} (h1 : a1 = (c : Int)) (ht : jtg N c = 111) (hl : 0 ≤ a2 ∧ a2 + a5 ≤ (jln N c : Int) ∧ jln N c ≤ 2000) (h3 : a3 = (v : Int)) (hv : jtg N v = 108 ∧ jfn N 0 v = 1) (hvl : (jln N v : Int) = a5) (h4 : a4 = 0) (hq : ∀ i : Int, 0 ≤ i → i < a5 → A c (a2 + i) = q i ∧ 0 ≤ q i ∧ q i ≤ 255) : wqJ6_compress_2 a1 a2 a3 a4 a5 N F A (fun z F' A' => z = a5 ∧ F' = F ∧ (∀ b, b ≠ v → A' b = A b) ∧ ∀ i : Int, 0 ≤ i → i < a5 → A' v i = jby (q i)) := by
  unfold wqJ6_compress_2
  have hcv : c ≠ v := fun w => by rw [w, hv.1] at ht; exact absurd ht (by decide)
  refine ⟨fun (v1 : Int) (v2 : Int) (v3 : Int) (A4 : jAr) => (0 ≤ v3 ∧ v3 ≤ a5 ∧ v1 = a2 + v3 ∧ v2 = v3) ∧ (∀ b, b ≠ v → A4 b = A b) ∧ ∀ i : Int, 0 ≤ i → i < v3 → A4 v i = jby (q i), fun v1 v2 v3 A4 => (a5 - v3).toNat, ?_, ?_⟩ -- loop I7 I7 a2 a4 0 A
  ·
    -- l1: I7 a2 a4 0 A
    exact ⟨by omega, fun _ _ => rfl, fun i i0 i1 => by omega⟩
  intro v1 v2 v3 A4 i7
  obtain ⟨i1, i2, i3⟩ := i7
  refine ⟨fun hc => ?_, fun hc => ?_⟩ -- c1
  · -- case (a5 ≤ v3)
    -- l2: Q a5 F A4
    exact ⟨rfl, rfl, i2, fun i i0 i1' => i3 i i0 (by omega)⟩
  · -- case (¬ (a5 ≤ v3))
    refine ⟨_, by exact h1, ?_⟩ -- d10: a1 = (b10 : Int)
    refine ⟨by exact ht, ?_⟩ -- s1: jtg N b10 = 111
    refine ⟨by omega, ?_⟩ -- s2: ((0 : Int) ≤ v1 ∧ (v1 : Int) < (jln N b10 : Int))
    intro v14 e14
    have e := hq v3 (by omega) (by omega)
    rw [i2 c hcv, i1.2.2.1, e.1] at e14
    refine ⟨fun hc => ?_, fun hc => ?_⟩ -- c2
    · -- case (v14 ≤ 255)
      refine ⟨_, by exact h3, ?_⟩ -- d16: a3 = (b16 : Int)
      refine ⟨by exact hv.1, ?_⟩ -- s3: jtg N b16 = 108
      refine ⟨by exact hv.2, ?_⟩ -- s4: jfn N 0 b16 = 1
      refine ⟨by omega, ?_⟩ -- s5: ((0 : Int) ≤ v2 ∧ (v2 : Int) < (jln N b16 : Int))
      intro A21 e21
      refine ⟨by omega, ?_⟩ -- s6: jR (v1 + 1)
      refine ⟨by omega, ?_⟩ -- s7: jR (v2 + 1)
      refine ⟨by omega, ?_⟩ -- s8: jR (v3 + 1)
      refine ⟨?_, ?_⟩ -- l3: I7 (v1 + 1) (v2 + 1) (v3 + 1) A21
      · refine ⟨by omega, fun b hb => by rw [e21, upA_o hb]; exact i2 b hb, fun i i0 i1' => ?_⟩
        rw [e21]
        by_cases w : i = v2
        · rw [w, upA_s, e14, i1.2.2.2]
        · rw [upA_i w]; exact i3 i i0 (by omega)
      · dsimp only; omega
    · -- case (¬ (v14 ≤ 255))
      -- l4: Q v3 F A4
      omega

theorem sJ6_compress {S : Nat → Nat} {a1 : Int} {a2 : Int} {a3 : Int} {N : jSh} {F : jFl} {A : jAr} {c n : Nat} {q : Int → Int} (h1 : a1 = (c : Int)) (ht : jtg N c = 111) (hcx : c < jnx N) (hn : a3 = (n : Int)) (hl : 0 ≤ a2 ∧ a2 + a3 ≤ (jln N c : Int) ∧ jln N c ≤ 2000) (hq : ∀ i : Int, 0 ≤ i → i < n → A c (a2 + i) = q i ∧ 0 ≤ q i ∧ q i ≤ 255) : wqJ6_compress S a1 a2 a3 N F A (fun z N' F' A' => z = (jnx N : Int) ∧ N' = jnew N 108 n n 1 ∧ F' = nwF N F ∧ (∀ b, b ≠ jnx N → A' b = A b) ∧ ∀ i : Int, 0 ≤ i → i < n → A' (jnx N) i = jby (q i)) := by
  unfold wqJ6_compress
  refine ⟨_, by exact hn, ?_⟩ -- d9: a3 = (n9 : Int)
  refine ⟨by omega, ?_⟩ -- s1: n9 ≤ 1000000
  intro b1 N2 F3 A4 e1 e2 e3 e4
  subst e1 e2 e3 e4
  refine ⟨_, sJ6_compress_2 (c := c) (v := jnx N) (q := q) h1 (by rw [jnew_tgo (by omega)]; exact ht) (by rw [jnew_lno (by omega)]; exact hl) rfl ⟨jnewTg _ _ _ _ _, by rw [jnew_f0]⟩ (by rw [jnewLn]; omega) rfl (fun i i0 i1 => by rw [nwA_o (by omega)]; exact hq i i0 (by omega)), ?_⟩ -- call wqJ6_compress_2 a1 a2 (b1 : Int) 0 a3 N2 F3 A4 P12
  intro z14 F15 A16 p12
  obtain ⟨q1, q2, q3, q4⟩ := p12
  refine ⟨fun hc => ?_, fun hc => ?_⟩ -- c1
  · -- case (z14 = a3)
    -- l1: Q (b1 : Int) N2 F15 A16
    exact ⟨rfl, rfl, q2, fun b hb => by rw [q3 b hb, nwA_o hb], fun i i0 i1 => q4 i i0 (by omega)⟩
  · -- case (¬ (z14 = a3))
    exact absurd q1 hc

