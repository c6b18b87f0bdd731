set_option maxRecDepth 100000
set_option linter.unusedVariables false
/-! the component: feed, end, seed; printed by gen/prove.py out of spec/9b.cs11.spec -/
theorem sX0_lays {o : Nat} {a1 : Int} {N : jSh} {F : jFl} {A : jAr} {R : Int} {Q : sMi} (hy : lay N o) (h : cMi R o F A Q) (hn : Q 0 0 + 4 ≤ 1600) : wqX0_lays o a1 N F A (fun F' A' => cMi R o F' A' (qPut Q a1) ∧ (∃ z, ∀ f b, F' f b = upF F 303 o z f b) ∧ ∀ b, b ≠ o + 1 → A' b = A b) := by
  unfold wqX0_lays
  refine ⟨fun (v1 : Int) (F2 : jFl) (A3 : jAr) => ∃ j : Nat, (v1 = 24 - 8 * (j : Int) ∧ j ≤ 4) ∧ cMi R o F2 A3 (qPutN Q a1 j) ∧ (∃ z, ∀ f b, F2 f b = upF F 303 o z f b) ∧ ∀ b, b ≠ o + 1 → A3 b = A b, fun v1 F2 A3 => (v1 + 8).toNat, ?_, ?_⟩ -- loop I6 I6 24 F A
  ·
    -- l1: I6 24 F A
    refine ⟨0, by omega, h, ⟨F 303 o, fun f b => ?_⟩, fun _ _ => rfl⟩
    by_cases w : f = 303
    · by_cases w2 : b = o
      · rw [w, w2, upF_s]
      · rw [upF_a w2]
    · rw [upF_f w]
  intro v1 F2 A3 i6
  obtain ⟨j, j1, j2, ⟨z, j3⟩, j4⟩ := i6
  have j5 := j2.1
  rw [qPutN_len] at j5
  refine ⟨fun hc => ?_, fun hc => ?_⟩ -- c1
  · -- case (v1 < 0)
    -- l2: Q F2 A3
    have : j = 4 := by omega
    subst this
    exact ⟨j2, ⟨z, j3⟩, j4⟩
  · -- case (¬ (v1 < 0))
    refine ⟨by omega, ?_⟩ -- s1: ((0 : Int) ≤ v1 ∧ (v1 : Int) < 32)
    refine ⟨by omega, ?_⟩ -- s2: (0 ≤ (a1 / 2 ^ v1.toNat) % 256 ∧ (a1 / 2 ^ v1.toNat) % 256 ≤ 65535)
    refine ⟨_, by exact hy.p302, ?_⟩ -- d11: jfn N 302 o = (b11 : Int)
    refine ⟨by exact (hy.1 1 (by decide)).1, ?_⟩ -- s3: jtg N b11 = 111
    refine ⟨by exact (hy.1 1 (by decide)).2, ?_⟩ -- s4: jfn N 0 b11 = 1
    refine ⟨by (have e := hy.2.2 (1, 1600) (by decide)); dsimp only at e; rw [e]; omega, ?_⟩ -- s5: ((0 : Int) ≤ F2 303 o ∧ (F2 303 o : Int) < (jln N b11 : Int))
    intro A16 e16
    refine ⟨by exact (hy.1 0 (by decide)).2, ?_⟩ -- s6: jfn N 0 o = 1
    refine ⟨by omega, ?_⟩ -- s7: jR ((F2 303 o) + 1)
    intro F21 e21
    refine ⟨by omega, ?_⟩ -- s8: jR (v1 + (-8))
    refine ⟨?_, ?_⟩ -- l3: I6 (v1 + (-8)) F21 A16
    · have g := j2.put1 (b := a1 / 2 ^ v1.toNat % 256) (by rw [qPutN_len]; omega) (by omega)
      have e := qPutN_succ (Q := Q) (a := a1) j
      rw [← j1.1] at e
      refine ⟨j + 1, by omega, ?_, ⟨F2 303 o + 1, fun f b => ?_⟩, fun b hb => ?_⟩
      · rw [e, e21, e16]; exact g
      · rw [e21]
        by_cases w : f = 303 ∧ b = o
        · rw [w.1, w.2, upF_s, upF_s]
        · have q : ∀ (G : jFl) y, upF G 303 o y f b = G f b := fun G y => if_neg w
          rw [q, q, j3, q]
      · rw [e16, upA_o hb]; exact j4 b hb
    · dsimp only; omega

theorem sX0_refused {o : Nat} {a1 : Int} {N : jSh} {F : jFl} {A : jAr} {R : Int} {Q : sMi} (hy : lay N o) (h : cMi R o F A Q) (hR : R < 1000000000) (h1 : 0 ≤ a1 ∧ a1 < 6) : wqX0_refused o a1 N F A (fun z F' A' => z = -1 ∧ cMi (R + 1) o F' A' (qRef Q a1) ∧ F' = F ∧ ∀ b, b ≠ o + 2 → A' b = A b) := by
  unfold wqX0_refused
  have q := h.2.2.1 a1 h1.1 h1.2
  have e := hy.2.2 (2, 6) (by decide)
  dsimp only at e
  refine ⟨_, by exact hy.p308, ?_⟩ -- d1: jfn N 308 o = (b1 : Int)
  refine ⟨by exact (hy.1 2 (by decide)).1, ?_⟩ -- s1: jtg N b1 = 102
  refine ⟨by rw [e]; omega, ?_⟩ -- s2: ((0 : Int) ≤ a1 ∧ (a1 : Int) < (jln N b1 : Int))
  refine ⟨by exact (hy.1 2 (by decide)).2, ?_⟩ -- s3: jfn N 0 b1 = 1
  refine ⟨by rw [e]; omega, ?_⟩ -- s4: ((0 : Int) ≤ a1 ∧ (a1 : Int) < (jln N b1 : Int))
  refine ⟨by omega, ?_⟩ -- s5: jR ((A b1 a1) + 1)
  intro A7 e7
  -- l1: Q (-1) F A7
  rw [e7]
  exact ⟨rfl, h.ref h1, rfl, fun b hb => upA_o hb⟩

theorem sX0_refuses {o : Nat} {a1 : Int} {N : jSh} {F : jFl} {A : jAr} {R : Int} {Q : sMi} (hy : lay N o) (h : cMi R o F A Q) (hR : R < 1000000000) (h1 : 0 ≤ a1 ∧ a1 < 6) : wqX0_refuses o a1 N F A (fun z F' A' => z = 0 ∧ cMi (R + 1) o F' A' (qRef Q a1) ∧ F' = F ∧ ∀ b, b ≠ o + 2 → A' b = A b) := by
  unfold wqX0_refuses
  refine ⟨_, sX0_refused hy h hR h1, ?_⟩ -- call wqX0_refused o a1 N F A P1
  intro z3 F4 A5 p1
  intro z11 e11
  -- l1: Q z11 F4 A5
  exact ⟨by rw [e11, p1.1]; rfl, p1.2⟩

theorem sX0_end {o : Nat} {a1 : Int} {N : jSh} {F : jFl} {A : jAr} {R : Int} {Q : sMi} (hy : lay N o) (h : cMi R o F A Q) (hR : R < 1000000000) : wqX0_end o a1 N F A (fun z F' A' => (if 0 ≤ a1 ∧ a1 ≤ Q 0 0 then z = 1 ∧ cMi (R + 1) o F' A' (qLen Q a1) else z = 0 ∧ cMi (R + 1) o F' A' (qRef Q 0)) ∧ (F' = F ∨ ∃ z, F' = upF F 303 o z) ∧ ∀ b, b ≠ o + 2 → A' b = A b) := by
  unfold wqX0_end
  have g := h.1
  refine ⟨fun hc => ?_, fun hc => ?_⟩ -- c1
  · -- case (a1 < 0)
    refine ⟨_, sX0_refuses hy h hR (by decide), ?_⟩ -- call wqX0_refuses o 0 N F A P2
    intro z4 F5 A6 p2
    -- l1: Q z4 F5 A6
    rw [if_neg (by omega)]
    exact ⟨⟨p2.1, p2.2.1⟩, Or.inl p2.2.2.1, p2.2.2.2⟩
  · -- case (¬ (a1 < 0))
    refine ⟨fun hc => ?_, fun hc => ?_⟩ -- c2
    · -- case (a1 ≤ (F 303 o))
      refine ⟨by exact (hy.1 0 (by decide)).2, ?_⟩ -- s1: jfn N 0 o = 1
      intro F14 e14
      -- l2: Q 1 F14 A
      rw [if_pos (by omega)]
      exact ⟨⟨rfl, by rw [e14]; exact (h.len (by omega)).mono (by omega)⟩, Or.inr ⟨a1, e14⟩, fun _ _ => rfl⟩
    · -- case (¬ (a1 ≤ (F 303 o)))
      refine ⟨_, sX0_refuses hy h hR (by decide), ?_⟩ -- call wqX0_refuses o 0 N F A P15
      intro z17 F18 A19 p15
      -- l3: Q z17 F18 A19
      rw [if_neg (by omega)]
      exact ⟨⟨p15.1, p15.2.1⟩, Or.inl p15.2.2.1, p15.2.2.2⟩

theorem sX0_seed {o : Nat} {a1 : Int} {N : jSh} {F : jFl} {A : jAr} {R : Int} {Q : sMi} (hy : lay N o) (h : cMi R o F A Q) (hR : R < 1000000000) (ra : jR a1) : wqX0_seed o a1 N F A (fun z F' A' => (if 0 ≤ a1 then z = 1 ∧ cMi (R + 1) o F' A' (qSeed Q a1) else z = 0 ∧ cMi (R + 1) o F' A' (qRef Q 5)) ∧ (F' = F ∨ ∃ z, F' = upF F 319 o z) ∧ ∀ b, b ≠ o + 2 → A' b = A b) := by
  unfold wqX0_seed
  refine ⟨fun hc => ?_, fun hc => ?_⟩ -- c1
  · -- case (0 ≤ a1)
    refine ⟨by exact (hy.1 0 (by decide)).2, ?_⟩ -- s1: jfn N 0 o = 1
    intro F4 e4
    -- l1: Q 1 F4 A
    rw [if_pos hc]
    exact ⟨⟨rfl, by rw [e4]; exact (h.seed (by omega)).mono (by omega)⟩, Or.inr ⟨a1, e4⟩, fun _ _ => rfl⟩
  · -- case (¬ (0 ≤ a1))
    refine ⟨_, sX0_refuses hy h hR (by decide), ?_⟩ -- call wqX0_refuses o 5 N F A P5
    intro z7 F8 A9 p5
    -- l2: Q z7 F8 A9
    rw [if_neg hc]
    exact ⟨⟨p5.1, p5.2.1⟩, Or.inl p5.2.2.1, p5.2.2.2⟩

