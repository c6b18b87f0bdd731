set_option maxRecDepth 100000
set_option linter.unusedVariables false
/-! the model: feed, end, seed; printed by gen/prove.py out of spec/99.ms10.spec -/
theorem sX9_put {o : Nat} {a1 : Int} {F : jFl} {A : jAr} {R : Int} {Q : sMi} (h : mMi R o F A Q) (hn : Q 0 0 + 4 ≤ 1600) : wpX9_put o a1 F A (fun F' A' => mMi R o F' A' (qPut Q a1) ∧ (∀ f b, (b = o → f ≠ 3003) → F' f b = F f b) ∧ ∀ b, b ≠ o + 1 → A' b = A b) := by
  unfold wpX9_put
  refine ⟨fun (v1 : Int) (F2 : jFl) (A3 : jAr) => ∃ j : Nat, (v1 = 24 - 8 * (j : Int) ∧ j ≤ 4) ∧ mMi R o F2 A3 (qPutN Q a1 j) ∧ (∀ f b, (b = o → f ≠ 3003) → F2 f b = F f b) ∧ ∀ b, b ≠ o + 1 → A3 b = A b, fun v1 F2 A3 => (v1 + 8).toNat, ?_, ?_⟩ -- loop I5 I5 24 F A
  ·
    -- l1: I5 24 F A
    exact ⟨0, by omega, h, fun _ _ _ => rfl, fun _ _ => rfl⟩
  intro v1 F2 A3 i5
  obtain ⟨j, j1, j2, j3, j4⟩ := i5
  have j5 := j2.1
  rw [qPutN_len] at j5
  refine ⟨fun hc => ?_, fun hc => ?_⟩ -- c1
  · -- case (v1 < 0)
    -- l2: Q F2 A3
    have : j = 4 := by omega
    subst this
    exact ⟨j2, j3, j4⟩
  · -- case ¬ (v1 < 0)
    refine ⟨by omega, ?_⟩ -- s1: ((0 : Int) ≤ v1 ∧ (v1 : Int) < 32)
    refine ⟨by omega, ?_⟩ -- s2: (0 ≤ F2 3003 o ∧ F2 3003 o < 1800)
    intro A10 e10
    refine ⟨by omega, ?_⟩ -- s3: jR ((F2 3003 o) + 1)
    intro F13 e13
    refine ⟨by omega, ?_⟩ -- s4: jR (v1 + (-8))
    refine ⟨?_, ?_⟩ -- l3: I5 (v1 + (-8)) F13 A10
    · have g := j2.put1 (b := a1 / 2 ^ v1.toNat % 256) (by rw [qPutN_len]; omega) (by omega)
      have e := qPutN_succ (Q := Q) (a := a1) j
      rw [← j1.1] at e
      refine ⟨j + 1, by omega, ?_, fun f b hf => ?_, fun b hb => ?_⟩
      · rw [e, e13, e10]; exact g
      · rw [e13]
        by_cases w : b = o
        · rw [upF_f (hf w)]; exact j3 f b hf
        · rw [upF_a w]; exact j3 f b hf
      · rw [e10, upA_o hb]; exact j4 b hb
    · dsimp only; omega

theorem sX9_feed {o : Nat} {a1 : Int} {a2 : Int} {a3 : Int} {a4 : Int} {a5 : Int} {F : jFl} {A : jAr} {R : Int} {W L : sTb} {B : sBk} {U : sUn} {Q : sMi} (h : mst R o F A W L B U Q) (hR : R < 1000000000) : wpX9_feed o a1 a2 a3 a4 a5 F A (fun z F' A' => if Q 0 0 + 20 ≤ 1600 then z = Q 0 0 + 20 ∧ mst (R + 1) o F' A' W L B U (qFeed Q a1 a2 a3 a4 a5) else z = -1 ∧ mst (R + 1) o F' A' W L B U (qRef Q 0)) := by
  unfold wpX9_feed
  have g := h.2.2.2.1
  refine ⟨by omega, ?_⟩ -- s1: jR ((F 3003 o) + 20)
  refine ⟨fun hc => ?_, fun hc => ?_⟩ -- c1
  · -- case (((F 3003 o) + 20) ≤ 1600)
    refine ⟨_, sX9_put h.2.2.2 (by omega), ?_⟩ -- call wpX9_put o a1 F A P3
    intro F6 A7 p3
    obtain ⟨a1, a2, a3⟩ := p3
    refine ⟨_, sX9_put a1 (by rw [qPut_len]; omega), ?_⟩ -- call wpX9_put o a2 F6 A7 P11
    intro F14 A15 p11
    obtain ⟨b1, b2, b3⟩ := p11
    refine ⟨_, sX9_put b1 (by rw [qPut_len, qPut_len]; omega), ?_⟩ -- call wpX9_put o a3 F14 A15 P19
    intro F22 A23 p19
    obtain ⟨c1, c2, c3⟩ := p19
    refine ⟨_, sX9_put c1 (by rw [qPut_len, qPut_len, qPut_len]; omega), ?_⟩ -- call wpX9_put o a4 F22 A23 P27
    intro F30 A31 p27
    obtain ⟨d1, d2, d3⟩ := p27
    refine ⟨_, sX9_put d1 (by rw [qPut_len, qPut_len, qPut_len, qPut_len]; omega), ?_⟩ -- call wpX9_put o a5 F30 A31 P35
    intro F38 A39 p35
    obtain ⟨y1, y2, y3⟩ := p35
    -- l1: Q (F38 3003 o) F38 A39
    rw [if_pos (by omega)]
    have q := y1.1.1
    refine ⟨by rw [q]; exact qFeed_len, h.mi (fun f hf => ?_) (fun k k0 k1 k2 => ?_) (y1.mono (by omega))⟩
    · have hf2 : o = o → f ≠ 3003 := fun _ => by omega
      rw [y2 f o hf2, d2 f o hf2, c2 f o hf2, b2 f o hf2, a2 f o hf2]
    · rw [y3 _ (by omega), d3 _ (by omega), c3 _ (by omega), b3 _ (by omega), a3 _ (by omega)]
  · -- case ¬ (((F 3003 o) + 20) ≤ 1600)
    refine ⟨_, sX9_refuses h hR (by decide), ?_⟩ -- call wpX9_refuses o 0 F A P43
    intro z45 F46 A47 p43
    -- l2: Q z45 F46 A47
    rw [if_neg (by omega)]
    exact p43

theorem sX9_end {o : Nat} {a1 : Int} {F : jFl} {A : jAr} {R : Int} {W L : sTb} {B : sBk} {U : sUn} {Q : sMi} (h : mst R o F A W L B U Q) (hR : R < 1000000000) : wpX9_end o a1 F A (fun z F' A' => if 0 ≤ a1 ∧ a1 ≤ Q 0 0 then z = 1 ∧ mst (R + 1) o F' A' W L B U (qLen Q a1) else z = 0 ∧ mst (R + 1) o F' A' W L B U (qRef Q 0)) := by
  unfold wpX9_end
  have g := h.2.2.2.1
  refine ⟨fun hc => ?_, fun hc => ?_⟩ -- c1
  · -- case (a1 < 0)
    refine ⟨_, sX9_refuses h hR (by decide), ?_⟩ -- call wpX9_refuses o 0 F A P2
    intro z4 F5 A6 p2
    intro z11 e11
    -- l1: Q z11 F5 A6
    rw [if_neg (by omega)]
    exact ⟨by rw [e11, p2.1]; rfl, p2.2⟩
  · -- case ¬ (a1 < 0)
    refine ⟨fun hc => ?_, fun hc => ?_⟩ -- c2
    · -- case (a1 ≤ (F 3003 o))
      intro F14 e14
      -- l2: Q 1 F14 A
      rw [if_pos (by omega)]
      refine ⟨rfl, h.mi (fun f hf => by rw [e14, upF_f (by omega)]) (fun _ _ _ _ => rfl) ?_⟩
      rw [e14]
      exact (h.2.2.2.len (by omega)).mono (by omega)
    · -- case ¬ (a1 ≤ (F 3003 o))
      refine ⟨_, sX9_refuses h hR (by decide), ?_⟩ -- call wpX9_refuses o 0 F A P16
      intro z18 F19 A20 p16
      intro z25 e25
      -- l3: Q z25 F19 A20
      rw [if_neg (by omega)]
      exact ⟨by rw [e25, p16.1]; rfl, p16.2⟩

theorem sX9_seed {o : Nat} {a1 : Int} {F : jFl} {A : jAr} {R : Int} {W L : sTb} {B : sBk} {U : sUn} {Q : sMi} (h : mst R o F A W L B U Q) (hR : R < 1000000000) (ra : jR a1) : wpX9_seed o a1 F A (fun z F' A' => if 0 ≤ a1 then z = 1 ∧ mst (R + 1) o F' A' W L B U (qSeed Q a1) else z = 0 ∧ mst (R + 1) o F' A' W L B U (qRef Q 5)) := by
  unfold wpX9_seed
  refine ⟨fun hc => ?_, fun hc => ?_⟩ -- c1
  · -- case (0 ≤ a1)
    intro F2 e2
    -- l1: Q 1 F2 A
    rw [if_pos hc]
    refine ⟨rfl, h.mi (fun f hf => by rw [e2, upF_f (by omega)]) (fun _ _ _ _ => rfl) ?_⟩
    rw [e2]
    exact (h.2.2.2.seed (by omega)).mono (by omega)
  · -- case ¬ (0 ≤ a1)
    refine ⟨_, sX9_refuses h hR (by decide), ?_⟩ -- call wpX9_refuses o 5 F A P4
    intro z6 F7 A8 p4
    intro z13 e13
    -- l2: Q z13 F7 A8
    rw [if_neg hc]
    exact ⟨by rw [e13, p4.1]; rfl, p4.2⟩

