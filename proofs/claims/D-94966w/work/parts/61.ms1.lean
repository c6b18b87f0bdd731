set_option maxRecDepth 100000
set_option linter.unusedVariables false
/-! the model's methods say what the plain words say: printed by gen/prove.py out of spec/61.ms1.spec -/
theorem sX9_stands {o : Nat} {a1 : Int} {a2 : Int} {F : jFl} {A : jAr} {W L : sTb} (hL : mrL o A a1 (W 3 0 0) L) (h1 : 0 ≤ a1 ∧ a1 < 22) (h2 : 0 ≤ a2 ∧ a2 < W 3 0 0) (hW : sWok W) : wpX9_stands o a1 a2 F A (fun z => z = (if 0 < L 2 a2 0 then 1 else 0)) := by
  unfold wpX9_stands
  have g := hL.2.2 a2 h2.1 h2.2
  have w3 := hW.2.2.2.1
  refine ⟨by omega, ?_⟩ -- s1: (0 ≤ (12 * a1) + a2 ∧ (12 * a1) + a2 < 264)
  intro z3 e3
  -- l1: Q z3
  grind

theorem sX9_isNever {o : Nat} {a1 : Int} {F : jFl} {A : jAr} {W : sTb} (hW : mrW o F A W) (hk : sWok W) (h2 : 0 ≤ a1 ∧ a1 < W 0 0 0) : wpX9_isNever o a1 F A (fun z => z = (if W 15 a1 0 = 0 then 0 else 1)) := by
  unfold wpX9_isNever
  have g := hW.2.2.2.1 a1 h2.1 h2.2
  have w0 := hk.1
  have hb := hW.1
  have w1 := (hk.2.2.2.2.2.2.2.1 a1 h2.1 h2.2).2.2.2.2
  refine ⟨by omega, ?_⟩ -- s1: (0 ≤ (24 * (F 3039 o)) + a1 ∧ (24 * (F 3039 o)) + a1 < 48)
  intro z3 e3
  -- l1: Q z3
  grind

theorem sX9_isLetter {o : Nat} {a1 : Int} {F : jFl} {A : jAr}  : wpX9_isLetter o a1 F A (fun z => z = (if 97 ≤ a1 ∧ a1 ≤ 122 then 1 else 0)) := by
  unfold wpX9_isLetter
  refine ⟨fun hc => ?_, fun hc => ?_⟩ -- c1
  · -- case (a1 < 97)
    -- l1: Q 0
    grind
  · -- case ¬ (a1 < 97)
    intro z3 e3
    -- l2: Q z3
    grind

theorem sX9_isDigit {o : Nat} {a1 : Int} {F : jFl} {A : jAr}  : wpX9_isDigit o a1 F A (fun z => z = (if 48 ≤ a1 ∧ a1 ≤ 57 then 1 else 0)) := by
  unfold wpX9_isDigit
  refine ⟨fun hc => ?_, fun hc => ?_⟩ -- c1
  · -- case (a1 < 48)
    -- l1: Q 0
    grind
  · -- case ¬ (a1 < 48)
    intro z3 e3
    -- l2: Q z3
    grind

theorem sX9_is {o : Nat} {a1 : Int} {a2 : Int} {a3 : Int} {F : jFl} {A : jAr}  : wpX9_is o a1 a2 a3 F A (fun z => z = (if a2 ≤ a1 ∧ a1 ≤ a3 then 1 else 0)) := by
  unfold wpX9_is
  refine ⟨fun hc => ?_, fun hc => ?_⟩ -- c1
  · -- case (a1 < a2)
    -- l1: Q 0
    grind
  · -- case ¬ (a1 < a2)
    intro z3 e3
    -- l2: Q z3
    grind

theorem sX9_isWordOf {o : Nat} {a1 : Int} {F : jFl} {A : jAr} {W : sTb} (hW : mrW o F A W) : wpX9_isWordOf o a1 F A (fun z => z = (if 0 ≤ a1 ∧ a1 < W 0 0 0 then 1 else 0)) := by
  unfold wpX9_isWordOf
  have hb := hW.1
  have g := hW.2.1.1
  refine ⟨fun hc => ?_, fun hc => ?_⟩ -- c1
  · -- case (a1 < 0)
    -- l1: Q 0
    grind
  · -- case ¬ (a1 < 0)
    refine ⟨by omega, ?_⟩ -- s1: (0 ≤ F 3039 o ∧ F 3039 o < 2)
    intro z4 e4
    -- l2: Q z4
    grind

theorem sX9_isChild {o : Nat} {a1 : Int} {F : jFl} {A : jAr} {W : sTb} (hW : mrW o F A W) : wpX9_isChild o a1 F A (fun z => z = (if 0 ≤ a1 ∧ a1 < W 2 0 0 then 1 else 0)) := by
  unfold wpX9_isChild
  have hb := hW.1
  have g := hW.2.1.2.2.1
  refine ⟨fun hc => ?_, fun hc => ?_⟩ -- c1
  · -- case (a1 < 0)
    -- l1: Q 0
    grind
  · -- case ¬ (a1 < 0)
    refine ⟨by omega, ?_⟩ -- s1: (0 ≤ F 3039 o ∧ F 3039 o < 2)
    intro z4 e4
    -- l2: Q z4
    grind

theorem sX9_isLaw {o : Nat} {a1 : Int} {F : jFl} {A : jAr} {W : sTb} (hW : mrW o F A W) : wpX9_isLaw o a1 F A (fun z => z = (if 0 ≤ a1 ∧ a1 < W 3 0 0 then 1 else 0)) := by
  unfold wpX9_isLaw
  have hb := hW.1
  have g := hW.2.1.2.2.2
  refine ⟨fun hc => ?_, fun hc => ?_⟩ -- c1
  · -- case (a1 < 0)
    -- l1: Q 0
    grind
  · -- case ¬ (a1 < 0)
    refine ⟨by omega, ?_⟩ -- s1: (0 ≤ F 3039 o ∧ F 3039 o < 2)
    intro z4 e4
    -- l2: Q z4
    grind

theorem sX9_isStanding {o : Nat} {a1 : Int} {F : jFl} {A : jAr} {W L : sTb} (hW : mrW o F A W) (hk : sWok W) (hL : mrL o A 0 (W 3 0 0) L) : wpX9_isStanding o a1 F A (fun z => z = (if 0 ≤ a1 ∧ a1 < W 3 0 0 ∧ 0 < L 2 a1 0 then 1 else 0)) := by
  unfold wpX9_isStanding
  refine ⟨_, sX9_isLaw hW, ?_⟩ -- call wpX9_isLaw o a1 F A P1
  intro z3 p1
  refine ⟨fun hc => ?_, fun hc => ?_⟩ -- c1
  · -- case (z3 = 0)
    -- l1: Q 0
    grind
  · -- case ¬ (z3 = 0)
    refine ⟨_, sX9_stands hL (by omega) (by grind) hk, ?_⟩ -- call wpX9_stands o 0 a1 F A P7
    intro z9 p7
    intro z13 e13
    -- l2: Q z13
    grind

theorem sX9_likes {o : Nat} {a1 : Int} {a2 : Int} {F : jFl} {A : jAr} {W : sTb} (hW : mrW o F A W) (hk : sWok W) (h1 : 0 ≤ a1 ∧ a1 < W 0 0 0) (h2 : 0 ≤ a2 ∧ a2 < W 0 0 0) : wpX9_likes o a1 a2 F A (fun z => z = sLikes W a1 a2) := by
  unfold wpX9_likes
  have hb := hW.1
  have w0 := hk.1
  have g1 := hW.2.2.2.1 a1 h1.1 h1.2
  have g2 := hW.2.2.2.1 a2 h2.1 h2.2
  refine ⟨by omega, ?_⟩ -- s1: jR ((24 * (F 3039 o)) + a1)
  intro v2 e2
  refine ⟨by omega, ?_⟩ -- s2: jR ((24 * (F 3039 o)) + a2)
  intro v4 e4
  refine ⟨by omega, ?_⟩ -- s3: (0 ≤ v2 ∧ v2 < 48)
  refine ⟨by omega, ?_⟩ -- s4: (0 ≤ v4 ∧ v4 < 48)
  intro z8 e8
  refine ⟨by omega, ?_⟩ -- s5: (0 ≤ v2 ∧ v2 < 48)
  refine ⟨by omega, ?_⟩ -- s6: (0 ≤ v4 ∧ v4 < 48)
  intro z13 e13
  refine ⟨by omega, ?_⟩ -- s7: (0 ≤ v2 ∧ v2 < 48)
  refine ⟨by omega, ?_⟩ -- s8: (0 ≤ v4 ∧ v4 < 48)
  intro z18 e18
  refine ⟨by omega, ?_⟩ -- s9: jR ((z8 + z13) + z18)
  -- l1: Q ((z8 + z13) + z18)
  grind [sLikes]

theorem sX9_heardBy {o : Nat} {a1 : Int} {a2 : Int} {F : jFl} {A : jAr} {W : sTb} (hW : mrW o F A W) (hk : sWok W) (h1 : 0 ≤ a1 ∧ a1 < W 2 0 0) (h2 : 0 ≤ a2 ∧ a2 < W 0 0 0) : wpX9_heardBy o a1 a2 F A (fun z => z = sHeard W a1 a2) := by
  unfold wpX9_heardBy
  have hb := hW.1
  have w0 := hk.1
  have w1 := hk.2.1
  have w2 := hk.2.2.1
  have w9 := (hk.2.2.2.2.2.2.2.2.2.1 a1 h1.1 h1.2).1
  have g1 := (hW.2.2.2.2.2.1 a1 h1.1 h1.2).2.1
  have g2 := (hW.2.2.2.2.1 _ w9.1 w9.2).2 a2 h2.1 h2.2
  rw [g1, g2]
  refine ⟨by omega, ?_⟩ -- s1: (0 ≤ (10 * (F 3039 o)) + a1 ∧ (10 * (F 3039 o)) + a1 < 20)
  refine ⟨by omega, ?_⟩ -- s2: (0 ≤ (24 * ((6 * (F 3039 o)) + (A (o + 14) ((10 * (F 3039 o)) + a1)))) + a2 ∧ (24 * ((6 * (F 3039 o)) + (A (o + 14) ((10 * (F 3039 o)) + a1)))) + a2 < 288)
  intro v3 e3
  refine ⟨fun hc => ?_, fun hc => ?_⟩ -- c1
  · -- case (¬ v3 = (-1))
    -- l1: Q v3
    grind [sHeard]
  · -- case ¬ (¬ v3 = (-1))
    -- l2: Q a2
    grind [sHeard]

theorem sX9_knows {o : Nat} {a1 : Int} {a2 : Int} {F : jFl} {A : jAr} {W : sTb} (hW : mrW o F A W) (hk : sWok W) (h1 : 0 ≤ a1 ∧ a1 < W 2 0 0) (h2 : 0 ≤ a2 ∧ a2 < W 0 0 0) : wpX9_knows o a1 a2 F A (fun z => z = (if W 21 a1 a2 = 1 then 1 else 0)) := by
  unfold wpX9_knows
  have hb := hW.1
  have w0 := hk.1
  have w2 := hk.2.2.1
  have g1 := (hW.2.2.2.2.2.1 a1 h1.1 h1.2).2.2.2 a2 h2.1 h2.2
  refine ⟨by omega, ?_⟩ -- s1: (0 ≤ (24 * ((10 * (F 3039 o)) + a1)) + a2 ∧ (24 * ((10 * (F 3039 o)) + a1)) + a2 < 480)
  intro z3 e3
  -- l1: Q z3
  grind

theorem sX9_costs {o : Nat} {a1 : Int} {a2 : Int} {F : jFl} {A : jAr} {W : sTb} (hW : mrW o F A W) (hk : sWok W) (h1 : a1 = -1 ∨ 0 ≤ a1 ∧ a1 < W 0 0 0) (h2 : 0 ≤ a2 ∧ a2 < W 0 0 0) : wpX9_costs o a1 a2 F A (fun z => z = W 11 a2 0 - (if 0 ≤ a1 ∧ W 13 a1 0 = W 13 a2 0 then 1 else 0)) := by
  unfold wpX9_costs
  have hb := hW.1
  have w0 := hk.1
  have w1 := (hk.2.2.2.2.2.2.2.1 a2 h2.1 h2.2).1
  have g2 := hW.2.2.2.1 a2 h2.1 h2.2
  have g1 : 0 ≤ a1 → A (o + 6) (24 * F 3039 o + a1) = W 13 a1 0 := fun q => (hW.2.2.2.1 a1 q (by omega)).2.2.2.1
  refine ⟨by omega, ?_⟩ -- s1: (0 ≤ (24 * (F 3039 o)) + a2 ∧ (24 * (F 3039 o)) + a2 < 48)
  intro v2 e2
  refine ⟨fun hc => ?_, fun hc => ?_⟩ -- c1
  · -- case (a1 = (-1))
    -- l1: Q v2
    grind
  · -- case ¬ (a1 = (-1))
    refine ⟨by omega, ?_⟩ -- s2: (0 ≤ (24 * (F 3039 o)) + a1 ∧ (24 * (F 3039 o)) + a1 < 48)
    refine ⟨by omega, ?_⟩ -- s3: (0 ≤ (24 * (F 3039 o)) + a2 ∧ (24 * (F 3039 o)) + a2 < 48)
    refine ⟨fun hc => ?_, fun hc => ?_⟩ -- c2
    · -- case (¬ (A (o + 6) ((24 * (F 3039 o)) + a1)) = (A (o + 6) ((24 * (F 3039 o)) + a2)))
      -- l2: Q v2
      grind
    · -- case ¬ (¬ (A (o + 6) ((24 * (F 3039 o)) + a1)) = (A (o + 6) ((24 * (F 3039 o)) + a2)))
      refine ⟨by omega, ?_⟩ -- s4: jR (v2 + (-1))
      -- l3: Q (v2 + (-1))
      grind

theorem sX9_saidBy {o : Nat} {a1 : Int} {a2 : Int} {F : jFl} {A : jAr} {W : sTb} (hW : mrW o F A W) (hk : sWok W) (h1 : 0 ≤ a1 ∧ a1 < W 2 0 0) (h2 : 0 ≤ a2 ∧ a2 < W 0 0 0) : wpX9_saidBy o a1 a2 F A (fun z => z = sSaid W a1 a2) := by
  unfold wpX9_saidBy
  have hb := hW.1
  have w5 := hk.2.2.2.2.2.1
  have g5 := hW.2.2.1.2.1
  have g0 := hW.2.1.1
  have g3 := sHeard_range hk h1 h2
  have w0 := hk.1
  refine ⟨_, sX9_heardBy hW hk h1 h2, ?_⟩ -- call wpX9_heardBy o a1 a2 F A P1
  intro z3 p1
  subst p1
  refine ⟨_, sX9_knows hW hk h1 g3, ?_⟩ -- call wpX9_knows o a1 z3 F A P6
  intro z8 p6
  refine ⟨fun hc => ?_, fun hc => ?_⟩ -- c1
  · -- case (z8 = 0)
    refine ⟨by exact hb, ?_⟩ -- s1: (0 ≤ F 3039 o ∧ F 3039 o < 2)
    refine ⟨by omega, ?_⟩ -- s2: jR ((A (o + 24) (F 3039 o)) - 1)
    intro v14 e14
    refine ⟨fun (v15 : Int) (v16 : Int) (v17 : Int) => (0 ≤ v17 ∧ v17 ≤ W 0 0 0) ∧ sNear W a1 (sHeard W a1 a2) v17.toNat = (v15, v16), fun v15 v16 v17 => (W 0 0 0 - v17).toNat, ?_, ?_⟩ -- loop I18 I18 z3 v14 0
    ·
      -- l1: I18 z3 v14 0
      exact ⟨by omega, by subst e14; rw [g5]; rfl⟩
    intro v15 v16 v17 i18
    obtain ⟨i1, i3⟩ := i18
    have st : sNear W a1 (sHeard W a1 a2) (v17 + 1).toNat = sNearF W a1 (sHeard W a1 a2) v17 (v15, v16) := by rw [← i3]; exact it_succ _ _ i1.1
    unfold sNearF at st
    refine ⟨by omega, ?_⟩ -- s3: (0 ≤ F 3039 o ∧ F 3039 o < 2)
    refine ⟨fun hc => ?_, fun hc => ?_⟩ -- c2
    · -- case ((A (o + 2) (F 3039 o)) ≤ v17)
      -- l2: Q v15
      dsimp only
      unfold sSaid
      rw [if_neg (by grind), show W 0 0 0 = v17 by omega, i3]
    · -- case ¬ ((A (o + 2) (F 3039 o)) ≤ v17)
      refine ⟨_, sX9_knows hW hk h1 (by omega), ?_⟩ -- call wpX9_knows o a1 v17 F A P22
      intro z24 p22
      refine ⟨fun hc => ?_, fun hc => ?_⟩ -- c3
      · -- case (z24 = 0)
        refine ⟨by omega, ?_⟩ -- s4: jR (v17 + 1)
        refine ⟨?_, ?_⟩ -- l3: I18 v15 v16 (v17 + 1)
        · refine ⟨by omega, ?_⟩
          rw [st, if_neg (by grind)]
        · dsimp only; omega
      · -- case ¬ (z24 = 0)
        refine ⟨_, sX9_likes hW hk (by omega) g3, ?_⟩ -- call wpX9_likes o v17 z3 F A P29
        intro z31 p29
        refine ⟨fun hc => ?_, fun hc => ?_⟩ -- c4
        · -- case (v16 < z31)
          refine ⟨_, sX9_likes hW hk (by omega) g3, ?_⟩ -- call wpX9_likes o v17 z3 F A P35
          intro z37 p35
          refine ⟨by omega, ?_⟩ -- s5: jR (v17 + 1)
          refine ⟨?_, ?_⟩ -- l4: I18 v17 z37 (v17 + 1)
          · refine ⟨by omega, ?_⟩
            rw [st, if_pos (by grind), if_pos (by dsimp only; omega), p35]
          · dsimp only; omega
        · -- case ¬ (v16 < z31)
          refine ⟨by omega, ?_⟩ -- s6: jR (v17 + 1)
          refine ⟨?_, ?_⟩ -- l5: I18 v15 v16 (v17 + 1)
          · refine ⟨by omega, ?_⟩
            rw [st, if_pos (by grind), if_neg (by dsimp only; omega)]
          · dsimp only; omega
  · -- case ¬ (z8 = 0)
    -- l6: Q z3
    dsimp only
    unfold sSaid
    rw [if_pos (by grind)]

theorem sX9_loads {o : Nat} {a1 : Int} {a2 : Int} {F : jFl} {A : jAr} {W L : sTb} (hL : mrL o A a1 (W 3 0 0) L) (hW : sWok W) (hk : sLok W L) (h1 : 0 ≤ a1 ∧ a1 < 22) (h2 : 0 ≤ a2 ∧ a2 < W 3 0 0) : wpX9_loads o a1 a2 F A (fun F' A' => (F' 3165 o = L 2 a2 0 ∧ F' 3168 o = L 3 a2 0 ∧ F' 3171 o = L 4 a2 0) ∧ (∀ f b, (b = o → f ≠ 3165 ∧ f ≠ 3168 ∧ f ≠ 3171) → F' f b = F f b) ∧ (∀ b, b ≠ o + 36 → A' b = A b) ∧ ∀ k : Int, 0 ≤ k → k < L 2 a2 0 + L 3 a2 0 → A' (o + 36) k = L 5 a2 k) := by
  unfold wpX9_loads
  have w3 := hW.2.2.2.1
  have g := hL.2.2 a2 h2.1 h2.2
  have k3 := hk.2.2.2.1 a2 h2.1 h2.2
  refine ⟨by omega, ?_⟩ -- s1: jR ((12 * a1) + a2)
  intro v2 e2
  refine ⟨by omega, ?_⟩ -- s2: (0 ≤ v2 ∧ v2 < 264)
  intro F4 e4
  refine ⟨by omega, ?_⟩ -- s3: (0 ≤ v2 ∧ v2 < 264)
  intro F7 e7
  refine ⟨by omega, ?_⟩ -- s4: (0 ≤ v2 ∧ v2 < 264)
  intro z11 e11
  intro F13 e13
  subst e2
  have f1 : F13 3165 o = L 2 a2 0 := by subst e13 e7 e4; simp [upF]; exact g.1
  have f2 : F13 3168 o = L 3 a2 0 := by subst e13 e7 e4; simp [upF]; exact g.2.1
  have f3 : F13 3171 o = L 4 a2 0 := by subst e13 e7 e4 e11; simp only [upF]; grind
  have f4 : ∀ f b, (b = o → f ≠ 3165 ∧ f ≠ 3168 ∧ f ≠ 3171) → F13 f b = F f b := by intro f b hf; subst e13 e7 e4; simp only [upF]; grind
  refine ⟨fun (v15 : Int) (A16 : jAr) => (0 ≤ v15 ∧ v15 ≤ L 2 a2 0 + L 3 a2 0) ∧ (∀ b, b ≠ o + 36 → A16 b = A b) ∧ ∀ k : Int, 0 ≤ k → k < v15 → A16 (o + 36) k = L 5 a2 k, fun v15 A16 => (L 2 a2 0 + L 3 a2 0 - v15).toNat, ?_, ?_⟩ -- loop I18 I18 0 A
  ·
    -- l1: I18 0 A
    exact ⟨by omega, fun _ _ => rfl, fun k h0 h1 => by omega⟩
  intro v15 A16 i18
  obtain ⟨i1, i3, i4⟩ := i18
  rw [f1, f2]
  refine ⟨by omega, ?_⟩ -- s5: jR ((F13 3165 o) + (F13 3168 o))
  refine ⟨fun hc => ?_, fun hc => ?_⟩ -- c1
  · -- case (((F13 3165 o) + (F13 3168 o)) ≤ v15)
    -- l2: Q F13 A16
    exact ⟨⟨f1, f2, f3⟩, f4, i3, fun k k0 k1 => i4 k k0 (by omega)⟩
  · -- case ¬ (((F13 3165 o) + (F13 3168 o)) ≤ v15)
    refine ⟨by omega, ?_⟩ -- s6: (0 ≤ (12 * v2) + v15 ∧ (12 * v2) + v15 < 3168)
    refine ⟨by omega, ?_⟩ -- s7: (0 ≤ v15 ∧ v15 < 12)
    intro A24 e24
    refine ⟨by omega, ?_⟩ -- s8: jR (v15 + 1)
    refine ⟨?_, ?_⟩ -- l3: I18 (v15 + 1) A24
    · refine ⟨by omega, fun b hb => by rw [← i3 b hb]; subst e24; funext i; simp only [upA]; grind, fun k k0 k1 => ?_⟩
      have := i3 (o + 33) (by omega)
      have := g.2.2.2 v15 (by omega) (by omega)
      subst e24
      simp only [upA]
      grind
    · dsimp only; omega

set_option maxHeartbeats 2000000 in
theorem sX9_utters {o : Nat} {a1 : Int} {F : jFl} {A : jAr} {W : sTb} (hW : mrW o F A W) (hk : sWok W) (h1 : 0 ≤ a1 ∧ a1 < W 2 0 0) {R : sRow} (hR : sRok (W 0 0 0) R) (hR1 : F 3165 o = R.1) (hR2 : F 3168 o = R.2.1) (hR3 : ∀ k : Int, 0 ≤ k → k < R.1 + R.2.1 → A (o + 36) k = R.2.2 k) (h5 : F 3186 o = -1 ∨ 0 ≤ F 3186 o ∧ F 3186 o ≤ 60) {left : Int} (h6 : left = (if F 3186 o = -1 then W 20 a1 0 else F 3186 o) + (if F 3171 o = 0 then 0 else W 6 0 0)) : wpX9_utters o a1 F A (fun F' A' => (F' 3177 o = sMain W a1 R left ∧ F' 3180 o = sBut W a1 R left ∧ F' 3183 o = sKind W a1 R left) ∧ (∀ f b, (b = o → f ≠ 3177 ∧ f ≠ 3180 ∧ f ≠ 3183) → F' f b = F f b) ∧ (∀ b, b ≠ o + 37 → A' b = A b) ∧ ∀ k : Int, 0 ≤ k → k < F' 3177 o + F' 3180 o → A' (o + 37) k = sU W a1 R.2.2 k) := by
  obtain ⟨r, h7⟩ : ∃ r : sRow, r = (F 3165 o, F 3168 o, A (o + 36)) := ⟨_, rfl⟩
  have h2 : 0 ≤ F 3165 o ∧ F 3165 o ≤ 8 := by rw [hR1]; exact hR.1
  have h3 : 0 ≤ F 3168 o ∧ F 3168 o ≤ 4 := by rw [hR2]; exact hR.2.1
  have h4 : ∀ k : Int, 0 ≤ k → k < F 3165 o + F 3168 o → 0 ≤ A (o + 36) k ∧ A (o + 36) k < W 0 0 0 := fun k k0 k1 => by rw [hR3 k k0 (by omega)]; exact hR.2.2 k k0 (by omega)
  obtain ⟨cg1, cg2, cg3, cg4⟩ := say_congr (W := W) (c := a1) (R := r) (R' := R) (left := left) (by rw [h7]; exact hR1) (by rw [h7]; exact hR2) (by rw [h7]; intro k k0 k1; dsimp only at k1; exact hR3 k k0 (by omega)) (by rw [h7]; exact h2.1) (by rw [h7]; exact h3.1)
  rw [← cg1, ← cg2, ← cg3]
  unfold wpX9_utters
  have hb := hW.1
  obtain ⟨w0, w1, w2, w3, w4, w5, w6, w7, w8, w9, w10⟩ := id hk
  have g1 := w9 a1 h1.1 h1.2
  have gl : 0 ≤ left ∧ left ≤ 80 := by rw [h6]; split <;> split <;> omega
  have e20 : A (o + 15) (10 * F 3039 o + a1) = W 20 a1 0 := (hW.2.2.2.2.2.1 a1 h1.1 h1.2).2.2.1
  have e6 : A (o + 25) (F 3039 o) = W 6 0 0 := hW.2.2.1.2.2
  have r1 : r.1 = F 3165 o := by rw [h7]
  have r2 : r.2.1 = F 3168 o := by rw [h7]
  have r3 : r.2.2 = A (o + 36) := by rw [h7]
  rw [r1, r2, r3] at cg4
  have hcs : ∀ k : Int, 0 ≤ k → k < F 3165 o + F 3168 o → 0 ≤ sCost (W) a1 (A (o + 36)) k ∧ sCost (W) a1 (A (o + 36)) k ≤ 9 := fun k k0 k1 => sCost_range hk h1 (h4 k k0 k1)
  have hsu : ∀ k : Int, 0 ≤ k → k < F 3165 o + F 3168 o → 0 ≤ sU (W) a1 (A (o + 36)) k ∧ sU (W) a1 (A (o + 36)) k < W 0 0 0 := fun k k0 k1 => sSaid_range hk h1 (h4 k k0 k1)
  have sl : ∀ k : Int, 0 ≤ k → sLeft (W) a1 (A (o + 36)) left (k + 1).toNat = sLeft (W) a1 (A (o + 36)) left k.toNat - sCost (W) a1 (A (o + 36)) k := fun k k0 => it_succ _ _ k0
  have sl2 : ∀ k : Int, 0 ≤ k → sLeft2 (W) a1 r left (k + 1).toNat = sLeft2 (W) a1 r left k.toNat - sCost (W) a1 (A (o + 36)) (F 3165 o + k) := fun k k0 => by
    have e := it_succ (fun k l => l - sCost (W) a1 r.2.2 (r.1 + k)) (sLeft (W) a1 r.2.2 left r.1.toNat - 1) k0
    rw [r3, r1] at e
    unfold sLeft2
    rw [r3, r1]
    exact e
  refine ⟨fun (v2 : Int) => v2 = (if F 3186 o = -1 then W 20 a1 0 else F 3186 o), ?_, ?_⟩ -- join K3
  · intro v2 k3
    refine ⟨fun (v7 : Int) => v7 = (if F 3171 o = 0 then 0 else W 6 0 0), ?_, ?_⟩ -- join K8
    · intro v7 k8
      refine ⟨by (subst k3 k8; omega), ?_⟩ -- s1: jR (v2 + v7)
      intro v12 e12
      have ev : v12 = left := by rw [e12, h6, k3, k8]
      intro F13 e13
      intro F15 e15
      intro F17 e17
      have f1 : F17 3177 o = 0 := by subst e17 e15 e13; simp [upF]
      have f2 : F17 3180 o = 0 := by subst e17 e15 e13; simp [upF]
      have f3 : F17 3183 o = 3 := by subst e17 e15 e13; simp [upF]
      have f4 : ∀ f b, (b = o → f ≠ 3177 ∧ f ≠ 3180 ∧ f ≠ 3183) → F17 f b = F f b := by intro f b hf; subst e17 e15 e13; simp only [upF]; grind
      refine ⟨fun (v19 : Int) (v20 : Int) (v21 : Int) (v22 : Int) (F23 : jFl) (A24 : jAr) => (0 ≤ v22 ∧ v22 ≤ F 3165 o) ∧ (F23 3177 o = v22 ∧ F23 3180 o = 0 ∧ F23 3183 o = 3) ∧ (∀ f b, (b = o → f ≠ 3177 ∧ f ≠ 3180 ∧ f ≠ 3183) → F23 f b = F f b) ∧ (∀ b, b ≠ o + 37 → A24 b = A b) ∧ (∀ k : Int, 0 ≤ k → k < v22 → A24 (o + 37) k = sU (W) a1 (A (o + 36)) k) ∧ v19 = sLeft (W) a1 (A (o + 36)) left v22.toNat ∧ (0 ≤ v19 ∧ v19 ≤ left) ∧ (∀ k : Int, 0 ≤ k → k < v22 → 0 ≤ sLeft (W) a1 (A (o + 36)) left (k + 1).toNat) ∧ v20 = (if v22 = 0 then -1 else sU (W) a1 (A (o + 36)) (v22 - 1)) ∧ (v21 = 1 ∧ (∀ k : Int, 0 ≤ k → k < v22 → sU (W) a1 (A (o + 36)) k = A (o + 36) k) ∨ v21 = 0 ∧ ∃ k : Int, 0 ≤ k ∧ k < v22 ∧ sU (W) a1 (A (o + 36)) k ≠ A (o + 36) k), fun v19 v20 v21 v22 F23 A24 => (F 3165 o - v22).toNat, ?_, ?_⟩ -- loop I26 I26 v12 (-1) 1 0 F17 A
      ·
        -- l1: I26 v12 (-1) 1 0 F17 A
        exact ⟨by omega, ⟨f1, f2, f3⟩, f4, fun _ _ => rfl, fun k k0 k1 => by omega, ev, by omega, fun k k0 k1 => by omega, rfl, Or.inl ⟨rfl, fun k k0 k1 => by omega⟩⟩
      intro v19 v20 v21 v22 F23 A24 i26
      obtain ⟨i1, ⟨i2, i3, i4⟩, i5, i6, i7, i8, i9, i10, i11, i12⟩ := i26
      have u1 : F23 3165 o = F 3165 o := i5 _ _ (by omega)
      have u2 : F23 3168 o = F 3168 o := i5 _ _ (by omega)
      have u3 : F23 3039 o = F 3039 o := i5 _ _ (by omega)
      have uW : mrW o F23 A24 W := hW.of u3 (fun k _ _ => i6 _ (by omega))
      have u36 : A24 (o + 36) = A (o + 36) := i6 _ (by omega)
      rw [u1, u2, u36]
      refine ⟨fun hc => ?_, fun hc => ?_⟩ -- c1
      · -- case ((F23 3165 o) ≤ v22)
        intro z30 e30
        refine ⟨by omega, ?_⟩ -- s2: jR (v19 - z30)
        intro v33 e33
        have hv : v22 = F 3165 o := by omega
        have hlo : ¬ sLost (W) a1 r left := by
          rintro ⟨k, k0, k1, k2⟩
          rw [r3] at k2
          have := i10 k k0 (by omega)
          omega
        have hl0 : sLeft2 (W) a1 r left (0 : Int).toNat = sLeft (W) a1 (A (o + 36)) left (F 3165 o).toNat - 1 := by unfold sLeft2; rw [r3, r1]; rfl
        subst hv
        refine ⟨fun (v34 : Int) (v35 : Int) (v36 : Int) (v37 : Int) (A38 : jAr) => (0 ≤ v37 ∧ v37 ≤ F 3168 o) ∧ (∀ b, b ≠ o + 37 → A38 b = A b) ∧ (∀ k : Int, 0 ≤ k → k < F 3165 o + v37 → A38 (o + 37) k = sU (W) a1 (A (o + 36)) k) ∧ v34 = (if F 3168 o ≤ 0 then sLeft (W) a1 (A (o + 36)) left (F 3165 o).toNat else sLeft2 (W) a1 r left v37.toNat) ∧ (-10 ≤ v34 ∧ v34 ≤ 80) ∧ (∀ k : Int, 0 ≤ k → k < v37 - 1 → 0 ≤ sLeft2 (W) a1 r left (k + 1).toNat) ∧ v35 = (if F 3165 o + v37 = 0 then -1 else sU (W) a1 (A (o + 36)) (F 3165 o + v37 - 1)) ∧ (v36 = 1 ∧ (∀ k : Int, 0 ≤ k → k < F 3165 o + v37 → sU (W) a1 (A (o + 36)) k = A (o + 36) k) ∨ v36 = 0 ∧ ∃ k : Int, 0 ≤ k ∧ k < F 3165 o + v37 ∧ sU (W) a1 (A (o + 36)) k ≠ A (o + 36) k), fun v34 v35 v36 v37 A38 => (F 3168 o - v37).toNat, ?_, ?_⟩ -- loop I40 I40 v33 v20 v21 0 A24
        ·
          -- l2: I40 v33 v20 v21 0 A24
          refine ⟨by omega, i6, fun k k0 k1 => i7 k k0 (by omega), ?_, by rw [e33, e30]; split <;> omega, fun k k0 k1 => by omega, ?_, ?_⟩
          · rw [e33, e30, hl0, i8]; split <;> omega
          · rw [i11, Int.add_zero]
          · rw [Int.add_zero]; exact i12
        intro v34 v35 v36 v37 A38 i40
        obtain ⟨j1, j2, j3, j4, j5, j6, j7, j8⟩ := i40
        have t36 : A38 (o + 36) = A (o + 36) := j2 _ (by omega)
        have tW : mrW o F23 A38 W := hW.of u3 (fun k _ _ => j2 _ (by omega))
        rw [t36]
        refine ⟨F 3168 o ≤ v37 ∨ v34 < 0, ?_, ?_⟩ -- join K43
        · intro k43
          refine ⟨fun (v47 : Int) => v47 = (if 0 ≤ v34 then F 3168 o else 0), ?_, ?_⟩ -- join K48
          · intro v47 k48
            intro F51 e51
            intro z55 e55
            intro F57 e57
            have c1 : sMain (W) a1 r left = F 3165 o := by unfold sMain; rw [cif_neg hlo, r1]
            have c2 : sCut (W) a1 r left ↔ v34 < 0 := by
              unfold sCut
              rw [r2]
              constructor
              · rintro ⟨q0, k, q1, q2, q3⟩
                rw [if_neg (by omega)] at j4
                rcases k43 with q | q
                · have e : v37 = F 3168 o := by omega
                  by_cases q4 : k < v37 - 1
                  · have := j6 k q1 q4; omega
                  · have q5 : k + 1 = v37 := by omega
                    rw [q5] at q3; omega
                · exact q
              · intro q
                by_cases q0 : F 3168 o ≤ 0
                · rw [if_pos q0] at j4; omega
                · rw [if_neg q0] at j4
                  refine ⟨by omega, ?_⟩
                  by_cases q1 : v37 = 0
                  · subst q1
                    refine ⟨0, by omega, by omega, ?_⟩
                    rw [sl2 0 (by omega)]
                    have := hcs (F 3165 o + 0) (by omega) (by omega)
                    omega
                  · exact ⟨v37 - 1, by omega, by omega, by rw [show v37 - 1 + 1 = v37 by omega]; omega⟩
            have c3 : sBut (W) a1 r left = v47 := by
              unfold sBut
              rw [cif_neg hlo, r2, k48]
              by_cases q : 0 ≤ v34
              · rw [cif_neg (fun w => by have := c2.mp w; omega), if_pos q]
              · rw [cif_pos (c2.mpr (by omega)), if_neg q]
            have c4 : sKind (W) a1 r left = z55 := by
              unfold sKind
              rw [cif_neg hlo, e55]
              by_cases q : 0 ≤ v34
              · rw [cif_neg (fun w => by have := c2.mp w; omega), if_pos q]
                have q1 : v37 = F 3168 o := by omega
                unfold sSame
                rw [r1, r2, r3]
                subst q1
                rcases j8 with ⟨w, w1⟩ | ⟨w, k, k0, k1, k2⟩
                · rw [cif_pos w1, if_neg (by omega)]
                · rw [cif_neg (fun x => k2 (x k k0 k1)), if_pos w]
              · rw [cif_pos (c2.mpr (by omega)), if_neg q]
            have n1 : F57 3177 o = F 3165 o := by subst e57 e51; simp [upF, i2]
            have n2 : F57 3180 o = v47 := by subst e57 e51; simp [upF]
            have n3 : F57 3183 o = z55 := by subst e57; simp [upF]
            have n4 : ∀ f b, (b = o → f ≠ 3177 ∧ f ≠ 3180 ∧ f ≠ 3183) → F57 f b = F f b := by intro f b hf; rw [← i5 f b hf]; subst e57 e51; simp only [upF]; grind
            -- l3: Q F57 A38
            exact ⟨⟨n1.trans c1.symm, n2.trans c3.symm, n3.trans c4.symm⟩, n4, j2, fun k k0 k1 => (j3 k k0 (by rw [n1, n2, k48] at k1; split at k1 <;> omega)).trans (cg4 k k0 (by rw [n1, n2, k48] at k1; split at k1 <;> omega))⟩
          refine ⟨fun hc => ?_, fun hc => ?_⟩ -- c2
          · -- case (0 ≤ v34)
            -- l4: K48 (F23 3168 o)
            exact (if_pos hc).symm
          · -- case ¬ (0 ≤ v34)
            -- l5: K48 0
            exact (if_neg hc).symm
        refine ⟨fun hc => ?_, fun hc => ?_⟩ -- c3
        · -- case ((F23 3168 o) ≤ v37)
          -- l6: K43
          exact Or.inl hc
        · -- case ¬ ((F23 3168 o) ≤ v37)
          refine ⟨fun hc => ?_, fun hc => ?_⟩ -- c4
          · -- case (v34 < 0)
            -- l7: K43
            exact Or.inr hc
          · -- case ¬ (v34 < 0)
            refine ⟨by omega, ?_⟩ -- s3: (0 ≤ (F23 3165 o) + v37 ∧ (F23 3165 o) + v37 < 12)
            have v1 := h4 (F 3165 o + v37) (by omega) (by omega)
            have v2 := hsu (F 3165 o + v37) (by omega) (by omega)
            have v3 : v35 = -1 ∨ 0 ≤ v35 ∧ v35 < W 0 0 0 := by
              rw [j7]
              split
              · omega
              · have := hsu (F 3165 o + v37 - 1) (by omega) (by omega); omega
            refine ⟨_, sX9_saidBy tW hk h1 v1, ?_⟩ -- call wpX9_saidBy o a1 (A38 (o + 36) ((F23 3165 o) + v37)) F23 A38 P61
            intro z63 p61
            have v4 : z63 = sU (W) a1 (A (o + 36)) (F 3165 o + v37) := p61
            have v5 := w7 _ (v4 ▸ v2).1 (v4 ▸ v2).2
            refine ⟨_, sX9_costs tW hk v3 (by rw [v4]; exact v2), ?_⟩ -- call wpX9_costs o v35 z63 F23 A38 P66
            intro z68 p66
            have v6 : z68 = sCost (W) a1 (A (o + 36)) (F 3165 o + v37) := by
              rw [p66, v4, j7]
              unfold sCost
              by_cases q : F 3165 o + v37 = 0
              · rw [if_pos q, if_neg (by omega), if_neg (by omega)]
              · rw [if_neg q]
                have := hsu (F 3165 o + v37 - 1) (by omega) (by omega)
                by_cases q2 : W 13 (sU (W) a1 (A (o + 36)) (F 3165 o + v37 - 1)) 0 = W 13 (sU (W) a1 (A (o + 36)) (F 3165 o + v37)) 0
                · rw [if_pos ⟨this.1, q2⟩, if_pos ⟨by omega, q2⟩]
                · rw [if_neg (fun w => q2 w.2), if_neg (fun w => q2 w.2)]
            have v7 := hcs (F 3165 o + v37) (by omega) (by omega)
            have v8 : ¬ F 3168 o ≤ 0 := by omega
            rw [if_neg v8] at j4
            refine ⟨by omega, ?_⟩ -- s4: jR (v34 - z68)
            intro v72 e72
            refine ⟨by omega, ?_⟩ -- s5: (0 ≤ (F23 3165 o) + v37 ∧ (F23 3165 o) + v37 < 12)
            intro A74 e74
            have x1 : ∀ b, b ≠ o + 37 → A74 b = A b := fun b hb => by rw [← j2 b hb]; subst e74; funext i; simp only [upA]; grind
            have x2 : ∀ k : Int, 0 ≤ k → k < F 3165 o + (v37 + 1) → A74 (o + 37) k = sU (W) a1 (A (o + 36)) k := fun k k0 k1 => by
              subst e74
              simp only [upA]
              by_cases q : k = F 3165 o + v37
              · rw [if_pos (by simp [q]), q, v4]
              · rw [if_neg (by omega)]; exact j3 k k0 (by omega)
            have x3 : v72 = (if F 3168 o ≤ 0 then sLeft (W) a1 (A (o + 36)) left (F 3165 o).toNat else sLeft2 (W) a1 r left (v37 + 1).toNat) := by rw [if_neg v8, sl2 v37 (by omega), e72, v6, j4]
            have x4 : ∀ k : Int, 0 ≤ k → k < v37 + 1 - 1 → 0 ≤ sLeft2 (W) a1 r left (k + 1).toNat := fun k k0 k1 => by
              by_cases q : k < v37 - 1
              · exact j6 k k0 q
              · rw [show k + 1 = v37 by omega]; omega
            have x5 : z63 = (if F 3165 o + (v37 + 1) = 0 then -1 else sU (W) a1 (A (o + 36)) (F 3165 o + (v37 + 1) - 1)) := by rw [if_neg (by omega), v4]; congr 1; omega
            refine ⟨fun hc => ?_, fun hc => ?_⟩ -- c5
            · -- case (v36 = 0)
              refine ⟨by omega, ?_⟩ -- s6: jR (v37 + 1)
              refine ⟨?_, ?_⟩ -- l8: I40 v72 z63 0 (v37 + 1) A74
              · refine ⟨by omega, x1, x2, x3, by omega, x4, x5, Or.inr ⟨rfl, ?_⟩⟩
                rcases j8 with ⟨w, w1⟩ | ⟨w, k, k0, k1, k2⟩
                · omega
                · exact ⟨k, k0, by omega, k2⟩
              · dsimp only; omega
            · -- case ¬ (v36 = 0)
              refine ⟨by omega, ?_⟩ -- s7: (0 ≤ (F23 3165 o) + v37 ∧ (F23 3165 o) + v37 < 12)
              intro z80 e80
              refine ⟨by omega, ?_⟩ -- s8: jR (v37 + 1)
              refine ⟨?_, ?_⟩ -- l9: I40 v72 z63 z80 (v37 + 1) A74
              · refine ⟨by omega, x1, x2, x3, by omega, x4, x5, ?_⟩
                rw [show A74 (o + 36) = A (o + 36) from x1 _ (by omega)] at e80
                rcases j8 with ⟨w, w1⟩ | ⟨w, k, k0, k1, k2⟩
                · by_cases q : z63 = A (o + 36) (F 3165 o + v37)
                  · refine Or.inl ⟨by rw [e80, if_neg (fun w => w q)], fun k k0 k1 => ?_⟩
                    by_cases q2 : k = F 3165 o + v37
                    · rw [q2, ← v4, q]
                    · exact w1 k k0 (by omega)
                  · exact Or.inr ⟨by rw [e80, if_pos q], F 3165 o + v37, by omega, by omega, by rw [← v4]; exact q⟩
                · omega
              · dsimp only; omega
      · -- case ¬ ((F23 3165 o) ≤ v22)
        refine ⟨by omega, ?_⟩ -- s9: (0 ≤ v22 ∧ v22 < 12)
        have v1 := h4 v22 (by omega) (by omega)
        have v2 := hsu v22 (by omega) (by omega)
        have v3 : v20 = -1 ∨ 0 ≤ v20 ∧ v20 < W 0 0 0 := by
          rw [i11]
          split
          · omega
          · have := hsu (v22 - 1) (by omega) (by omega); omega
        refine ⟨_, sX9_saidBy uW hk h1 v1, ?_⟩ -- call wpX9_saidBy o a1 (A24 (o + 36) v22) F23 A24 P84
        intro z86 p84
        have v4 : z86 = sU (W) a1 (A (o + 36)) v22 := p84
        have v5 := w7 _ (v4 ▸ v2).1 (v4 ▸ v2).2
        refine ⟨_, sX9_costs uW hk v3 (by rw [v4]; exact v2), ?_⟩ -- call wpX9_costs o v20 z86 F23 A24 P89
        intro z91 p89
        have v6 : z91 = sCost (W) a1 (A (o + 36)) v22 := by
          rw [p89, v4, i11]
          unfold sCost
          by_cases q : v22 = 0
          · rw [if_pos q, if_neg (by omega), if_neg (by omega)]
          · rw [if_neg q]
            have := hsu (v22 - 1) (by omega) (by omega)
            by_cases q2 : W 13 (sU (W) a1 (A (o + 36)) (v22 - 1)) 0 = W 13 (sU (W) a1 (A (o + 36)) v22) 0
            · rw [if_pos ⟨this.1, q2⟩, if_pos ⟨by omega, q2⟩]
            · rw [if_neg (fun w => q2 w.2), if_neg (fun w => q2 w.2)]
        have v7 := hcs v22 (by omega) (by omega)
        refine ⟨by omega, ?_⟩ -- s10: jR (v19 - z91)
        intro v95 e95
        have v8 : v95 = sLeft (W) a1 (A (o + 36)) left (v22 + 1).toNat := by rw [sl v22 (by omega), e95, v6, i8]
        refine ⟨fun hc => ?_, fun hc => ?_⟩ -- c6
        · -- case (0 ≤ v95)
          refine ⟨by omega, ?_⟩ -- s11: (0 ≤ v22 ∧ v22 < 12)
          intro A98 e98
          have x1 : ∀ b, b ≠ o + 37 → A98 b = A b := fun b hb => by rw [← i6 b hb]; subst e98; funext i; simp only [upA]; grind
          have x2 : ∀ k : Int, 0 ≤ k → k < v22 + 1 → A98 (o + 37) k = sU (W) a1 (A (o + 36)) k := fun k k0 k1 => by
            subst e98
            simp only [upA]
            by_cases q : k = v22
            · rw [if_pos (by simp [q]), q, v4]
            · rw [if_neg (by omega)]; exact i7 k k0 (by omega)
          refine ⟨fun (v101 : Int) => v101 = 1 ∧ (∀ k : Int, 0 ≤ k → k < v22 + 1 → sU (W) a1 (A (o + 36)) k = A (o + 36) k) ∨ v101 = 0 ∧ ∃ k : Int, 0 ≤ k ∧ k < v22 + 1 ∧ sU (W) a1 (A (o + 36)) k ≠ A (o + 36) k, ?_, ?_⟩ -- join K102
          · intro v101 k102
            refine ⟨by omega, ?_⟩ -- s12: jR ((F23 3177 o) + 1)
            intro F106 e106
            have n1 : F106 3177 o = v22 + 1 := by subst e106; simp [upF, i2]
            have n2 : F106 3180 o = 0 := by subst e106; simp [upF, i3]
            have n3 : F106 3183 o = 3 := by subst e106; simp [upF, i4]
            have n4 : ∀ f b, (b = o → f ≠ 3177 ∧ f ≠ 3180 ∧ f ≠ 3183) → F106 f b = F f b := by intro f b hf; rw [← i5 f b hf]; subst e106; simp only [upF]; grind
            refine ⟨by omega, ?_⟩ -- s13: jR (v22 + 1)
            refine ⟨?_, ?_⟩ -- l10: I26 v95 z86 v101 (v22 + 1) F106 A98
            · refine ⟨by omega, ⟨n1, n2, n3⟩, n4, x1, x2, v8, by omega, fun k k0 k1 => ?_, ?_, k102⟩
              · by_cases q : k = v22
                · rw [q]; omega
                · exact i10 k k0 (by omega)
              · rw [if_neg (by omega), v4]; congr 1; omega
            · dsimp only; omega
          refine ⟨fun hc => ?_, fun hc => ?_⟩ -- c7
          · -- case (v21 = 0)
            -- l11: K102 0
            rcases i12 with ⟨w, w1⟩ | ⟨w, k, k0, k1, k2⟩
            · omega
            · exact Or.inr ⟨rfl, k, k0, by omega, k2⟩
          · -- case ¬ (v21 = 0)
            refine ⟨by omega, ?_⟩ -- s14: (0 ≤ v22 ∧ v22 < 12)
            intro z111 e111
            -- l12: K102 z111
            rw [show A98 (o + 36) = A (o + 36) from x1 _ (by omega)] at e111
            rcases i12 with ⟨w, w1⟩ | ⟨w, k, k0, k1, k2⟩
            · by_cases q : z86 = A (o + 36) v22
              · refine Or.inl ⟨by rw [e111, if_neg (fun w => w q)], fun k k0 k1 => ?_⟩
                by_cases q2 : k = v22
                · rw [q2, ← v4, q]
                · exact w1 k k0 (by omega)
              · exact Or.inr ⟨by rw [e111, if_pos q], v22, by omega, by omega, by rw [← v4]; exact q⟩
            · omega
        · -- case ¬ (0 ≤ v95)
          intro F113 e113
          have hlo : sLost (W) a1 r left := ⟨v22, by omega, by rw [r1]; omega, by rw [r3, ← v8]; omega⟩
          have n1 : F113 3177 o = 0 := by subst e113; simp [upF]
          have n2 : F113 3180 o = 0 := by subst e113; simp [upF, i3]
          have n3 : F113 3183 o = 3 := by subst e113; simp [upF, i4]
          have n4 : ∀ f b, (b = o → f ≠ 3177 ∧ f ≠ 3180 ∧ f ≠ 3183) → F113 f b = F f b := by intro f b hf; rw [← i5 f b hf]; subst e113; simp only [upF]; grind
          -- l13: Q F113 A24
          refine ⟨⟨by rw [n1]; unfold sMain; rw [cif_pos hlo], by rw [n2]; unfold sBut; rw [cif_pos hlo], by rw [n3]; unfold sKind; rw [cif_pos hlo]⟩, n4, i6, fun k k0 k1 => by omega⟩
    refine ⟨fun hc => ?_, fun hc => ?_⟩ -- c8
    · -- case ((F 3171 o) = 0)
      -- l14: K8 0
      exact (if_pos hc).symm
    · -- case ¬ ((F 3171 o) = 0)
      refine ⟨by omega, ?_⟩ -- s15: (0 ≤ F 3039 o ∧ F 3039 o < 2)
      -- l15: K8 (A (o + 25) (F 3039 o))
      exact e6.trans (if_neg hc).symm
  refine ⟨fun hc => ?_, fun hc => ?_⟩ -- c9
  · -- case (¬ (F 3186 o) = (-1))
    -- l16: K3 (F 3186 o)
    exact (if_neg hc).symm
  · -- case ¬ (¬ (F 3186 o) = (-1))
    refine ⟨by omega, ?_⟩ -- s16: (0 ≤ (10 * (F 3039 o)) + a1 ∧ (10 * (F 3039 o)) + a1 < 20)
    -- l17: K3 (A (o + 15) ((10 * (F 3039 o)) + a1))
    exact e20.trans (if_pos (by omega)).symm

