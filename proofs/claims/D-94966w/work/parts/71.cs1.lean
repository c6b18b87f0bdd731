set_option maxRecDepth 100000
set_option linter.unusedVariables false
/-! the component's rows and words: printed by gen/prove.py out of spec/71.cs1.spec -/
theorem sX3_size {o : Nat} {N : jSh} {F : jFl} {A : jAr} {wA : Int → Int} {R : sRow} {nw : Int} (hr : rowIs N F A wA o R) (hk : sRok nw R) : wqX3_size o N F A (fun z => z = R.1 + R.2.1) := by
  unfold wqX3_size
  obtain ⟨ho, o1, o2, o3⟩ := hr
  obtain ⟨k1, k2, k3⟩ := hk
  refine ⟨by omega, ?_⟩ -- s1: jR ((F 1203 o) + (F 1206 o))
  -- l1: Q ((F 1203 o) + (F 1206 o))
  omega

theorem sX3_isOne {o : Nat} {N : jSh} {F : jFl} {A : jAr} {wA : Int → Int} {R : sRow} (hr : rowIs N F A wA o R) : wqX3_isOne o N F A (fun z => z = (if 0 < R.1 then 1 else 0)) := by
  unfold wqX3_isOne
  obtain ⟨ho, o1, o2, o3⟩ := hr
  intro z2 e2
  -- l1: Q z2
  subst e2; split <;> split <;> omega

theorem sX3_empty {o : Nat} {N : jSh} {F : jFl} {A : jAr} (ho : rowOk N o) : wqX3_empty o N F A (fun z F' A' => z = (o : Int) ∧ (∀ wA f, rowIs N F' A' wA o (0, 0, f)) ∧ A' = A ∧ fr o (o + 1) F A F' A') := by
  unfold wqX3_empty
  refine ⟨by exact ho.2.1, ?_⟩ -- s1: jfn N 0 o = 1
  intro F3 e3
  intro F5 e5
  -- l1: Q (o : Int) F5 A
  refine ⟨rfl, fun wA f => ⟨ho, ?_, ?_, fun k k0 k1 => ?_⟩, rfl, ?_⟩
  · subst e5 e3; simp [upF]
  · subst e5; simp [upF]
  · exact absurd k1 (by show ¬ k < 0 + 0; omega)
  · subst e5 e3
    exact ((fr.refl o (o + 1) F A).upF (by omega)).upF (by omega)

theorem sX3_like {o : Nat} {a1 : Int} {N : jSh} {F : jFl} {A : jAr} {wA : Int → Int} {W : sTb} {b : Nat} {R : sRow} (ha1 : a1 = (b : Int)) (ho : rowOk N o) (hr : rowIs N F A wA b R) (hk : sRok (W 0 0 0) R) (hw : wds N F W wA) (hne : b ≠ o) (hne1 : b ≠ o + 1) (hne2 : b + 1 ≠ o) : wqX3_like o a1 N F A (fun z F' A' => z = (o : Int) ∧ rowIs N F' A' wA o R ∧ fr o (o + 2) F A F' A') := by
  unfold wqX3_like
  have hk0 := hk
  obtain ⟨hb, b1, b2, b3⟩ := hr
  obtain ⟨q1, q2, q3, q4, q5, q6⟩ := hb
  have ho0 := ho
  obtain ⟨o1, o2, o3, o4, o5, o6⟩ := ho
  obtain ⟨k1, k2, k3⟩ := hk
  refine ⟨_, by assumption, ?_⟩ -- d1: a1 = (b1 : Int)
  refine ⟨by first | assumption | omega, ?_⟩ -- s1: jtg N b1 = 4
  refine ⟨by first | assumption | omega, ?_⟩ -- s2: jfn N 0 o = 1
  intro F6 e6
  intro F8 e8
  have f1 : F8 1203 o = R.1 := by subst e8 e6; simp [upF]; exact b1
  have f2 : F8 1206 o = R.2.1 := by subst e8 e6; simp [upF, hne]; exact b2
  have f3 : fr o (o + 2) F A F8 A := by subst e8 e6; exact ((fr.refl o (o + 2) F A).upF (by omega)).upF (by omega)
  refine ⟨fun (v9 : Int) (A10 : jAr) => (0 ≤ v9 ∧ v9 ≤ R.1 + R.2.1) ∧ fr o (o + 2) F A F8 A10 ∧ ∀ k : Int, 0 ≤ k → k < v9 → A10 (o + 1) k = wA (R.2.2 k), fun v9 A10 => (R.1 + R.2.1 - v9).toNat, ?_, ?_⟩ -- loop I13 I13 0 A
  ·
    -- l1: I13 0 A
    exact ⟨by omega, f3, fun k k0 k1 => by omega⟩
  intro v9 A10 i13
  obtain ⟨i1, i2, i3⟩ := i13
  have u1 : A10 (b + 1) = A (b + 1) := (i2 (b + 1) (by omega)).2
  refine ⟨_, ⟨by rw [f1, f2]; omega, rfl⟩, ?_⟩ -- call wqX3_size o N F8 A10 P15
  intro z17 p15
  replace p15 : z17 = R.1 + R.2.1 := by rw [← p15, f1, f2]
  refine ⟨fun hc => ?_, fun hc => ?_⟩ -- c1
  · -- case (z17 ≤ v9)
    -- l2: Q (o : Int) F8 A10
    exact ⟨rfl, ⟨ho0, f1, f2, fun k k0 k1 => i3 k k0 (by omega)⟩, i2⟩
  · -- case (¬ (z17 ≤ v9))
    refine ⟨_, by assumption, ?_⟩ -- d23: jfn N 1202 b1 = (b23 : Int)
    refine ⟨by first | assumption | omega, ?_⟩ -- s3: jtg N b23 = 107
    refine ⟨by first | assumption | omega, ?_⟩ -- s4: ((0 : Int) ≤ v9 ∧ (v9 : Int) < (jln N b23 : Int))
    refine ⟨_, by assumption, ?_⟩ -- d27: jfn N 1202 o = (b27 : Int)
    refine ⟨by first | assumption | omega, ?_⟩ -- s5: jtg N b27 = 107
    refine ⟨by first | assumption | omega, ?_⟩ -- s6: jfn N 0 b27 = 1
    refine ⟨by first | assumption | omega, ?_⟩ -- s7: ((0 : Int) ≤ v9 ∧ (v9 : Int) < (jln N b27 : Int))
    refine ⟨by (rw [u1, b3 _ (by omega) (by omega)]; exact hw.ast (k3 _ (by omega) (by omega))), ?_⟩ -- s8: jast N "ChildSays$Word" (A10 b23 v9)
    intro A32 e32
    refine ⟨by first | assumption | omega, ?_⟩ -- s9: jR (v9 + 1)
    refine ⟨?_, ?_⟩ -- l3: I13 (v9 + 1) A32
    · refine ⟨by omega, by subst e32; exact i2.upA (by omega), fun k k0 k1 => ?_⟩
      subst e32
      show (if o + 1 = o + 1 ∧ k = v9 then _ else _) = _
      by_cases q : k = v9
      · rw [if_pos ⟨rfl, q⟩, u1, b3 _ (by omega) (by omega), q]
      · rw [if_neg (fun w => q w.2)]; exact i3 k k0 (by omega)
    · dsimp only; omega

theorem sX3_isLike {o : Nat} {a1 : Int} {N : jSh} {F : jFl} {A : jAr} {wA : Int → Int} {W : sTb} {b : Nat} {R R' : sRow} (ha1 : a1 = (b : Int)) (hr : rowIs N F A wA o R) (hk : sRok (W 0 0 0) R) (hr' : rowIs N F A wA b R') (hk' : sRok (W 0 0 0) R') (hw : wds N F W wA) : wqX3_isLike o a1 N F A (fun z => z = cif (sAlike R R') 1 0) := by
  unfold wqX3_isLike
  have hr0 := hr
  obtain ⟨⟨o1, o2, o3, o4, o5, o6⟩, o7, o8, o9⟩ := hr
  obtain ⟨⟨q1, q2, q3, q4, q5, q6⟩, b1, b2, b3⟩ := hr'
  have hk0 := hk
  obtain ⟨k1, k2, k3⟩ := hk
  obtain ⟨j1, j2, j3⟩ := hk'
  refine ⟨_, by assumption, ?_⟩ -- d1: a1 = (b1 : Int)
  refine ⟨by first | assumption | omega, ?_⟩ -- s1: jtg N b1 = 4
  refine ⟨fun hc => ?_, fun hc => ?_⟩ -- c1
  · -- case (¬ (F 1203 o) = (F 1203 b1))
    -- l1: Q 0
    exact (cif_neg (fun w => hc (by rw [o7, b1]; exact w.1))).symm
  · -- case ((F 1203 o) = (F 1203 b1))
    refine ⟨fun hc => ?_, fun hc => ?_⟩ -- c2
    · -- case ((F 1206 o) = (F 1206 b1))
      refine ⟨fun (v6 : Int) => (0 ≤ v6 ∧ v6 ≤ R.1 + R.2.1) ∧ ∀ k : Int, 0 ≤ k → k < v6 → R.2.2 k = R'.2.2 k, fun v6 => (R.1 + R.2.1 - v6).toNat, ?_, ?_⟩ -- loop I8 I8 0
      ·
        -- l2: I8 0
        exact ⟨by omega, fun k k0 k1 => by omega⟩
      intro v6 i8
      obtain ⟨i1, i2⟩ := i8
      refine ⟨_, sX3_size hr0 hk0, ?_⟩ -- call wqX3_size o N F A P10
      intro z12 p10
      refine ⟨fun hc => ?_, fun hc => ?_⟩ -- c3
      · -- case (z12 ≤ v6)
        -- l3: Q 1
        exact (cif_pos ⟨by omega, by omega, fun k k0 k1 => i2 k k0 (by omega)⟩).symm
      · -- case (¬ (z12 ≤ v6))
        refine ⟨_, by assumption, ?_⟩ -- d18: jfn N 1202 o = (b18 : Int)
        refine ⟨by first | assumption | omega, ?_⟩ -- s2: jtg N b18 = 107
        refine ⟨by first | assumption | omega, ?_⟩ -- s3: ((0 : Int) ≤ v6 ∧ (v6 : Int) < (jln N b18 : Int))
        refine ⟨_, by assumption, ?_⟩ -- d22: jfn N 1202 b1 = (b22 : Int)
        refine ⟨by first | assumption | omega, ?_⟩ -- s4: jtg N b22 = 107
        refine ⟨by first | assumption | omega, ?_⟩ -- s5: ((0 : Int) ≤ v6 ∧ (v6 : Int) < (jln N b22 : Int))
        have e1 := o9 v6 (by omega) (by omega)
        have e2 := b3 v6 (by omega) (by omega)
        rw [e1, e2, hw.inj (k3 v6 (by omega) (by omega)) (j3 v6 (by omega) (by omega))]
        refine ⟨fun hc => ?_, fun hc => ?_⟩ -- c4
        · -- case ((A b18 v6 = A b22 v6 ∨ (A b18 v6 < 0 ∧ A b22 v6 < 0)))
          refine ⟨by first | assumption | omega, ?_⟩ -- s6: jR (v6 + 1)
          refine ⟨?_, ?_⟩ -- l4: I8 (v6 + 1)
          · refine ⟨by omega, fun k k0 k1 => ?_⟩
            by_cases q : k = v6
            · rw [q]; exact hc
            · exact i2 k k0 (by omega)
          · dsimp only; omega
        · -- case (¬ ((A b18 v6 = A b22 v6 ∨ (A b18 v6 < 0 ∧ A b22 v6 < 0))))
          -- l5: Q 0
          exact (cif_neg (fun w => hc (w.2.2 v6 (by omega) (by omega)))).symm
    · -- case (¬ ((F 1206 o) = (F 1206 b1)))
      -- l6: Q 0
      exact (cif_neg (fun w => hc (by rw [o8, b2]; exact w.2.1))).symm

theorem sX3_beginsLike {o : Nat} {a1 : Int} {N : jSh} {F : jFl} {A : jAr} {wA : Int → Int} {W : sTb} {b : Nat} {R R' : sRow} (ha1 : a1 = (b : Int)) (hr : rowIs N F A wA o R) (hk : sRok (W 0 0 0) R) (hr' : rowIs N F A wA b R') (hk' : sRok (W 0 0 0) R') (hw : wds N F W wA) : wqX3_beginsLike o a1 N F A (fun z => z = (if 1 < R.1 ∧ 1 < R'.1 ∧ R.2.2 0 = R'.2.2 0 ∧ R.2.2 1 = R'.2.2 1 then 1 else 0)) := by
  unfold wqX3_beginsLike
  obtain ⟨⟨o1, o2, o3, o4, o5, o6⟩, o7, o8, o9⟩ := hr
  obtain ⟨⟨q1, q2, q3, q4, q5, q6⟩, b1, b2, b3⟩ := hr'
  obtain ⟨k1, k2, k3⟩ := hk
  obtain ⟨j1, j2, j3⟩ := hk'
  refine ⟨fun hc => ?_, fun hc => ?_⟩ -- c1
  · -- case ((F 1203 o) ≤ 1)
    -- l1: Q 0
    exact (if_neg (by omega)).symm
  · -- case (¬ ((F 1203 o) ≤ 1))
    refine ⟨_, by assumption, ?_⟩ -- d2: a1 = (b2 : Int)
    refine ⟨by first | assumption | omega, ?_⟩ -- s1: jtg N b2 = 4
    refine ⟨fun hc => ?_, fun hc => ?_⟩ -- c2
    · -- case ((F 1203 b2) ≤ 1)
      -- l2: Q 0
      exact (if_neg (by omega)).symm
    · -- case (¬ ((F 1203 b2) ≤ 1))
      refine ⟨_, by assumption, ?_⟩ -- d6: jfn N 1202 o = (b6 : Int)
      refine ⟨by first | assumption | omega, ?_⟩ -- s2: jtg N b6 = 107
      refine ⟨by first | assumption | omega, ?_⟩ -- s3: ((0 : Int) ≤ 0 ∧ (0 : Int) < (jln N b6 : Int))
      refine ⟨_, by assumption, ?_⟩ -- d10: jfn N 1202 b2 = (b10 : Int)
      refine ⟨by first | assumption | omega, ?_⟩ -- s4: jtg N b10 = 107
      refine ⟨by first | assumption | omega, ?_⟩ -- s5: ((0 : Int) ≤ 0 ∧ (0 : Int) < (jln N b10 : Int))
      simp only [o9 0 (by omega) (by omega), b3 0 (by omega) (by omega), hw.inj (k3 0 (by omega) (by omega)) (j3 0 (by omega) (by omega)), o9 1 (by omega) (by omega), b3 1 (by omega) (by omega), hw.inj (k3 1 (by omega) (by omega)) (j3 1 (by omega) (by omega))]
      refine ⟨fun hc => ?_, fun hc => ?_⟩ -- c3
      · -- case (¬ (A b6 0 = A b10 0 ∨ (A b6 0 < 0 ∧ A b10 0 < 0)))
        -- l3: Q 0
        exact (if_neg (by omega)).symm
      · -- case ((A b6 0 = A b10 0 ∨ (A b6 0 < 0 ∧ A b10 0 < 0)))
        refine ⟨by first | assumption | omega, ?_⟩ -- s6: ((0 : Int) ≤ 1 ∧ (1 : Int) < (jln N b6 : Int))
        refine ⟨by first | assumption | omega, ?_⟩ -- s7: ((0 : Int) ≤ 1 ∧ (1 : Int) < (jln N b10 : Int))
        intro z18 e18
        -- l4: Q z18
        subst e18; split <;> split <;> omega

theorem sX3_has {o : Nat} {a1 : Int} {N : jSh} {F : jFl} {A : jAr} {wA : Int → Int} {W : sTb} {w : Int} {R : sRow} (ha1 : a1 = wA w) (hw1 : 0 ≤ w ∧ w < W 0 0 0) (hr : rowIs N F A wA o R) (hk : sRok (W 0 0 0) R) (hw : wds N F W wA) : wqX3_has o a1 N F A (fun z => z = cif (sHas R w) 1 0) := by
  unfold wqX3_has
  have hr0 := hr
  obtain ⟨⟨o1, o2, o3, o4, o5, o6⟩, o7, o8, o9⟩ := hr
  have hk0 := hk
  obtain ⟨k1, k2, k3⟩ := hk
  refine ⟨fun (v1 : Int) => (0 ≤ v1 ∧ v1 ≤ R.1 + R.2.1) ∧ ∀ k : Int, 0 ≤ k → k < v1 → R.2.2 k ≠ w, fun v1 => (R.1 + R.2.1 - v1).toNat, ?_, ?_⟩ -- loop I3 I3 0
  ·
    -- l1: I3 0
    exact ⟨by omega, fun k k0 k1 => by omega⟩
  intro v1 i3
  obtain ⟨i1, i2⟩ := i3
  refine ⟨_, sX3_size hr0 hk0, ?_⟩ -- call wqX3_size o N F A P5
  intro z7 p5
  refine ⟨fun hc => ?_, fun hc => ?_⟩ -- c1
  · -- case (z7 ≤ v1)
    -- l2: Q 0
    exact (cif_neg (by rintro ⟨k, k0, k1, k2⟩; exact i2 k k0 (by omega) k2)).symm
  · -- case (¬ (z7 ≤ v1))
    refine ⟨_, by assumption, ?_⟩ -- d13: jfn N 1202 o = (b13 : Int)
    refine ⟨by first | assumption | omega, ?_⟩ -- s1: jtg N b13 = 107
    refine ⟨by first | assumption | omega, ?_⟩ -- s2: ((0 : Int) ≤ v1 ∧ (v1 : Int) < (jln N b13 : Int))
    rw [o9 v1 (by omega) (by omega), ha1, hw.inj (k3 v1 (by omega) (by omega)) hw1]
    refine ⟨fun hc => ?_, fun hc => ?_⟩ -- c2
    · -- case (¬ (A b13 v1 = a1 ∨ (A b13 v1 < 0 ∧ a1 < 0)))
      refine ⟨by first | assumption | omega, ?_⟩ -- s3: jR (v1 + 1)
      refine ⟨?_, ?_⟩ -- l3: I3 (v1 + 1)
      · refine ⟨by omega, fun k k0 k1 => ?_⟩
        by_cases q : k = v1
        · rw [q]; exact hc
        · exact i2 k k0 (by omega)
      · dsimp only; omega
    · -- case ((A b13 v1 = a1 ∨ (A b13 v1 < 0 ∧ a1 < 0)))
      -- l4: Q 1
      exact (cif_pos ⟨v1, by omega, by omega, hc⟩).symm

theorem sX3_beats {o : Nat} {N : jSh} {F : jFl} {A : jAr} {wA : Int → Int} {W : sTb} {R : sRow} (hr : rowIs N F A wA o R) (hk : sRok (W 0 0 0) R) (hw : wds N F W wA) (hW : sWok W) : wqX3_beats o N F A (fun z => z = sBeats W R) := by
  unfold wqX3_beats
  have hr0 := hr
  obtain ⟨⟨o1, o2, o3, o4, o5, o6⟩, o7, o8, o9⟩ := hr
  have hk0 := hk
  obtain ⟨k1, k2, k3⟩ := hk
  refine ⟨fun (v1 : Int) (v2 : Int) => (0 ≤ v2 ∧ v2 ≤ R.1 + R.2.1) ∧ v1 = it (fun k s => s + W 11 (R.2.2 k) 0) 0 v2.toNat ∧ 0 ≤ v1 ∧ v1 ≤ 9 * v2, fun v1 v2 => (R.1 + R.2.1 - v2).toNat, ?_, ?_⟩ -- loop I4 I4 0 0
  ·
    -- l1: I4 0 0
    exact ⟨by omega, rfl, by omega, by omega⟩
  intro v1 v2 i4
  obtain ⟨i1, i2, i3, i4⟩ := i4
  refine ⟨_, sX3_size hr0 hk0, ?_⟩ -- call wqX3_size o N F A P6
  intro z8 p6
  refine ⟨fun hc => ?_, fun hc => ?_⟩ -- c1
  · -- case (z8 ≤ v2)
    -- l2: Q v1
    dsimp only; rw [i2, show v2 = R.1 + R.2.1 by omega]; rfl
  · -- case (¬ (z8 ≤ v2))
    refine ⟨_, by assumption, ?_⟩ -- d14: jfn N 1202 o = (b14 : Int)
    refine ⟨by first | assumption | omega, ?_⟩ -- s1: jtg N b14 = 107
    refine ⟨by first | assumption | omega, ?_⟩ -- s2: ((0 : Int) ≤ v2 ∧ (v2 : Int) < (jln N b14 : Int))
    obtain ⟨bw, x1, x2, x3, x4, x5, x6⟩ := hw _ (k3 v2 (by omega) (by omega)).1 (k3 v2 (by omega) (by omega)).2
    have x7 := (hW.2.2.2.2.2.2.2.1 _ (k3 v2 (by omega) (by omega)).1 (k3 v2 (by omega) (by omega)).2).1
    refine ⟨_, by exact (o9 v2 (by omega) (by omega)).trans x1, ?_⟩ -- d18: A b14 v2 = (b18 : Int)
    refine ⟨by first | assumption | omega, ?_⟩ -- s3: jtg N b18 = 14
    refine ⟨by first | assumption | omega, ?_⟩ -- s4: jR (v1 + (F 4200 b18))
    intro v22 e22
    refine ⟨by first | assumption | omega, ?_⟩ -- s5: jR (v2 + 1)
    refine ⟨?_, ?_⟩ -- l3: I4 v22 (v2 + 1)
    · exact ⟨by omega, by rw [it_succ _ _ i1.1, e22, i2, x5], by omega, by omega⟩
    · dsimp only; omega

theorem sX3_nevers {o : Nat} {N : jSh} {F : jFl} {A : jAr} {wA : Int → Int} {W : sTb} {R : sRow} (hr : rowIs N F A wA o R) (hk : sRok (W 0 0 0) R) (hw : wds N F W wA) : wqX3_nevers o N F A (fun z => z = sNevers W R ∧ 0 ≤ z ∧ z ≤ 8) := by
  unfold wqX3_nevers
  obtain ⟨⟨o1, o2, o3, o4, o5, o6⟩, o7, o8, o9⟩ := hr
  obtain ⟨k1, k2, k3⟩ := hk
  refine ⟨fun (v1 : Int) (v2 : Int) => (0 ≤ v2 ∧ v2 ≤ R.1) ∧ v1 = it (fun k n => if W 15 (R.2.2 k) 0 = 0 then n else n + 1) 0 v2.toNat ∧ 0 ≤ v1 ∧ v1 ≤ v2, fun v1 v2 => (R.1 - v2).toNat, ?_, ?_⟩ -- loop I4 I4 0 0
  ·
    -- l1: I4 0 0
    exact ⟨by omega, rfl, by omega, by omega⟩
  intro v1 v2 i4
  obtain ⟨i1, i2, i3, i4⟩ := i4
  refine ⟨fun hc => ?_, fun hc => ?_⟩ -- c1
  · -- case ((F 1203 o) ≤ v2)
    -- l2: Q v1
    refine ⟨?_, by omega, by omega⟩
    rw [i2, show v2 = R.1 by omega]; rfl
  · -- case (¬ ((F 1203 o) ≤ v2))
    refine ⟨_, by assumption, ?_⟩ -- d7: jfn N 1202 o = (b7 : Int)
    refine ⟨by first | assumption | omega, ?_⟩ -- s1: jtg N b7 = 107
    refine ⟨by first | assumption | omega, ?_⟩ -- s2: ((0 : Int) ≤ v2 ∧ (v2 : Int) < (jln N b7 : Int))
    obtain ⟨bw, x1, x2, x3, x4, x5, x6, x7, x8, x9⟩ := hw _ (k3 v2 (by omega) (by omega)).1 (k3 v2 (by omega) (by omega)).2
    refine ⟨_, by exact (o9 v2 (by omega) (by omega)).trans x1, ?_⟩ -- d11: A b7 v2 = (b11 : Int)
    refine ⟨by first | assumption | omega, ?_⟩ -- s3: jtg N b11 = 14
    refine ⟨fun hc => ?_, fun hc => ?_⟩ -- c2
    · -- case ((F 4212 b11) = 0)
      refine ⟨by first | assumption | omega, ?_⟩ -- s4: jR (v2 + 1)
      refine ⟨?_, ?_⟩ -- l3: I4 v1 (v2 + 1)
      · exact ⟨by omega, by rw [it_succ _ _ i1.1, ← i2, if_pos (by rw [← x9]; exact hc)], by omega, by omega⟩
      · dsimp only; omega
    · -- case (¬ ((F 4212 b11) = 0))
      refine ⟨by first | assumption | omega, ?_⟩ -- s5: jR (v1 + 1)
      refine ⟨by first | assumption | omega, ?_⟩ -- s6: jR (v2 + 1)
      refine ⟨?_, ?_⟩ -- l4: I4 (v1 + 1) (v2 + 1)
      · exact ⟨by omega, by rw [it_succ _ _ i1.1, ← i2, if_neg (by rw [← x9]; exact hc)], by omega, by omega⟩
      · dsimp only; omega

theorem sX3_plain {o : Nat} {a1 : Int} {N : jSh} {F : jFl} {A : jAr} {wA : Int → Int} {W : sTb} {R : sRow} (hr : rowIs N F A wA o R) (hk : sRok (W 0 0 0) R) (hw : wds N F W wA) (h1 : 0 ≤ a1 ∧ a1 ≤ R.1) : wqX3_plain o a1 N F A (fun z => z = sPlain W R a1 ∧ a1 ≤ z ∧ z ≤ R.1) := by
  unfold wqX3_plain
  obtain ⟨⟨o1, o2, o3, o4, o5, o6⟩, o7, o8, o9⟩ := hr
  obtain ⟨k1, k2, k3⟩ := hk
  refine ⟨fun (v1 : Int) => (a1 ≤ v1 ∧ v1 ≤ R.1) ∧ sPlain W R a1 = sPlain W R v1, fun v1 => (R.1 - v1).toNat, ?_, ?_⟩ -- loop I3 I3 a1
  ·
    -- l1: I3 a1
    exact ⟨by omega, rfl⟩
  intro v1 i3
  obtain ⟨i1, i2⟩ := i3
  refine ⟨fun hc => ?_, fun hc => ?_⟩ -- c1
  · -- case ((F 1203 o) ≤ v1)
    -- l2: Q v1
    exact ⟨by rw [i2, sPlain_end (by omega)], by omega, by omega⟩
  · -- case (¬ ((F 1203 o) ≤ v1))
    refine ⟨_, by assumption, ?_⟩ -- d6: jfn N 1202 o = (b6 : Int)
    refine ⟨by first | assumption | omega, ?_⟩ -- s1: jtg N b6 = 107
    refine ⟨by first | assumption | omega, ?_⟩ -- s2: ((0 : Int) ≤ v1 ∧ (v1 : Int) < (jln N b6 : Int))
    obtain ⟨bw, x1, x2, x3, x4, x5, x6, x7, x8, x9⟩ := hw _ (k3 v1 (by omega) (by omega)).1 (k3 v1 (by omega) (by omega)).2
    refine ⟨_, by exact (o9 v1 (by omega) (by omega)).trans x1, ?_⟩ -- d10: A b6 v1 = (b10 : Int)
    refine ⟨by first | assumption | omega, ?_⟩ -- s3: jtg N b10 = 14
    refine ⟨fun hc => ?_, fun hc => ?_⟩ -- c2
    · -- case ((F 4212 b10) = 0)
      -- l3: Q v1
      exact ⟨by rw [i2, sPlain_at (by omega) (by rw [← x9]; exact hc)], by omega, by omega⟩
    · -- case (¬ ((F 4212 b10) = 0))
      refine ⟨by first | assumption | omega, ?_⟩ -- s4: jR (v1 + 1)
      refine ⟨?_, ?_⟩ -- l4: I3 (v1 + 1)
      · exact ⟨by omega, by rw [i2, sPlain_go (by omega) (by rw [← x9]; exact hc)]⟩
      · dsimp only; omega

theorem sX3_isAgainst {o : Nat} {a1 : Int} {N : jSh} {F : jFl} {A : jAr} {wA : Int → Int} {W : sTb} {b : Nat} {R R' : sRow} (ha1 : a1 = (b : Int)) (hr : rowIs N F A wA o R) (hk : sRok (W 0 0 0) R) (hr' : rowIs N F A wA b R') (hk' : sRok (W 0 0 0) R') (hw : wds N F W wA) : wqX3_isAgainst o a1 N F A (fun z => z = cif (¬ sNevers W R % 2 = sNevers W R' % 2 ∧ sAgs W R R') 1 0) := by
  unfold wqX3_isAgainst
  have hr0 := hr
  obtain ⟨⟨o1, o2, o3, o4, o5, o6⟩, o7, o8, o9⟩ := hr
  have hr1 := hr'
  obtain ⟨⟨q1, q2, q3, q4, q5, q6⟩, b1, b2, b3⟩ := hr'
  have hk0 := hk
  have hk1 := hk'
  obtain ⟨k1, k2, k3⟩ := hk
  obtain ⟨j1, j2, j3⟩ := hk'
  refine ⟨_, sX3_nevers hr0 hk0 hw, ?_⟩ -- call wqX3_nevers o N F A P1
  intro z3 p1
  refine ⟨by first | assumption | omega, ?_⟩ -- s1: (((0 : Int) ≤ z3 ∧ (z3 : Int) ≤ 2147483647) ∧ ((0 : Int) < 2 ∧ (2 : Int) ≤ 2147483647))
  refine ⟨_, by assumption, ?_⟩ -- d9: a1 = (b9 : Int)
  refine ⟨by first | assumption | omega, ?_⟩ -- s2: jtg N b9 = 4
  refine ⟨_, sX3_nevers hr1 hk1 hw, ?_⟩ -- call wqX3_nevers b9 N F A P12
  intro z14 p12
  refine ⟨by first | assumption | omega, ?_⟩ -- s3: (((0 : Int) ≤ z14 ∧ (z14 : Int) ≤ 2147483647) ∧ ((0 : Int) < 2 ∧ (2 : Int) ≤ 2147483647))
  refine ⟨by first | assumption | omega, ?_⟩ -- s4: jR (z14 % 2)
  refine ⟨by first | assumption | omega, ?_⟩ -- s5: jR (z3 % 2)
  refine ⟨fun hc => ?_, fun hc => ?_⟩ -- c1
  · -- case (¬ (z3 % 2) = (z14 % 2))
    refine ⟨_, sX3_plain hr0 hk0 hw (by omega), ?_⟩ -- call wqX3_plain o 0 N F A P23
    intro z25 p23
    refine ⟨_, sX3_plain hr1 hk1 hw (by omega), ?_⟩ -- call wqX3_plain b9 0 N F A P30
    intro z32 p30
    refine ⟨fun (v37 : Int) (v38 : Int) => (0 ≤ v37 ∧ v37 ≤ R.1 ∧ 0 ≤ v38 ∧ v38 ≤ R'.1) ∧ ∃ n : Nat, sAgN W R R' n = (v37, v38), fun v37 v38 => (R.1 - v37).toNat, ?_, ?_⟩ -- loop I40 I40 z25 z32
    ·
      -- l1: I40 z25 z32
      exact ⟨by omega, 0, by rw [p23.1, p30.1]; rfl⟩
    intro v37 v38 i40
    obtain ⟨i1, n, i2⟩ := i40
    refine ⟨¬ sAgc R R' (v37, v38), ?_, ?_⟩ -- join K44
    · intro k44
      have fin := sAg_final i2 k44
      refine ⟨fun hc => ?_, fun hc => ?_⟩ -- c2
      · -- case (¬ v37 = (F 1203 o))
        -- l2: Q 0
        exact (cif_neg (fun w => hc (by have := fin.mp w.2; rw [o7]; exact congrArg Prod.fst this))).symm
      · -- case (v37 = (F 1203 o))
        intro z49 e49
        have hc0 : v37 = R.1 := by omega
        have hn : ¬ sNevers W R % 2 = sNevers W R' % 2 := by rw [← p1.1, ← p12.1]; assumption
        -- l3: Q z49
        rw [e49]
        by_cases q : v38 = R'.1
        · rw [if_neg (by omega), cif_pos ⟨hn, fin.mpr (by rw [hc0, q])⟩]
        · rw [if_pos (by omega), cif_neg (fun w => q (congrArg Prod.snd (fin.mp w.2)))]
    refine ⟨fun hc => ?_, fun hc => ?_⟩ -- c3
    · -- case ((F 1203 o) ≤ v37)
      -- l4: K44
      intro w; have := w.1; dsimp only at this; omega
    · -- case (¬ ((F 1203 o) ≤ v37))
      refine ⟨fun hc => ?_, fun hc => ?_⟩ -- c4
      · -- case ((F 1203 b9) ≤ v38)
        -- l5: K44
        intro w; have := w.2.1; dsimp only at this; omega
      · -- case (¬ ((F 1203 b9) ≤ v38))
        refine ⟨_, by assumption, ?_⟩ -- d52: jfn N 1202 o = (b52 : Int)
        refine ⟨by first | assumption | omega, ?_⟩ -- s6: jtg N b52 = 107
        refine ⟨by first | assumption | omega, ?_⟩ -- s7: ((0 : Int) ≤ v37 ∧ (v37 : Int) < (jln N b52 : Int))
        refine ⟨_, by assumption, ?_⟩ -- d56: jfn N 1202 b9 = (b56 : Int)
        refine ⟨by first | assumption | omega, ?_⟩ -- s8: jtg N b56 = 107
        refine ⟨by first | assumption | omega, ?_⟩ -- s9: ((0 : Int) ≤ v38 ∧ (v38 : Int) < (jln N b56 : Int))
        rw [o9 v37 (by omega) (by omega), b3 v38 (by omega) (by omega), hw.inj (k3 v37 (by omega) (by omega)) (j3 v38 (by omega) (by omega))]
        refine ⟨fun hc => ?_, fun hc => ?_⟩ -- c5
        · -- case (¬ (A b52 v37 = A b56 v38 ∨ (A b52 v37 < 0 ∧ A b56 v38 < 0)))
          -- l6: K44
          intro w; exact hc w.2.2
        · -- case ((A b52 v37 = A b56 v38 ∨ (A b52 v37 < 0 ∧ A b56 v38 < 0)))
          refine ⟨by first | assumption | omega, ?_⟩ -- s10: jR (v37 + 1)
          refine ⟨_, sX3_plain hr0 hk0 hw (by omega), ?_⟩ -- call wqX3_plain o (v37 + 1) N F A P62
          intro z64 p62
          refine ⟨by first | assumption | omega, ?_⟩ -- s11: jR (v38 + 1)
          refine ⟨_, sX3_plain hr1 hk1 hw (by omega), ?_⟩ -- call wqX3_plain b9 (v38 + 1) N F A P70
          intro z72 p70
          refine ⟨?_, ?_⟩ -- l7: I40 z64 z72
          · refine ⟨by omega, n + 1, ?_⟩
            show sAgSt W R R' (sAgN W R R' n) = _
            rw [i2, p62.1, p70.1]
            exact cif_pos ⟨by dsimp only; omega, by dsimp only; omega, hc⟩
          · dsimp only; omega
  · -- case ((z3 % 2) = (z14 % 2))
    -- l8: Q 0
    exact (cif_neg (fun w => w.1 (by rw [← p1.1, ← p12.1]; exact hc))).symm

theorem sX3_meaning {o : Nat} {N : jSh} {F : jFl} {A : jAr} {wA : Int → Int} {W : sTb} {R : sRow} (hr : rowIs N F A wA o R) (hk : sRok (W 0 0 0) R) (hw : wds N F W wA) (hW : sWok W) : wqX3_meaning o N F A (fun z => z = sMeaning W R ∧ -1188 ≤ z ∧ z ≤ 1188) := by
  unfold wqX3_meaning
  have hr0 := hr
  obtain ⟨⟨o1, o2, o3, o4, o5, o6⟩, o7, o8, o9⟩ := hr
  have hk0 := hk
  obtain ⟨k1, k2, k3⟩ := hk
  refine ⟨fun (v1 : Int) (v2 : Int) => (0 ≤ v2 ∧ v2 ≤ R.1) ∧ v1 = sSumW W R.2.2 v2.toNat ∧ 0 ≤ v1 ∧ v1 ≤ 99 * v2, fun v1 v2 => (R.1 - v2).toNat, ?_, ?_⟩ -- loop I4 I4 0 0
  ·
    -- l1: I4 0 0
    exact ⟨by omega, rfl, by omega, by omega⟩
  intro v1 v2 i4
  obtain ⟨i1, i2, i3, i4⟩ := i4
  refine ⟨fun hc => ?_, fun hc => ?_⟩ -- c1
  · -- case ((F 1203 o) ≤ v2)
    intro v7 e7
    refine ⟨fun (v8 : Int) (v9 : Int) => (R.1 ≤ v9 ∧ v9 ≤ R.1 + R.2.1) ∧ v8 = sSumW W (fun k => R.2.2 (R.1 + k)) (v9 - R.1).toNat ∧ 0 ≤ v8 ∧ v8 ≤ 99 * (v9 - R.1), fun v8 v9 => (R.1 + R.2.1 - v9).toNat, ?_, ?_⟩ -- loop I11 I11 0 v7
    ·
      -- l2: I11 0 v7
      exact ⟨by omega, by rw [show (v7 - R.1).toNat = 0 by omega]; rfl, by omega, by omega⟩
    intro v8 v9 i11
    obtain ⟨y1, y2, y3, y4⟩ := i11
    refine ⟨_, sX3_size hr0 hk0, ?_⟩ -- call wqX3_size o N F A P13
    intro z15 p13
    refine ⟨fun hc => ?_, fun hc => ?_⟩ -- c2
    · -- case (z15 ≤ v9)
      refine ⟨_, sX3_nevers hr0 hk0 hw, ?_⟩ -- call wqX3_nevers o N F A P21
      intro z23 p21
      have t1 : v1 = sSumW W R.2.2 R.1.toNat := by rw [i2, show v2 = R.1 by omega]
      have t2 : v8 = sSumW W (fun k => R.2.2 (R.1 + k)) R.2.1.toNat := by rw [y2, show v9 - R.1 = R.2.1 by omega]
      refine ⟨by first | assumption | omega, ?_⟩ -- s1: (((0 : Int) ≤ z23 ∧ (z23 : Int) ≤ 2147483647) ∧ ((0 : Int) < 2 ∧ (2 : Int) ≤ 2147483647))
      refine ⟨by first | assumption | omega, ?_⟩ -- s2: jR (z23 % 2)
      refine ⟨fun hc => ?_, fun hc => ?_⟩ -- c3
      · -- case (¬ (z23 % 2) = 1)
        refine ⟨by first | assumption | omega, ?_⟩ -- s3: jR (v1 - v8)
        -- l3: Q (v1 - v8)
        refine ⟨?_, by omega, by omega⟩
        unfold sMeaning
        rw [← p21.1, if_neg hc, ← t1, ← t2]
      · -- case ((z23 % 2) = 1)
        refine ⟨by first | assumption | omega, ?_⟩ -- s4: jR ((-v1) - v8)
        -- l4: Q ((-v1) - v8)
        refine ⟨?_, by omega, by omega⟩
        unfold sMeaning
        rw [← p21.1, if_pos hc, ← t1, ← t2]
    · -- case (¬ (z15 ≤ v9))
      refine ⟨_, by assumption, ?_⟩ -- d33: jfn N 1202 o = (b33 : Int)
      refine ⟨by first | assumption | omega, ?_⟩ -- s5: jtg N b33 = 107
      refine ⟨by first | assumption | omega, ?_⟩ -- s6: ((0 : Int) ≤ v9 ∧ (v9 : Int) < (jln N b33 : Int))
      obtain ⟨bw, x1, x2, x3, x4, x5, x6, x7, x8, x9⟩ := hw _ (k3 v9 (by omega) (by omega)).1 (k3 v9 (by omega) (by omega)).2
      have x10 := (hW.2.2.2.2.2.2.2.1 _ (k3 v9 (by omega) (by omega)).1 (k3 v9 (by omega) (by omega)).2).2.2.2.1
      refine ⟨_, by exact (o9 v9 (by omega) (by omega)).trans x1, ?_⟩ -- d37: A b33 v9 = (b37 : Int)
      refine ⟨by first | assumption | omega, ?_⟩ -- s7: jtg N b37 = 14
      refine ⟨by first | assumption | omega, ?_⟩ -- s8: jR (v8 + (F 4209 b37))
      intro v41 e41
      refine ⟨by first | assumption | omega, ?_⟩ -- s9: jR (v9 + 1)
      refine ⟨?_, ?_⟩ -- l5: I11 v41 (v9 + 1)
      · refine ⟨by omega, ?_, by omega, by omega⟩
        have e := it_succ (fun k s => s + W 14 ((fun k => R.2.2 (R.1 + k)) k) 0) 0 (v := v9 - R.1) (by omega)
        rw [show v9 + 1 - R.1 = v9 - R.1 + 1 by omega]
        unfold sSumW at y2 ⊢
        rw [e, ← y2, e41, x8]
        dsimp only
        rw [show R.1 + (v9 - R.1) = v9 by omega]
      · dsimp only; omega
  · -- case (¬ ((F 1203 o) ≤ v2))
    refine ⟨_, by assumption, ?_⟩ -- d43: jfn N 1202 o = (b43 : Int)
    refine ⟨by first | assumption | omega, ?_⟩ -- s10: jtg N b43 = 107
    refine ⟨by first | assumption | omega, ?_⟩ -- s11: ((0 : Int) ≤ v2 ∧ (v2 : Int) < (jln N b43 : Int))
    obtain ⟨bw, x1, x2, x3, x4, x5, x6, x7, x8, x9⟩ := hw _ (k3 v2 (by omega) (by omega)).1 (k3 v2 (by omega) (by omega)).2
    have x10 := (hW.2.2.2.2.2.2.2.1 _ (k3 v2 (by omega) (by omega)).1 (k3 v2 (by omega) (by omega)).2).2.2.2.1
    refine ⟨_, by exact (o9 v2 (by omega) (by omega)).trans x1, ?_⟩ -- d47: A b43 v2 = (b47 : Int)
    refine ⟨by first | assumption | omega, ?_⟩ -- s12: jtg N b47 = 14
    refine ⟨by first | assumption | omega, ?_⟩ -- s13: jR (v1 + (F 4209 b47))
    intro v51 e51
    refine ⟨by first | assumption | omega, ?_⟩ -- s14: jR (v2 + 1)
    refine ⟨?_, ?_⟩ -- l6: I4 v51 (v2 + 1)
    · refine ⟨by omega, ?_, by omega, by omega⟩
      unfold sSumW at i2 ⊢
      rw [it_succ _ _ i1.1, ← i2, e51, x8]
    · dsimp only; omega

theorem sX13_takes {o : Nat} {a1 : Int} {N : jSh} {F : jFl} {A : jAr} {wA : Int → Int} {W : sTb} {w u : Int} (hw : wds N F W wA) (ho : wA w = (o : Int)) (hw1 : 0 ≤ w ∧ w < W 0 0 0) (ha1 : u = -1 ∧ a1 = -1 ∨ (0 ≤ u ∧ u < W 0 0 0) ∧ a1 = wA u) (hW : sWok W) : wqX13_takes o a1 N F A (fun z => z = W 11 w 0 - (if 0 ≤ u ∧ W 13 u 0 = W 13 w 0 then 1 else 0)) := by
  unfold wqX13_takes
  obtain ⟨bw, x1, x2, x3, x4, x5, x6, x7, x8, x9⟩ := hw _ hw1.1 hw1.2
  have y0 : bw = o := by omega
  subst y0
  have x10 := (hW.2.2.2.2.2.2.2.1 _ hw1.1 hw1.2).1
  refine ⟨fun hc => ?_, fun hc => ?_⟩ -- c1
  · -- case (a1 < 0)
    -- l1: Q (F 4200 o)
    dsimp only
    rw [if_neg, x5, Int.sub_zero]
    rintro ⟨q1, -⟩
    rcases ha1 with ⟨q, -⟩ | ⟨q, q2⟩
    · omega
    · obtain ⟨b2, z1, -⟩ := hw u q.1 q.2
      omega
  · -- case (¬ (a1 < 0))
    have hu : 0 ≤ u ∧ u < W 0 0 0 := by omega
    have hu2 : a1 = wA u := by omega
    obtain ⟨bu, z1, z2, z3, z4, z5, z6, z7, z8, z9⟩ := hw u hu.1 hu.2
    refine ⟨_, by exact hu2.trans z1, ?_⟩ -- d2: a1 = (b2 : Int)
    refine ⟨by first | assumption | omega, ?_⟩ -- s1: jtg N b2 = 14
    refine ⟨fun hc => ?_, fun hc => ?_⟩ -- c2
    · -- case (¬ (F 4206 b2) = (F 4206 o))
      -- l2: Q (F 4200 o)
      dsimp only
      rw [if_neg (by omega), x5, Int.sub_zero]
    · -- case ((F 4206 b2) = (F 4206 o))
      refine ⟨by first | assumption | omega, ?_⟩ -- s2: jR ((F 4200 o) - 1)
      -- l3: Q ((F 4200 o) - 1)
      dsimp only
      rw [if_pos (by omega), x5]

theorem sX13_alike {o : Nat} {a1 : Int} {N : jSh} {F : jFl} {A : jAr} {wA : Int → Int} {W : sTb} {w u : Int} (hw : wds N F W wA) (ho : wA w = (o : Int)) (hw1 : 0 ≤ w ∧ w < W 0 0 0) (ha1 : a1 = wA u) (hu : 0 ≤ u ∧ u < W 0 0 0) : wqX13_alike o a1 N F A (fun z => z = sLikes W w u) := by
  unfold wqX13_alike
  obtain ⟨bw, x1, x2, x3, x4, x5, x6, x7, x8, x9⟩ := hw _ hw1.1 hw1.2
  have y0 : bw = o := by omega
  subst y0
  obtain ⟨bu, y1, y2, y3, y4, y5, y6, y7, y8, y9⟩ := hw u hu.1 hu.2
  refine ⟨_, by exact ha1.trans y1, ?_⟩ -- d1: a1 = (b1 : Int)
  refine ⟨by first | assumption | (rw [e5, e8, e11]; split <;> split <;> split <;> omega), ?_⟩ -- s1: jtg N b1 = 14
  intro z5 e5
  intro z8 e8
  intro z11 e11
  refine ⟨by first | assumption | (rw [e5, e8, e11]; split <;> split <;> split <;> omega), ?_⟩ -- s2: jR ((z5 + z8) + z11)
  -- l1: Q ((z5 + z8) + z11)
  dsimp only
  unfold sLikes
  grind

theorem sX14_heard {o : Nat} {a1 : Int} {N : jSh} {F : jFl} {A : jAr} {wA : Int → Int} {W : sTb} {w s c : Int} (hw : wds N F W wA) (ho : stIs N A W wA s o) (hs : s = W 19 c 0) (hs1 : 0 ≤ s ∧ s < W 1 0 0) (hw1 : 0 ≤ w ∧ w < W 0 0 0) (ha1 : a1 = wA w) (hW : sWok W) : wqX14_heard o a1 N F A (fun z => z = wA (sHeard W c w)) := by
  unfold wqX14_heard
  obtain ⟨bw, x1, x2, x3, x4, x5, x6, x7, x8, x9⟩ := hw _ hw1.1 hw1.2
  obtain ⟨⟨o1, o2, o3, o4, o5, o6, o7, -⟩, o8⟩ := ho
  have o9 := o8 w hw1.1 hw1.2
  have w1 := hW.2.2.2.2.2.2.2.2.1 s w hs1.1 hs1.2 hw1.1 hw1.2
  have w2 := hW.1
  refine ⟨_, by exact ha1.trans x1, ?_⟩ -- d1: a1 = (b1 : Int)
  refine ⟨by first | assumption | omega, ?_⟩ -- s1: jtg N b1 = 14
  refine ⟨_, by assumption, ?_⟩ -- d4: jfn N 4502 o = (b4 : Int)
  refine ⟨by first | assumption | omega, ?_⟩ -- s2: jtg N b4 = 107
  refine ⟨by first | assumption | omega, ?_⟩ -- s3: ((0 : Int) ≤ jfn N 3903 b1 ∧ (jfn N 3903 b1 : Int) < (jln N b4 : Int))
  refine ⟨fun hc => ?_, fun hc => ?_⟩ -- c1
  · -- case (¬ (A b4 (jfn N 3903 b1)) < 0)
    rw [x4]
    refine ⟨by first | assumption | omega, ?_⟩ -- s4: ((0 : Int) ≤ jfn N 3903 b1 ∧ (jfn N 3903 b1 : Int) < (jln N b4 : Int))
    -- l1: Q (A b4 (jfn N 3903 b1))
    dsimp only
    unfold sHeard
    rw [x4, o9] at hc
    rw [o9, ← hs]
    by_cases q : W 17 s w = -1
    · rw [if_pos q] at hc; omega
    · rw [if_neg q, if_neg q]
  · -- case ((A b4 (jfn N 3903 b1)) < 0)
    -- l2: Q a1
    dsimp only
    unfold sHeard
    rw [x4, o9] at hc
    by_cases q : W 17 s w = -1
    · rw [← hs, if_pos q, ha1]
    · rw [if_neg q] at hc
      obtain ⟨b2, z1, -⟩ := hw (W 17 s w) (by omega) (by omega)
      omega

theorem sX2_is {o : Nat} {a1 : Int} {N : jSh} {F : jFl} {A : jAr} (ho : jfn N 0 o = 1) : wqX2_is o a1 N F A (fun z F' A' => z = (o : Int) ∧ F' = upF F 903 o a1 ∧ A' = A) := by
  unfold wqX2_is
  refine ⟨by exact ho, ?_⟩ -- s1: jfn N 0 o = 1
  intro F3 e3
  -- l1: Q (o : Int) F3 A
  exact ⟨rfl, by assumption, rfl⟩

theorem sX0_isIn {a1 : Int} {a2 : Int} {a3 : Int} {N : jSh} {F : jFl} {A : jAr}  : wqX0_isIn a1 a2 a3 N F A (fun z => z = (if a2 ≤ a1 ∧ a1 ≤ a3 then 1 else 0)) := by
  unfold wqX0_isIn
  refine ⟨fun hc => ?_, fun hc => ?_⟩ -- c1
  · -- case ((jcmp a1 a2) < 0)
    -- l1: Q 0
    grind [jcmp]
  · -- case (¬ ((jcmp a1 a2) < 0))
    intro z3 e3
    -- l2: Q z3
    grind [jcmp]

theorem sX2_says {o : Nat} {a1 : Int} {a2 : Int} {a3 : Int} {a4 : Int} {N : jSh} {F : jFl} {A : jAr} {wA sA : Int → Int} {W : sTb} {x ch b : Nat} {c : Int} {R : sRow} (hx : sayOk N x o) (ha1 : a1 = (ch : Int)) (hc1 : chIs N F A W wA sA c ch) (hc2 : 0 ≤ c ∧ c < W 2 0 0) (ha2 : a2 = (b : Int)) (hr : rowIs N F A wA b R) (hk : sRok (W 0 0 0) R) (hw : wds N F W wA) (hW : sWok W) (h3 : 0 ≤ a3 ∧ a3 ≤ a4 ∧ a4 ≤ R.1 + R.2.1) (hl : F 911 o = (if a3 = 0 then -1 else wA (sU W c R.2.2 (a3 - 1)))) (hlf : -1 ≤ F 906 o ∧ F 906 o ≤ 80) (hb : b + 1 ≠ o + 2) (hch : ch + 4 ≠ o + 2) : wqX2_says o a1 a2 a3 a4 N F A (fun z F' A' => (∀ f a, ¬ (a = o ∧ (f = 906 ∨ f = 911)) → F' f a = F f a) ∧ (∀ a, a ≠ o + 2 → A' a = A a) ∧ (∀ j : Int, j < a3 → A' (o + 2) j = A (o + 2) j) ∧ (z = 1 ∧ ¬ sFailG W c R.2.2 (F 906 o) a3 (a4 - a3) ∧ F' 906 o = sLeftG W c R.2.2 (F 906 o) a3 (a4 - a3).toNat ∧ (-1 ≤ F' 906 o ∧ F' 906 o ≤ 80) ∧ F' 911 o = (if a4 = 0 then -1 else wA (sU W c R.2.2 (a4 - 1))) ∧ (∀ j : Int, a3 ≤ j → j < a4 → A' (o + 2) j = wA (sU W c R.2.2 j)) ∨ z = 0 ∧ sFailG W c R.2.2 (F 906 o) a3 (a4 - a3))) := by
  unfold wqX2_says
  obtain ⟨⟨c1, c3, c4, c5, c6, c7, c8, c9, c10, c11, c12⟩, d1, d2, d3, d4, d5⟩ := hc1
  obtain ⟨⟨q1, q2, q3, q4, q5, q6⟩, b1, b2, b3⟩ := hr
  obtain ⟨x1, x2, x3, ⟨x4, x5, x6, x7, x8, x9⟩, x10⟩ := hx
  obtain ⟨k1, k2, k3⟩ := hk
  have w0 := hW.1
  have hsu : ∀ k : Int, 0 ≤ k → k < R.1 + R.2.1 → 0 ≤ sU W c R.2.2 k ∧ sU W c R.2.2 k < W 0 0 0 := fun k k0 k1 => sSaid_range hW hc2 (k3 k k0 k1)
  have hcs : ∀ k : Int, 0 ≤ k → k < R.1 + R.2.1 → 0 ≤ sCost W c R.2.2 k ∧ sCost W c R.2.2 k ≤ 9 := fun k k0 k1 => sCost_range hW hc2 (k3 k k0 k1)
  refine ⟨fun (v1 : Int) (F2 : jFl) (A3 : jAr) => (a3 ≤ v1 ∧ v1 ≤ a4) ∧ (∀ f a, ¬ (a = o ∧ (f = 906 ∨ f = 911)) → F2 f a = F f a) ∧ (∀ a, a ≠ o + 2 → A3 a = A a) ∧ (∀ j : Int, j < a3 → A3 (o + 2) j = A (o + 2) j) ∧ (∀ j : Int, a3 ≤ j → j < v1 → A3 (o + 2) j = wA (sU W c R.2.2 j)) ∧ F2 906 o = sLeftG W c R.2.2 (F 906 o) a3 (v1 - a3).toNat ∧ (-1 ≤ F2 906 o ∧ F2 906 o ≤ 80) ∧ F2 911 o = (if v1 = 0 then -1 else wA (sU W c R.2.2 (v1 - 1))) ∧ (∀ j : Int, 0 ≤ j → j < v1 - a3 → 0 ≤ sLeftG W c R.2.2 (F 906 o) a3 (j + 1).toNat), fun v1 F2 A3 => (a4 - v1).toNat, ?_, ?_⟩ -- loop I6 I6 a3 F A
  ·
    -- l1: I6 a3 F A
    exact ⟨by omega, fun _ _ _ => rfl, fun _ _ => rfl, fun _ _ => rfl, fun j j0 j1 => by omega, by rw [show a3 - a3 = 0 by omega]; rfl, hlf, hl, fun j j0 j1 => by omega⟩
  intro v1 F2 A3 i6
  obtain ⟨i1, i2, i3, i4, i5, i6, i7, i8, i9⟩ := i6
  refine ⟨fun hc => ?_, fun hc => ?_⟩ -- c1
  · -- case (a4 ≤ v1)
    -- l2: Q 1 F2 A3
    refine ⟨i2, i3, i4, Or.inl ⟨rfl, ?_, ?_, i7, ?_, fun j j0 j1 => i5 j j0 (by omega)⟩⟩
    · rintro ⟨k, k0, k1, k2⟩
      have := i9 k k0 (by omega)
      omega
    · rw [i6, show v1 = a4 by omega]
    · rw [i8, show v1 = a4 by omega]
  · -- case (¬ (a4 ≤ v1))
    have y1 := hsu v1 (by omega) (by omega)
    have y2 := hcs v1 (by omega) (by omega)
    have y3 := k3 v1 (by omega) (by omega)
    obtain ⟨bw, z1, z2, z3, z4, z5, z6, z7, z8, z9⟩ := hw _ y3.1 y3.2
    obtain ⟨bs, s1, s2, s3, s4, s5, s6, s7, s8, s9⟩ := hw _ y1.1 y1.2
    have ew : A3 (b + 1) v1 = (bw : Int) := by rw [i3 _ hb, b3 _ (by omega) (by omega)]; exact z1
    have es : A3 (ch + 4) (jfn N 3903 bw) = wA (sU W c R.2.2 v1) := by rw [i3 _ hch, z4, d5 _ y3.1 y3.2]; rfl
    have hw2 : wds N F2 W wA := hw.of (fun f a hf ha => i2 f a (by omega))
    refine ⟨_, by assumption, ?_⟩ -- d9: a1 = (b9 : Int)
    refine ⟨by first | assumption | omega, ?_⟩ -- s1: jtg N b9 = 16
    refine ⟨_, by assumption, ?_⟩ -- d12: a2 = (b12 : Int)
    refine ⟨by first | assumption | omega, ?_⟩ -- s2: jtg N b12 = 4
    refine ⟨_, by assumption, ?_⟩ -- d15: jfn N 1202 b12 = (b15 : Int)
    refine ⟨by first | assumption | omega, ?_⟩ -- s3: jtg N b15 = 107
    refine ⟨by first | assumption | omega, ?_⟩ -- s4: ((0 : Int) ≤ v1 ∧ (v1 : Int) < (jln N b15 : Int))
    refine ⟨_, by assumption, ?_⟩ -- d19: A3 b15 v1 = (b19 : Int)
    refine ⟨by first | assumption | omega, ?_⟩ -- s5: jtg N b19 = 14
    refine ⟨_, by assumption, ?_⟩ -- d22: jfn N 4814 b9 = (b22 : Int)
    refine ⟨by first | assumption | omega, ?_⟩ -- s6: jtg N b22 = 107
    refine ⟨by exact ⟨by omega, by omega⟩, ?_⟩ -- s7: ((0 : Int) ≤ jfn N 3903 b19 ∧ (jfn N 3903 b19 : Int) < (jln N b22 : Int))
    intro v26 e26
    refine ⟨_, by (subst e26; exact es.trans s1), ?_⟩ -- d27: v26 = (b27 : Int)
    refine ⟨by first | assumption | omega, ?_⟩ -- s8: jtg N b27 = 14
    have hu2 : (if v1 = 0 then -1 else sU W c R.2.2 (v1 - 1)) = -1 ∧ F2 911 o = -1 ∨ (0 ≤ (if v1 = 0 then -1 else sU W c R.2.2 (v1 - 1)) ∧ (if v1 = 0 then -1 else sU W c R.2.2 (v1 - 1)) < W 0 0 0) ∧ F2 911 o = wA (if v1 = 0 then -1 else sU W c R.2.2 (v1 - 1)) := by
      rw [i8]
      by_cases q : v1 = 0
      · exact Or.inl ⟨if_pos q, if_pos q⟩
      · refine Or.inr ⟨?_, ?_⟩
        · rw [if_neg q]; exact hsu _ (by omega) (by omega)
        · rw [if_neg q, if_neg q]
    refine ⟨_, sX13_takes (w := sU W c R.2.2 v1) (u := if v1 = 0 then -1 else sU W c R.2.2 (v1 - 1)) hw2 s1 y1 hu2 hW, ?_⟩ -- call wqX13_takes b27 (F2 911 o) N F2 A3 P30
    intro z32 p30
    have ec : z32 = sCost W c R.2.2 v1 := by
      rw [p30]
      unfold sCost
      by_cases q : v1 = 0
      · rw [if_pos q, if_neg (by omega), if_neg (by omega)]
      · rw [if_neg q]
        have := hsu (v1 - 1) (by omega) (by omega)
        by_cases q2 : W 13 (sU W c R.2.2 (v1 - 1)) 0 = W 13 (sU W c R.2.2 v1) 0
        · rw [if_pos ⟨this.1, q2⟩, if_pos ⟨by omega, q2⟩]
        · rw [if_neg (fun w => q2 w.2), if_neg (fun w => q2 w.2)]
    have el : sLeftG W c R.2.2 (F 906 o) a3 (v1 + 1 - a3).toNat = F2 906 o - z32 := by
      rw [show v1 + 1 - a3 = v1 - a3 + 1 by omega, sLeftG_succ (by omega), ← i6, ec, show a3 + (v1 - a3) = v1 by omega]
    refine ⟨by first | assumption | omega, ?_⟩ -- s9: jfn N 0 o = 1
    refine ⟨by first | assumption | omega, ?_⟩ -- s10: jR ((F2 906 o) - z32)
    intro F40 e40
    have n1 : F40 906 o = F2 906 o - z32 := by subst e40; simp [upF]
    have n2 : ∀ f a, ¬ (a = o ∧ (f = 906 ∨ f = 911)) → F40 f a = F f a := fun f a h => by rw [← i2 f a h]; subst e40; simp only [upF]; rw [if_neg (by omega)]
    refine ⟨fun hc => ?_, fun hc => ?_⟩ -- c2
    · -- case (0 ≤ (F40 906 o))
      refine ⟨_, by assumption, ?_⟩ -- d42: jfn N 902 o = (b42 : Int)
      refine ⟨by first | assumption | omega, ?_⟩ -- s11: jtg N b42 = 4
      refine ⟨_, by assumption, ?_⟩ -- d45: jfn N 1202 b42 = (b45 : Int)
      refine ⟨by first | assumption | omega, ?_⟩ -- s12: jtg N b45 = 107
      refine ⟨by first | assumption | omega, ?_⟩ -- s13: jfn N 0 b45 = 1
      refine ⟨by first | assumption | omega, ?_⟩ -- s14: ((0 : Int) ≤ v1 ∧ (v1 : Int) < (jln N b45 : Int))
      refine ⟨by (subst e26; rw [es]; exact hw.ast y1), ?_⟩ -- s15: jast N "ChildSays$Word" v26
      intro A50 e50
      intro F54 e54
      subst e26
      rw [es] at e50 e54
      have n3 : F54 906 o = F2 906 o - z32 := by subst e54; simp [upF]; exact n1
      have n4 : ∀ f a, ¬ (a = o ∧ (f = 906 ∨ f = 911)) → F54 f a = F f a := fun f a h => by rw [← n2 f a h]; subst e54; simp only [upF]; rw [if_neg (by omega)]
      have n5 : F54 911 o = wA (sU W c R.2.2 v1) := by subst e54; simp [upF]
      refine ⟨by first | assumption | omega, ?_⟩ -- s16: jR (v1 + 1)
      refine ⟨?_, ?_⟩ -- l3: I6 (v1 + 1) F54 A50
      · refine ⟨by omega, n4, fun a ha => ?_, fun j j0 => ?_, fun j j0 j1 => ?_, ?_, by omega, ?_, fun j j0 j1 => ?_⟩
        · rw [← i3 a ha]; subst e50; funext i; simp only [upA]; rw [if_neg (fun w => ha w.1)]
        · rw [← i4 j j0]; subst e50; simp only [upA]; rw [if_neg (by omega)]
        · subst e50
          by_cases q : j = v1
          · rw [upA_at q, q]
          · rw [upA_i q]; exact i5 j j0 (by omega)
        · rw [n3, el]
        · rw [n5, if_neg (by omega), show v1 + 1 - 1 = v1 by omega]
        · by_cases q : j < v1 - a3
          · exact i9 j j0 q
          · rw [show j + 1 = v1 + 1 - a3 by omega, el]; omega
      · dsimp only; omega
    · -- case (¬ (0 ≤ (F40 906 o)))
      -- l4: Q 0 F40 A3
      exact ⟨n2, i3, i4, Or.inr ⟨rfl, v1 - a3, by omega, by omega, by rw [show v1 - a3 + 1 = v1 + 1 - a3 by omega, el]; omega⟩⟩

set_option maxHeartbeats 4000000 in
theorem sX2_of_2 {o : Nat} {a1 : Int} {a2 : Int} {a3 : Int} {a4 : Int} {N : jSh} {F : jFl} {A : jAr} {wA sA : Int → Int} {W : sTb} {x t ch b : Nat} {c left : Int} {R : sRow} (hx : sayOk N x o) (hxt : jtg N x = 1) (ht : F 311 x = (t : Int)) (htt : jtg N t = 2) (htu : F 609 t = W 6 0 0) (ha1 : a1 = (ch : Int)) (hc1 : chIs N F A W wA sA c ch) (hc2 : 0 ≤ c ∧ c < W 2 0 0) (ha2 : a2 = (b : Int)) (hr : rowIs N F A wA b R) (hk : sRok (W 0 0 0) R) (hw : wds N F W wA) (hW : sWok W) (hb : b ≠ o + 1) (hleft : left = a4 + (if a3 = 0 then 0 else W 6 0 0)) (hl0 : 0 ≤ a4 ∧ a4 ≤ 60) : wqX2_of_2 o a1 a2 a3 a4 N F A (fun z F' A' => z = (o : Int) ∧ sayIs N F' A' wA o (sKind W c R left) (sSayR W c R left) ∧ fr o (o + 3) F A F' A') := by
  unfold wqX2_of_2
  have hx0 := hx
  have hc10 := hc1
  have hr0 := hr
  obtain ⟨⟨c1, c3, c4, c5, c6, c7, c8, c9, c10, c11, c12⟩, d1, d2, d3, d4, d5⟩ := hc1
  obtain ⟨⟨q1, q2, q3, q4, q5, q6⟩, b1, b2, b3⟩ := hr
  obtain ⟨x1, x2, x3, x4, x10⟩ := hx
  have x40 := x4
  obtain ⟨x4, x5, x6, x7, x8, x9⟩ := x4
  have hk0 := hk
  obtain ⟨k1, k2, k3⟩ := hk
  have w6 := hW.2.2.2.2.2.2.1
  have ne1 : b ≠ o := fun w => by rw [w, x1] at q1; omega
  have ne2 : ch ≠ o := fun w => by rw [w, x1] at c1; omega
  have ne3 : ch ≠ o + 1 := fun w => by rw [w, x4] at c1; omega
  have ne8 : Unit → ch + 4 ≠ o + 2 := fun _ w => by
    have w2 : ch + 3 = o + 1 := by omega
    rw [w2, x4] at c6; omega
  have ne4 : x ≠ o := fun w => by rw [w, x1] at hxt; omega
  have ne5 : x ≠ o + 1 := fun w => by rw [w, x4] at hxt; omega
  have ne6 : t ≠ o := fun w => by rw [w, x1] at htt; omega
  have ne7 : t ≠ o + 1 := fun w => by rw [w, x4] at htt; omega
  have lb : 0 ≤ left ∧ left ≤ 80 := by rw [hleft]; split <;> omega
  refine ⟨_, by assumption, ?_⟩ -- d1: jfn N 902 o = (b1 : Int)
  refine ⟨by first | assumption | omega, ?_⟩ -- s1: jtg N b1 = 4
  refine ⟨_, sX3_empty x40, ?_⟩ -- call wqX3_empty b1 N F A P4
  intro z6 F7 A8 p4
  obtain ⟨p41, p42, p43, p44⟩ := p4
  subst p43
  refine ⟨by first | assumption | omega, ?_⟩ -- s2: jfn N 0 o = 1
  intro F15 e15
  refine ⟨fun (v17 : Int) => v17 = left, ?_, ?_⟩ -- join K19
  · intro v17 k19
    intro F23 e23
    subst k19
    have f0 : ∀ f a, a ≠ o → a ≠ o + 1 → F23 f a = F f a := fun f a h1 h2 => by
      rw [← (p44 a (by omega)).1 f]; subst e23 e15; simp only [upF]; rw [if_neg (by omega), if_neg (by omega)]
    have f1 : F23 906 o = v17 := by subst e23; simp [upF]
    have f2 : F23 911 o = -1 := by subst e23 e15; simp [upF]
    have f3 : F23 1203 b = R.1 := by rw [f0 _ _ ne1 hb]; exact b1
    have f5 : ∀ wA f, rowIs N F23 A8 wA (o + 1) (0, 0, f) := fun wA f => (p42 wA f).of (by subst e23 e15; simp [upF]) (by subst e23 e15; simp [upF]) rfl
    have hf6 : fr o (o + 3) F A8 F23 A8 := by subst e23 e15; exact ((p44.mono (by omega) (by omega)).upF (by omega)).upF (by omega)
    have hw2 : wds N F23 W wA := hw.of (fun f a hf ha => f0 f a (fun w => by rw [w, x1] at ha; omega) (fun w => by rw [w, x4] at ha; omega))
    have hc2' : chIs N F23 A8 W wA sA c ch := hc10.of (fun f _ => f0 f ch ne2 ne3) rfl rfl
    have hr2 : rowIs N F23 A8 wA b R := hr0.of (f0 _ _ ne1 hb) (f0 _ _ ne1 hb) rfl
    refine ⟨_, by exact ha2, ?_⟩ -- d24: a2 = (b24 : Int)
    refine ⟨by first | assumption | omega, ?_⟩ -- s3: jtg N b24 = 4
    refine ⟨_, sX2_says hx0 ha1 hc2' hc2 ha2 hr2 hk0 hw2 hW (by omega) (by rw [f2]; rfl) (by omega) (by omega) (ne8 ()), ?_⟩ -- call wqX2_says o a1 a2 0 (F23 1203 b24) N F23 A8 P27
    intro z29 F30 A31 p27
    rw [f1, f3, Int.sub_zero] at p27
    obtain ⟨g1, g2, g3, g4⟩ := p27
    have g5 : fr o (o + 3) F A8 F30 A31 := hf6.trans (fun a ha => ⟨fun f => g1 f a (by omega), g2 a (by omega)⟩)
    have e1 : F30 1203 b = R.1 := by rw [g1 _ _ (by omega), f3]
    have e2 : F30 1206 b = R.2.1 := by rw [g1 _ _ (by omega), f0 _ _ ne1 hb]; exact b2
    have e3 : F30 1206 (o + 1) = 0 := by rw [g1 _ _ (by omega)]; exact (f5 wA R.2.2).2.2.1
    refine ⟨fun hc => ?_, fun hc => ?_⟩ -- c1
    · -- case (¬ z29 = 0)
      refine ⟨by first | assumption | omega, ?_⟩ -- s4: jfn N 0 b1 = 1
      intro F39 e39
      have hlo : ¬ sLost W c R v17 := by
        rw [sLost_G]
        rcases g4 with g | g
        · exact g.2.1
        · omega
      obtain ⟨-, g6, g7, g8, g9, g10⟩ : z29 = 1 ∧ ¬ sFailG W c R.2.2 v17 0 R.1 ∧ F30 906 o = sLeftG W c R.2.2 v17 0 R.1.toNat ∧ (-1 ≤ F30 906 o ∧ F30 906 o ≤ 80) ∧ F30 911 o = (if R.1 = 0 then -1 else wA (sU W c R.2.2 (R.1 - 1))) ∧ (∀ j : Int, 0 ≤ j → j < R.1 → A31 (o + 2) j = wA (sU W c R.2.2 j)) := by
        rcases g4 with g | g
        · exact g
        · omega
      rw [e1] at e39
      have cm : sMain W c R v17 = R.1 := by unfold sMain; exact cif_neg hlo
      have h906 : 0 ≤ F30 906 o := by
        by_cases q : R.1 = 0
        · rw [g7, q]; exact lb.1
        · rw [g7]
          by_cases q2 : 0 ≤ sLeftG W c R.2.2 v17 0 R.1.toNat
          · exact q2
          · exact absurd ⟨R.1 - 1, by omega, by omega, by rw [show R.1 - 1 + 1 = R.1 by omega]; omega⟩ g6
      have m1 : F39 1206 b = R.2.1 := by subst e39; simp only [upF]; rw [if_neg (by omega)]; exact e2
      have m2 : F39 906 o = F30 906 o := by subst e39; simp [upF]
      have m3 : fr o (o + 3) F A8 F39 A31 := by subst e39; exact g5.upF (by omega)
      have m4 : F39 1203 (o + 1) = R.1 := by subst e39; simp [upF]
      have m5 : F39 1206 (o + 1) = 0 := by subst e39; simp only [upF]; rw [if_neg (by omega)]; exact e3
      have m6 : ∀ f a, a ≠ o → a ≠ o + 1 → F39 f a = F f a := fun f a h1 h2 => by subst e39; simp only [upF]; rw [if_neg (by omega), g1 _ _ (by omega), f0 f a h1 h2]
      have m7 : F39 911 o = F30 911 o := by subst e39; simp [upF]
      have m8 : F39 1203 b = R.1 := by subst e39; simp only [upF]; rw [if_neg (by omega)]; exact e1
      refine ⟨fun hc => ?_, fun hc => ?_⟩ -- c2
      · -- case (¬ (F39 1206 b24) = 0)
        refine ⟨by first | assumption | omega, ?_⟩ -- s5: jR ((F39 906 o) - 1)
        intro F43 e43
        have n1 : F43 906 o = F30 906 o - 1 := by subst e43; simp [upF]; exact m2
        have n2 : F43 911 o = F30 911 o := by subst e43; simp [upF]; exact m7
        have n3 : ∀ f a, a ≠ o → a ≠ o + 1 → F43 f a = F f a := fun f a h1 h2 => by subst e43; simp only [upF]; rw [if_neg (by omega)]; exact m6 f a h1 h2
        have n4 : F43 1203 (o + 1) = R.1 := by subst e43; simp only [upF]; rw [if_neg (by omega)]; exact m4
        have n5 : F43 1206 (o + 1) = 0 := by subst e43; simp only [upF]; rw [if_neg (by omega)]; exact m5
        have n6 : fr o (o + 3) F A8 F43 A31 := by subst e43; exact m3.upF (by omega)
        have n7 : F43 1203 b = R.1 := by rw [n3 _ _ ne1 hb]; exact b1
        have hr3 : rowIs N F43 A31 wA b R := hr0.of (n3 _ _ ne1 hb) (n3 _ _ ne1 hb) (g2 _ (by omega))
        have hw3 : wds N F43 W wA := hw.of (fun f a hf ha => n3 f a (fun w => by rw [w, x1] at ha; omega) (fun w => by rw [w, x4] at ha; omega))
        have hc3' : chIs N F43 A31 W wA sA c ch := hc10.of (fun f _ => n3 f ch ne2 ne3) (g2 _ (fun w => by rw [w, x7] at c6; omega)) (g2 _ (by have := ne8 (); omega))
        refine ⟨_, sX3_size hr3 hk0, ?_⟩ -- call wqX3_size b24 N F43 A31 P44
        intro z46 p44
        refine ⟨_, sX2_says hx0 ha1 hc3' hc2 ha2 hr3 hk0 hw3 hW (by omega) (by rw [n2, g9, n7]) (by omega) (by omega) (ne8 ()), ?_⟩ -- call wqX2_says o a1 a2 (F43 1203 b24) z46 N F43 A31 P51
        intro z53 F54 A55 p51
        have bl : F43 906 o = sLeft W c R.2.2 v17 R.1.toNat - 1 := by rw [n1, g7, sLeft_G]
        rw [n7, p44, show R.1 + R.2.1 - R.1 = R.2.1 by omega, bl] at p51
        obtain ⟨t1, t2, t3, t4⟩ := p51
        have t5 : fr o (o + 3) F A8 F54 A55 := n6.trans (fun a ha => ⟨fun f => t1 f a (by omega), t2 a (by omega)⟩)
        have t6 : F54 1203 (o + 1) = R.1 := by rw [t1 _ _ (by omega), n4]
        have t7 : F54 1206 (o + 1) = 0 := by rw [t1 _ _ (by omega), n5]
        have t8 : F54 1206 b = R.2.1 := by rw [t1 _ _ (by omega), n3 _ _ ne1 hb]; exact b2
        refine ⟨fun hc => ?_, fun hc => ?_⟩ -- c3
        · -- case (¬ z53 = 0)
          intro F62 e62
          rw [t8] at e62
          have hcu : ¬ sCut W c R v17 := by
            rw [sCut_G]
            rcases t4 with g | g
            · exact fun w => g.2.1 w.2
            · omega
          have t10 : ∀ j : Int, R.1 ≤ j → j < R.1 + R.2.1 → A55 (o + 2) j = wA (sU W c R.2.2 j) := by
            rcases t4 with g | g
            · exact g.2.2.2.2.2
            · omega
          have cb : sBut W c R v17 = R.2.1 := by unfold sBut; rw [cif_neg hlo]; exact cif_neg hcu
          have hro : rowIs N F62 A55 wA (o + 1) (sSayR W c R v17) := by
            refine ⟨⟨x4, x5, x6, x7, x8, x9⟩, ?_, ?_, fun k k0 k1 => ?_⟩
            · subst e62; simp only [upF]; rw [if_neg (by omega), t6]; exact cm.symm
            · subst e62; simp [upF]; exact cb.symm
            · have k4 : k < R.1 + R.2.1 := by rw [← cm, ← cb]; exact k1
              by_cases q : k < R.1
              · rw [show o + 1 + 1 = o + 2 by omega, t3 k (by omega)]; exact g10 k k0 q
              · exact t10 k (by omega) k4
          have z1 : fr o (o + 3) F A8 F62 A55 := by subst e62; exact t5.upF (by omega)
          have hr4 : rowIs N F62 A55 wA b R := hr3.of (by subst e62; simp only [upF]; rw [if_neg (by omega), t1 _ _ (by omega)]) (by subst e62; simp only [upF]; rw [if_neg (by omega), t1 _ _ (by omega)]) (t2 _ (by omega))
          have hw4 : wds N F62 W wA := hw3.of (fun f a hf ha => by subst e62; simp only [upF]; rw [if_neg (fun w => by rw [w.2, x4] at ha; omega), t1 _ _ (fun w => by rw [w.1, x1] at ha; omega)])
          have sk : sKind W c R v17 = (if cif (sAlike (sSayR W c R v17) R) (1 : Int) 0 = 0 then 1 else 0) := by
            unfold sKind
            rw [cif_neg hlo, cif_neg hcu]
            by_cases q : sSame W c R
            · rw [cif_pos q, cif_pos (show sAlike (sSayR W c R v17) R from ⟨cm, cb, fun k k0 k1 => q k k0 (by rw [← cm, ← cb]; exact k1)⟩)]; rfl
            · rw [cif_neg q, cif_neg (fun w : sAlike (sSayR W c R v17) R => q (fun k k0 k1 => w.2.2 k k0 (by show k < sMain W c R v17 + sBut W c R v17; rw [cm, cb]; exact k1)))]; rfl
          refine ⟨_, sX3_isLike ha2 hro (sSayR_ok hW hc2 hk0) hr4 hk0 hw4, ?_⟩ -- call wqX3_isLike b1 a2 N F62 A55 P63
          intro z65 p63
          intro z71 e71
          refine ⟨_, sX2_is x2, ?_⟩ -- call wqX2_is o z71 N F62 A55 P73
          intro z75 F76 A77 p73
          obtain ⟨p1, p2, p3⟩ := p73
          -- l1: Q z75 F76 A77
          refine ⟨p1, ⟨?_, hro.of (by subst p2; simp [upF]) (by subst p2; simp [upF]) (by rw [p3])⟩, ?_⟩
          · subst p2; rw [upF_same, e71, p63, sk]
          · subst p2 p3; exact z1.upF (by omega)
        · -- case (z53 = 0)
          refine ⟨_, sX2_is x2, ?_⟩ -- call wqX2_is o 2 N F54 A55 P82
          intro z84 F85 A86 p82
          obtain ⟨p1, p2, p3⟩ := p82
          have hcu : sCut W c R v17 := by
            rw [sCut_G]
            rcases t4 with g | g
            · omega
            · exact ⟨by omega, g.2⟩
          have cb : sBut W c R v17 = 0 := by unfold sBut; rw [cif_neg hlo]; exact cif_pos hcu
          -- l2: Q z84 F85 A86
          refine ⟨p1, ⟨?_, ⟨⟨x4, x5, x6, x7, x8, x9⟩, ?_, ?_, fun k k0 k1 => ?_⟩⟩, ?_⟩
          · subst p2; rw [upF_same]; unfold sKind; rw [cif_neg hlo, cif_pos hcu]
          · subst p2; simp only [upF]; rw [if_neg (by omega), t6]; exact cm.symm
          · subst p2; simp only [upF]; rw [if_neg (by omega), t7]; exact cb.symm
          · have k4 : k < R.1 + 0 := by rw [← cm, ← cb]; exact k1
            rw [p3, show o + 1 + 1 = o + 2 by omega, t3 k (by omega)]; exact g10 k k0 (by omega)
          · subst p2 p3; exact t5.upF (by omega)
      · -- case ((F39 1206 b24) = 0)
        have q0 : R.2.1 = 0 := by rw [← m1]; exact hc
        have hcu : ¬ sCut W c R v17 := fun w => by rw [sCut_G] at w; omega
        have cb : sBut W c R v17 = R.2.1 := by unfold sBut; rw [cif_neg hlo]; exact cif_neg hcu
        have hro : rowIs N F39 A31 wA (o + 1) (sSayR W c R v17) := by
          refine ⟨⟨x4, x5, x6, x7, x8, x9⟩, by rw [m4]; exact cm.symm, by rw [m5, ← q0]; exact cb.symm, fun k k0 k1 => ?_⟩
          have k4 : k < R.1 + R.2.1 := by rw [← cm, ← cb]; exact k1
          exact g10 k k0 (by omega)
        have hr4 : rowIs N F39 A31 wA b R := hr0.of (m6 _ _ ne1 hb) (m6 _ _ ne1 hb) (g2 _ (by omega))
        have hw4 : wds N F39 W wA := hw.of (fun f a hf ha => m6 f a (fun w => by rw [w, x1] at ha; omega) (fun w => by rw [w, x4] at ha; omega))
        have sk : sKind W c R v17 = (if cif (sAlike (sSayR W c R v17) R) (1 : Int) 0 = 0 then 1 else 0) := by
          unfold sKind
          rw [cif_neg hlo, cif_neg hcu]
          by_cases q : sSame W c R
          · rw [cif_pos q, cif_pos (show sAlike (sSayR W c R v17) R from ⟨cm, cb, fun k k0 k1 => q k k0 (by rw [← cm, ← cb]; exact k1)⟩)]; rfl
          · rw [cif_neg q, cif_neg (fun w : sAlike (sSayR W c R v17) R => q (fun k k0 k1 => w.2.2 k k0 (by show k < sMain W c R v17 + sBut W c R v17; rw [cm, cb]; exact k1)))]; rfl
        refine ⟨_, sX3_isLike ha2 hro (sSayR_ok hW hc2 hk0) hr4 hk0 hw4, ?_⟩ -- call wqX3_isLike b1 a2 N F39 A31 P91
        intro z93 p91
        intro z99 e99
        refine ⟨_, sX2_is x2, ?_⟩ -- call wqX2_is o z99 N F39 A31 P101
        intro z103 F104 A105 p101
        obtain ⟨p1, p2, p3⟩ := p101
        -- l3: Q z103 F104 A105
        refine ⟨p1, ⟨?_, hro.of (by subst p2; simp [upF]) (by subst p2; simp [upF]) (by rw [p3])⟩, ?_⟩
        · subst p2; rw [upF_same, e99, p91, sk]
        · subst p2 p3; exact m3.upF (by omega)
    · -- case (z29 = 0)
      refine ⟨_, sX2_is x2, ?_⟩ -- call wqX2_is o 3 N F30 A31 P110
      intro z112 F113 A114 p110
      obtain ⟨p1, p2, p3⟩ := p110
      have hlo : sLost W c R v17 := by
        rw [sLost_G]
        rcases g4 with g | g
        · omega
        · exact g.2
      have cm : sMain W c R v17 = 0 := by unfold sMain; exact cif_pos hlo
      have cb : sBut W c R v17 = 0 := by unfold sBut; exact cif_pos hlo
      have e4 : F30 1203 (o + 1) = 0 := by rw [g1 _ _ (by omega)]; exact (f5 wA R.2.2).2.1
      -- l4: Q z112 F113 A114
      refine ⟨p1, ⟨?_, ⟨⟨x4, x5, x6, x7, x8, x9⟩, ?_, ?_, fun k k0 k1 => ?_⟩⟩, ?_⟩
      · subst p2; rw [upF_same]; unfold sKind; rw [cif_pos hlo]
      · subst p2; simp only [upF]; rw [if_neg (by omega), e4]; exact cm.symm
      · subst p2; simp only [upF]; rw [if_neg (by omega), e3]; exact cb.symm
      · have k4 : k < (0 : Int) + 0 := by have := k1; unfold sSayR at this; rw [cm, cb] at this; exact this
        omega
      · subst p2 p3; exact g5.upF (by omega)
  refine ⟨fun hc => ?_, fun hc => ?_⟩ -- c4
  · -- case (a3 = 0)
    -- l5: K19 a4
    show a4 = left
    rw [hleft, if_pos hc, Int.add_zero]
  · -- case (¬ (a3 = 0))
    refine ⟨_, by assumption, ?_⟩ -- d119: jfn N 914 o = (b119 : Int)
    refine ⟨by first | assumption | omega, ?_⟩ -- s6: jtg N b119 = 1
    have hx15 : F15 311 x = (t : Int) := by subst e15; simp only [upF]; rw [if_neg (by omega), (p44 x (by omega)).1, ht]
    have hx16 : F15 609 t = W 6 0 0 := by subst e15; simp only [upF]; rw [if_neg (by omega), (p44 t (by omega)).1, htu]
    rw [if_neg hc] at hleft
    refine ⟨_, by exact hx15, ?_⟩ -- d122: F15 311 b119 = (b122 : Int)
    refine ⟨by first | assumption | omega, ?_⟩ -- s7: jtg N b122 = 2
    refine ⟨by (rw [hx16]; omega), ?_⟩ -- s8: jR (a4 + (F15 609 b122))
    -- l6: K19 (a4 + (F15 609 b122))
    show a4 + F15 609 t = left
    rw [hleft, hx16]

