set_option maxRecDepth 100000
set_option linter.unusedVariables false
/-! an image laid: what it asks; the model's isImage; printed by gen/prove.py out of spec/a8.mon.spec -/
theorem jor_256 {x y : Int} (hx : 0 ≤ x) (hy : 0 ≤ y ∧ y ≤ 255) : jor (x * 2 ^ 8) y = 256 * x + y := by
  obtain ⟨a, rfl⟩ : ∃ a : Nat, x = (a : Int) := ⟨x.toNat, by omega⟩
  obtain ⟨b, rfl⟩ : ∃ b : Nat, y = (b : Int) := ⟨y.toNat, by omega⟩
  unfold jor
  have e := Nat.two_pow_add_eq_or_of_lt (i := 8) (b := b) (by omega) a
  have e2 : ((a : Int) * 2 ^ 8).toNat = 2 ^ 8 * a := by
    rw [show (2 : Int) ^ 8 = 256 from rfl, show (2 : Nat) ^ 8 = 256 from rfl]
    omega
  rw [e2, Int.toNat_natCast, ← e]
  rw [show (2 : Nat) ^ 8 = 256 from rfl]
  omega
/-- one law of an image, at a place, before the end -/
def sLwB (W : sTb) (q : Int → Int) (a e : Int) : Prop := a + 3 ≤ e ∧ q a ≤ 1 ∧ q (a + 1) ≤ 8 ∧ q (a + 2) ≤ 4 ∧ (q (a + 1) = 0 → q (a + 2) ≤ 0) ∧ a + 3 + q (a + 1) + q (a + 2) ≤ e ∧ ∀ k : Int, a + 3 ≤ k → k < a + 3 + q (a + 1) + q (a + 2) → 0 ≤ q k ∧ q k < W 0 0 0
noncomputable def sLwOn (W : sTb) (q : Int → Int) (a e : Int) : Int := cif (sLwB W q a e) (a + 3 + q (a + 1) + q (a + 2)) (-1)
noncomputable def sAtF (W : sTb) (q : Int → Int) (e : Int) : Int → Int → Int := fun _ a => if a = -1 then -1 else sLwOn W q a e
noncomputable def sAtL (W : sTb) (q : Int → Int) (e : Int) (k : Nat) : Int := it (sAtF W q e) (3 + W 3 0 0) k
def sIsImg (W : sTb) (q : Int → Int) (n : Int) : Prop := 4 ≤ n ∧ 256 * q 0 + q 1 ≤ 9999 ∧ q 2 = W 3 0 0 ∧ 4 + W 3 0 0 ≤ n ∧ q (n - 1) = sSum q (n - 1).toNat ∧ (∀ p : Int, 0 ≤ p → p < W 3 0 0 → 0 ≤ q (3 + p) ∧ q (3 + p) < W 3 0 0) ∧ (∀ p p' : Int, 0 ≤ p' → p' < p → p < W 3 0 0 → q (3 + p') ≠ q (3 + p)) ∧ sAtL W q (n - 1) (W 3 0 0).toNat = n - 1
theorem sAtL_gone {W : sTb} {q : Int → Int} {e : Int} {k : Nat} (h : sAtL W q e k = -1) : ∀ m : Nat, sAtL W q e (k + m) = -1
  | 0 => h
  | m + 1 => by
    show sAtF W q e ((k + m : Nat) : Int) (sAtL W q e (k + m)) = -1
    rw [sAtL_gone h m]
    exact if_pos rfl
theorem sX9_lawOn {o : Nat} {a1 : Int} {a2 : Int} {F : jFl} {A : jAr} {W : sTb} {q : Int → Int} {n : Int} (hW : mrW o F A W) (hq : ∀ i : Int, 0 ≤ i → i < n → A (o + 1) i = q i ∧ 0 ≤ q i ∧ q i ≤ 255) (hn : n ≤ 1600) (h1 : 0 ≤ a1 ∧ a1 ≤ 1600) (h2 : a2 < n) : wpX9_lawOn o a1 a2 F A (fun z => z = sLwOn W q a1 a2 ∧ (z = -1 ∨ (a1 + 3 ≤ z ∧ z ≤ a2))) := by
  unfold wpX9_lawOn
  have b0 : ¬ sLwB W q a1 a2 → (-1 : Int) = sLwOn W q a1 a2 ∧ ((-1 : Int) = -1 ∨ (a1 + 3 ≤ (-1 : Int) ∧ (-1 : Int) ≤ a2)) := fun w => ⟨(cif_neg w).symm, Or.inl rfl⟩
  refine ⟨by omega, ?_⟩ -- s1: jR (a1 + 3)
  refine ⟨fun hc => ?_, fun hc => ?_⟩ -- c1
  · -- case (a2 < (a1 + 3))
    -- l1: Q (-1)
    exact b0 (fun w => by have := w.1; omega)
  · -- case ¬ (a2 < (a1 + 3))
    refine ⟨by omega, ?_⟩ -- s2: (0 ≤ a1 ∧ a1 < 1800)
    obtain ⟨t0, t1, t2⟩ := hq a1 h1.1 (by omega)
    obtain ⟨u0, u1, u2⟩ := hq (a1 + 1) (by omega) (by omega)
    obtain ⟨x0, x1, x2⟩ := hq (a1 + 2) (by omega) (by omega)
    rw [t0, u0, x0]
    refine ⟨fun hc => ?_, fun hc => ?_⟩ -- c2
    · -- case (1 < (A (o + 1) a1))
      -- l2: Q (-1)
      exact b0 (fun w => by have := w.2.1; omega)
    · -- case ¬ (1 < (A (o + 1) a1))
      refine ⟨by omega, ?_⟩ -- s3: (0 ≤ a1 + 1 ∧ a1 + 1 < 1800)
      refine ⟨fun hc => ?_, fun hc => ?_⟩ -- c3
      · -- case (8 < (A (o + 1) (a1 + 1)))
        -- l3: Q (-1)
        exact b0 (fun w => by have := w.2.2.1; omega)
      · -- case ¬ (8 < (A (o + 1) (a1 + 1)))
        refine ⟨by omega, ?_⟩ -- s4: (0 ≤ a1 + 2 ∧ a1 + 2 < 1800)
        refine ⟨fun hc => ?_, fun hc => ?_⟩ -- c4
        · -- case (4 < (A (o + 1) (a1 + 2)))
          -- l4: Q (-1)
          exact b0 (fun w => by have := w.2.2.2.1; omega)
        · -- case ¬ (4 < (A (o + 1) (a1 + 2)))
          refine ⟨by omega, ?_⟩ -- s5: (0 ≤ a1 + 1 ∧ a1 + 1 < 1800)
          refine ⟨fun hc => ?_, fun hc => ?_⟩ -- c5
          · -- case (¬ (A (o + 1) (a1 + 1)) = 0)
            refine ⟨by omega, ?_⟩ -- s6: (0 ≤ a1 + 1 ∧ a1 + 1 < 1800)
            refine ⟨by omega, ?_⟩ -- s7: (0 ≤ a1 + 2 ∧ a1 + 2 < 1800)
            refine ⟨by omega, ?_⟩ -- s8: jR (((a1 + 3) + (A (o + 1) (a1 + 1))) + (A (o + 1) (a1 + 2)))
            intro v14 e14
            have hm : q (a1 + 1) = 0 → q (a1 + 2) ≤ 0 := by omega
            refine ⟨fun hc => ?_, fun hc => ?_⟩ -- c6
            · -- case (v14 ≤ a2)
              refine ⟨by omega, ?_⟩ -- s9: jR (a1 + 3)
              intro v17 e17
              refine ⟨fun (v18 : Int) => (a1 + 3 ≤ v18 ∧ v18 ≤ v14) ∧ ∀ k : Int, a1 + 3 ≤ k → k < v18 → 0 ≤ q k ∧ q k < W 0 0 0, fun v18 => (v14 - v18).toNat, ?_, ?_⟩ -- loop I19 I19 v17
              ·
                -- l5: I19 v17
                exact ⟨by omega, fun k k0 k1 => by omega⟩
              intro v18 i19
              obtain ⟨i1, i2⟩ := i19
              refine ⟨fun hc => ?_, fun hc => ?_⟩ -- c7
              · -- case (v14 ≤ v18)
                -- l6: Q v14
                have ok : sLwB W q a1 a2 := ⟨by omega, by omega, by omega, by omega, hm, by omega, fun k k0 k1 => i2 k k0 (by omega)⟩
                refine ⟨?_, Or.inr (by omega)⟩
                unfold sLwOn
                rw [cif_pos ok]; exact e14
              · -- case ¬ (v14 ≤ v18)
                refine ⟨by omega, ?_⟩ -- s10: (0 ≤ v18 ∧ v18 < 1800)
                obtain ⟨y0, y1, y2⟩ := hq v18 (by omega) (by omega)
                rw [y0]
                refine ⟨_, sX9_isWordOf hW, ?_⟩ -- call wpX9_isWordOf o (A (o + 1) v18) F A P23
                intro z25 p23
                refine ⟨fun hc => ?_, fun hc => ?_⟩ -- c8
                · -- case (¬ z25 = 0)
                  refine ⟨by omega, ?_⟩ -- s11: jR (v18 + 1)
                  refine ⟨?_, ?_⟩ -- l7: I19 (v18 + 1)
                  · refine ⟨by omega, fun k k0 k1 => ?_⟩
                    by_cases w : k = v18
                    · rw [w]
                      by_cases g : 0 ≤ q v18 ∧ q v18 < W 0 0 0
                      · exact g
                      · rw [if_neg g] at p23; omega
                    · exact i2 k k0 (by omega)
                  · dsimp only; omega
                · -- case ¬ (¬ z25 = 0)
                  -- l8: Q (-1)
                  exact b0 (fun w => by
                    have := w.2.2.2.2.2.2 v18 (by omega) (by omega)
                    rw [if_pos this] at p23; omega)
            · -- case ¬ (v14 ≤ a2)
              -- l9: Q (-1)
              exact b0 (fun w => by have := w.2.2.2.2.2.1; omega)
          · -- case ¬ (¬ (A (o + 1) (a1 + 1)) = 0)
            refine ⟨by omega, ?_⟩ -- s12: (0 ≤ a1 + 2 ∧ a1 + 2 < 1800)
            refine ⟨fun hc => ?_, fun hc => ?_⟩ -- c9
            · -- case ((A (o + 1) (a1 + 2)) ≤ 0)
              refine ⟨by omega, ?_⟩ -- s13: (0 ≤ a1 + 1 ∧ a1 + 1 < 1800)
              refine ⟨by omega, ?_⟩ -- s14: (0 ≤ a1 + 2 ∧ a1 + 2 < 1800)
              refine ⟨by omega, ?_⟩ -- s15: jR (((a1 + 3) + (A (o + 1) (a1 + 1))) + (A (o + 1) (a1 + 2)))
              intro v35 e35
              have hm : q (a1 + 1) = 0 → q (a1 + 2) ≤ 0 := by omega
              refine ⟨fun hc => ?_, fun hc => ?_⟩ -- c10
              · -- case (v35 ≤ a2)
                refine ⟨by omega, ?_⟩ -- s16: jR (a1 + 3)
                intro v38 e38
                refine ⟨fun (v39 : Int) => (a1 + 3 ≤ v39 ∧ v39 ≤ v35) ∧ ∀ k : Int, a1 + 3 ≤ k → k < v39 → 0 ≤ q k ∧ q k < W 0 0 0, fun v39 => (v35 - v39).toNat, ?_, ?_⟩ -- loop I40 I40 v38
                ·
                  -- l10: I40 v38
                  exact ⟨by omega, fun k k0 k1 => by omega⟩
                intro v39 i40
                obtain ⟨i1, i2⟩ := i40
                refine ⟨fun hc => ?_, fun hc => ?_⟩ -- c11
                · -- case (v35 ≤ v39)
                  -- l11: Q v35
                  have ok : sLwB W q a1 a2 := ⟨by omega, by omega, by omega, by omega, hm, by omega, fun k k0 k1 => i2 k k0 (by omega)⟩
                  refine ⟨?_, Or.inr (by omega)⟩
                  unfold sLwOn
                  rw [cif_pos ok]; exact e35
                · -- case ¬ (v35 ≤ v39)
                  refine ⟨by omega, ?_⟩ -- s17: (0 ≤ v39 ∧ v39 < 1800)
                  obtain ⟨y0, y1, y2⟩ := hq v39 (by omega) (by omega)
                  rw [y0]
                  refine ⟨_, sX9_isWordOf hW, ?_⟩ -- call wpX9_isWordOf o (A (o + 1) v39) F A P44
                  intro z46 p44
                  refine ⟨fun hc => ?_, fun hc => ?_⟩ -- c12
                  · -- case (¬ z46 = 0)
                    refine ⟨by omega, ?_⟩ -- s18: jR (v39 + 1)
                    refine ⟨?_, ?_⟩ -- l12: I40 (v39 + 1)
                    · refine ⟨by omega, fun k k0 k1 => ?_⟩
                      by_cases w : k = v39
                      · rw [w]
                        by_cases g : 0 ≤ q v39 ∧ q v39 < W 0 0 0
                        · exact g
                        · rw [if_neg g] at p44; omega
                      · exact i2 k k0 (by omega)
                    · dsimp only; omega
                  · -- case ¬ (¬ z46 = 0)
                    -- l13: Q (-1)
                    exact b0 (fun w => by
                      have := w.2.2.2.2.2.2 v39 (by omega) (by omega)
                      rw [if_pos this] at p44; omega)
              · -- case ¬ (v35 ≤ a2)
                -- l14: Q (-1)
                exact b0 (fun w => by have := w.2.2.2.2.2.1; omega)
            · -- case ¬ ((A (o + 1) (a1 + 2)) ≤ 0)
              -- l15: Q (-1)
              exact b0 (fun w => by have := w.2.2.2.2.1 (by omega); omega)

theorem sX9_isImage {o : Nat} {a1 : Int} {F : jFl} {A : jAr} {W : sTb} {q : Int → Int} (hk : sWok W) (hW : mrW o F A W) (hq : ∀ i : Int, 0 ≤ i → i < a1 → A (o + 1) i = q i ∧ 0 ≤ q i ∧ q i ≤ 255) (hn : 0 ≤ a1 ∧ a1 ≤ 1600) : wpX9_isImage o a1 F A (fun z => z = cif (sIsImg W q a1) 1 0) := by
  unfold wpX9_isImage
  have w3 := hk.2.2.2.1
  have hb := hW.1
  have h17 : A (o + 17) (F 3039 o) = W 3 0 0 := hW.2.1.2.2.2
  have b0 : ¬ sIsImg W q a1 → (0 : Int) = cif (sIsImg W q a1) 1 0 := fun w => (cif_neg w).symm
  refine ⟨fun hc => ?_, fun hc => ?_⟩ -- c1
  · -- case (a1 < 4)
    -- l1: Q 0
    exact b0 (fun w => by have := w.1; omega)
  · -- case ¬ (a1 < 4)
    obtain ⟨t0, t1, t2⟩ := hq 0 (by decide) (by omega)
    obtain ⟨u0, u1, u2⟩ := hq 1 (by decide) (by omega)
    obtain ⟨x0, x1, x2⟩ := hq 2 (by decide) (by omega)
    rw [t0, u0, x0, jor_256 t1 ⟨u1, u2⟩, h17, show (2 : Int) ^ 8 = 256 from rfl]
    refine ⟨by omega, ?_⟩ -- s1: ((0 : Int) ≤ 8 ∧ (8 : Int) < 32)
    refine ⟨by omega, ?_⟩ -- s2: (((0 : Int) ≤ (A (o + 1) 0) * 2 ^ 8 ∧ ((A (o + 1) 0) * 2 ^ 8 : Int) ≤ 2147483647) ∧ ((0 : Int) ≤ A (o + 1) 1 ∧ (A (o + 1) 1 : Int) ≤ 2147483647))
    refine ⟨by omega, ?_⟩ -- s3: jR (jor ((A (o + 1) 0) * 2 ^ 8) (A (o + 1) 1))
    refine ⟨fun hc => ?_, fun hc => ?_⟩ -- c2
    · -- case (9999 < (jor ((A (o + 1) 0) * 2 ^ 8) (A (o + 1) 1)))
      -- l2: Q 0
      exact b0 (fun w => by have := w.2.1; omega)
    · -- case ¬ (9999 < (jor ((A (o + 1) 0) * 2 ^ 8) (A (o + 1) 1)))
      refine ⟨by omega, ?_⟩ -- s4: (0 ≤ F 3039 o ∧ F 3039 o < 2)
      refine ⟨fun hc => ?_, fun hc => ?_⟩ -- c3
      · -- case (¬ (A (o + 1) 2) = (A (o + 17) (F 3039 o)))
        -- l3: Q 0
        exact b0 (fun w => hc w.2.2.1)
      · -- case ¬ (¬ (A (o + 1) 2) = (A (o + 17) (F 3039 o)))
        refine ⟨by omega, ?_⟩ -- s5: (0 ≤ F 3039 o ∧ F 3039 o < 2)
        refine ⟨by omega, ?_⟩ -- s6: jR (4 + (A (o + 17) (F 3039 o)))
        refine ⟨fun hc => ?_, fun hc => ?_⟩ -- c4
        · -- case ((4 + (A (o + 17) (F 3039 o))) ≤ a1)
          refine ⟨fun (v14 : Int) (v15 : Int) => (0 ≤ v15 ∧ v15 ≤ a1 - 1) ∧ v14 = sSum q v15.toNat, fun v14 v15 => (a1 - 1 - v15).toNat, ?_, ?_⟩ -- loop I16 I16 71 0
          ·
            -- l4: I16 71 0
            exact ⟨by omega, rfl⟩
          intro v14 v15 i16
          obtain ⟨i1, i2⟩ := i16
          have gr := sSum_range (q := q) (n := v15.toNat)
          rw [← i2] at gr
          refine ⟨by omega, ?_⟩ -- s7: jR (a1 - 1)
          refine ⟨fun hc => ?_, fun hc => ?_⟩ -- c5
          · -- case ((a1 - 1) ≤ v15)
            refine ⟨by omega, ?_⟩ -- s8: (0 ≤ a1 - 1 ∧ a1 - 1 < 1800)
            obtain ⟨y0, y1, y2⟩ := hq (a1 - 1) (by omega) (by omega)
            rw [y0, i2, show v15 = a1 - 1 by omega]
            refine ⟨fun hc => ?_, fun hc => ?_⟩ -- c6
            · -- case ((A (o + 1) (a1 - 1)) = v14)
              refine ⟨fun (v22 : Int) => (0 ≤ v22 ∧ v22 ≤ W 3 0 0) ∧ (∀ p : Int, 0 ≤ p → p < v22 → 0 ≤ q (3 + p) ∧ q (3 + p) < W 3 0 0) ∧ ∀ p p' : Int, 0 ≤ p' → p' < p → p < v22 → q (3 + p') ≠ q (3 + p), fun v22 => (W 3 0 0 - v22).toNat, ?_, ?_⟩ -- loop I23 I23 0
              ·
                -- l5: I23 0
                exact ⟨by omega, fun p p0 p1 => by omega, fun p p' _ _ _ => by omega⟩
              intro v22 i23
              obtain ⟨j1, j2, j3⟩ := i23
              refine ⟨by omega, ?_⟩ -- s9: (0 ≤ F 3039 o ∧ F 3039 o < 2)
              refine ⟨fun hc => ?_, fun hc => ?_⟩ -- c7
              · -- case ((A (o + 17) (F 3039 o)) ≤ v22)
                refine ⟨by omega, ?_⟩ -- s10: (0 ≤ F 3039 o ∧ F 3039 o < 2)
                refine ⟨by omega, ?_⟩ -- s11: jR (3 + (A (o + 17) (F 3039 o)))
                intro v29 e29
                refine ⟨fun (v30 : Int) (v31 : Int) => (0 ≤ v31 ∧ v31 ≤ W 3 0 0) ∧ v30 = sAtL W q (a1 - 1) v31.toNat ∧ (v30 = -1 ∨ (0 ≤ v30 ∧ v30 ≤ a1 - 1)), fun v30 v31 => (W 3 0 0 - v31).toNat, ?_, ?_⟩ -- loop I32 I32 v29 0
                ·
                  -- l6: I32 v29 0
                  exact ⟨by omega, by rw [e29]; rfl, Or.inr (by omega)⟩
                intro v30 v31 i32
                obtain ⟨n1, n2, n3⟩ := i32
                refine ⟨by omega, ?_⟩ -- s12: (0 ≤ F 3039 o ∧ F 3039 o < 2)
                refine ⟨v30 = sAtL W q (a1 - 1) (W 3 0 0).toNat, ?_, ?_⟩ -- join K36
                · intro k36
                  refine ⟨by omega, ?_⟩ -- s13: jR (a1 - 1)
                  intro z41 e41
                  -- l7: Q z41
                  have ev : v22 = W 3 0 0 := by omega
                  rw [ev] at j2 j3
                  rw [e41]
                  by_cases w : v30 = a1 - 1
                  · rw [if_neg (fun x => x w), cif_pos ⟨by omega, by omega, by omega, by omega, by assumption, j2, j3, by rw [← k36]; exact w⟩]
                  · rw [if_pos w]; exact b0 (fun x => w (by rw [k36]; exact x.2.2.2.2.2.2.2))
                refine ⟨fun hc => ?_, fun hc => ?_⟩ -- c8
                · -- case ((A (o + 17) (F 3039 o)) ≤ v31)
                  -- l8: K36
                  rw [n2, show v31 = W 3 0 0 by omega]
                · -- case ¬ ((A (o + 17) (F 3039 o)) ≤ v31)
                  refine ⟨fun hc => ?_, fun hc => ?_⟩ -- c9
                  · -- case (v30 = (-1))
                    -- l9: K36
                    have := sAtL_gone (by rw [← n2]; exact hc) ((W 3 0 0).toNat - v31.toNat)
                    rw [show v31.toNat + ((W 3 0 0).toNat - v31.toNat) = (W 3 0 0).toNat by omega] at this
                    rw [hc, this]
                  · -- case ¬ (v30 = (-1))
                    refine ⟨by omega, ?_⟩ -- s14: jR (a1 - 1)
                    refine ⟨_, sX9_lawOn hW hq hn.2 (by omega) (by omega), ?_⟩ -- call wpX9_lawOn o v30 (a1 - 1) F A P45
                    intro z47 p45
                    refine ⟨by omega, ?_⟩ -- s15: jR (v31 + 1)
                    refine ⟨?_, ?_⟩ -- l10: I32 z47 (v31 + 1)
                    · refine ⟨by omega, ?_, by omega⟩
                      rw [p45.1]
                      have e := it_succ (sAtF W q (a1 - 1)) (3 + W 3 0 0) n1.1
                      show _ = it (sAtF W q (a1 - 1)) (3 + W 3 0 0) (v31 + 1).toNat
                      rw [e]
                      show _ = sAtF W q (a1 - 1) v31 (sAtL W q (a1 - 1) v31.toNat)
                      rw [← n2]
                      exact (if_neg hc).symm
                    · dsimp only; omega
              · -- case ¬ ((A (o + 17) (F 3039 o)) ≤ v22)
                refine ⟨by omega, ?_⟩ -- s16: (0 ≤ 3 + v22 ∧ 3 + v22 < 1800)
                obtain ⟨y0, y1, y2⟩ := hq (3 + v22) (by omega) (by omega)
                rw [y0]
                refine ⟨_, sX9_isLaw hW, ?_⟩ -- call wpX9_isLaw o (A (o + 1) (3 + v22)) F A P52
                intro z54 p52
                refine ⟨fun hc => ?_, fun hc => ?_⟩ -- c10
                · -- case (¬ z54 = 0)
                  have hg : 0 ≤ q (3 + v22) ∧ q (3 + v22) < W 3 0 0 := by
                    by_cases g : 0 ≤ q (3 + v22) ∧ q (3 + v22) < W 3 0 0
                    · exact g
                    · rw [if_neg g] at p52; omega
                  refine ⟨fun (v58 : Int) => (0 ≤ v58 ∧ v58 ≤ v22) ∧ ∀ p' : Int, 0 ≤ p' → p' < v58 → q (3 + p') ≠ q (3 + v22), fun v58 => (v22 - v58).toNat, ?_, ?_⟩ -- loop I59 I59 0
                  ·
                    -- l11: I59 0
                    exact ⟨by omega, fun p' _ _ => by omega⟩
                  intro v58 i59
                  obtain ⟨g1, g2⟩ := i59
                  refine ⟨fun hc => ?_, fun hc => ?_⟩ -- c11
                  · -- case (v22 ≤ v58)
                    refine ⟨by omega, ?_⟩ -- s17: jR (v22 + 1)
                    refine ⟨?_, ?_⟩ -- l12: I23 (v22 + 1)
                    · refine ⟨by omega, fun p p0 p1 => ?_, fun p p' p0 p1 p2 => ?_⟩
                      · by_cases w : p = v22
                        · rw [w]; exact hg
                        · exact j2 p p0 (by omega)
                      · by_cases w : p = v22
                        · rw [w]; exact g2 p' p0 (by omega)
                        · exact j3 p p' p0 p1 (by omega)
                    · dsimp only; omega
                  · -- case ¬ (v22 ≤ v58)
                    refine ⟨by omega, ?_⟩ -- s18: (0 ≤ 3 + v58 ∧ 3 + v58 < 1800)
                    refine ⟨by omega, ?_⟩ -- s19: (0 ≤ 3 + v22 ∧ 3 + v22 < 1800)
                    rw [(hq (3 + v58) (by omega) (by omega)).1]
                    refine ⟨fun hc => ?_, fun hc => ?_⟩ -- c12
                    · -- case (¬ (A (o + 1) (3 + v58)) = (A (o + 1) (3 + v22)))
                      refine ⟨by omega, ?_⟩ -- s20: jR (v58 + 1)
                      refine ⟨?_, ?_⟩ -- l13: I59 (v58 + 1)
                      · refine ⟨by omega, fun p' p0 p1 => ?_⟩
                        by_cases w : p' = v58
                        · rw [w]; exact hc
                        · exact g2 p' p0 (by omega)
                      · dsimp only; omega
                    · -- case ¬ (¬ (A (o + 1) (3 + v58)) = (A (o + 1) (3 + v22)))
                      -- l14: Q 0
                      exact b0 (fun w => hc (w.2.2.2.2.2.2.1 v22 v58 (by omega) (by omega) (by omega)))
                · -- case ¬ (¬ z54 = 0)
                  -- l15: Q 0
                  exact b0 (fun w => by
                    have := w.2.2.2.2.2.1 v22 (by omega) (by omega)
                    rw [if_pos this] at p52; omega)
            · -- case ¬ ((A (o + 1) (a1 - 1)) = v14)
              -- l16: Q 0
              exact b0 (fun w => hc w.2.2.2.2.1)
          · -- case ¬ ((a1 - 1) ≤ v15)
            refine ⟨by omega, ?_⟩ -- s21: (0 ≤ v15 ∧ v15 < 1800)
            rw [(hq v15 (by omega) (by omega)).1]
            have hz := (hq v15 (by omega) (by omega)).2
            refine ⟨by omega, ?_⟩ -- s22: (((0 : Int) ≤ (3 * v14) + (A (o + 1) v15) ∧ ((3 * v14) + (A (o + 1) v15) : Int) ≤ 2147483647) ∧ ((0 : Int) < 253 ∧ (253 : Int) ≤ 2147483647))
            refine ⟨by omega, ?_⟩ -- s23: jR (((3 * v14) + (A (o + 1) v15)) % 253)
            intro v70 e70
            refine ⟨by omega, ?_⟩ -- s24: jR (v15 + 1)
            refine ⟨?_, ?_⟩ -- l17: I16 v70 (v15 + 1)
            · refine ⟨by omega, ?_⟩
              rw [e70, i2]
              exact (it_succ (fun k c => (3 * c + q k) % 253) 71 i1.1).symm
            · dsimp only; omega
        · -- case ¬ ((4 + (A (o + 17) (F 3039 o))) ≤ a1)
          -- l18: Q 0
          exact b0 (fun w => by have := w.2.2.2.1; omega)

