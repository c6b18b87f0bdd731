set_option maxRecDepth 100000
set_option linter.unusedVariables false
/-! an image laid: the component's tests; printed by gen/prove.py out of spec/aa.con.spec -/
/-- a text of so many octets -/
def strT (N : jSh) (A : jAr) (b v : Nat) (q : Int → Int) (n : Nat) : Prop := (jtg N b = 22 ∧ jfn N 6602 b = (v : Int) ∧ jfn N 6603 b = 0) ∧ (jtg N v = 108 ∧ jln N v = n ∧ n ≤ 2000) ∧ ∀ i : Int, 0 ≤ i → i < n → A v i % 256 = q i
theorem strT.charAt {S : Nat → Nat} {N : jSh} {F : jFl} {A : jAr} {b v n : Nat} {q : Int → Int} (h : strT N A b v q n) {i : Int} (hi : 0 ≤ i ∧ i < n) : wqJ5_charAt S b i N F A (fun z => z = q i) := by
  obtain ⟨⟨h1, h2, h3⟩, ⟨h4, h5, h6⟩, h7⟩ := h
  have e := sJ5_charAt (S := S) (F := F) (A := A) h2 h4 h3 h5 h6 hi
  rw [h7 i hi.1 hi.2] at e
  exact e
theorem strT.length {S : Nat → Nat} {N : jSh} {F : jFl} {A : jAr} {b v n : Nat} {q : Int → Int} (h : strT N A b v q n) : wqJ5_length S b N F A (fun z => z = n) := sJ5_length h.1.2.1 h.2.1.1 h.1.2.2 h.2.1.2.1 h.2.1.2.2
theorem all_bits {a : Int} {n : Nat} (h0 : 0 ≤ a) (h1 : a < 2 ^ n) : a = 1 * 2 ^ n - 1 ↔ ∀ w : Int, 0 ≤ w → w < n → (a / 2 ^ w.toNat) % 2 = 1 := by
  obtain ⟨m, rfl⟩ : ∃ m : Nat, a = (m : Int) := ⟨a.toNat, by omega⟩
  have h2 : (2 : Int) ^ n = ((2 ^ n : Nat) : Int) := by rw [Int.natCast_pow]; rfl
  have hp : 0 < 2 ^ n := Nat.two_pow_pos n
  rw [h2] at h1 ⊢
  have hm : m < 2 ^ n := by omega
  constructor
  · intro e w w0 w1
    have em : m = 2 ^ n - 1 := by omega
    rw [bit_cast, em, Nat.testBit_two_pow_sub_one, decide_eq_true_iff]
    omega
  · intro h
    have em : m = 2 ^ n - 1 := by
      apply Nat.eq_of_testBit_eq
      intro i
      rw [Nat.testBit_two_pow_sub_one]
      by_cases w : i < n
      · have := h (i : Int) (by omega) (by omega)
        rw [show ((i : Int)).toNat = i from rfl, bit_cast] at this
        rw [this]; simp [w]
      · rw [Nat.testBit_lt_two_pow (Nat.lt_of_lt_of_le hm (Nat.pow_le_pow_right (by decide) (by omega)))]
        simp [w]
    omega
theorem onto_one {n : Nat} {f : Int → Int} : (∀ y : Int, 0 ≤ y → y < n → ∃ p : Int, (0 ≤ p ∧ p < n) ∧ f p = y) ↔ ((∀ p : Int, 0 ≤ p → p < n → 0 ≤ f p ∧ f p < n) ∧ ∀ p p' : Int, 0 ≤ p' → p' < p → p < n → f p' ≠ f p) := by
  constructor
  · intro h
    have hc : ∃ g : Int → Int, ∀ y : Int, 0 ≤ y → y < n → (0 ≤ g y ∧ g y < n) ∧ f (g y) = y := by
      refine ⟨fun y => if w : 0 ≤ y ∧ y < n then Classical.choose (h y w.1 w.2) else 0, fun y y0 y1 => ?_⟩
      dsimp only
      rw [dif_pos (show 0 ≤ y ∧ y < n from ⟨y0, y1⟩)]
      exact Classical.choose_spec (h y y0 y1)
    obtain ⟨g, hg⟩ := hc
    have go := one_onto n g (fun p p0 p1 => (hg p p0 p1).1) (fun p q p0 p1 q0 q1 e => by rw [← (hg p p0 p1).2, ← (hg q q0 q1).2, e])
    refine ⟨fun p p0 p1 => ?_, fun p p' p0 p1 p2 e => ?_⟩
    · obtain ⟨y, y1, y2⟩ := go p p0 p1
      rw [← y2, (hg y y1.1 y1.2).2]; exact y1
    · obtain ⟨y, y1, y2⟩ := go p (by omega) p2
      obtain ⟨z, z1, z2⟩ := go p' p0 (by omega)
      rw [← y2, ← z2, (hg y y1.1 y1.2).2, (hg z z1.1 z1.2).2] at e
      rw [e] at z2
      omega
  · rintro ⟨h1, h2⟩
    refine one_onto n f h1 (fun p q p0 p1 q0 q1 e => ?_)
    by_cases w : p < q
    · exact absurd e (h2 q p p0 w q1)
    · by_cases w2 : q < p
      · exact absurd e.symm (h2 p q q0 w2 p1)
      · omega
theorem pw2_12 {z : Int} (h : 0 ≤ z ∧ z ≤ 12) : 1 ≤ (2 : Int) ^ z.toNat ∧ (2 : Int) ^ z.toNat ≤ 4096 := by
  have h2 : (2 : Int) ^ z.toNat = ((2 ^ z.toNat : Nat) : Int) := by rw [Int.natCast_pow]; rfl
  have h3 : 2 ^ z.toNat ≤ 2 ^ 12 := Nat.pow_le_pow_right (by decide) (by omega)
  have h4 : 0 < 2 ^ z.toNat := Nat.two_pow_pos _
  rw [h2]
  omega
theorem sX0_behind {S : Nat → Nat} {o : Nat} {a1 : Int} {a2 : Int} {a3 : Int} {N : jSh} {F : jFl} {A : jAr} {W L : sTb} {t : Nat} {wA sA cA lA : Int → Int} {b v n : Nat} {q : Int → Int} (hx : ctx N F A o t W L wA sA cA lA) (hs : strT N A b v q n) (ha1 : a1 = (b : Int)) (hq : ∀ i : Int, 0 ≤ i → i < n → 0 ≤ q i ∧ q i ≤ 255) (h2 : 0 ≤ a2 ∧ a2 ≤ 2000) (h3 : a3 < n) : wqX0_behind S o a1 a2 a3 N F A (fun z => z = sLwOn W q a2 a3 ∧ (z = -1 ∨ (a2 + 3 ≤ z ∧ z ≤ a3))) := by
  unfold wqX0_behind
  have b0 : ¬ sLwB W q a2 a3 → (-1 : Int) = sLwOn W q a2 a3 ∧ ((-1 : Int) = -1 ∨ (a2 + 3 ≤ (-1 : Int) ∧ (-1 : Int) ≤ a3)) := fun w => ⟨(cif_neg w).symm, Or.inl rfl⟩
  have n2 := hs.2.1.2.2
  refine ⟨by omega, ?_⟩ -- s1: jR (a2 + 3)
  refine ⟨fun hc => ?_, fun hc => ?_⟩ -- c1
  · -- case ((a2 + 3) ≤ a3)
    refine ⟨_, by exact ha1, ?_⟩ -- d3: a1 = (b3 : Int)
    refine ⟨by exact hs.1.1, ?_⟩ -- s2: jtg N b3 = 22
    refine ⟨by omega, ?_⟩ -- s3: jR (a2 + 1)
    refine ⟨_, hs.charAt (by omega), ?_⟩ -- call wqJ5_charAt S b3 (a2 + 1) N F A P7
    intro z9 p7
    refine ⟨by omega, ?_⟩ -- s4: jR (a2 + 2)
    refine ⟨_, hs.charAt (by omega), ?_⟩ -- call wqJ5_charAt S b3 (a2 + 2) N F A P15
    intro z17 p15
    have r1 := hq (a2 + 1) (by omega) (by omega)
    have r2 := hq (a2 + 2) (by omega) (by omega)
    refine ⟨by omega, ?_⟩ -- s5: jR (((a2 + 3) + z9) + z17)
    intro v23 e23
    refine ⟨_, hs.charAt (by omega), ?_⟩ -- call wqJ5_charAt S b3 a2 N F A P24
    intro z26 p24
    have r0 := hq a2 (by omega) (by omega)
    rw [p7, p15] at e23
    refine ⟨fun hc => ?_, fun hc => ?_⟩ -- c2
    · -- case (1 < z26)
      -- l1: Q (-1)
      exact b0 (fun w => by have := w.2.1; omega)
    · -- case (¬ (1 < z26))
      refine ⟨fun hc => ?_, fun hc => ?_⟩ -- c3
      · -- case (8 < z9)
        -- l2: Q (-1)
        exact b0 (fun w => by have := w.2.2.1; omega)
      · -- case (¬ (8 < z9))
        refine ⟨fun hc => ?_, fun hc => ?_⟩ -- c4
        · -- case (4 < z17)
          -- l3: Q (-1)
          exact b0 (fun w => by have := w.2.2.2.1; omega)
        · -- case (¬ (4 < z17))
          refine ⟨fun hc => ?_, fun hc => ?_⟩ -- c5
          · -- case (¬ z9 = 0)
            refine ⟨fun hc => ?_, fun hc => ?_⟩ -- c6
            · -- case (v23 ≤ a3)
              refine ⟨by omega, ?_⟩ -- s6: jR (a2 + 3)
              intro v37 e37
              have hm : q (a2 + 1) = 0 → q (a2 + 2) ≤ 0 := by omega
              refine ⟨fun (v38 : Int) => (a2 + 3 ≤ v38 ∧ v38 ≤ v23) ∧ ∀ k : Int, a2 + 3 ≤ k → k < v38 → 0 ≤ q k ∧ q k < W 0 0 0, fun v38 => (v23 - v38).toNat, ?_, ?_⟩ -- loop I40 I40 v37
              ·
                -- l4: I40 v37
                exact ⟨by omega, fun k k0 k1 => by omega⟩
              intro v38 i40
              obtain ⟨i1, i2⟩ := i40
              refine ⟨fun hc => ?_, fun hc => ?_⟩ -- c7
              · -- case (v23 ≤ v38)
                -- l5: Q v23
                have ok : sLwB W q a2 a3 := ⟨by omega, by omega, by omega, by omega, hm, by omega, fun k k0 k1 => i2 k k0 (by omega)⟩
                refine ⟨?_, Or.inr (by omega)⟩
                unfold sLwOn
                rw [cif_pos ok]; exact e23
              · -- case (¬ (v23 ≤ v38))
                refine ⟨_, hs.charAt (by omega), ?_⟩ -- call wqJ5_charAt S b3 v38 N F A P43
                intro z45 p43
                have r3 := hq v38 (by omega) (by omega)
                refine ⟨_, by exact hx.ft, ?_⟩ -- d50: F 311 o = (b50 : Int)
                refine ⟨by exact hx.tt, ?_⟩ -- s7: jtg N b50 = 2
                refine ⟨_, by exact hx.nW, ?_⟩ -- d53: jfn N 617 b50 = (b53 : Int)
                refine ⟨by exact hx.lW.1.1, ?_⟩ -- s8: jtg N b53 = 20
                refine ⟨_, sJ2_size hx.lW, ?_⟩ -- call wqJ2_size b53 N F A P56
                intro z58 p56
                refine ⟨fun hc => ?_, fun hc => ?_⟩ -- c8
                · -- case (z45 < z58)
                  refine ⟨by omega, ?_⟩ -- s9: jR (v38 + 1)
                  refine ⟨?_, ?_⟩ -- l6: I40 (v38 + 1)
                  · refine ⟨by omega, fun k k0 k1 => ?_⟩
                    by_cases w : k = v38
                    · rw [w]; omega
                    · exact i2 k k0 (by omega)
                  · dsimp only; omega
                · -- case (¬ (z45 < z58))
                  -- l7: Q (-1)
                  exact b0 (fun w => by have := w.2.2.2.2.2.2 v38 (by omega) (by omega); omega)
            · -- case (¬ (v23 ≤ a3))
              -- l8: Q (-1)
              exact b0 (fun w => by have := w.2.2.2.2.2.1; omega)
          · -- case (z9 = 0)
            refine ⟨fun hc => ?_, fun hc => ?_⟩ -- c9
            · -- case (0 < z17)
              -- l9: Q (-1)
              exact b0 (fun w => by have := w.2.2.2.2.1 (by omega); omega)
            · -- case (¬ (0 < z17))
              refine ⟨fun hc => ?_, fun hc => ?_⟩ -- c10
              · -- case (v23 ≤ a3)
                refine ⟨by omega, ?_⟩ -- s10: jR (a2 + 3)
                intro v68 e68
                have hm : q (a2 + 1) = 0 → q (a2 + 2) ≤ 0 := by omega
                refine ⟨fun (v69 : Int) => (a2 + 3 ≤ v69 ∧ v69 ≤ v23) ∧ ∀ k : Int, a2 + 3 ≤ k → k < v69 → 0 ≤ q k ∧ q k < W 0 0 0, fun v69 => (v23 - v69).toNat, ?_, ?_⟩ -- loop I71 I71 v68
                ·
                  -- l10: I71 v68
                  exact ⟨by omega, fun k k0 k1 => by omega⟩
                intro v69 i71
                obtain ⟨i1, i2⟩ := i71
                refine ⟨fun hc => ?_, fun hc => ?_⟩ -- c11
                · -- case (v23 ≤ v69)
                  -- l11: Q v23
                  have ok : sLwB W q a2 a3 := ⟨by omega, by omega, by omega, by omega, hm, by omega, fun k k0 k1 => i2 k k0 (by omega)⟩
                  refine ⟨?_, Or.inr (by omega)⟩
                  unfold sLwOn
                  rw [cif_pos ok]; exact e23
                · -- case (¬ (v23 ≤ v69))
                  refine ⟨_, hs.charAt (by omega), ?_⟩ -- call wqJ5_charAt S b3 v69 N F A P74
                  intro z76 p74
                  have r3 := hq v69 (by omega) (by omega)
                  refine ⟨_, by exact hx.ft, ?_⟩ -- d81: F 311 o = (b81 : Int)
                  refine ⟨by exact hx.tt, ?_⟩ -- s11: jtg N b81 = 2
                  refine ⟨_, by exact hx.nW, ?_⟩ -- d84: jfn N 617 b81 = (b84 : Int)
                  refine ⟨by exact hx.lW.1.1, ?_⟩ -- s12: jtg N b84 = 20
                  refine ⟨_, sJ2_size hx.lW, ?_⟩ -- call wqJ2_size b84 N F A P87
                  intro z89 p87
                  refine ⟨fun hc => ?_, fun hc => ?_⟩ -- c12
                  · -- case (z76 < z89)
                    refine ⟨by omega, ?_⟩ -- s13: jR (v69 + 1)
                    refine ⟨?_, ?_⟩ -- l12: I71 (v69 + 1)
                    · refine ⟨by omega, fun k k0 k1 => ?_⟩
                      by_cases w : k = v69
                      · rw [w]; omega
                      · exact i2 k k0 (by omega)
                    · dsimp only; omega
                  · -- case (¬ (z76 < z89))
                    -- l13: Q (-1)
                    exact b0 (fun w => by have := w.2.2.2.2.2.2 v69 (by omega) (by omega); omega)
              · -- case (¬ (v23 ≤ a3))
                -- l14: Q (-1)
                exact b0 (fun w => by have := w.2.2.2.2.2.1; omega)
  · -- case (¬ ((a2 + 3) ≤ a3))
    -- l15: Q (-1)
    exact b0 (fun w => by have := w.1; omega)

theorem sX0_isTold {S : Nat → Nat} {o : Nat} {a1 : Int} {N : jSh} {F : jFl} {A : jAr} {W L : sTb} {t : Nat} {wA sA cA lA : Int → Int} {b v n : Nat} {q : Int → Int} (hx : ctx N F A o t W L wA sA cA lA) (hs : strT N A b v q n) (ha1 : a1 = (b : Int)) (hq : ∀ i : Int, 0 ≤ i → i < n → 0 ≤ q i ∧ q i ≤ 255) : wqX0_isTold S o a1 N F A (fun z => z = cif (sIsImg W q n) 1 0) := by
  unfold wqX0_isTold
  have b0 : ¬ sIsImg W q n → (0 : Int) = cif (sIsImg W q n) 1 0 := fun w => (cif_neg w).symm
  have n2 := hs.2.1.2.2
  have w3 := hx.oW.2.2.2.1
  have pz := pw2_12 w3
  refine ⟨_, by exact hx.ft, ?_⟩ -- d1: F 311 o = (b1 : Int)
  refine ⟨by exact hx.tt, ?_⟩ -- s1: jtg N b1 = 2
  refine ⟨_, by exact hx.nL, ?_⟩ -- d4: jfn N 626 b1 = (b4 : Int)
  refine ⟨by exact hx.lL.1.1, ?_⟩ -- s2: jtg N b4 = 20
  refine ⟨_, sJ2_size hx.lL, ?_⟩ -- call wqJ2_size b4 N F A P7
  intro z9 p7
  refine ⟨_, by exact ha1, ?_⟩ -- d14: a1 = (b14 : Int)
  refine ⟨by exact hs.1.1, ?_⟩ -- s3: jtg N b14 = 22
  refine ⟨_, hs.length, ?_⟩ -- call wqJ5_length S b14 N F A P17
  intro z19 p17
  refine ⟨by omega, ?_⟩ -- s4: jR (z19 - 1)
  intro v25 e25
  refine ⟨by omega, ?_⟩ -- s5: jR (3 + z9)
  intro v27 e27
  refine ⟨fun hc => ?_, fun hc => ?_⟩ -- c1
  · -- case (v25 < v27)
    -- l1: Q 0
    exact b0 (fun w => by have := w.2.2.2.1; omega)
  · -- case (¬ (v25 < v27))
    refine ⟨_, hs.charAt (by omega), ?_⟩ -- call wqJ5_charAt S b14 v25 N F A P29
    intro z31 p29
    refine ⟨_, sX0_checked (b := b) (q := q) ha1 (by omega) (fun i i0 i1 => hq i i0 (by omega)) (fun i i0 i1 => Or.inr ⟨hs.1.1, hs.charAt (by omega)⟩), ?_⟩ -- call wqX0_checked S a1 v25 N F A P36
    intro z38 p36
    have ev : v25 = n - 1 := by omega
    rw [p29, p36.1, ev]
    refine ⟨fun hc => ?_, fun hc => ?_⟩ -- c2
    · -- case (¬ z31 = z38)
      -- l2: Q 0
      exact b0 (fun w => hc w.2.2.2.2.1)
    · -- case (z31 = z38)
      refine ⟨_, hs.charAt (by omega), ?_⟩ -- call wqJ5_charAt S b14 0 N F A P44
      intro z46 p44
      refine ⟨_, hs.charAt (by omega), ?_⟩ -- call wqJ5_charAt S b14 1 N F A P51
      intro z53 p51
      have r0 := hq 0 (by omega) (by omega)
      have r1 := hq 1 (by omega) (by omega)
      rw [p44, p51]
      refine ⟨by omega, ?_⟩ -- s6: jR ((256 * z46) + z53)
      refine ⟨fun hc => ?_, fun hc => ?_⟩ -- c3
      · -- case (9999 < ((256 * z46) + z53))
        -- l3: Q 0
        exact b0 (fun w => by have := w.2.1; omega)
      · -- case (¬ (9999 < ((256 * z46) + z53)))
        refine ⟨_, hs.charAt (by omega), ?_⟩ -- call wqJ5_charAt S b14 2 N F A P60
        intro z62 p60
        rw [p60, p7]
        refine ⟨fun hc => ?_, fun hc => ?_⟩ -- c4
        · -- case (z62 = z9)
          refine ⟨fun (v68 : Int) (v69 : Int) => (0 ≤ v69 ∧ v69 ≤ W 3 0 0) ∧ (0 ≤ v68 ∧ v68 < 2 ^ (W 3 0 0).toNat) ∧ ∀ w : Int, 0 ≤ w → w < W 3 0 0 → ((v68 / 2 ^ w.toNat) % 2 = 1 ↔ ∃ p : Int, (0 ≤ p ∧ p < v69) ∧ q (3 + p) = w), fun v68 v69 => (W 3 0 0 - v69).toNat, ?_, ?_⟩ -- loop I71 I71 0 0
          ·
            -- l4: I71 0 0
            refine ⟨by omega, by omega, fun w w0 w1 => ?_⟩
            rw [Int.zero_ediv]
            exact ⟨fun x => by omega, fun x => by obtain ⟨p, p0, -⟩ := x; omega⟩
          intro v68 v69 i71
          obtain ⟨i1, i2, i3⟩ := i71
          refine ⟨fun hc => ?_, fun hc => ?_⟩ -- c5
          · -- case (z9 ≤ v69)
            refine ⟨by omega, ?_⟩ -- s7: ((0 : Int) ≤ z9 ∧ (z9 : Int) < 32)
            refine ⟨by omega, ?_⟩ -- s8: jR ((1 * 2 ^ z9.toNat) - 1)
            have ew : v69 = W 3 0 0 := by omega
            have hN : (((W 3 0 0).toNat : Nat) : Int) = W 3 0 0 := by omega
            have key : v68 = 1 * 2 ^ (W 3 0 0).toNat - 1 ↔ ((∀ p : Int, 0 ≤ p → p < W 3 0 0 → 0 ≤ q (3 + p) ∧ q (3 + p) < W 3 0 0) ∧ ∀ p p' : Int, 0 ≤ p' → p' < p → p < W 3 0 0 → q (3 + p') ≠ q (3 + p)) := by
              have e1 := all_bits (n := (W 3 0 0).toNat) i2.1 i2.2
              have e2 := onto_one (n := (W 3 0 0).toNat) (f := fun p => q (3 + p))
              rw [hN] at e1 e2
              rw [e1, ← e2]
              constructor
              · intro h y y0 y1
                have := (i3 y y0 y1).mp (h y y0 y1)
                rw [ew] at this
                exact this
              · intro h y y0 y1
                exact (i3 y y0 y1).mpr (by rw [ew]; exact h y y0 y1)
            refine ⟨fun hc => ?_, fun hc => ?_⟩ -- c6
            · -- case (v68 = ((1 * 2 ^ z9.toNat) - 1))
              refine ⟨fun (v77 : Int) (v78 : Int) => (0 ≤ v78 ∧ v78 ≤ W 3 0 0) ∧ v77 = sAtL W q (n - 1) v78.toNat ∧ (v77 = -1 ∨ (0 ≤ v77 ∧ v77 ≤ (n : Int) - 1)), fun v77 v78 => (W 3 0 0 - v78).toNat, ?_, ?_⟩ -- loop I80 I80 v27 0
              ·
                -- l5: I80 v27 0
                exact ⟨by omega, by rw [e27, p7]; rfl, Or.inr (by omega)⟩
              intro v77 v78 i80
              obtain ⟨n1, n2', n3⟩ := i80
              refine ⟨v77 = sAtL W q (n - 1) (W 3 0 0).toNat, ?_, ?_⟩ -- join K84
              · intro k84
                intro z88 e88
                -- l6: Q z88
                have kk := key.mp (by assumption)
                rw [e88]
                by_cases w : v77 = (n : Int) - 1
                · rw [if_neg (fun x => x w), cif_pos ⟨by omega, by omega, by omega, by omega, by assumption, kk.1, kk.2, by rw [← k84]; exact w⟩]
                · rw [if_pos w]; exact b0 (fun x => w (by rw [k84]; exact x.2.2.2.2.2.2.2))
              refine ⟨fun hc => ?_, fun hc => ?_⟩ -- c7
              · -- case (z9 ≤ v78)
                -- l7: K84
                rw [n2', show v78 = W 3 0 0 by omega]
              · -- case (¬ (z9 ≤ v78))
                refine ⟨fun hc => ?_, fun hc => ?_⟩ -- c8
                · -- case (v77 = (-1))
                  -- l8: K84
                  have := sAtL_gone (by rw [← n2']; exact hc) ((W 3 0 0).toNat - v78.toNat)
                  rw [show v78.toNat + ((W 3 0 0).toNat - v78.toNat) = (W 3 0 0).toNat by omega] at this
                  rw [hc, this]
                · -- case (¬ (v77 = (-1)))
                  refine ⟨_, sX0_behind hx hs ha1 hq (by omega) (by omega), ?_⟩ -- call wqX0_behind S o a1 v77 v25 N F A P91
                  intro z93 p91
                  refine ⟨by omega, ?_⟩ -- s9: jR (v78 + 1)
                  refine ⟨?_, ?_⟩ -- l9: I80 z93 (v78 + 1)
                  · refine ⟨by omega, ?_, by omega⟩
                    rw [p91.1]
                    have e := sAtL_succ (W := W) (q := q) (e := (n : Int) - 1) n1.1
                    rw [e, ← n2', if_neg hc]
                  · dsimp only; omega
            · -- case (¬ (v68 = ((1 * 2 ^ z9.toNat) - 1)))
              -- l10: Q 0
              exact b0 (fun w => hc (key.mpr ⟨w.2.2.2.2.2.1, w.2.2.2.2.2.2.1⟩))
          · -- case (¬ (z9 ≤ v69))
            refine ⟨by omega, ?_⟩ -- s10: jR (3 + v69)
            refine ⟨_, hs.charAt (by omega), ?_⟩ -- call wqJ5_charAt S b14 (3 + v69) N F A P100
            intro z102 p100
            have r3 := hq (3 + v69) (by omega) (by omega)
            refine ⟨fun hc => ?_, fun hc => ?_⟩ -- c9
            · -- case (z9 ≤ z102)
              refine ⟨by omega, ?_⟩ -- s11: jR (v69 + 1)
              refine ⟨?_, ?_⟩ -- l11: I71 v68 (v69 + 1)
              · refine ⟨by omega, i2, fun w w0 w1 => ?_⟩
                rw [i3 w w0 w1]
                constructor
                · rintro ⟨p, p0, p1⟩
                  exact ⟨p, by omega, p1⟩
                · rintro ⟨p, p0, p1⟩
                  by_cases x : p = v69
                  · rw [x] at p1; omega
                  · exact ⟨p, by omega, p1⟩
              · dsimp only; omega
            · -- case (¬ (z9 ≤ z102))
              refine ⟨by omega, ?_⟩ -- s12: jR (3 + v69)
              refine ⟨_, hs.charAt (by omega), ?_⟩ -- call wqJ5_charAt S b14 (3 + v69) N F A P110
              intro z112 p110
              have zr : 0 ≤ z112 ∧ z112 < W 3 0 0 := by omega
              have pq := pw2_12 (z := z112) (by omega)
              have jl := jor_lt (b := (W 3 0 0).toNat) (v := z112) i2 (by omega)
              refine ⟨by omega, ?_⟩ -- s13: ((0 : Int) ≤ z112 ∧ (z112 : Int) < 32)
              refine ⟨by omega, ?_⟩ -- s14: (((0 : Int) ≤ v68 ∧ (v68 : Int) ≤ 2147483647) ∧ ((0 : Int) ≤ 1 * 2 ^ z112.toNat ∧ (1 * 2 ^ z112.toNat : Int) ≤ 2147483647))
              refine ⟨by omega, ?_⟩ -- s15: jR (jor v68 (1 * 2 ^ z112.toNat))
              intro v120 e120
              refine ⟨by omega, ?_⟩ -- s16: jR (v69 + 1)
              refine ⟨?_, ?_⟩ -- l12: I71 v120 (v69 + 1)
              · refine ⟨by omega, by rw [e120]; exact jl, fun w w0 w1 => ?_⟩
                rw [e120, jor_bit i2.1 zr.1 w0, i3 w w0 w1]
                constructor
                · rintro (⟨p, p0, p1⟩ | x)
                  · exact ⟨p, by omega, p1⟩
                  · exact ⟨v69, by omega, by rw [x, p110]⟩
                · rintro ⟨p, p0, p1⟩
                  by_cases x : p = v69
                  · exact Or.inr (by rw [← p1, x, p110])
                  · exact Or.inl ⟨p, by omega, p1⟩
              · dsimp only; omega
        · -- case (¬ (z62 = z9))
          -- l13: Q 0
          exact b0 (fun w => hc w.2.2.1)

