set_option maxRecDepth 100000
set_option linter.unusedVariables false
/-! places on a tape: pure words of the reader -/
noncomputable def scN (P : Int → Prop) : Nat → Int → Int
  | 0, v => v
  | k + 1, v => cif (P v) (scN P k (v + 1)) v
/-- the first place from v on, before n, where P is not so; n, if it is so everywhere -/
noncomputable def scn (P : Int → Prop) (n v : Int) : Int := scN P (n - v).toNat v
theorem scn_end {P : Int → Prop} {n v : Int} (h : n ≤ v) : scn P n v = v := by
  unfold scn
  rw [show (n - v).toNat = 0 by omega]
  rfl
theorem scn_no {P : Int → Prop} {n v : Int} (h : v < n) (h2 : ¬ P v) : scn P n v = v := by
  unfold scn
  rw [show (n - v).toNat = (n - (v + 1)).toNat + 1 by omega]
  exact cif_neg h2
theorem scn_go {P : Int → Prop} {n v : Int} (h : v < n) (h2 : P v) : scn P n v = scn P n (v + 1) := by
  unfold scn
  rw [show (n - v).toNat = (n - (v + 1)).toNat + 1 by omega]
  exact cif_pos h2
theorem scN_all {P : Int → Prop} {n : Int} : ∀ (k : Nat) (v : Int), v ≤ n → (n - v).toNat = k → (v ≤ scn P n v ∧ scn P n v ≤ n) ∧ (∀ i : Int, v ≤ i → i < scn P n v → P i) ∧ (scn P n v < n → ¬ P (scn P n v))
  | 0, v, h, hk => by
    rw [scn_end (by omega)]
    exact ⟨by omega, fun i i0 i1 => by omega, fun w => by omega⟩
  | k + 1, v, h, hk => by
    by_cases w : P v
    · have ih := scN_all (P := P) (n := n) k (v + 1) (by omega) (by omega)
      rw [scn_go (by omega) w]
      refine ⟨by omega, fun i i0 i1 => ?_, ih.2.2⟩
      by_cases x : i = v
      · rw [x]; exact w
      · exact ih.2.1 i (by omega) i1
    · rw [scn_no (by omega) w]
      exact ⟨by omega, fun i i0 i1 => by omega, fun _ => w⟩
theorem scn_all {P : Int → Prop} {n v : Int} (h : v ≤ n) : (v ≤ scn P n v ∧ scn P n v ≤ n) ∧ (∀ i : Int, v ≤ i → i < scn P n v → P i) ∧ (scn P n v < n → ¬ P (scn P n v)) := scN_all _ v h rfl
/-- the place told by what holds there -/
theorem scn_is {P : Int → Prop} {n v w : Int} (h : v ≤ w ∧ w ≤ n) (h1 : ∀ i : Int, v ≤ i → i < w → P i) (h2 : w < n → ¬ P w) : scn P n v = w := by
  obtain ⟨a1, a2, a3⟩ := scn_all (P := P) (n := n) (v := v) (by omega)
  by_cases x : scn P n v < w
  · exact absurd (h1 _ a1.1 x) (a3 (by omega))
  · by_cases y : w < scn P n v
    · exact absurd (a2 w h.1 y) (h2 (by omega))
    · omega
/-! signs of the language -/
def isBl (c : Int) : Prop := c = 32 ∨ c = 10
def isLt (c : Int) : Prop := 97 ≤ c ∧ c ≤ 122
def isDg (c : Int) : Prop := 48 ≤ c ∧ c ≤ 57
noncomputable def tkAt (q : Int → Int) (n a : Int) : Int := scn (fun i => isBl (q i)) n a
/-- what stands at a place: 0 the end, 1 letters, 2 digits, 3 a sign -/
noncomputable def tkKd (q : Int → Int) (n p : Int) : Int := cif (n ≤ p) 0 (cif (isLt (q p)) 1 (cif (isDg (q p)) 2 3))
noncomputable def tkEnd (q : Int → Int) (n p : Int) : Int := cif (n ≤ p) p (cif (isLt (q p)) (scn (fun i => isLt (q i)) n p) (cif (isDg (q p)) (scn (fun i => isDg (q i)) n p) (p + 1)))
/-- where it can't go on; none -/
noncomputable def tkBad (q : Int → Int) (n p : Int) : Int := cif (p < n ∧ (isLt (q p) ∨ isDg (q p))) (cif (0 < p ∧ (isLt (q (p - 1)) ∨ isDg (q (p - 1)))) p (cif (isLt (q p) ∧ 6 < tkEnd q n p - p) (p + 6) (cif (isDg (q p) ∧ 4 < tkEnd q n p - p) (p + 4) (-1)))) (-1)
