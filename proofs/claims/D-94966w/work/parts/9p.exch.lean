set_option maxRecDepth 100000
set_option linter.unusedVariables false
/-! exchanges -/
def sX (P : Int → Int) (a b : Int) : Int → Int := upI (upI P a (P b)) b (P a)
noncomputable def sExI (G : (Int → Int) → Int) (P : Int → Int) (p : Int) : Int → Int × Int × Int → Int × Int × Int := fun q st => if p < q ∧ st.1 < G (sX P p q) then (G (sX P p q), p, q) else st
noncomputable def sExR (G : (Int → Int) → Int) (P : Int → Int) (n : Int) : Int → Int × Int × Int → Int × Int × Int := fun p st => it (sExI G P p) st n.toNat
noncomputable def sExA (G : (Int → Int) → Int) (P : Int → Int) (n most : Int) : Int × Int × Int := it (sExR G P n) (most, -1, -1) n.toNat
theorem sExI_ok {G : (Int → Int) → Int} {P : Int → Int} {n most p q : Int} {st : Int × Int × Int} (hq : 0 ≤ p ∧ q < n) (h : most ≤ st.1 ∧ (st.2.1 = -1 ∨ (most < st.1 ∧ 0 ≤ st.2.1 ∧ st.2.1 < st.2.2 ∧ st.2.2 < n))) : most ≤ (sExI G P p q st).1 ∧ ((sExI G P p q st).2.1 = -1 ∨ (most < (sExI G P p q st).1 ∧ 0 ≤ (sExI G P p q st).2.1 ∧ (sExI G P p q st).2.1 < (sExI G P p q st).2.2 ∧ (sExI G P p q st).2.2 < n)) := by
  unfold sExI
  by_cases w : p < q ∧ st.1 < G (sX P p q)
  · rw [if_pos w]
    dsimp only
    omega
  · rw [if_neg w]
    exact h
theorem sExR_ok {G : (Int → Int) → Int} {P : Int → Int} {n most p : Int} {st : Int × Int × Int} {v : Int} (hv : 0 ≤ v ∧ v ≤ n) (hp : 0 ≤ p) (h : most ≤ st.1 ∧ (st.2.1 = -1 ∨ (most < st.1 ∧ 0 ≤ st.2.1 ∧ st.2.1 < st.2.2 ∧ st.2.2 < n))) : most ≤ (it (sExI G P p) st v.toNat).1 ∧ ((it (sExI G P p) st v.toNat).2.1 = -1 ∨ (most < (it (sExI G P p) st v.toNat).1 ∧ 0 ≤ (it (sExI G P p) st v.toNat).2.1 ∧ (it (sExI G P p) st v.toNat).2.1 < (it (sExI G P p) st v.toNat).2.2 ∧ (it (sExI G P p) st v.toNat).2.2 < n)) :=
  it_inv (f := sExI G P p) (a := st) (n := v.toNat) (fun _ st => most ≤ st.1 ∧ (st.2.1 = -1 ∨ (most < st.1 ∧ 0 ≤ st.2.1 ∧ st.2.1 < st.2.2 ∧ st.2.2 < n))) h (fun k k0 k1 s hs => sExI_ok ⟨hp, by omega⟩ hs)
theorem sExA_ok {G : (Int → Int) → Int} {P : Int → Int} {n most v : Int} (hv : 0 ≤ v ∧ v ≤ n) : most ≤ (it (sExR G P n) (most, -1, -1) v.toNat).1 ∧ ((it (sExR G P n) (most, -1, -1) v.toNat).2.1 = -1 ∨ (most < (it (sExR G P n) (most, -1, -1) v.toNat).1 ∧ 0 ≤ (it (sExR G P n) (most, -1, -1) v.toNat).2.1 ∧ (it (sExR G P n) (most, -1, -1) v.toNat).2.1 < (it (sExR G P n) (most, -1, -1) v.toNat).2.2 ∧ (it (sExR G P n) (most, -1, -1) v.toNat).2.2 < n)) :=
  it_inv (f := sExR G P n) (a := (most, (-1 : Int), (-1 : Int))) (n := v.toNat) (fun _ st => most ≤ st.1 ∧ (st.2.1 = -1 ∨ (most < st.1 ∧ 0 ≤ st.2.1 ∧ st.2.1 < st.2.2 ∧ st.2.2 < n))) (by dsimp only; omega) (fun k k0 k1 s hs => sExR_ok (by omega) k0 hs)
/-- places up to p do not count -/
theorem sExI_skip {G : (Int → Int) → Int} {P : Int → Int} {p : Int} (hp : 0 ≤ p) {st : Int × Int × Int} : it (sExI G P p) st (p + 1).toNat = st := by
  have : ∀ n : Nat, (n : Int) ≤ p + 1 → it (sExI G P p) st n = st := fun n => by
    induction n with
    | zero => intro _; rfl
    | succ n ih =>
      intro h
      show sExI G P p n (it (sExI G P p) st n) = st
      rw [ih (by omega)]
      unfold sExI
      rw [if_neg (by omega)]
  exact this _ (by omega)
noncomputable def sMd (G : (Int → Int) → Int) (P0 : Int → Int) (n : Int) : Nat → (Int → Int) × Int
  | 0 => (P0, G P0)
  | k + 1 => (sX (sMd G P0 n k).1 (sExA G (sMd G P0 n k).1 n (sMd G P0 n k).2).2.1 (sExA G (sMd G P0 n k).1 n (sMd G P0 n k).2).2.2, (sExA G (sMd G P0 n k).1 n (sMd G P0 n k).2).1)
def sMdF (G : (Int → Int) → Int) (P0 : Int → Int) (n : Int) (k : Nat) : Prop := (sExA G (sMd G P0 n k).1 n (sMd G P0 n k).2).2.1 = -1
/-- so many exchanges, then none betters -/
def sMdE (G : (Int → Int) → Int) (P0 : Int → Int) (n : Int) (k : Nat) : Prop := sMdF G P0 n k ∧ ∀ j, j < k → ¬ sMdF G P0 n j
theorem sMdE.one {G : (Int → Int) → Int} {P0 : Int → Int} {n : Int} {k k' : Nat} (h : sMdE G P0 n k) (h' : sMdE G P0 n k') : k = k' := by
  rcases Nat.lt_trichotomy k k' with w | w | w
  · exact absurd h.1 (h'.2 k w)
  · exact w
  · exact absurd h'.1 (h.2 k' w)
theorem sMd_up {G : (Int → Int) → Int} {P0 : Int → Int} {n : Int} {k : Nat} (hn : 0 ≤ n) (h0 : 0 ≤ G P0) (h : ∀ j, j < k → ¬ sMdF G P0 n j) : (k : Int) ≤ (sMd G P0 n k).2 := by
  induction k with
  | zero => exact h0
  | succ k ih =>
    have g := ih (fun j hj => h j (by omega))
    have q := sExA_ok (G := G) (P := (sMd G P0 n k).1) (n := n) (most := (sMd G P0 n k).2) (v := n) (by omega)
    have w := h k (by omega)
    unfold sMdF at w
    unfold sExA at w
    show ((k + 1 : Nat) : Int) ≤ (sExA G (sMd G P0 n k).1 n (sMd G P0 n k).2).1
    unfold sExA
    omega
/-- pairs: the k-th of which p is so -/
noncomputable def sPrI (p : Int → Int → Prop) (k a : Int) : Int → Int × Int → Int × Int := fun b st => cif (st.2 = -1 ∧ a < b ∧ p a b) (if st.1 = k then (st.1, 100 * a + b) else (st.1 + 1, -1)) st
noncomputable def sPrR (p : Int → Int → Prop) (k n : Int) : Int → Int × Int → Int × Int := fun a st => it (sPrI p k a) st n.toNat
noncomputable def sPr (p : Int → Int → Prop) (k n : Int) : Int := (it (sPrR p k n) (0, -1) n.toNat).2
theorem sPrI_done {p : Int → Int → Prop} {k a : Int} {st : Int × Int} (h : st.2 ≠ -1) (f : Int → Int × Int → Int × Int) (m : Nat) (hf : f = sPrI p k a) : it f st m = st := by
  subst hf
  induction m with
  | zero => rfl
  | succ m ih =>
    show sPrI p k a m (it (sPrI p k a) st m) = st
    rw [ih]
    unfold sPrI
    rw [cif_neg (fun w => h w.1)]
theorem sPrI_skip {p : Int → Int → Prop} {k a : Int} (ha : 0 ≤ a) {st : Int × Int} : it (sPrI p k a) st (a + 1).toNat = st := by
  have : ∀ n : Nat, (n : Int) ≤ a + 1 → it (sPrI p k a) st n = st := fun n => by
    induction n with
    | zero => intro _; rfl
    | succ n ih =>
      intro h
      show sPrI p k a n (it (sPrI p k a) st n) = st
      rw [ih (by omega)]
      unfold sPrI
      rw [cif_neg (by omega)]
  exact this _ (by omega)
theorem it_split {α : Type} (f : Int → α → α) (a : α) (n m : Nat) : it f a (n + m) = it (fun k => f (n + k)) (it f a n) m := by
  induction m with
  | zero => rfl
  | succ m ih =>
    show f ((n + m : Nat) : Int) (it f a (n + m)) = f (n + m) _
    rw [ih]
    rfl
/-- found: nothing behind alters it -/
theorem sPr_found {p : Int → Int → Prop} {k n a b : Int} (ha : 0 ≤ a ∧ a < n) (hb : 0 ≤ b ∧ b < n) {s : Int × Int} (hs : it (sPrR p k n) (0, -1) a.toNat = s) {s' : Int × Int} (hs' : it (sPrI p k a) s b.toNat = s') (h1 : (sPrI p k a b s').2 ≠ -1) : sPr p k n = (sPrI p k a b s').2 := by
  have e1 : sPrR p k n a s = sPrI p k a b s' := by
    unfold sPrR
    rw [show n.toNat = (b + 1).toNat + (n.toNat - (b + 1).toNat) by omega, it_split, it_succ _ _ hb.1, hs']
    generalize hst : sPrI p k a b s' = st at *
    generalize n.toNat - (b + 1).toNat = m
    induction m with
    | zero => rfl
    | succ m ih =>
      show sPrI p k a _ (it _ st m) = st
      rw [ih]
      unfold sPrI
      rw [cif_neg (fun w => h1 w.1)]
  unfold sPr
  rw [show n.toNat = (a + 1).toNat + (n.toNat - (a + 1).toNat) by omega, it_split, it_succ _ _ ha.1, hs, e1]
  generalize hst : sPrI p k a b s' = st at *
  have : it (fun j => sPrR p k n (((a + 1).toNat : Int) + j)) st (n.toNat - (a + 1).toNat) = st := by
    generalize n.toNat - (a + 1).toNat = m
    induction m with
    | zero => rfl
    | succ m ih =>
      show sPrR p k n _ (it _ st m) = st
      rw [ih]
      exact sPrI_done h1 _ _ rfl
  rw [this]
theorem bit_cast (m k : Nat) : (((m : Nat) : Int) / 2 ^ k) % 2 = 1 ↔ m.testBit k = true := by
  rw [Nat.testBit_eq_decide_div_mod_eq, decide_eq_true_iff]
  have e : ((m : Nat) : Int) / 2 ^ k = ((m / 2 ^ k : Nat) : Int) := by
    rw [Int.natCast_ediv, Int.natCast_pow]; rfl
  rw [e]
  omega
theorem jor_bit {a v w : Int} (ha : 0 ≤ a) (hv : 0 ≤ v) (hw : 0 ≤ w) : (jor a (1 * 2 ^ v.toNat) / 2 ^ w.toNat) % 2 = 1 ↔ ((a / 2 ^ w.toNat) % 2 = 1 ∨ w = v) := by
  obtain ⟨n, rfl⟩ : ∃ n : Nat, a = (n : Int) := ⟨a.toNat, by omega⟩
  have e2 : (1 * 2 ^ v.toNat : Int).toNat = 2 ^ v.toNat := by
    rw [Int.one_mul, show (2 : Int) ^ v.toNat = ((2 ^ v.toNat : Nat) : Int) by rw [Int.natCast_pow]; rfl]
    rfl
  unfold jor
  rw [e2, Int.toNat_natCast, bit_cast, bit_cast, Nat.testBit_or, Nat.testBit_two_pow, Bool.or_eq_true, decide_eq_true_iff]
  constructor
  · rintro (q | q)
    · exact Or.inl q
    · exact Or.inr (by omega)
  · rintro (q | q)
    · exact Or.inl q
    · exact Or.inr (by omega)
theorem jor_lt {a v : Int} {b : Nat} (ha : 0 ≤ a ∧ a < 2 ^ b) (hv : 0 ≤ v ∧ v < b) : 0 ≤ jor a (1 * 2 ^ v.toNat) ∧ jor a (1 * 2 ^ v.toNat) < 2 ^ b := by
  obtain ⟨n, rfl⟩ : ∃ n : Nat, a = (n : Int) := ⟨a.toNat, by omega⟩
  have e2 : (1 * 2 ^ v.toNat : Int).toNat = 2 ^ v.toNat := by
    rw [Int.one_mul, show (2 : Int) ^ v.toNat = ((2 ^ v.toNat : Nat) : Int) by rw [Int.natCast_pow]; rfl]
    rfl
  have h2 : (2 : Int) ^ b = ((2 ^ b : Nat) : Int) := by rw [Int.natCast_pow]; rfl
  unfold jor
  rw [e2, Int.toNat_natCast, h2]
  have hn : n < 2 ^ b := by
    have := ha.2
    rw [h2] at this
    omega
  have := Nat.or_lt_two_pow hn (Nat.pow_lt_pow_right (show 1 < 2 by decide) (show v.toNat < b by omega))
  omega
