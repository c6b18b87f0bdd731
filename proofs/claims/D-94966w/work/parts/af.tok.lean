set_option maxRecDepth 100000
set_option linter.unusedVariables false
/-! signs of a text, names, rows: pure words of the reader -/
theorem tkAt_all {q : Int → Int} {n p : Int} (h : p ≤ n) : (p ≤ tkAt q n p ∧ tkAt q n p ≤ n) ∧ (∀ i : Int, p ≤ i → i < tkAt q n p → isBl (q i)) ∧ (tkAt q n p < n → ¬ isBl (q (tkAt q n p))) := scn_all h
theorem tkAt_tkAt {q : Int → Int} {n p : Int} (h : p ≤ n) : tkAt q n (tkAt q n p) = tkAt q n p := by
  obtain ⟨h1, -, h3⟩ := tkAt_all (q := q) h
  exact scn_is (by omega) (fun i i0 i1 => by omega) h3
theorem tkKd_end {q : Int → Int} {n p : Int} (h : n ≤ p) : tkKd q n p = 0 := cif_pos h
theorem tkKd_let {q : Int → Int} {n p : Int} (h : p < n) (h1 : isLt (q p)) : tkKd q n p = 1 := by
  unfold tkKd
  rw [cif_neg (by omega), cif_pos h1]
theorem not_both {c : Int} (h : isLt c) : ¬ isDg c := fun w => by
  unfold isLt at h
  unfold isDg at w
  omega
theorem tkKd_dig {q : Int → Int} {n p : Int} (h : p < n) (h1 : isDg (q p)) : tkKd q n p = 2 := by
  unfold tkKd
  rw [cif_neg (by omega), cif_neg (fun w => not_both w h1), cif_pos h1]
theorem tkKd_sgn {q : Int → Int} {n p : Int} (h : p < n) (h1 : ¬ isLt (q p)) (h2 : ¬ isDg (q p)) : tkKd q n p = 3 := by
  unfold tkKd
  rw [cif_neg (by omega), cif_neg h1, cif_neg h2]
theorem tkEnd_end {q : Int → Int} {n p : Int} (h : n ≤ p) : tkEnd q n p = p := cif_pos h
theorem tkEnd_let {q : Int → Int} {n p : Int} (h : p < n) (h1 : isLt (q p)) : tkEnd q n p = scn (fun i => isLt (q i)) n p := by
  unfold tkEnd
  rw [cif_neg (by omega), cif_pos h1]
theorem tkEnd_dig {q : Int → Int} {n p : Int} (h : p < n) (h1 : isDg (q p)) : tkEnd q n p = scn (fun i => isDg (q i)) n p := by
  unfold tkEnd
  rw [cif_neg (by omega), cif_neg (fun w => not_both w h1), cif_pos h1]
theorem tkEnd_sgn {q : Int → Int} {n p : Int} (h : p < n) (h1 : ¬ isLt (q p)) (h2 : ¬ isDg (q p)) : tkEnd q n p = p + 1 := by
  unfold tkEnd
  rw [cif_neg (by omega), cif_neg h1, cif_neg h2]
/-- by kinds -/
theorem tk_cases (q : Int → Int) (n p : Int) (h : p ≤ n) : (p = n ∧ tkKd q n p = 0 ∧ tkEnd q n p = p) ∨ (p < n ∧ isLt (q p) ∧ tkKd q n p = 1 ∧ (p < tkEnd q n p ∧ tkEnd q n p ≤ n) ∧ (∀ i : Int, p ≤ i → i < tkEnd q n p → isLt (q i)) ∧ (tkEnd q n p < n → ¬ isLt (q (tkEnd q n p)))) ∨ (p < n ∧ isDg (q p) ∧ tkKd q n p = 2 ∧ (p < tkEnd q n p ∧ tkEnd q n p ≤ n) ∧ (∀ i : Int, p ≤ i → i < tkEnd q n p → isDg (q i)) ∧ (tkEnd q n p < n → ¬ isDg (q (tkEnd q n p)))) ∨ (p < n ∧ (¬ isLt (q p) ∧ ¬ isDg (q p)) ∧ tkKd q n p = 3 ∧ tkEnd q n p = p + 1) := by
  by_cases w : n ≤ p
  · exact Or.inl ⟨by omega, tkKd_end w, tkEnd_end w⟩
  · by_cases l : isLt (q p)
    · refine Or.inr (Or.inl ⟨by omega, l, tkKd_let (by omega) l, ?_⟩)
      rw [tkEnd_let (by omega) l]
      obtain ⟨a, b, c⟩ := scn_all (P := fun i => isLt (q i)) (n := n) (v := p) h
      have g : scn (fun i => isLt (q i)) n p ≠ p := fun e => by
        rw [e] at c
        exact c (by omega) l
      exact ⟨by omega, b, c⟩
    · by_cases d : isDg (q p)
      · refine Or.inr (Or.inr (Or.inl ⟨by omega, d, tkKd_dig (by omega) d, ?_⟩))
        rw [tkEnd_dig (by omega) d]
        obtain ⟨a, b, c⟩ := scn_all (P := fun i => isDg (q i)) (n := n) (v := p) h
        have g : scn (fun i => isDg (q i)) n p ≠ p := fun e => by
          rw [e] at c
          exact c (by omega) d
        exact ⟨by omega, b, c⟩
      · exact Or.inr (Or.inr (Or.inr ⟨by omega, ⟨l, d⟩, tkKd_sgn (by omega) l d, tkEnd_sgn (by omega) l d⟩))
theorem tkEnd_le {q : Int → Int} {n p : Int} (h : p ≤ n) : p ≤ tkEnd q n p ∧ tkEnd q n p ≤ n := by
  rcases tk_cases q n p h with w | w | w | w <;> omega
/-- letters or digits stand right ahead of a place -/
def alB (q : Int → Int) (p : Int) : Prop := 0 < p ∧ (isLt (q (p - 1)) ∨ isDg (q (p - 1)))
theorem tkBad_al {q : Int → Int} {n p : Int} (h : p < n) (h1 : isLt (q p) ∨ isDg (q p)) (h2 : alB q p) : tkBad q n p = p := by
  unfold tkBad
  rw [cif_pos ⟨h, h1⟩, cif_pos (show 0 < p ∧ (isLt (q (p - 1)) ∨ isDg (q (p - 1))) from h2)]
theorem tkBad_let {q : Int → Int} {n p : Int} (h : p < n) (h1 : isLt (q p)) (h2 : ¬ alB q p) (h3 : 6 < tkEnd q n p - p) : tkBad q n p = p + 6 := by
  unfold tkBad
  rw [cif_pos ⟨h, Or.inl h1⟩, cif_neg (show ¬ (0 < p ∧ (isLt (q (p - 1)) ∨ isDg (q (p - 1)))) from h2), cif_pos ⟨h1, h3⟩]
theorem tkBad_dig {q : Int → Int} {n p : Int} (h : p < n) (h1 : isDg (q p)) (h2 : ¬ alB q p) (h3 : 4 < tkEnd q n p - p) : tkBad q n p = p + 4 := by
  unfold tkBad
  rw [cif_pos ⟨h, Or.inr h1⟩, cif_neg (show ¬ (0 < p ∧ (isLt (q (p - 1)) ∨ isDg (q (p - 1)))) from h2), cif_neg (fun w => not_both w.1 h1), cif_pos ⟨h1, h3⟩]
theorem tkBad_no {q : Int → Int} {n p : Int} (h2 : ¬ alB q p) (h3 : isLt (q p) → tkEnd q n p - p ≤ 6) (h4 : isDg (q p) → tkEnd q n p - p ≤ 4) : tkBad q n p = -1 := by
  unfold tkBad
  by_cases w : p < n ∧ (isLt (q p) ∨ isDg (q p))
  · rw [cif_pos w, cif_neg (show ¬ (0 < p ∧ (isLt (q (p - 1)) ∨ isDg (q (p - 1)))) from h2), cif_neg (fun x => by have := h3 x.1; omega), cif_neg (fun x => by have := h4 x.1; omega)]
  · rw [cif_neg w]
theorem tkBad_sgn {q : Int → Int} {n p : Int} (h3 : ¬ isLt (q p)) (h4 : ¬ isDg (q p)) : tkBad q n p = -1 := by
  unfold tkBad
  rw [cif_neg (fun w => by rcases w.2 with x | x <;> contradiction)]
theorem tkBad_end {q : Int → Int} {n p : Int} (h : n ≤ p) : tkBad q n p = -1 := by
  unfold tkBad
  rw [cif_neg (fun w => by omega)]
/-- what is bad, by cases -/
theorem tkBad_cases (q : Int → Int) (n p : Int) (h0 : 0 ≤ p) (h : p ≤ n) : (tkBad q n p = -1 ∧ (p < n → ((isLt (q p) ∨ isDg (q p)) → ¬ alB q p) ∧ (isLt (q p) → tkEnd q n p - p ≤ 6) ∧ (isDg (q p) → tkEnd q n p - p ≤ 4))) ∨ (p < n ∧ (isLt (q p) ∨ isDg (q p)) ∧ ((alB q p ∧ tkBad q n p = p) ∨ (¬ alB q p ∧ isLt (q p) ∧ 6 < tkEnd q n p - p ∧ tkBad q n p = p + 6) ∨ (¬ alB q p ∧ isDg (q p) ∧ 4 < tkEnd q n p - p ∧ tkBad q n p = p + 4))) := by
  by_cases w : p < n
  · by_cases l : isLt (q p) ∨ isDg (q p)
    · by_cases al : alB q p
      · exact Or.inr ⟨w, l, Or.inl ⟨al, tkBad_al w l al⟩⟩
      · by_cases l1 : isLt (q p)
        · by_cases g : 6 < tkEnd q n p - p
          · exact Or.inr ⟨w, l, Or.inr (Or.inl ⟨al, l1, g, tkBad_let w l1 al g⟩)⟩
          · exact Or.inl ⟨tkBad_no al (fun _ => by omega) (fun x => absurd x (not_both l1)), fun _ => ⟨fun _ => al, fun _ => by omega, fun x => absurd x (not_both l1)⟩⟩
        · have d1 : isDg (q p) := by rcases l with l | l; exact absurd l l1; exact l
          by_cases g : 4 < tkEnd q n p - p
          · exact Or.inr ⟨w, l, Or.inr (Or.inr ⟨al, d1, g, tkBad_dig w d1 al g⟩)⟩
          · exact Or.inl ⟨tkBad_no al (fun x => absurd x l1) (fun _ => by omega), fun _ => ⟨fun _ => al, fun x => absurd x l1, fun _ => by omega⟩⟩
    · have l1 : ¬ isLt (q p) := fun x => l (Or.inl x)
      have d1 : ¬ isDg (q p) := fun x => l (Or.inr x)
      exact Or.inl ⟨tkBad_sgn l1 d1, fun _ => ⟨fun x => absurd x l, fun x => absurd x l1, fun x => absurd x d1⟩⟩
  · exact Or.inl ⟨tkBad_end (by omega), fun x => by omega⟩
/-- letters told as a number: six at most -/
def tkW (q : Int → Int) (n a : Int) (e : Int) : Int := sCode (fun i => q (a + i)) (if e - a ≤ 6 then e - a else 6).toNat
noncomputable def tkC (q : Int → Int) (n a : Int) : Int := tkW q n a (tkEnd q n a)
/-- digits told: four at most -/
def dgV (q : Int → Int) (a : Int) (k : Nat) : Int := it (fun i s => 10 * s + q (a + i) - 48) 0 k
noncomputable def tkV (q : Int → Int) (n a : Int) : Int := dgV q a (if tkEnd q n a - a ≤ 4 then tkEnd q n a - a else 4).toNat
theorem dgV_range {q : Int → Int} {a : Int} : ∀ k : Nat, k ≤ 4 → (∀ i : Int, 0 ≤ i → i < k → isDg (q (a + i))) → 0 ≤ dgV q a k ∧ dgV q a k < 10 ^ k
  | 0, _, _ => ⟨Int.le_refl 0, (by decide : (0 : Int) < 1)⟩
  | k + 1, hk, h => by
    have ih := dgV_range k (by omega) (fun i i0 i1 => h i i0 (by omega))
    have e : dgV q a (k + 1) = 10 * dgV q a k + q (a + k) - 48 := rfl
    have d := h k (by omega) (by omega)
    unfold isDg at d
    have hp : (10 : Int) ^ (k + 1) = 10 * 10 ^ k := by rw [Int.pow_succ]; omega
    rw [e, hp]
    omega
theorem sCode_range {g : Int → Int} : ∀ n : Nat, (∀ i : Int, 0 ≤ i → i < n → 0 ≤ g i ∧ g i ≤ 255) → 0 ≤ sCode g n ∧ sCode g n < 256 ^ n
  | 0, _ => ⟨Int.le_refl 0, (by decide : (0 : Int) < 1)⟩
  | k + 1, h => by
    have ih := sCode_range k (fun i i0 i1 => h i i0 (by omega))
    have e : sCode g (k + 1) = 256 * sCode g k + g k := rfl
    have d := h k (by omega) (by omega)
    have hp : (256 : Int) ^ (k + 1) = 256 * 256 ^ k := by rw [Int.pow_succ]; omega
    rw [e, hp]
    omega
theorem sCode_inj {g g' : Int → Int} : ∀ n m : Nat, (∀ i : Int, 0 ≤ i → i < n → 1 ≤ g i ∧ g i ≤ 255) → (∀ i : Int, 0 ≤ i → i < m → 1 ≤ g' i ∧ g' i ≤ 255) → (sCode g n = sCode g' m ↔ n = m ∧ ∀ i : Int, 0 ≤ i → i < n → g i = g' i)
  | 0, 0, _, _ => ⟨fun _ => ⟨rfl, fun i i0 i1 => by omega⟩, fun _ => rfl⟩
  | 0, m + 1, _, h' => by
    have r := sCode_range (g := g') m (fun i i0 i1 => by have := h' i i0 (by omega); omega)
    have d := h' m (by omega) (by omega)
    have e : sCode g' (m + 1) = 256 * sCode g' m + g' m := rfl
    have e0 : sCode g 0 = 0 := rfl
    rw [e, e0]
    exact ⟨fun w => by omega, fun w => by omega⟩
  | n + 1, 0, h, _ => by
    have r := sCode_range (g := g) n (fun i i0 i1 => by have := h i i0 (by omega); omega)
    have d := h n (by omega) (by omega)
    have e : sCode g (n + 1) = 256 * sCode g n + g n := rfl
    have e0 : sCode g' 0 = 0 := rfl
    rw [e, e0]
    exact ⟨fun w => by omega, fun w => by omega⟩
  | n + 1, m + 1, h, h' => by
    have ih := sCode_inj n m (fun i i0 i1 => h i i0 (by omega)) (fun i i0 i1 => h' i i0 (by omega))
    have d := h n (by omega) (by omega)
    have d' := h' m (by omega) (by omega)
    have e : sCode g (n + 1) = 256 * sCode g n + g n := rfl
    have e' : sCode g' (m + 1) = 256 * sCode g' m + g' m := rfl
    rw [e, e']
    constructor
    · intro w
      have w1 : sCode g n = sCode g' m := by omega
      have w2 : g n = g' m := by omega
      obtain ⟨x1, x2⟩ := ih.mp w1
      refine ⟨by omega, fun i i0 i1 => ?_⟩
      by_cases y : i = n
      · rw [y, w2, x1]
      · exact x2 i i0 (by omega)
    · rintro ⟨x1, x2⟩
      have x3 : n = m := by omega
      have w1 := ih.mpr ⟨x3, fun i i0 i1 => x2 i i0 (by omega)⟩
      have w2 := x2 n (by omega) (by omega)
      rw [w1, w2, x3]
theorem sCode_congr {g g' : Int → Int} : ∀ n : Nat, (∀ i : Int, 0 ≤ i → i < n → g i = g' i) → sCode g n = sCode g' n
  | 0, _ => rfl
  | k + 1, h => by
    have e : sCode g (k + 1) = 256 * sCode g k + g k := rfl
    have e' : sCode g' (k + 1) = 256 * sCode g' k + g' k := rfl
    rw [e, e', sCode_congr k (fun i i0 i1 => h i i0 (by omega)), h k (by omega) (by omega)]
/-- a word of the language -/
def sOwn (c : Int) : Prop := ∃ k : Nat, k < 17 ∧ ownT.getD k 0 = c
/-- the first of so many that is c; -1 -/
noncomputable def nmd (e : Int → Int) (m c : Int) : Int := cif (scn (fun k => e k ≠ c) m 0 < m) (scn (fun k => e k ≠ c) m 0) (-1)
theorem nmd_at {e : Int → Int} {m c k : Int} (h : 0 ≤ k ∧ k < m) (h1 : e k = c) (h2 : ∀ j : Int, 0 ≤ j → j < k → e j ≠ c) : nmd e m c = k := by
  have w : scn (fun k => e k ≠ c) m 0 = k := scn_is (by omega) h2 (fun _ x => x h1)
  unfold nmd
  rw [w, cif_pos h.2]
theorem nmd_no {e : Int → Int} {m c : Int} (h : 0 ≤ m) (h2 : ∀ j : Int, 0 ≤ j → j < m → e j ≠ c) : nmd e m c = -1 := by
  have w : scn (fun k => e k ≠ c) m 0 = m := scn_is (by omega) h2 (fun x => by omega)
  unfold nmd
  rw [w, cif_neg (by omega)]
theorem nmd_cases {e : Int → Int} {m c : Int} (h : 0 ≤ m) : (nmd e m c = -1 ∧ ∀ j : Int, 0 ≤ j → j < m → e j ≠ c) ∨ ((0 ≤ nmd e m c ∧ nmd e m c < m) ∧ e (nmd e m c) = c) := by
  obtain ⟨a, b, d⟩ := scn_all (P := fun k => e k ≠ c) (n := m) (v := 0) h
  unfold nmd
  by_cases w : scn (fun k => e k ≠ c) m 0 < m
  · rw [cif_pos w]
    exact Or.inr ⟨by omega, Classical.not_not.mp (d w)⟩
  · rw [cif_neg w]
    exact Or.inl ⟨rfl, fun j j0 j1 => b j j0 (by omega)⟩
/-- one of so many names is asked for at a place: what is wrong (kind 0: nothing), where -/
noncomputable def knF (e : Int → Int) (m : Int) (q : Int → Int) (n a : Int) : Int × Int := if 0 ≤ tkBad q n a then (1, tkBad q n a) else cif (tkKd q n a ≠ 1 ∨ sOwn (tkC q n a)) (1, a) (if nmd e m (tkC q n a) = -1 then (3, a) else (0, 0))
noncomputable def knV (e : Int → Int) (m : Int) (q : Int → Int) (n a : Int) : Int := nmd e m (tkC q n a)
theorem knF_bad {e : Int → Int} {m : Int} {q : Int → Int} {n a : Int} (h : 0 ≤ tkBad q n a) : knF e m q n a = (1, tkBad q n a) := if_pos h
theorem knF_own {e : Int → Int} {m : Int} {q : Int → Int} {n a : Int} (h : tkBad q n a = -1) (h2 : tkKd q n a ≠ 1 ∨ sOwn (tkC q n a)) : knF e m q n a = (1, a) := (if_neg (by omega)).trans (cif_pos h2)
theorem knF_no {e : Int → Int} {m : Int} {q : Int → Int} {n a : Int} (h : tkBad q n a = -1) (h1 : tkKd q n a = 1) (h2 : ¬ sOwn (tkC q n a)) (h3 : nmd e m (tkC q n a) = -1) : knF e m q n a = (3, a) := by
  unfold knF
  rw [if_neg (by omega), cif_neg (by rintro (w | w); exact w h1; exact h2 w), if_pos h3]
theorem knF_ok {e : Int → Int} {m : Int} {q : Int → Int} {n a : Int} (h : tkBad q n a = -1) (h1 : tkKd q n a = 1) (h2 : ¬ sOwn (tkC q n a)) (h3 : nmd e m (tkC q n a) ≠ -1) : knF e m q n a = (0, 0) := by
  unfold knF
  rw [if_neg (by omega), cif_neg (by rintro (w | w); exact w h1; exact h2 w), if_neg h3]
theorem tkBad_ge {q : Int → Int} {n p : Int} (h0 : 0 ≤ p) (h : p ≤ n) : tkBad q n p = -1 ∨ (0 ≤ tkBad q n p ∧ tkBad q n p ≤ n) := by
  have e := tkEnd_le (q := q) h
  rcases tkBad_cases q n p h0 h with w | ⟨w, -, x | x | x⟩ <;> omega
/-- all cases -/
theorem knF_cases (e : Int → Int) (m : Int) (q : Int → Int) (n a : Int) (h0 : 0 ≤ a) (h : a ≤ n) (hm : 0 ≤ m) : (knF e m q n a = (0, 0) ∧ tkBad q n a = -1 ∧ tkKd q n a = 1 ∧ ¬ sOwn (tkC q n a) ∧ (0 ≤ knV e m q n a ∧ knV e m q n a < m) ∧ e (knV e m q n a) = tkC q n a) ∨ ((knF e m q n a).1 = 1 ∨ (knF e m q n a).1 = 3) := by
  rcases tkBad_ge (q := q) h0 h with b | b
  · by_cases k : tkKd q n a ≠ 1 ∨ sOwn (tkC q n a)
    · rw [knF_own b k]; exact Or.inr (Or.inl rfl)
    · have k1 : tkKd q n a = 1 := Classical.byContradiction (fun w => k (Or.inl w))
      have k2 : ¬ sOwn (tkC q n a) := fun w => k (Or.inr w)
      rcases nmd_cases (e := e) (c := tkC q n a) hm with ⟨w, -⟩ | ⟨w1, w2⟩
      · rw [knF_no b k1 k2 w]; exact Or.inr (Or.inr rfl)
      · exact Or.inl ⟨knF_ok b k1 k2 (by omega), b, k1, k2, w1, w2⟩
  · rw [knF_bad (by omega)]; exact Or.inr (Or.inl rfl)
/-- a row's part: fault, how many and the place behind, words -/
abbrev rwR : Type := (Int × Int) × (Int × Int) × (Int → Int)
def upv (g : Int → Int) (k v : Int) : Int → Int := fun i => if i = k then v else g i
/-- a row's part ends ahead of a place -/
def rwE (q : Int → Int) (n a : Int) : Prop := tkKd q n a ≠ 1 ∨ (tkEnd q n a - a ≤ 6 ∧ sOwn (tkC q n a))
noncomputable def rwN (e : Int → Int) (m : Int) (q : Int → Int) (n most fm : Int) : Nat → Int → Int → (Int → Int) → rwR
  | 0, k, p, g => ((0, 0), (k, p), g)
  | f + 1, k, p, g => cif (rwE q n (tkAt q n p)) ((0, 0), (k, p), g) (if k = most then ((5, tkAt q n p), (k, 0), g) else if (knF e m q n (tkAt q n p)).1 = 0 then rwN e m q n most fm f (k + 1) (tkEnd q n (tkAt q n p)) (upv g (fm + k) (knV e m q n (tkAt q n p))) else (knF e m q n (tkAt q n p), (k, 0), g))
/-- words of a row from one in the row on, so many at most -/
noncomputable def rwW (e : Int → Int) (m : Int) (q : Int → Int) (n most fm p : Int) (g : Int → Int) : rwR := if (knF e m q n (tkAt q n p)).1 = 0 then rwN e m q n most fm most.toNat 1 (tkEnd q n (tkAt q n p)) (upv g fm (knV e m q n (tkAt q n p))) else (knF e m q n (tkAt q n p), (0, 0), g)
/-- a row: fault, main part, except, place behind, words -/
abbrev roR : Type := (Int × Int) × (Int × Int) × Int × (Int → Int)
/-- 'but' stands at a place -/
def isBut (q : Int → Int) (n a : Int) : Prop := tkKd q n a = 1 ∧ tkC q n a = 6452596
noncomputable def roS (e : Int → Int) (m : Int) (q : Int → Int) (n p : Int) : roR :=
  if (rwW e m q n 8 0 p (fun _ => 0)).1.1 = 0 then cif (isBut q n (tkAt q n (rwW e m q n 8 0 p (fun _ => 0)).2.1.2))
    ((rwW e m q n 4 (rwW e m q n 8 0 p (fun _ => 0)).2.1.1 (tkEnd q n (tkAt q n (rwW e m q n 8 0 p (fun _ => 0)).2.1.2)) (rwW e m q n 8 0 p (fun _ => 0)).2.2).1, ((rwW e m q n 8 0 p (fun _ => 0)).2.1.1, (rwW e m q n 4 (rwW e m q n 8 0 p (fun _ => 0)).2.1.1 (tkEnd q n (tkAt q n (rwW e m q n 8 0 p (fun _ => 0)).2.1.2)) (rwW e m q n 8 0 p (fun _ => 0)).2.2).2.1.1), (rwW e m q n 4 (rwW e m q n 8 0 p (fun _ => 0)).2.1.1 (tkEnd q n (tkAt q n (rwW e m q n 8 0 p (fun _ => 0)).2.1.2)) (rwW e m q n 8 0 p (fun _ => 0)).2.2).2.1.2, (rwW e m q n 4 (rwW e m q n 8 0 p (fun _ => 0)).2.1.1 (tkEnd q n (tkAt q n (rwW e m q n 8 0 p (fun _ => 0)).2.1.2)) (rwW e m q n 8 0 p (fun _ => 0)).2.2).2.2)
    ((0, 0), ((rwW e m q n 8 0 p (fun _ => 0)).2.1.1, 0), (rwW e m q n 8 0 p (fun _ => 0)).2.1.2, (rwW e m q n 8 0 p (fun _ => 0)).2.2) else ((rwW e m q n 8 0 p (fun _ => 0)).1, (0, 0), 0, fun _ => 0)
theorem roS_fault {e : Int → Int} {m : Int} {q : Int → Int} {n p : Int} {R : rwR} (h : rwW e m q n 8 0 p (fun _ => 0) = R) (h0 : R.1.1 ≠ 0) : roS e m q n p = (R.1, (0, 0), 0, fun _ => 0) := by
  unfold roS
  rw [h, if_neg h0]
theorem roS_main {e : Int → Int} {m : Int} {q : Int → Int} {n p : Int} {R : rwR} (h : rwW e m q n 8 0 p (fun _ => 0) = R) (h0 : R.1.1 = 0) (hb : ¬ isBut q n (tkAt q n R.2.1.2)) : roS e m q n p = ((0, 0), (R.2.1.1, 0), R.2.1.2, R.2.2) := by
  unfold roS
  rw [h, if_pos h0, cif_neg hb]
theorem roS_but {e : Int → Int} {m : Int} {q : Int → Int} {n p : Int} {R T : rwR} (h : rwW e m q n 8 0 p (fun _ => 0) = R) (h0 : R.1.1 = 0) (hb : isBut q n (tkAt q n R.2.1.2)) (h2 : rwW e m q n 4 R.2.1.1 (tkEnd q n (tkAt q n R.2.1.2)) R.2.2 = T) : roS e m q n p = (T.1, (R.2.1.1, T.2.1.1), T.2.1.2, T.2.2) := by
  unfold roS
  rw [h, if_pos h0, cif_pos hb, h2]
/-- a row, and no word stands behind -/
noncomputable def roF (q : Int → Int) (n : Int) (r : roR) : Int × Int := if r.1.1 = 0 then (if tkKd q n (tkAt q n r.2.2.1) = 1 then (1, tkAt q n r.2.2.1) else (0, 0)) else r.1
/-- a row alone: nothing stands behind -/
noncomputable def roA (q : Int → Int) (n : Int) (r : roR) : Int × Int := if (roF q n r).1 = 0 then (if 0 ≤ tkBad q n (tkAt q n r.2.2.1) then (1, tkBad q n (tkAt q n r.2.2.1)) else if tkKd q n (tkAt q n r.2.2.1) = 0 then (0, 0) else (1, tkAt q n r.2.2.1)) else roF q n r
/-- letters are over at a place -/
def awP (q : Int → Int) (n p : Int) : Prop := p < n → ¬ isLt (q p)
theorem awP_end {q : Int → Int} {n a : Int} (h : a ≤ n) (h1 : tkKd q n a = 1) : awP q n (tkEnd q n a) := by
  rcases tk_cases q n a h with w | w | w | w
  · omega
  · exact w.2.2.2.2.2
  · omega
  · omega
theorem awP_no {q : Int → Int} {n p : Int} (hp : 0 ≤ p ∧ p ≤ n) (h : awP q n p) (h1 : tkKd q n (tkAt q n p) = 1) : ¬ alB q (tkAt q n p) := by
  obtain ⟨a1, a2, a3⟩ := tkAt_all (q := q) hp.2
  by_cases w : tkAt q n p = p
  · rw [w] at h1 ⊢
    rcases tk_cases q n p hp.2 with x | x | x | x
    · omega
    · exact absurd x.2.1 (h x.1)
    · omega
    · omega
  · rintro ⟨-, x⟩
    have b := a2 (tkAt q n p - 1) (by omega) (by omega)
    unfold isBl at b
    unfold isLt isDg at x
    omega
/-- letters behind letters are not bad but for their number -/
theorem awP_bad {q : Int → Int} {n p : Int} (hp : 0 ≤ p ∧ p ≤ n) (h : awP q n p) (h1 : tkKd q n (tkAt q n p) = 1) : (tkBad q n (tkAt q n p) = -1 ↔ tkEnd q n (tkAt q n p) - tkAt q n p ≤ 6) := by
  have na := awP_no hp h h1
  obtain ⟨a1, -, -⟩ := tkAt_all (q := q) hp.2
  rcases tk_cases q n (tkAt q n p) a1.2 with x | x | x | x
  · omega
  · by_cases g : 6 < tkEnd q n (tkAt q n p) - tkAt q n p
    · rw [tkBad_let x.1 x.2.1 na g]; omega
    · rw [tkBad_no na (fun _ => by omega) (fun y => absurd y (not_both x.2.1))]; omega
  · omega
  · omega
section
variable {e : Int → Int} {m : Int} {q : Int → Int} {n most fm k p : Int} {g : Int → Int} {f : Nat}
theorem rwN_stop (h : rwE q n (tkAt q n p)) : rwN e m q n most fm f k p g = ((0, 0), (k, p), g) := by
  cases f with
  | zero => rfl
  | succ f => exact cif_pos h
theorem rwN_full (h : ¬ rwE q n (tkAt q n p)) (hk : k = most) : rwN e m q n most fm (f + 1) k p g = ((5, tkAt q n p), (k, 0), g) := (cif_neg h).trans (if_pos hk)
theorem rwN_bad (h : ¬ rwE q n (tkAt q n p)) (hk : k ≠ most) (hf : (knF e m q n (tkAt q n p)).1 ≠ 0) : rwN e m q n most fm (f + 1) k p g = (knF e m q n (tkAt q n p), (k, 0), g) := (cif_neg h).trans ((if_neg hk).trans (if_neg hf))
theorem rwN_go (h : ¬ rwE q n (tkAt q n p)) (hk : k ≠ most) (hf : (knF e m q n (tkAt q n p)).1 = 0) : rwN e m q n most fm (f + 1) k p g = rwN e m q n most fm f (k + 1) (tkEnd q n (tkAt q n p)) (upv g (fm + k) (knV e m q n (tkAt q n p))) := (cif_neg h).trans ((if_neg hk).trans (if_pos hf))
end
/-- where a part of a row stands ahead of one word more -/
def rwS (e : Int → Int) (m : Int) (q : Int → Int) (n most fm p0 : Int) (g0 : Int → Int) (k p : Int) (g : Int → Int) : Prop := (k = 0 ∧ p = p0 ∧ g = g0) ∨ ((1 ≤ k ∧ k ≤ most) ∧ awP q n p ∧ tkKd q n (tkAt q n p) = 1 ∧ ((¬ rwE q n (tkAt q n p) ∧ rwW e m q n most fm p0 g0 = rwN e m q n most fm (most + 1 - k).toNat k p g) ∨ (tkBad q n (tkAt q n p) = -1 ∧ sOwn (tkC q n (tkAt q n p)) ∧ rwW e m q n most fm p0 g0 = ((0, 0), (k, p), g))))
/-- one word more: what comes of it -/
theorem rwS_put {e : Int → Int} {m : Int} {q : Int → Int} {n most fm p0 k p : Int} {g0 g : Int → Int} (hm : 1 ≤ most) (hm0 : 0 ≤ m) (hp : 0 ≤ p ∧ p ≤ n) (h : rwS e m q n most fm p0 g0 k p g) :
    ((k = most ∧ tkKd q n (tkAt q n p) = 1 ∧ ¬ (tkBad q n (tkAt q n p) = -1 ∧ sOwn (tkC q n (tkAt q n p)))) → (rwW e m q n most fm p0 g0).1 = (5, tkAt q n p)) ∧
    (¬ (k = most ∧ tkKd q n (tkAt q n p) = 1 ∧ ¬ (tkBad q n (tkAt q n p) = -1 ∧ sOwn (tkC q n (tkAt q n p)))) →
      ((knF e m q n (tkAt q n p)).1 ≠ 0 → (rwW e m q n most fm p0 g0).1 = knF e m q n (tkAt q n p) ∨ (1 ≤ k ∧ rwW e m q n most fm p0 g0 = ((0, 0), (k, p), g) ∧ tkKd q n (tkAt q n p) = 1 ∧ tkBad q n (tkAt q n p) = -1 ∧ sOwn (tkC q n (tkAt q n p)) ∧ knF e m q n (tkAt q n p) = (1, tkAt q n p))) ∧
      ((knF e m q n (tkAt q n p)).1 = 0 → (0 ≤ k ∧ k < most) ∧ (0 ≤ tkEnd q n (tkAt q n p) ∧ tkEnd q n (tkAt q n p) ≤ n) ∧ awP q n (tkEnd q n (tkAt q n p)) ∧ rwW e m q n most fm p0 g0 = rwN e m q n most fm (most - k).toNat (k + 1) (tkEnd q n (tkAt q n p)) (upv g (fm + k) (knV e m q n (tkAt q n p))))) := by
  obtain ⟨a1, -, -⟩ := tkAt_all (q := q) hp.2
  have ae := tkEnd_le (q := q) a1.2
  rcases h with ⟨h1, h2, h3⟩ | ⟨h1, h2, h3, h4⟩
  · subst h1 h2 h3
    refine ⟨fun w => by omega, fun _ => ⟨fun w => Or.inl (by unfold rwW; rw [if_neg w]), fun w => ⟨by omega, by omega, ?_, ?_⟩⟩⟩
    · rcases knF_cases e m q n (tkAt q n p) (by omega) a1.2 hm0 with x | x
      · exact awP_end a1.2 x.2.2.1
      · omega
    · have : rwW e m q n most fm p g = rwN e m q n most fm most.toNat 1 (tkEnd q n (tkAt q n p)) (upv g fm (knV e m q n (tkAt q n p))) := by unfold rwW; rw [if_pos w]
      rw [this, show (most - 0).toNat = most.toNat by omega, show fm + 0 = fm by omega]
      rfl
  · rcases h4 with ⟨h5, h6⟩ | ⟨h5, h6, h7⟩
    · rw [h6]
      have ff : (most + 1 - k).toNat = (most - k).toNat + 1 := by omega
      rw [ff]
      have lb := awP_bad hp h2 h3
      refine ⟨fun w => by rw [rwN_full h5 w.1], fun w => ?_⟩
      have nk : k ≠ most := fun x => w ⟨x, h3, fun y => h5 (Or.inr ⟨lb.mp y.1, y.2⟩)⟩
      refine ⟨fun y => Or.inl (by rw [rwN_bad h5 nk y]), fun y => ⟨by omega, by omega, awP_end a1.2 h3, rwN_go h5 nk y⟩⟩
    · refine ⟨fun w => absurd ⟨h5, h6⟩ w.2.2, fun _ => ?_⟩
      have kf := knF_own (e := e) (m := m) h5 (Or.inr h6)
      refine ⟨fun y => Or.inr ⟨h1.1, h7, h3, h5, h6, kf⟩, fun y => ?_⟩
      rw [kf] at y
      exact absurd y (by show ¬ (1 : Int) = 0; decide)
/-- behind a word -/
theorem rwS_next {e : Int → Int} {m : Int} {q : Int → Int} {n most fm p0 k p : Int} {g0 g : Int → Int} (hp : 0 ≤ p ∧ p ≤ n) (hk : 1 ≤ k ∧ k ≤ most) (ha : awP q n p) (h : rwW e m q n most fm p0 g0 = rwN e m q n most fm (most + 1 - k).toNat k p g) :
    (tkKd q n (tkAt q n p) ≠ 1 → rwW e m q n most fm p0 g0 = ((0, 0), (k, p), g)) ∧ (tkKd q n (tkAt q n p) = 1 → rwS e m q n most fm p0 g0 k p g ∧ (tkBad q n (tkAt q n p) = -1 → sOwn (tkC q n (tkAt q n p)) → rwW e m q n most fm p0 g0 = ((0, 0), (k, p), g))) := by
  refine ⟨fun w => by rw [h]; exact rwN_stop (Or.inl w), fun w => ?_⟩
  have lb := awP_bad hp ha w
  have st : tkBad q n (tkAt q n p) = -1 → sOwn (tkC q n (tkAt q n p)) → rwW e m q n most fm p0 g0 = ((0, 0), (k, p), g) := fun x y => by rw [h]; exact rwN_stop (Or.inr ⟨lb.mp x, y⟩)
  refine ⟨Or.inr ⟨hk, ha, w, ?_⟩, st⟩
  by_cases x : rwE q n (tkAt q n p)
  · rcases x with x | ⟨x, y⟩
    · exact absurd w x
    · exact Or.inr ⟨lb.mpr x, y, st (lb.mpr x) y⟩
  · exact Or.inl ⟨x, h⟩
theorem upv_s {g : Int → Int} {k v : Int} : upv g k v k = v := if_pos rfl
theorem upv_n {g : Int → Int} {k v i : Int} (h : i ≠ k) : upv g k v i = g i := if_neg h
theorem but_own {q : Int → Int} {n a : Int} (h : isBut q n a) : sOwn (tkC q n a) := ⟨13, by decide, h.2.symm⟩
theorem rwN_ok {e : Int → Int} {m : Int} {q : Int → Int} {n most fm : Int} (hm0 : 0 ≤ m) : ∀ (f : Nat) (k p : Int) (g : Int → Int), (0 ≤ p ∧ p ≤ n) → awP q n p → (∀ i : Int, 0 ≤ i → i < fm + k → 0 ≤ g i ∧ g i < m) → 0 ≤ fm → (1 ≤ k ∧ k ≤ most) → (rwN e m q n most fm f k p g).1.1 = 0 → (1 ≤ (rwN e m q n most fm f k p g).2.1.1 ∧ (rwN e m q n most fm f k p g).2.1.1 ≤ most) ∧ (p ≤ (rwN e m q n most fm f k p g).2.1.2 ∧ (rwN e m q n most fm f k p g).2.1.2 ≤ n) ∧ awP q n (rwN e m q n most fm f k p g).2.1.2 ∧ ∀ i : Int, 0 ≤ i → i < fm + (rwN e m q n most fm f k p g).2.1.1 → 0 ≤ (rwN e m q n most fm f k p g).2.2 i ∧ (rwN e m q n most fm f k p g).2.2 i < m
  | 0, k, p, g, hp, ha, hg, _, hk, _ => ⟨hk, ⟨Int.le_refl p, hp.2⟩, ha, hg⟩
  | f + 1, k, p, g, hp, ha, hg, hf, hk, h0 => by
    by_cases w : rwE q n (tkAt q n p)
    · rw [rwN_stop w]
      exact ⟨hk, ⟨Int.le_refl p, hp.2⟩, ha, hg⟩
    · by_cases x : k = most
      · rw [rwN_full w x] at h0
        exact absurd h0 (by show ¬ (5 : Int) = 0; decide)
      · by_cases y : (knF e m q n (tkAt q n p)).1 = 0
        · rw [rwN_go w x y] at h0 ⊢
          obtain ⟨a1, -, -⟩ := tkAt_all (q := q) hp.2
          have ae := tkEnd_le (q := q) a1.2
          rcases knF_cases e m q n (tkAt q n p) (by omega) a1.2 hm0 with ⟨-, -, k1, -, k2, -⟩ | z
          · have ih := rwN_ok (e := e) (q := q) (n := n) (most := most) (fm := fm) hm0 f (k + 1) (tkEnd q n (tkAt q n p)) (upv g (fm + k) (knV e m q n (tkAt q n p))) (by omega) (awP_end a1.2 k1) (fun i i0 i1 => by
              by_cases u : i = fm + k
              · rw [u, upv_s]; exact k2
              · rw [upv_n u]; exact hg i i0 (by omega)) hf (by omega) h0
            exact ⟨ih.1, by have := ih.2.1; omega, ih.2.2⟩
          · omega
        · rw [rwN_bad w x y] at h0
          exact absurd h0 y
theorem rwW_ok {e : Int → Int} {m : Int} {q : Int → Int} {n most fm p : Int} {g : Int → Int} (hm0 : 0 ≤ m) (hp : 0 ≤ p ∧ p ≤ n) (hf : 0 ≤ fm) (hmost : 1 ≤ most) (hg : ∀ i : Int, 0 ≤ i → i < fm → 0 ≤ g i ∧ g i < m) (h0 : (rwW e m q n most fm p g).1.1 = 0) : (1 ≤ (rwW e m q n most fm p g).2.1.1 ∧ (rwW e m q n most fm p g).2.1.1 ≤ most) ∧ (p ≤ (rwW e m q n most fm p g).2.1.2 ∧ (rwW e m q n most fm p g).2.1.2 ≤ n) ∧ awP q n (rwW e m q n most fm p g).2.1.2 ∧ ∀ i : Int, 0 ≤ i → i < fm + (rwW e m q n most fm p g).2.1.1 → 0 ≤ (rwW e m q n most fm p g).2.2 i ∧ (rwW e m q n most fm p g).2.2 i < m := by
  obtain ⟨a1, -, -⟩ := tkAt_all (q := q) hp.2
  have ae := tkEnd_le (q := q) a1.2
  by_cases y : (knF e m q n (tkAt q n p)).1 = 0
  · have eq : rwW e m q n most fm p g = rwN e m q n most fm most.toNat 1 (tkEnd q n (tkAt q n p)) (upv g fm (knV e m q n (tkAt q n p))) := if_pos y
    rw [eq] at h0 ⊢
    rcases knF_cases e m q n (tkAt q n p) (by omega) a1.2 hm0 with ⟨-, -, k1, -, k2, -⟩ | z
    · have ih := rwN_ok hm0 most.toNat 1 (tkEnd q n (tkAt q n p)) (upv g fm (knV e m q n (tkAt q n p))) (by omega) (awP_end a1.2 k1) (fun i i0 i1 => by
        by_cases u : i = fm
        · rw [u, upv_s]; exact k2
        · rw [upv_n u]; exact hg i i0 (by omega)) hf (by omega) h0
      exact ⟨ih.1, by have := ih.2.1; omega, ih.2.2⟩
    · omega
  · have eq : rwW e m q n most fm p g = (knF e m q n (tkAt q n p), (0, 0), g) := if_neg y
    rw [eq] at h0
    exact absurd h0 y
theorem roS_ok {e : Int → Int} {m : Int} {q : Int → Int} {n p : Int} (hm0 : 0 ≤ m) (hp : 0 ≤ p ∧ p ≤ n) (h0 : (roS e m q n p).1.1 = 0) : (1 ≤ (roS e m q n p).2.1.1 ∧ (roS e m q n p).2.1.1 ≤ 8) ∧ (0 ≤ (roS e m q n p).2.1.2 ∧ (roS e m q n p).2.1.2 ≤ 4) ∧ (p ≤ (roS e m q n p).2.2.1 ∧ (roS e m q n p).2.2.1 ≤ n) ∧ awP q n (roS e m q n p).2.2.1 ∧ ∀ i : Int, 0 ≤ i → i < (roS e m q n p).2.1.1 + (roS e m q n p).2.1.2 → 0 ≤ (roS e m q n p).2.2.2 i ∧ (roS e m q n p).2.2.2 i < m := by
  obtain ⟨R, hR⟩ : ∃ R, rwW e m q n 8 0 p (fun _ => 0) = R := ⟨_, rfl⟩
  by_cases w : R.1.1 = 0
  · have k1 := rwW_ok (e := e) (q := q) (g := fun _ => 0) hm0 hp (Int.le_refl 0) (by decide : (1 : Int) ≤ 8) (fun i i0 i1 => by omega) (by rw [hR]; exact w)
    rw [hR] at k1
    obtain ⟨k2, k3, k4, k5⟩ := k1
    have at1 := (tkAt_all (q := q) (n := n) (p := R.2.1.2) k3.2).1
    have ae := tkEnd_le (q := q) at1.2
    by_cases b : isBut q n (tkAt q n R.2.1.2)
    · obtain ⟨T, hT⟩ : ∃ T, rwW e m q n 4 R.2.1.1 (tkEnd q n (tkAt q n R.2.1.2)) R.2.2 = T := ⟨_, rfl⟩
      have ee := roS_but hR w b hT
      rw [ee] at h0 ⊢
      have t1 := rwW_ok (e := e) (q := q) (g := R.2.2) hm0 (show 0 ≤ tkEnd q n (tkAt q n R.2.1.2) ∧ tkEnd q n (tkAt q n R.2.1.2) ≤ n by omega) (show 0 ≤ R.2.1.1 by omega) (by decide : (1 : Int) ≤ 4) (fun i i0 i1 => k5 i i0 (by omega)) (by rw [hT]; exact h0)
      rw [hT] at t1
      obtain ⟨t2, t3, t4, t5⟩ := t1
      exact ⟨k2, ⟨by show 0 ≤ T.2.1.1; omega, t2.2⟩, ⟨by show p ≤ T.2.1.2; omega, t3.2⟩, t4, t5⟩
    · have ee := roS_main hR w b
      rw [ee]
      exact ⟨k2, ⟨Int.le_refl 0, (by decide : (0 : Int) ≤ 4)⟩, k3, k4, fun i i0 i1 => k5 i i0 (by have i1 : i < R.2.1.1 + 0 := i1; omega)⟩
  · rw [roS_fault hR w] at h0
    exact absurd h0 w
/-- the row that is read, as a row -/
def roW (r : roR) : sRow := (r.2.1.1, r.2.1.2, r.2.2.2)
theorem roS_tkAt {e : Int → Int} {m : Int} {q : Int → Int} {n p : Int} (h : p ≤ n) : roS e m q n (tkAt q n p) = roS e m q n p := by
  have w : ∀ most fm g, rwW e m q n most fm (tkAt q n p) g = rwW e m q n most fm p g := fun most fm g => by unfold rwW; rw [tkAt_tkAt h]
  unfold roS
  rw [w]
theorem rwN_end {e : Int → Int} {m : Int} {q : Int → Int} {n most fm : Int} : ∀ (f : Nat) (k p : Int) (g : Int → Int), k ≤ most → most + 1 - k ≤ f → (rwN e m q n most fm f k p g).1.1 = 0 → rwE q n (tkAt q n (rwN e m q n most fm f k p g).2.1.2)
  | 0, k, p, g, hk, hf, _ => by omega
  | f + 1, k, p, g, hk, hf, h0 => by
    by_cases w : rwE q n (tkAt q n p)
    · rw [rwN_stop w]; exact w
    · by_cases x : k = most
      · rw [rwN_full w x] at h0
        exact absurd h0 (by show ¬ (5 : Int) = 0; decide)
      · by_cases y : (knF e m q n (tkAt q n p)).1 = 0
        · rw [rwN_go w x y] at h0 ⊢
          exact rwN_end f (k + 1) _ _ (by omega) (by omega) h0
        · rw [rwN_bad w x y] at h0
          exact absurd h0 y
theorem rwW_end {e : Int → Int} {m : Int} {q : Int → Int} {n most fm p : Int} {g : Int → Int} (hm : 1 ≤ most) (h0 : (rwW e m q n most fm p g).1.1 = 0) : rwE q n (tkAt q n (rwW e m q n most fm p g).2.1.2) := by
  by_cases y : (knF e m q n (tkAt q n p)).1 = 0
  · have eq : rwW e m q n most fm p g = rwN e m q n most fm most.toNat 1 (tkEnd q n (tkAt q n p)) (upv g fm (knV e m q n (tkAt q n p))) := if_pos y
    rw [eq] at h0 ⊢
    exact rwN_end _ _ _ _ hm (by omega) h0
  · have eq : rwW e m q n most fm p g = (knF e m q n (tkAt q n p), (0, 0), g) := if_neg y
    rw [eq] at h0
    exact absurd h0 y
theorem rwE_bad {q : Int → Int} {n p : Int} (hp : 0 ≤ p ∧ p ≤ n) (ha : awP q n p) (h : rwE q n (tkAt q n p)) (k : tkKd q n (tkAt q n p) = 1) : tkBad q n (tkAt q n p) = -1 ∧ sOwn (tkC q n (tkAt q n p)) := by
  rcases h with w | ⟨w, w2⟩
  · exact absurd k w
  · exact ⟨(awP_bad hp ha k).mpr w, w2⟩
/-- behind a row that is well -/
theorem roS_end {e : Int → Int} {m : Int} {q : Int → Int} {n p : Int} (hm0 : 0 ≤ m) (hp : 0 ≤ p ∧ p ≤ n) (h0 : (roS e m q n p).1.1 = 0) (k : tkKd q n (tkAt q n (roS e m q n p).2.2.1) = 1) : tkBad q n (tkAt q n (roS e m q n p).2.2.1) = -1 := by
  obtain ⟨-, -, o3, o4, -⟩ := roS_ok hm0 hp h0
  refine (rwE_bad (by omega) o4 ?_ k).1
  obtain ⟨R, hR⟩ : ∃ R, rwW e m q n 8 0 p (fun _ => 0) = R := ⟨_, rfl⟩
  by_cases w : R.1.1 = 0
  · by_cases b : isBut q n (tkAt q n R.2.1.2)
    · obtain ⟨T, hT⟩ : ∃ T, rwW e m q n 4 R.2.1.1 (tkEnd q n (tkAt q n R.2.1.2)) R.2.2 = T := ⟨_, rfl⟩
      have ee := roS_but hR w b hT
      rw [ee] at h0 ⊢
      have t := rwW_end (e := e) (m := m) (q := q) (n := n) (fm := R.2.1.1) (p := tkEnd q n (tkAt q n R.2.1.2)) (g := R.2.2) (by decide : (1 : Int) ≤ 4) (by rw [hT]; exact h0)
      rw [hT] at t
      exact t
    · have ee := roS_main hR w b
      rw [ee]
      have t := rwW_end (e := e) (m := m) (q := q) (n := n) (fm := 0) (p := p) (g := fun _ => 0) (by decide : (1 : Int) ≤ 8) (by rw [hR]; exact w)
      rw [hR] at t
      exact t
  · have ee := roS_fault hR w
    rw [ee] at h0
    exact absurd h0 w
