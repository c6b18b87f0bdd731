set_option maxRecDepth 100000
set_option linter.unusedVariables false
/-! rounds: a function on at most 24 words; the first time that a row is one that was -/
def itN (f : Nat → Nat) : Nat → Nat → Nat
  | 0, w => w
  | k + 1, w => f (itN f k w)
theorem itN_add (f : Nat → Nat) (a b w : Nat) : itN f (a + b) w = itN f a (itN f b w) := by
  induction a with
  | zero => rw [Nat.zero_add]; rfl
  | succ a ih => rw [Nat.add_right_comm]; show f (itN f (a + b) w) = f _; rw [ih]
theorem itN_comm (f : Nat → Nat) (a b w : Nat) : itN f a (itN f b w) = itN f b (itN f a w) := by
  rw [← itN_add, ← itN_add, Nat.add_comm]
theorem itN_lt {f : Nat → Nat} {n : Nat} (hf : ∀ w, w < n → f w < n) (k : Nat) {w : Nat} (hw : w < n) : itN f k w < n := by
  induction k with
  | zero => exact hw
  | succ k ih => exact hf _ ih
theorem itN_mul {f : Nat → Nat} {c z : Nat} (h : itN f c z = z) (m : Nat) : itN f (c * m) z = z := by
  induction m with
  | zero => rfl
  | succ m ih => rw [Nat.mul_succ, itN_add, h, ih]
theorem nodup_len (n : Nat) : ∀ l : List Nat, l.Nodup → (∀ x, x ∈ l → x < n) → l.length ≤ n := by
  induction n with
  | zero =>
    intro l _ h
    cases l with
    | nil => exact Nat.le_refl _
    | cons a l => exact absurd (h a List.mem_cons_self) (by omega)
  | succ n ih =>
    intro l hn h
    have h1 := ih (l.filter (fun x => x != n)) (List.Pairwise.filter _ hn) (fun x hx => by
      obtain ⟨h1, h2⟩ := List.mem_filter.mp hx
      have := h x h1
      have h3 : x ≠ n := by simpa using h2
      omega)
    have h2 : ∀ l : List Nat, l.Nodup → l.length ≤ (l.filter (fun x => x != n)).length + 1 := by
      intro l
      induction l with
      | nil => intro _; exact Nat.zero_le _
      | cons a l ihl =>
        intro hn
        obtain ⟨ha, hl⟩ := List.nodup_cons.mp hn
        by_cases w : a = n
        · have e : l.filter (fun x => x != n) = l := List.filter_eq_self.mpr (fun x hx => by
            have : x ≠ n := fun q => ha (by rw [w, ← q]; exact hx)
            simpa using this)
          rw [List.filter_cons, if_neg (by simp [w]), e]
          exact Nat.le_refl _
        · rw [List.filter_cons, if_pos (by simpa using w)]
          have := ihl hl
          simp only [List.length_cons]
          omega
    have := h2 l hn
    omega
/-- some two of 25 are the same -/
theorem two_same {g : Nat → Nat} {n : Nat} (hn : n ≤ 24) (h : ∀ i, i ≤ 24 → g i < n) : ∃ i j, i < j ∧ j ≤ 24 ∧ g i = g j := by
  apply Classical.byContradiction
  intro hc
  have nd : ((List.range 25).map g).Nodup := by
    refine List.pairwise_map.mpr ?_
    have := List.pairwise_lt_range (n := 25)
    refine List.Pairwise.imp_of_mem ?_ this
    intro a b ha hb hab e
    exact hc ⟨a, b, hab, by have := List.mem_range.mp hb; omega, e⟩
  have := nodup_len n _ nd (fun x hx => by
    obtain ⟨i, h1, h2⟩ := List.mem_map.mp hx
    have := h i (by have := List.mem_range.mp h1; omega)
    omega)
  simp at this
  omega
/-- least one -/
theorem least {p : Nat → Prop} (h : ∃ n, p n) : ∃ n, p n ∧ ∀ m, m < n → ¬ p m := by
  apply Classical.byContradiction
  intro hc
  have : ∀ n, ∀ m, m ≤ n → ¬ p m := by
    intro n
    induction n with
    | zero =>
      intro m hm hp
      exact hc ⟨m, hp, fun k hk => by omega⟩
    | succ n ih =>
      intro m hm hp
      exact hc ⟨m, hp, fun k hk => ih k (by omega)⟩
  obtain ⟨n, hn⟩ := h
  exact this n n (Nat.le_refl _) hn
def orbN (f : Nat → Nat) (y c : Nat) : List Nat := (List.range c).map (fun i => itN f i y)
theorem orb_nodup {f : Nat → Nat} {y c : Nat} (hc : itN f c y = y) (hm : ∀ m, m < c → 0 < m → itN f m y ≠ y) : (orbN f y c).Nodup := by
  refine List.pairwise_map.mpr ?_
  have := List.pairwise_lt_range (n := c)
  refine List.Pairwise.imp_of_mem ?_ this
  intro i j hi hj hij e
  have hj := List.mem_range.mp hj
  have e1 : itN f (c - j) (itN f j y) = y := by rw [← itN_add, Nat.sub_add_cancel (by omega), hc]
  rw [← e, ← itN_add] at e1
  exact hm _ (by omega) (by omega) e1
/-- cycles that are told apart: their elements, their lengths -/
abbrev Cyc (f : Nat → Nat) (n : Nat) (fl ls : List Nat) : Prop := fl.Nodup ∧ (∀ z, z ∈ fl → z < n) ∧ fl.length = ls.sum ∧ (∀ c, c ∈ ls → 1 ≤ c) ∧ (∀ z, z ∈ fl → f z ∈ fl) ∧ ∀ z, z ∈ fl → ∃ c, c ∈ ls ∧ itN f c z = z
theorem Cyc.nd {f : Nat → Nat} {n : Nat} {fl ls : List Nat} (h : Cyc f n fl ls) : fl.Nodup := h.1
theorem Cyc.lt {f : Nat → Nat} {n : Nat} {fl ls : List Nat} (h : Cyc f n fl ls) : ∀ z, z ∈ fl → z < n := h.2.1
theorem Cyc.len {f : Nat → Nat} {n : Nat} {fl ls : List Nat} (h : Cyc f n fl ls) : fl.length = ls.sum := h.2.2.1
theorem Cyc.pos {f : Nat → Nat} {n : Nat} {fl ls : List Nat} (h : Cyc f n fl ls) : ∀ c, c ∈ ls → 1 ≤ c := h.2.2.2.1
theorem Cyc.cl {f : Nat → Nat} {n : Nat} {fl ls : List Nat} (h : Cyc f n fl ls) : ∀ z, z ∈ fl → f z ∈ fl := h.2.2.2.2.1
theorem Cyc.per {f : Nat → Nat} {n : Nat} {fl ls : List Nat} (h : Cyc f n fl ls) : ∀ z, z ∈ fl → ∃ c, c ∈ ls ∧ itN f c z = z := h.2.2.2.2.2
theorem Cyc.clN {f : Nat → Nat} {n : Nat} {fl ls : List Nat} (h : Cyc f n fl ls) (k : Nat) {z : Nat} (hz : z ∈ fl) : itN f k z ∈ fl := by
  induction k with
  | zero => exact hz
  | succ k ih => exact h.cl _ ih
theorem Cyc.step {f : Nat → Nat} {n : Nat} {fl ls : List Nat} (h : Cyc f n fl ls) (hf : ∀ w, w < n → f w < n) (hn : n ≤ 24) {w : Nat} (hw : w < n) : ∃ fl' ls', Cyc f n fl' ls' ∧ (∀ z, z ∈ fl → z ∈ fl') ∧ itN f 24 w ∈ fl' := by
  by_cases hy : itN f 24 w ∈ fl
  · exact ⟨fl, ls, h, fun _ q => q, hy⟩
  · obtain ⟨i, j, hij, hj, e⟩ := two_same (g := fun i => itN f i w) hn (fun i _ => itN_lt hf i hw)
    have e : itN f i w = itN f j w := e
    have hp : ∃ c, 0 < c ∧ itN f c (itN f 24 w) = itN f 24 w := by
      refine ⟨j - i, by omega, ?_⟩
      have e2 : itN f 24 w = itN f (24 - i) (itN f i w) := by rw [← itN_add, Nat.sub_add_cancel (by omega)]
      rw [e2, itN_comm, ← itN_add f (j - i), Nat.sub_add_cancel (by omega), e]
    obtain ⟨c, ⟨c0, c1⟩, c2⟩ := least hp
    have hm : ∀ m, m < c → 0 < m → itN f m (itN f 24 w) ≠ itN f 24 w := fun m m1 m0 q => c2 m m1 ⟨m0, q⟩
    have hyl := itN_lt hf 24 hw
    generalize itN f 24 w = y at *
    have mo : ∀ z, z ∈ orbN f y c ↔ ∃ i, i < c ∧ itN f i y = z := fun z => by
      unfold orbN
      rw [List.mem_map]
      constructor
      · rintro ⟨i, i1, i2⟩; exact ⟨i, List.mem_range.mp i1, i2⟩
      · rintro ⟨i, i1, i2⟩; exact ⟨i, List.mem_range.mpr i1, i2⟩
    refine ⟨orbN f y c ++ fl, c :: ls, ⟨?_, ?_, ?_, ?_, ?_, ?_⟩, fun z q => List.mem_append.mpr (Or.inr q), List.mem_append.mpr (Or.inl ((mo y).mpr ⟨0, c0, rfl⟩))⟩
    · refine List.nodup_append.mpr ⟨orb_nodup c1 hm, h.nd, fun a ha b hb q => ?_⟩
      obtain ⟨i, i1, i2⟩ := (mo a).mp ha
      have := h.clN (c - i) hb
      rw [← q, ← i2, ← itN_add, Nat.sub_add_cancel (by omega), c1] at this
      exact hy this
    · intro z hz
      rcases List.mem_append.mp hz with q | q
      · obtain ⟨i, i1, i2⟩ := (mo z).mp q
        rw [← i2]; exact itN_lt hf i hyl
      · exact h.lt z q
    · rw [List.length_append, h.len]
      simp [orbN]
    · intro d hd
      rcases List.mem_cons.mp hd with q | q
      · omega
      · exact h.pos d q
    · intro z hz
      rcases List.mem_append.mp hz with q | q
      · obtain ⟨i, i1, i2⟩ := (mo z).mp q
        refine List.mem_append.mpr (Or.inl ((mo _).mpr ?_))
        by_cases w : i + 1 = c
        · exact ⟨0, c0, by show y = f z; rw [← i2]; rw [← w] at c1; exact c1.symm⟩
        · exact ⟨i + 1, by omega, by rw [← i2]; rfl⟩
      · exact List.mem_append.mpr (Or.inr (h.cl z q))
    · intro z hz
      rcases List.mem_append.mp hz with q | q
      · obtain ⟨i, i1, i2⟩ := (mo z).mp q
        exact ⟨c, List.mem_cons_self, by rw [← i2, itN_comm, c1]⟩
      · obtain ⟨d, d1, d2⟩ := h.per z q
        exact ⟨d, List.mem_cons_of_mem _ d1, d2⟩
theorem Cyc.all {f : Nat → Nat} {n : Nat} (hf : ∀ w, w < n → f w < n) (hn : n ≤ 24) (m : Nat) (hm : m ≤ n) : ∃ fl ls, Cyc f n fl ls ∧ ∀ w, w < m → itN f 24 w ∈ fl := by
  induction m with
  | zero => exact ⟨[], [], ⟨List.nodup_nil, by simp, rfl, by simp, by simp, by simp⟩, by simp⟩
  | succ m ih =>
    obtain ⟨fl, ls, h1, h2⟩ := ih (by omega)
    obtain ⟨fl', ls', h3, h4, h5⟩ := h1.step hf hn (w := m) (by omega)
    refine ⟨fl', ls', h3, fun w hw => ?_⟩
    by_cases q : w = m
    · rw [q]; exact h5
    · exact h4 _ (h2 w (by omega))
/-- all choices of lengths from 1 .. k, so much in all: none has a least common multiple above 840 -/
def lanC : Nat → Nat → Nat → Bool
  | 0, _, d => Nat.ble d 840
  | k + 1, s, d => and (lanC k s d) (bif Nat.ble (k + 1) s then lanC k (s - (k + 1)) (Nat.lcm d (k + 1)) else true)
theorem sum_filter_add {ls : List Nat} {a : Nat} (h : a ∈ ls) : (ls.filter (fun x => x != a)).sum + a ≤ ls.sum := by
  induction ls with
  | nil => cases h
  | cons b l ih =>
    have hle : ∀ l : List Nat, (l.filter (fun x => x != a)).sum ≤ l.sum := by
      intro l
      induction l with
      | nil => exact Nat.le_refl _
      | cons c l ihl =>
        rw [List.filter_cons]
        split
        · simp only [List.sum_cons]; omega
        · simp only [List.sum_cons]; omega
    rw [List.filter_cons]
    by_cases w : b = a
    · rw [if_neg (by simp [w])]
      have := hle l
      simp only [List.sum_cons]
      omega
    · rw [if_pos (by simpa using w)]
      have := ih (by
        rcases List.mem_cons.mp h with q | q
        · exact absurd q.symm w
        · exact q)
      simp only [List.sum_cons]
      omega
theorem lan_of (k : Nat) : ∀ (s d : Nat) (ls : List Nat), lanC k s d = true → 0 < d → (∀ c, c ∈ ls → 1 ≤ c ∧ c ≤ k) → ls.sum ≤ s → ∃ p, 0 < p ∧ p ≤ 840 ∧ d ∣ p ∧ ∀ c, c ∈ ls → c ∣ p := by
  induction k with
  | zero =>
    intro s d ls h hd hc _
    exact ⟨d, hd, Nat.le_of_ble_eq_true h, Nat.dvd_refl _, fun c q => by have := hc c q; omega⟩
  | succ k ih =>
    intro s d ls h hd hc hs
    have h := (Bool.and_eq_true _ _).mp h
    by_cases w : k + 1 ∈ ls
    · have h1 := sum_filter_add w
      have hb : Nat.ble (k + 1) s = true := Nat.ble_eq_true_of_le (by omega)
      have h2 := h.2
      rw [hb] at h2
      obtain ⟨p, p0, p1, p2, p3⟩ := ih (s - (k + 1)) (Nat.lcm d (k + 1)) (ls.filter (fun x => x != k + 1)) h2 (Nat.lcm_pos hd (by omega)) (fun c q => by
        obtain ⟨q1, q2⟩ := List.mem_filter.mp q
        have := hc c q1
        have : c ≠ k + 1 := by simpa using q2
        omega) (by omega)
      refine ⟨p, p0, p1, Nat.dvd_trans (Nat.dvd_lcm_left _ _) p2, fun c q => ?_⟩
      by_cases e : c = k + 1
      · rw [e]; exact Nat.dvd_trans (Nat.dvd_lcm_right _ _) p2
      · exact p3 c (List.mem_filter.mpr ⟨q, by simpa using e⟩)
    · exact ih s d ls h.1 hd (fun c q => by
        have := hc c q
        have : c ≠ k + 1 := fun e => w (e ▸ q)
        omega) hs
theorem lan24 : lanC 24 24 1 = true := by decide +kernel
theorem mem_le_sum {ls : List Nat} {c : Nat} (h : c ∈ ls) : c ≤ ls.sum := by
  have := sum_filter_add h
  omega
theorem landau {f : Nat → Nat} {n : Nat} (hf : ∀ w, w < n → f w < n) (hn : n ≤ 24) : ∃ p, 0 < p ∧ p ≤ 840 ∧ ∀ w t, w < n → 24 ≤ t → itN f (t + p) w = itN f t w := by
  obtain ⟨fl, ls, h1, h2⟩ := Cyc.all hf hn n (Nat.le_refl _)
  have hl := nodup_len n fl h1.nd h1.lt
  rw [h1.len] at hl
  obtain ⟨p, p0, p1, -, p3⟩ := lan_of 24 24 1 ls lan24 (by decide) (fun c q => ⟨h1.pos c q, by have := mem_le_sum q; omega⟩) (by omega)
  refine ⟨p, p0, p1, fun w t hw ht => ?_⟩
  obtain ⟨c, c1, c2⟩ := h1.per _ (h1.clN (t - 24) (h2 w hw))
  rw [← itN_add f (t - 24), Nat.sub_add_cancel ht] at c2
  obtain ⟨m, hm⟩ := p3 c c1
  rw [Nat.add_comm, itN_add, hm, itN_mul c2]
theorem least0 {p : Nat → Prop} (h : ∃ n, p n) : ∃ n, p n ∧ ∀ m, m < n → ¬ p m := by
  apply Classical.byContradiction
  intro hc
  have : ∀ n, ∀ m, m ≤ n → ¬ p m := by
    intro n
    induction n with
    | zero =>
      intro m hm hp
      exact hc ⟨m, hp, fun k hk => by omega⟩
    | succ n ih =>
      intro m hm hp
      exact hc ⟨m, hp, fun k hk => ih k (by omega)⟩
  obtain ⟨n, hn⟩ := h
  exact this n n (Nat.le_refl _) hn
/-- a walk that may come to an end (D) or to where it was (E) -/
abbrev wlk (E : Nat → Nat → Prop) (D : Nat → Prop) : Prop := (∀ i, E i i) ∧ (∀ i j, E i j → E j i) ∧ (∀ i j k, E i j → E j k → E i k) ∧ (∀ i j, E i j → E (i + 1) (j + 1)) ∧ (∀ i j, E i j → D i → D j) ∧ ∀ i, D i → D (i + 1)
theorem wlk.rf {E : Nat → Nat → Prop} {D : Nat → Prop} (h : wlk E D) : ∀ i, E i i := h.1
theorem wlk.sy {E : Nat → Nat → Prop} {D : Nat → Prop} (h : wlk E D) : ∀ i j, E i j → E j i := h.2.1
theorem wlk.tr {E : Nat → Nat → Prop} {D : Nat → Prop} (h : wlk E D) : ∀ i j k, E i j → E j k → E i k := h.2.2.1
theorem wlk.sh {E : Nat → Nat → Prop} {D : Nat → Prop} (h : wlk E D) : ∀ i j, E i j → E (i + 1) (j + 1) := h.2.2.2.1
theorem wlk.dd {E : Nat → Nat → Prop} {D : Nat → Prop} (h : wlk E D) : ∀ i j, E i j → D i → D j := h.2.2.2.2.1
theorem wlk.dn {E : Nat → Nat → Prop} {D : Nat → Prop} (h : wlk E D) : ∀ i, D i → D (i + 1) := h.2.2.2.2.2
/-- the first time that something is so -/
def wfst (E : Nat → Nat → Prop) (D : Nat → Prop) (T : Nat) : Prop := (D T ∨ ∃ k, k < T ∧ E k T) ∧ ∀ m, m < T → ¬ D m ∧ ∀ k, k < m → ¬ E k m
section
variable {E : Nat → Nat → Prop} {D : Nat → Prop} {T : Nat}
theorem wlk.shN (h : wlk E D) {i j : Nat} (e : E i j) (n : Nat) : E (i + n) (j + n) := by
  induction n with
  | zero => exact e
  | succ n ih => exact h.sh _ _ ih
theorem wlk.dN (h : wlk E D) {i : Nat} (e : D i) (n : Nat) : D (i + n) := by
  induction n with
  | zero => exact e
  | succ n ih => exact h.dn _ ih
theorem wfst.ne (f : wfst E D T) {i j : Nat} (h1 : i < j) (h2 : j < T) : ¬ E i j := (f.2 j h2).2 i h1
/-- it goes round from k on -/
theorem wlk.per (h : wlk E D) {k : Nat} (hk : k < T) (e : E k T) {n : Nat} (hn : k ≤ n) (m : Nat) : E n (n + (T - k) * m) := by
  have e1 : ∀ n, k ≤ n → E n (n + (T - k)) := fun n hn => by
    have := h.shN e (n - k)
    rw [show k + (n - k) = n by omega, show T + (n - k) = n + (T - k) by omega] at this
    exact this
  induction m with
  | zero => exact h.rf _
  | succ m ih =>
    refine h.tr _ _ _ ih ?_
    have := e1 (n + (T - k) * m) (by omega)
    rw [Nat.mul_succ, ← Nat.add_assoc]
    exact this
/-- what lies behind k lies between k and T -/
theorem wlk.red (h : wlk E D) {k : Nat} (hk : k < T) (e : E k T) {n : Nat} (hn : k ≤ n) : E n (k + (n - k) % (T - k)) := by
  refine h.sy _ _ ?_
  have := h.per hk e (n := k + (n - k) % (T - k)) (by omega) ((n - k) / (T - k))
  have e2 := Nat.mod_add_div (n - k) (T - k)
  rw [show k + (n - k) % (T - k) + (T - k) * ((n - k) / (T - k)) = n by omega] at this
  exact this
theorem wlk.lo (h : wlk E D) (f : wfst E D T) {k : Nat} (hk : k < T) (e : E k T) {s j : Nat} (hs : s < k) (hj : 0 < j) : ¬ E s (s + j) := by
  intro q
  by_cases w : s + j < T
  · exact f.ne (by omega) w q
  · have r := h.red hk e (n := s + j) (by omega)
    have hm := Nat.mod_lt (s + j - k) (show 0 < T - k by omega)
    exact f.ne (i := s) (j := k + (s + j - k) % (T - k)) (by omega) (by omega) (h.tr _ _ _ q r)
theorem wlk.hi (h : wlk E D) (f : wfst E D T) {k : Nat} (hk : k < T) (e : E k T) {s j : Nat} (hs : k ≤ s) (hj : 0 < j) (hj2 : j < T - k) : ¬ E s (s + j) := by
  intro q
  have r1 := h.red hk e (n := s) hs
  have r2 := h.red hk e (n := s + j) (by omega)
  have m1 := Nat.mod_lt (s - k) (show 0 < T - k by omega)
  have m2 := Nat.mod_lt (s + j - k) (show 0 < T - k by omega)
  have q2 := h.tr _ _ _ (h.tr _ _ _ (h.sy _ _ r1) q) r2
  by_cases w : (s - k) % (T - k) = (s + j - k) % (T - k)
  · have e1 := Nat.mod_add_div (s - k) (T - k)
    have e2 := Nat.mod_add_div (s + j - k) (T - k)
    have e3 : j = (T - k) * ((s + j - k) / (T - k)) - (T - k) * ((s - k) / (T - k)) := by omega
    rw [← Nat.mul_sub] at e3
    have e4 : j % (T - k) = 0 := by rw [e3]; exact Nat.mul_mod_right _ _
    rw [Nat.mod_eq_of_lt hj2] at e4
    omega
  · rcases Nat.lt_or_gt_of_ne w with w | w
    · exact f.ne (i := k + (s - k) % (T - k)) (j := k + (s + j - k) % (T - k)) (by omega) (by omega) q2
    · exact f.ne (i := k + (s + j - k) % (T - k)) (j := k + (s - k) % (T - k)) (by omega) (by omega) (h.sy _ _ q2)
/-- it never comes to an end -/
theorem wlk.noD (h : wlk E D) (f : wfst E D T) {k : Nat} (hk : k < T) (e : E k T) (n : Nat) : ¬ D n := by
  intro q
  by_cases w : n < T
  · exact (f.2 n w).1 q
  · have r := h.red hk e (n := n) (by omega)
    have hm := Nat.mod_lt (n - k) (show 0 < T - k by omega)
    exact (f.2 (k + (n - k) % (T - k)) (by omega)).1 (h.dd _ _ r q)
/-- two that are alike, one behind the other at the first such distance: that is the round -/
theorem wlk.lam (h : wlk E D) (f : wfst E D T) {k : Nat} (hk : k < T) (e : E k T) {s j : Nat} (hj : 0 < j) (q : E s (s + j)) (hm : ∀ i, 0 < i → i < j → ¬ E s (s + i)) : k ≤ s ∧ j = T - k := by
  have hs : k ≤ s := by
    apply Classical.byContradiction
    intro w
    exact h.lo f hk e (by omega) hj q
  refine ⟨hs, ?_⟩
  rcases Nat.lt_trichotomy j (T - k) with w | w | w
  · exact absurd q (h.hi f hk e hs hj w)
  · exact w
  · have := h.per hk e hs 1
    rw [Nat.mul_one] at this
    exact absurd this (hm _ (by omega) w)
theorem wlk.mu (h : wlk E D) (f : wfst E D T) {k : Nat} (hk : k < T) (e : E k T) (s : Nat) : E s (s + (T - k)) ↔ k ≤ s := by
  constructor
  · intro q
    apply Classical.byContradiction
    intro w
    exact h.lo f hk e (by omega) (by omega) q
  · intro q
    have := h.per hk e q 1
    rw [Nat.mul_one] at this
    exact this
/-- no such one so far: so little was gone -/
theorem wlk.few (h : wlk E D) (f : wfst E D T) {k : Nat} (hk : k < T) (e : E k T) {s p : Nat} (hm : ∀ i, 0 < i → i ≤ p → ¬ E s (s + i)) : s < T ∨ p < T := by
  apply Classical.byContradiction
  intro w
  have := h.per hk e (n := s) (by omega) 1
  rw [Nat.mul_one] at this
  exact hm _ (by omega) (by omega) this
end
noncomputable def sTo (W : sTb) (c H : Int) (R : sRow) : Nat → sRow
  | 0 => R
  | n + 1 => sSayR W c (sTo W c H R n) H
def sToE (W : sTb) (c H : Int) (R : sRow) (i j : Nat) : Prop := sAlike (sTo W c H R i) (sTo W c H R j)
def sToD (W : sTb) (c H : Int) (R : sRow) (i : Nat) : Prop := (sTo W c H R i).1 = 0
theorem sAlike.rfl' {R : sRow} : sAlike R R := ⟨rfl, rfl, fun _ _ _ => rfl⟩
theorem sAlike.symm' {R R' : sRow} (h : sAlike R R') : sAlike R' R := ⟨h.1.symm, h.2.1.symm, fun k k0 k1 => (h.2.2 k k0 (by rw [h.1, h.2.1]; exact k1)).symm⟩
theorem sAlike.trans' {R R' R'' : sRow} (h : sAlike R R') (g : sAlike R' R'') : sAlike R R'' := ⟨h.1.trans g.1, h.2.1.trans g.2.1, fun k k0 k1 => (h.2.2 k k0 k1).trans (g.2.2 k k0 (by rw [← h.1, ← h.2.1]; exact k1))⟩
theorem sSayR_1 {W : sTb} {c : Int} {R : sRow} {left : Int} : (sSayR W c R left).1 = R.1 ∨ (sSayR W c R left).1 = 0 := by
  show sMain W c R left = R.1 ∨ sMain W c R left = 0
  unfold sMain
  by_cases q : sLost W c R left
  · rw [cif_pos q]; exact Or.inr rfl
  · rw [cif_neg q]; exact Or.inl rfl
theorem sSayR_2 {W : sTb} {c : Int} {R : sRow} {left : Int} : (sSayR W c R left).2.1 = R.2.1 ∨ (sSayR W c R left).2.1 = 0 := by
  show sBut W c R left = R.2.1 ∨ sBut W c R left = 0
  unfold sBut
  by_cases q : sLost W c R left
  · rw [cif_pos q]; exact Or.inr rfl
  · rw [cif_neg q]
    by_cases q : sCut W c R left
    · rw [cif_pos q]; exact Or.inr rfl
    · rw [cif_neg q]; exact Or.inl rfl
theorem sSayR_alike {W : sTb} {c : Int} {R R' : sRow} {left : Int} (h : sAlike R R') (p1 : 0 ≤ R.1) (p2 : 0 ≤ R.2.1) : sAlike (sSayR W c R left) (sSayR W c R' left) := by
  obtain ⟨e1, e2, e3, e4⟩ := say_congr (W := W) (c := c) (left := left) h.1 h.2.1 h.2.2 p1 p2
  refine ⟨e2, e3, fun k k0 k1 => e4 k k0 ?_⟩
  have g1 := sSayR_1 (W := W) (c := c) (R := R) (left := left)
  have g2 := sSayR_2 (W := W) (c := c) (R := R) (left := left)
  omega
section
variable {W : sTb} {c H : Int} {R : sRow}
theorem sTo_ok (hW : sWok W) (hc : 0 ≤ c ∧ c < W 2 0 0) (h : sRok (W 0 0 0) R) (n : Nat) : sRok (W 0 0 0) (sTo W c H R n) := by
  induction n with
  | zero => exact h
  | succ n ih => exact sSayR_ok hW hc ih
theorem sTo_wlk (hW : sWok W) (hc : 0 ≤ c ∧ c < W 2 0 0) (h : sRok (W 0 0 0) R) : wlk (sToE W c H R) (sToD W c H R) := by
  refine ⟨fun i => sAlike.rfl', fun i j e => e.symm', fun i j k e g => e.trans' g, fun i j e => ?_, fun i j e d => ?_, fun i d => ?_⟩
  · have g := sTo_ok (H := H) hW hc h i
    exact sSayR_alike e g.1.1 g.2.1.1
  · have d : (sTo W c H R i).1 = 0 := d
    show (sTo W c H R j).1 = 0
    rw [← e.1, d]
  · have d : (sTo W c H R i).1 = 0 := d
    rcases sSayR_1 (W := W) (c := c) (R := sTo W c H R i) (left := H) with q | q
    · exact q.trans d
    · exact q
theorem sTo_wd {k : Int} (n : Nat) : (sTo W c H R n).2.2 k = it (fun _ w => sSaid W c w) (R.2.2 k) n := by
  induction n with
  | zero => rfl
  | succ n ih =>
    show sSaid W c ((sTo W c H R n).2.2 k) = sSaid W c _
    rw [ih]
theorem sTo_it (hW : sWok W) (hc : 0 ≤ c ∧ c < W 2 0 0) {w : Int} (hw : 0 ≤ w ∧ w < W 0 0 0) (n : Nat) : it (fun _ w => sSaid W c w) w n = (itN (fun k => (sSaid W c k).toNat) n w.toNat : Int) ∧ it (fun _ w => sSaid W c w) w n < W 0 0 0 := by
  induction n with
  | zero =>
    show w = (w.toNat : Int) ∧ w < _
    omega
  | succ n ih =>
    have g := sSaid_range hW hc (w := it (fun _ w => sSaid W c w) w n) (by omega)
    show sSaid W c (it (fun _ w => sSaid W c w) w n) = ((sSaid W c (itN (fun k => (sSaid W c k).toNat) n w.toNat)).toNat : Int) ∧ sSaid W c (it (fun _ w => sSaid W c w) w n) < _
    rw [← ih.1]
    omega
/-- it comes to an end, or round, within 1704 tellings -/
theorem sTo_fst (hW : sWok W) (hc : 0 ≤ c ∧ c < W 2 0 0) (h : sRok (W 0 0 0) R) : ∃ T, T ≤ 1704 ∧ wfst (sToE W c H R) (sToD W c H R) T := by
  have hw0 := hW.1
  obtain ⟨p, p0, p1, p2⟩ := landau (f := fun k => (sSaid W c k).toNat) (n := (W 0 0 0).toNat) (fun w hw => by
    have g := sSaid_range hW hc (w := w) (by omega)
    show (sSaid W c w).toNat < _
    omega) (by omega)
  have pw : ∀ (k : Int) (t : Nat), 0 ≤ k → k < R.1 + R.2.1 → 24 ≤ t → (sTo W c H R (t + p)).2.2 k = (sTo W c H R t).2.2 k := fun k t k0 k1 ht => by
    have g := h.2.2 k k0 k1
    have e := p2 (R.2.2 k).toNat t (by omega) ht
    rw [sTo_wd, sTo_wd, (sTo_it hW hc g _).1, (sTo_it hW hc g _).1, e]
  have m1 : ∀ n, (sTo W c H R n).1 = R.1 ∨ (sTo W c H R n).1 = 0 := fun n => by
    induction n with
    | zero => exact Or.inl rfl
    | succ n ih =>
      have : (sTo W c H R (n + 1)).1 = (sTo W c H R n).1 ∨ (sTo W c H R (n + 1)).1 = 0 := sSayR_1
      omega
  have m2 : ∀ n m, (sTo W c H R (n + m)).2.1 = (sTo W c H R n).2.1 ∨ (sTo W c H R (n + m)).2.1 = 0 := fun n m => by
    induction m with
    | zero => exact Or.inl rfl
    | succ m ih =>
      have : (sTo W c H R (n + m + 1)).2.1 = (sTo W c H R (n + m)).2.1 ∨ (sTo W c H R (n + m + 1)).2.1 = 0 := sSayR_2
      rw [← Nat.add_assoc]
      omega
  have ev : ∃ n, n ≤ 1704 ∧ (sToD W c H R n ∨ ∃ k, k < n ∧ sToE W c H R k n) := by
    apply Classical.byContradiction
    intro hno
    have nd : ∀ n, n ≤ 1704 → (sTo W c H R n).1 = R.1 := fun n hn => by
      rcases m1 n with q | q
      · exact q
      · exact absurd ⟨n, hn, Or.inl q⟩ hno
    have b0 := m2 0 24
    rw [Nat.zero_add] at b0
    have b00 : (sTo W c H R 0).2.1 = R.2.1 := rfl
    have r2 := h.2.1
    have b1 := m2 24 p
    have b2 := m2 (24 + p) p
    have mk : ∀ t, 24 ≤ t → t + p ≤ 1704 → (sTo W c H R t).2.1 = (sTo W c H R (t + p)).2.1 → False := fun t ht hp e => by
      refine hno ⟨t + p, hp, Or.inr ⟨t, by omega, ⟨by rw [nd t (by omega), nd _ hp], e, fun k k0 k1 => (pw k t k0 ?_ ht).symm⟩⟩⟩
      have b3 := m2 0 t
      rw [Nat.zero_add] at b3
      rw [nd t (by omega)] at k1
      omega
    by_cases q : (sTo W c H R 24).2.1 = (sTo W c H R (24 + p)).2.1
    · exact mk 24 (by omega) (by omega) q
    · exact mk (24 + p) (by omega) (by omega) (by omega)
  obtain ⟨n, hn, e⟩ := ev
  obtain ⟨T, t1, t2⟩ := least0 (p := fun n => sToD W c H R n ∨ ∃ k, k < n ∧ sToE W c H R k n) ⟨n, e⟩
  refine ⟨T, ?_, t1, fun m hm => ⟨fun q => t2 m hm (Or.inl q), fun k hk q => t2 m hm (Or.inr ⟨k, hk, q⟩)⟩⟩
  apply Classical.byContradiction
  intro w
  exact t2 n (by omega) e
end
/-- what a round answers -/
def sRnd (W : sTb) (c H : Int) (R : sRow) (z k r : Int) : Prop := ∃ T : Nat, T ≤ 1704 ∧ wfst (sToE W c H R) (sToD W c H R) T ∧ z = T ∧ ((sToD W c H R T ∧ k = -1 ∧ r = 0) ∨ ∃ j : Nat, j < T ∧ sToE W c H R j T ∧ k = j ∧ r = T - j)
theorem wfst.one {E : Nat → Nat → Prop} {D : Nat → Prop} {T T' : Nat} (h : wfst E D T) (h' : wfst E D T') : T = T' := by
  rcases Nat.lt_trichotomy T T' with w | w | w
  · have := h'.2 T w
    rcases h.1 with q | ⟨k, k1, k2⟩
    · exact absurd q this.1
    · exact absurd k2 (this.2 k k1)
  · exact w
  · have := h.2 T' w
    rcases h'.1 with q | ⟨k, k1, k2⟩
    · exact absurd q this.1
    · exact absurd k2 (this.2 k k1)
theorem sRnd.one {W : sTb} {c H : Int} {R : sRow} (hW : sWok W) (hc : 0 ≤ c ∧ c < W 2 0 0) (h : sRok (W 0 0 0) R) {z k r z' k' r' : Int} (a : sRnd W c H R z k r) (b : sRnd W c H R z' k' r') : z = z' ∧ k = k' ∧ r = r' := by
  obtain ⟨T, -, t1, t2, t3⟩ := a
  obtain ⟨T', -, u1, u2, u3⟩ := b
  have e := t1.one u1
  subst e
  have hl := sTo_wlk (H := H) hW hc h
  rcases t3 with ⟨q1, q2, q3⟩ | ⟨j, j1, j2, j3, j4⟩
  · rcases u3 with ⟨w1, w2, w3⟩ | ⟨i, i1, i2, i3, i4⟩
    · omega
    · exact absurd q1 (hl.noD t1 i1 i2 _)
  · rcases u3 with ⟨w1, w2, w3⟩ | ⟨i, i1, i2, i3, i4⟩
    · exact absurd w1 (hl.noD t1 j1 j2 _)
    · have : i = j := by
        rcases Nat.lt_trichotomy i j with w | w | w
        · exact absurd (hl.tr _ _ _ i2 (hl.sy _ _ j2)) (t1.ne w j1)
        · exact w
        · exact absurd (hl.tr _ _ _ j2 (hl.sy _ _ i2)) (t1.ne w i1)
      omega
