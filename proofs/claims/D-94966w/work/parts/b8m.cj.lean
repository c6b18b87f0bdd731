set_option maxRecDepth 100000
set_option linter.unusedVariables false
/-! constructors with rows of sayings -/
def gT (T : List Nat) : Nat → List Nat
  | 0 => T
  | i + 1 => gT T i ++ [3] ++ [4] ++ [107]
def gfl (fl : List (Nat × Nat × Nat)) (m p : Nat) : Nat → List (Nat × Nat × Nat)
  | 0 => fl
  | i + 1 => gfl fl m p i ++ [(914, m + 3 * i, p)] ++ [(1202, m + 3 * i + 1, m + 3 * i + 2)] ++ [(902, m + 3 * i, m + 3 * i + 1)]
def gln (ln : List (Nat × Nat)) (m : Nat) : Nat → List (Nat × Nat)
  | 0 => ln
  | i + 1 => gln ln m i ++ [(m + 3 * i + 2, 12)]
def gAl (Al : List (Nat × Int)) (m : Nat) : Nat → List (Nat × Int)
  | 0 => Al
  | i + 1 => gAl Al m i ++ [(m + 3 * i + 2, -1)]
theorem gT_len (T : List Nat) (i : Nat) : (gT T i).length = T.length + 3 * i := by
  induction i with
  | zero => rfl
  | succ i ih =>
    show (gT T i ++ [3] ++ [4] ++ [107]).length = _
    simp only [List.length_append, List.length_singleton, ih]
    omega
theorem gT_get {T : List Nat} {k : Nat} (h : k < T.length) (i : Nat) : (gT T i).getD k 0 = T.getD k 0 := by
  induction i with
  | zero => rfl
  | succ i ih =>
    have l := gT_len T i
    show (gT T i ++ [3] ++ [4] ++ [107]).getD k 0 = _
    rw [getD_app (by simp only [List.length_append, List.length_singleton]; omega), getD_app (by simp only [List.length_append, List.length_singleton]; omega), getD_app (by omega), ih]
theorem gfl_mem {fl : List (Nat × Nat × Nat)} {m p : Nat} {q : Nat × Nat × Nat} (h : q ∈ fl) (i : Nat) : q ∈ gfl fl m p i := by
  induction i with
  | zero => exact h
  | succ i ih => exact List.mem_append_left _ (List.mem_append_left _ (List.mem_append_left _ ih))
theorem gln_mem {ln : List (Nat × Nat)} {m : Nat} {q : Nat × Nat} (h : q ∈ ln) (i : Nat) : q ∈ gln ln m i := by
  induction i with
  | zero => exact h
  | succ i ih => exact List.mem_append_left _ ih
theorem gAl_ne {Al : List (Nat × Int)} {m k : Nat} (h : ∀ q ∈ Al, q.1 ≠ k) (hk : k < m) (i : Nat) : ∀ q ∈ gAl Al m i, q.1 ≠ k := by
  induction i with
  | zero => exact h
  | succ i ih =>
    intro q hq
    rcases List.mem_append.mp hq with w | w
    · exact ih q w
    · cases List.mem_singleton.mp w
      show m + 3 * i + 2 ≠ k
      omega
section CJ
variable {x : Nat} {s : Int} {N0 N : jSh} {F0 F : jFl} {A0 A : jAr} {T : List Nat} {fl : List (Nat × Nat × Nat)} {ln : List (Nat × Nat)} {Fl : List cFl} {Al : List (Nat × Int)} {Sl : List (Nat × Nat × Nat)} {sz : Nat}
theorem kSay {o p f n i m k : Nat} {a1 v : Int} (h : cI x s N0 F0 A0 N F A (gT T i) (gfl fl m p i) (gln ln m i) Fl (gAl Al m i) (Sl ++ [(k + 1, m, i)]) (sz + 20 * i)) (hT : T.length = m) (hk : k + 1 < m) (hv : v = (i : Int)) (hi : i < n) (ho : o = x + k) (ha : a1 = ((x + p : Nat) : Int)) (hm : (f, k, k + 1) ∈ fl) (ht : T.getD (k + 1) 0 = 110) (hl : (k + 1, n) ∈ ln) (hn : n ≤ 12) (hS : ∀ q ∈ Sl, q.1 ≠ k + 1) (hA : ∀ q ∈ Al, q.1 ≠ k + 1) {Q : Int → jSh → jFl → jAr → Prop}
    (hQ : ∀ N' F' A', cI x s N0 F0 A0 N' F' A' (gT T (i + 1)) (gfl fl m p (i + 1)) (gln ln m (i + 1)) Fl (gAl Al m (i + 1)) (Sl ++ [(k + 1, m, i + 1)]) (sz + 20 * (i + 1)) → Q (v + 1) N' F' A') :
    ∀ (b41 : Nat) (N42 : jSh) (F43 : jFl), b41 = jnx N → N42 = jnew N 3 0 5 1 → F43 = nwF N F →
      ∃ (P48 : jSh → jFl → jAr → Prop), wqX2_init b41 a1 N42 F43 A P48 ∧
      ∀ N53 F51 A52, P48 N53 F51 A52 →
      ∃ b58 : Nat, jfn N f o = (b58 : Int) ∧
      jtg N53 b58 = 110 ∧
      jfn N53 0 b58 = 1 ∧
      ((0 : Int) ≤ v ∧ (v : Int) < (jln N53 b58 : Int)) ∧
      jast N53 "ChildSays$Saying" (b41 : Int) ∧
      ∀ A63 : jAr, A63 = upA A52 b58 v (b41 : Int) →
      jR (v + 1) ∧ Q (v + 1) N53 F51 A63 := by
  intro b41 N42 F43 eb eN eF
  have gl := gT_len T i
  have hb : b41 = x + (m + 3 * i) := by rw [eb, h.1.1, gl, hT]
  have c := h.obj 3 5 (by decide) []
  rw [← eN, ← eF, List.map_nil, List.append_nil] at c
  have lk := (h.2.2.2.1 _ (gfl_mem hm i)).2
  refine ⟨_, kX2_init (m + 3 * i) c hb ha (by simp only [List.length_append, List.length_singleton]; omega) (fun q hq => by have := (h.2.2.2.1 q hq).1; omega), fun N53 F51 A52 c3 => ⟨x + (k + 1), by rw [ho]; exact lk, ?_, ?_, ⟨by omega, ?_⟩, ?_, fun A63 e63 => ⟨⟨by omega, by omega⟩, hQ _ _ _ ?_⟩⟩⟩
  · have q := (c3.2.2.1 (k + 1) (by simp only [List.length_append, List.length_singleton]; omega)).1
    rw [q]
    exact (gT_get (T := T) (by omega) (i + 1)).trans ht
  · exact (c3.2.2.1 (k + 1) (by simp only [List.length_append, List.length_singleton]; omega)).2
  · have q := (c3.2.2.2.2.1 (k + 1, n) (List.mem_append_left _ (gln_mem hl i))).2
    have q : jln N53 (x + (k + 1)) = n := q
    rw [q]; omega
  · have q := (c3.2.2.1 (m + 3 * i) (by simp only [List.length_append, List.length_singleton]; omega)).1
    rw [getD_app (by simp only [List.length_append, List.length_singleton]; omega), getD_app (by simp only [List.length_append, List.length_singleton]; omega), show m + 3 * i = (gT T i).length from by omega, getD_last] at q
    exact jast_at (t := 3) rfl (by rw [hb, show m + 3 * i = (gT T i).length from by omega]; exact q) rfl rfl
  · rw [e63]
    have c4 := c3.uS (k + 1) rfl hv (z := (b41 : Int)) (by rw [hb, Nat.add_assoc]) hS (fun q hq => by
      rcases List.mem_append.mp hq with w | w
      · exact gAl_ne hA hk i q w
      · cases List.mem_singleton.mp w
        show m + 3 * i + 2 ≠ k + 1
        omega)
    have e : sz + 20 * (i + 1) = sz + 20 * i + 5 + 3 + 12 := by omega
    rw [e]
    exact c4
theorem kX4_init {o p : Nat} {a1 : Int} (k : Nat) (h : cI x s N0 F0 A0 N F A T fl ln Fl Al Sl sz) (ho : o = x + k) (ha : a1 = ((x + p : Nat) : Int)) (hT : T.length = k + 1) (hfl : ∀ q ∈ fl, q.2.1 < k) (hS : ∀ q ∈ Sl, q.1 < k) (hA : ∀ q ∈ Al, q.1 < k) : wqX4_init o a1 N F A (fun N' F' A' => cI x s N0 F0 A0 N' F' A' (gT (T ++ [110] ++ [113]) 12) (gfl (fl ++ [(1511, k, p)] ++ [(1502, k, k + 1)] ++ [(1505, k, k + 2)]) (k + 3) p 12) (gln (ln ++ [(k + 1, 12)] ++ [(k + 2, 12)]) (k + 3) 12) Fl (gAl (Al ++ [(k + 2, -1)]) (k + 3) 12) (Sl ++ [(k + 1, k + 3, 12)]) (sz + 12 + 12 + 20 * 12)) := by
  unfold wqX4_init
  refine ⟨by rw [ho]; exact (h.2.2.1 k (by omega)).2, fun N3 e3 b5 N6 F7 A8 eb eN eF eA N16 e16 b18 N19 F20 A21 eb2 eN2 eF2 eA2 N29 e29 => ?_⟩
  have c := h.pf k p ho ha (by omega) (f := 1511) (by decide) (fun q hq _ => by have := hfl q hq; omega)
  rw [← e3] at c
  have hb : b5 = x + (k + 1) := by rw [eb, c.1.1, hT]
  have c2 := c.arrS 110 12 (k + 3) (by decide)
  rw [← eN, ← eF, ← eA, hT] at c2
  have c3 := c2.pf k (k + 1) ho (z := (b5 : Int)) (f := 1502) (by rw [hb]) (by simp only [List.length_append, List.length_singleton]; omega) (by decide) (fun q hq e => by
    rcases List.mem_append.mp hq with w | w
    · have := hfl q w
      omega
    · cases List.mem_singleton.mp w
      cases e)
  rw [← e16] at c3
  have l3 : (T ++ [110]).length = k + 2 := by simp only [List.length_append, List.length_singleton]; omega
  have hb2 : b18 = x + (k + 2) := by rw [eb2, c3.1.1, l3]
  have c4 := c3.arr 113 12 (by decide)
  rw [← eN2, ← eF2, ← eA2, l3] at c4
  have c5 := c4.pf k (k + 2) ho (z := (b18 : Int)) (f := 1505) (by rw [hb2]) (by simp only [List.length_append, List.length_singleton]; omega) (by decide) (fun q hq e => by
    rcases List.mem_append.mp hq with w | w
    · rcases List.mem_append.mp w with w | w
      · have := hfl q w
        omega
      · cases List.mem_singleton.mp w
        cases e
    · cases List.mem_singleton.mp w
      cases e)
  rw [← e29] at c5
  have l5 : (T ++ [110] ++ [113]).length = k + 3 := by simp only [List.length_append, List.length_singleton]; omega
  refine ⟨fun v N F A => ∃ i : Nat, v = (i : Int) ∧ i ≤ 12 ∧ cI x s N0 F0 A0 N F A (gT (T ++ [110] ++ [113]) i) (gfl (fl ++ [(1511, k, p)] ++ [(1502, k, k + 1)] ++ [(1505, k, k + 2)]) (k + 3) p i) (gln (ln ++ [(k + 1, 12)] ++ [(k + 2, 12)]) (k + 3) i) Fl (gAl (Al ++ [(k + 2, -1)]) (k + 3) i) (Sl ++ [(k + 1, k + 3, i)]) (sz + 12 + 12 + 20 * i), fun v _ _ _ => (12 - v).toNat, ⟨0, rfl, by omega, c5⟩, ?_⟩
  rintro v N32 F33 A34 ⟨i, hv, hi, ci⟩
  refine ⟨fun w => ?_, fun w => kSay (Q := fun v' N' F' A' => (∃ i : Nat, v' = (i : Int) ∧ i ≤ 12 ∧ cI x s N0 F0 A0 N' F' A' (gT (T ++ [110] ++ [113]) i) (gfl (fl ++ [(1511, k, p)] ++ [(1502, k, k + 1)] ++ [(1505, k, k + 2)]) (k + 3) p i) (gln (ln ++ [(k + 1, 12)] ++ [(k + 2, 12)]) (k + 3) i) Fl (gAl (Al ++ [(k + 2, -1)]) (k + 3) i) (Sl ++ [(k + 1, k + 3, i)]) (sz + 12 + 12 + 20 * i)) ∧ (12 - v').toNat < (12 - v).toNat) ci l5 (by omega) hv (by omega) ho ha (by simp) ?_ (by simp) (Nat.le_refl 12) (fun q hq => by have := hS q hq; omega) (fun q hq => ?_) (fun N' F' A' c6 => ⟨⟨i + 1, by omega, by omega, c6⟩, by omega⟩)⟩
  · have : i = 12 := by omega
    rw [this] at ci
    exact ci
  · rw [getD_app (by omega), ← hT, getD_last]
  · rcases List.mem_append.mp hq with w | w
    · have := hA q w
      omega
    · cases List.mem_singleton.mp w
      show k + 2 ≠ k + 1
      omega
theorem kX5_init {o p : Nat} {a1 : Int} (k : Nat) (h : cI x s N0 F0 A0 N F A T fl ln Fl Al Sl sz) (ho : o = x + k) (ha : a1 = ((x + p : Nat) : Int)) (hT : T.length = k + 1) (hfl : ∀ q ∈ fl, q.2.1 < k) (hS : ∀ q ∈ Sl, q.1 < k) (hA : ∀ q ∈ Al, q.1 < k) : wqX5_init o a1 N F A (fun N' F' A' => cI x s N0 F0 A0 N' F' A' (gT (T ++ [110] ++ [102] ++ [102]) 10) (gfl (fl ++ [(1814, k, p)] ++ [(1802, k, k + 1)] ++ [(1805, k, k + 2)] ++ [(1808, k, k + 3)]) (k + 4) p 10) (gln (ln ++ [(k + 1, 10)] ++ [(k + 2, 10)] ++ [(k + 3, 10)]) (k + 4) 10) Fl (gAl (Al ++ [(k + 2, 0)] ++ [(k + 3, 0)]) (k + 4) 10) (Sl ++ [(k + 1, k + 4, 10)]) (sz + 10 + 10 + 10 + 20 * 10)) := by
  unfold wqX5_init
  refine ⟨by rw [ho]; exact (h.2.2.1 k (by omega)).2, fun N3 e3 b5 N6 F7 A8 eb eN eF eA N16 e16 b18 N19 F20 A21 eb2 eN2 eF2 eA2 N29 e29 b31 N32 F33 A34 eb3 eN3 eF3 eA3 N42 e42 => ?_⟩
  have c := h.pf k p ho ha (by omega) (f := 1814) (by decide) (fun q hq _ => by have := hfl q hq; omega)
  rw [← e3] at c
  have hb : b5 = x + (k + 1) := by rw [eb, c.1.1, hT]
  have c2 := c.arrS 110 10 (k + 4) (by decide)
  rw [← eN, ← eF, ← eA, hT] at c2
  have fr1 : ∀ f, f ≠ 1814 → ∀ q ∈ fl ++ [(1814, k, p)], q.1 = f → q.2.1 ≠ k := fun f hf q hq e => by
    rcases List.mem_append.mp hq with w | w
    · have := hfl q w
      omega
    · cases List.mem_singleton.mp w
      exact absurd e.symm hf
  have c3 := c2.pf k (k + 1) ho (z := (b5 : Int)) (f := 1802) (by rw [hb]) (by simp only [List.length_append, List.length_singleton]; omega) (by decide) (fr1 _ (by decide))
  rw [← e16] at c3
  have fr2 : ∀ f, f ≠ 1814 → f ≠ 1802 → ∀ q ∈ fl ++ [(1814, k, p)] ++ [(1802, k, k + 1)], q.1 = f → q.2.1 ≠ k := fun f hf hf2 q hq e => by
    rcases List.mem_append.mp hq with w | w
    · exact fr1 f hf q w e
    · cases List.mem_singleton.mp w
      exact absurd e.symm hf2
  have l3 : (T ++ [110]).length = k + 2 := by simp only [List.length_append, List.length_singleton]; omega
  have hb2 : b18 = x + (k + 2) := by rw [eb2, c3.1.1, l3]
  have c4 := c3.arr 102 10 (by decide)
  rw [← eN2, ← eF2, ← eA2, l3] at c4
  have c5 := c4.pf k (k + 2) ho (z := (b18 : Int)) (f := 1805) (by rw [hb2]) (by simp only [List.length_append, List.length_singleton]; omega) (by decide) (fr2 _ (by decide) (by decide))
  rw [← e29] at c5
  have l4 : (T ++ [110] ++ [102]).length = k + 3 := by simp only [List.length_append, List.length_singleton]; omega
  have hb3 : b31 = x + (k + 3) := by rw [eb3, c5.1.1, l4]
  have c6 := c5.arr 102 10 (by decide)
  rw [← eN3, ← eF3, ← eA3, l4] at c6
  have c7 := c6.pf k (k + 3) ho (z := (b31 : Int)) (f := 1808) (by rw [hb3]) (by simp only [List.length_append, List.length_singleton]; omega) (by decide) (fun q hq e => by
    rcases List.mem_append.mp hq with w | w
    · exact fr2 _ (by decide) (by decide) q w e
    · cases List.mem_singleton.mp w
      cases e)
  rw [← e42] at c7
  have l5 : (T ++ [110] ++ [102] ++ [102]).length = k + 4 := by simp only [List.length_append, List.length_singleton]; omega
  refine ⟨fun v N F A => ∃ i : Nat, v = (i : Int) ∧ i ≤ 10 ∧ cI x s N0 F0 A0 N F A (gT (T ++ [110] ++ [102] ++ [102]) i) (gfl (fl ++ [(1814, k, p)] ++ [(1802, k, k + 1)] ++ [(1805, k, k + 2)] ++ [(1808, k, k + 3)]) (k + 4) p i) (gln (ln ++ [(k + 1, 10)] ++ [(k + 2, 10)] ++ [(k + 3, 10)]) (k + 4) i) Fl (gAl (Al ++ [(k + 2, 0)] ++ [(k + 3, 0)]) (k + 4) i) (Sl ++ [(k + 1, k + 4, i)]) (sz + 10 + 10 + 10 + 20 * i), fun v _ _ _ => (10 - v).toNat, ⟨0, rfl, by omega, c7⟩, ?_⟩
  rintro v N32 F33 A34 ⟨i, hv, hi, ci⟩
  refine ⟨fun w => ?_, fun w => kSay (n := 10) (f := 1802) (Q := fun v' N' F' A' => (∃ i : Nat, v' = (i : Int) ∧ i ≤ 10 ∧ cI x s N0 F0 A0 N' F' A' (gT (T ++ [110] ++ [102] ++ [102]) i) (gfl (fl ++ [(1814, k, p)] ++ [(1802, k, k + 1)] ++ [(1805, k, k + 2)] ++ [(1808, k, k + 3)]) (k + 4) p i) (gln (ln ++ [(k + 1, 10)] ++ [(k + 2, 10)] ++ [(k + 3, 10)]) (k + 4) i) Fl (gAl (Al ++ [(k + 2, 0)] ++ [(k + 3, 0)]) (k + 4) i) (Sl ++ [(k + 1, k + 4, i)]) (sz + 10 + 10 + 10 + 20 * i)) ∧ (10 - v').toNat < (10 - v).toNat) ci l5 (by omega) hv (by omega) ho ha (by simp) ?_ (by simp) (by decide) (fun q hq => by have := hS q hq; omega) (fun q hq => ?_) (fun N' F' A' c6 => ⟨⟨i + 1, by omega, by omega, c6⟩, by omega⟩)⟩
  · have : i = 10 := by omega
    rw [this] at ci
    exact ci
  · rw [getD_app (by simp only [List.length_append, List.length_singleton]; omega), getD_app (by simp only [List.length_append, List.length_singleton]; omega), ← hT, getD_last]
  · rcases List.mem_append.mp hq with w | w
    · rcases List.mem_append.mp w with w | w
      · have := hA q w
        omega
      · cases List.mem_singleton.mp w
        show k + 2 ≠ k + 1
        omega
    · cases List.mem_singleton.mp w
      show k + 3 ≠ k + 1
      omega
end CJ
