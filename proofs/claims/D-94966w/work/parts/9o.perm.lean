set_option maxRecDepth 100000
set_option linter.unusedVariables false
/-! orders: all of them, one behind the other -/
def prA (xs : List Nat) : Nat → List Nat → List (List Nat)
  | 0, p => [p]
  | k + 1, p => xs.flatMap (fun f => if f ∈ p then [] else prA xs k (p ++ [f]))
def sUpd (g : List Nat → Int) (st : Int × List Nat) (p : List Nat) : Int × List Nat := if st.1 < g p then (g p, p) else st
def sBst (g : List Nat → Int) (ps : List (List Nat)) (st : Int × List Nat) : Int × List Nat := ps.foldl (sUpd g) st
theorem sBst_app {g : List Nat → Int} {a b : List (List Nat)} {st : Int × List Nat} : sBst g (a ++ b) st = sBst g b (sBst g a st) := List.foldl_append
theorem sBst_one {g : List Nat → Int} {p : List Nat} {st : Int × List Nat} : sBst g [p] st = sUpd g st p := rfl
def lastI (p : Nat → Bool) : Nat → Nat
  | 0 => 0
  | n + 1 => bif p n then n + 1 else lastI p n
theorem lastI_0 {p : Nat → Bool} {n : Nat} (h : ∀ i, i < n → p i = false) : lastI p n = 0 := by
  induction n with
  | zero => rfl
  | succ n ih =>
    show (bif p n then n + 1 else lastI p n) = 0
    rw [h n (by omega)]
    exact ih (fun i hi => h i (by omega))
theorem lastI_s {p : Nat → Bool} {n k : Nat} (hk : k < n) (hp : p k = true) (h : ∀ i, k < i → i < n → p i = false) : lastI p n = k + 1 := by
  induction n with
  | zero => omega
  | succ n ih =>
    show (bif p n then n + 1 else lastI p n) = k + 1
    by_cases w : k = n
    · rw [← w, hp]; rfl
    · rw [h n (by omega) (by omega)]
      exact ih (by omega) (fun i h1 h2 => h i h1 (by omega))
def nxt (n : Nat) (p : List Nat) : List Nat :=
  match lastI (fun i => Nat.blt (p.getD i 0) (p.getD (i + 1) 0)) (n - 1) with
  | 0 => []
  | k + 1 =>
    match lastI (fun i => Nat.blt (p.getD k 0) (p.getD i 0)) n with
    | 0 => []
    | j + 1 => (List.range n).map (fun i => if i < k then p.getD i 0 else if i = k then p.getD j 0 else if n + k - i = j then p.getD k 0 else p.getD (n + k - i) 0)
def chn (n : Nat) : List (List Nat) → Bool
  | [] => true
  | p :: r => (match r with | [] => nxt n p == [] | q :: _ => nxt n p == q) && chn n r
def prmOk (n : Nat) (p : List Nat) : Bool := Nat.beq p.length n && (p.all (fun x => Nat.blt x n) && decide p.Nodup)
theorem chn6 : ∀ n, n < 7 → (chn n (prA (List.range n) n []) = true ∧ (prA (List.range n) n []).all (prmOk n) = true ∧ prA (List.range n) n [] = (List.range n) :: (prA (List.range n) n []).tail) := by
  decide +kernel
theorem chn_at {n : Nat} {a : List (List Nat)} {p : List Nat} {r : List (List Nat)} (h : chn n (a ++ p :: r) = true) : (r = [] → nxt n p = []) ∧ ∀ q r', r = q :: r' → nxt n p = q := by
  induction a with
  | nil =>
    have h := (Bool.and_eq_true _ _).mp h
    constructor
    · intro e
      subst e
      exact eq_of_beq h.1
    · intro q r' e
      subst e
      exact eq_of_beq h.1
  | cons b a ih => exact ih ((Bool.and_eq_true _ _).mp h).2
theorem prmOk_of {n : Nat} {p : List Nat} (h : prmOk n p = true) : p.length = n ∧ (∀ x, x ∈ p → x < n) ∧ p.Nodup := by
  obtain ⟨h1, h2⟩ := (Bool.and_eq_true _ _).mp h
  obtain ⟨h2, h3⟩ := (Bool.and_eq_true _ _).mp h2
  exact ⟨Nat.eq_of_beq_eq_true h1, fun x hx => by
    have := List.all_eq_true.mp h2 x hx
    exact Nat.blt_eq.mp this, of_decide_eq_true h3⟩
theorem getD_lt {p : List Nat} {i : Nat} (h : i < p.length) : p.getD i 0 ∈ p := by
  rw [List.getD_eq_getElem?_getD, List.getElem?_eq_getElem h]
  exact List.getElem_mem h
theorem getD_inj {p : List Nat} (h : p.Nodup) {i j : Nat} (hi : i < p.length) (hj : j < p.length) (e : p.getD i 0 = p.getD j 0) : i = j := by
  rw [List.getD_eq_getElem?_getD, List.getD_eq_getElem?_getD, List.getElem?_eq_getElem hi, List.getElem?_eq_getElem hj] at e
  exact (List.getElem_inj h).mp e
theorem getD_map_range {n i : Nat} (f : Nat → Nat) (h : i < n) : ((List.range n).map f).getD i 0 = f i := by
  rw [List.getD_eq_getElem?_getD, List.getElem?_map, List.getElem?_range h]
  rfl
/-- the next order, as it is found -/
theorem nxt_s {n : Nat} {p : List Nat} {k j : Nat} (hk : k + 1 < n) (h1 : p.getD k 0 < p.getD (k + 1) 0) (h2 : ∀ i, k < i → i + 1 < n → p.getD (i + 1) 0 ≤ p.getD i 0) (hj : j < n) (h3 : p.getD k 0 < p.getD j 0) (h4 : ∀ i, j < i → i < n → p.getD i 0 ≤ p.getD k 0) :
    nxt n p ≠ [] ∧ ∀ i, i < n → (nxt n p).getD i 0 = if i < k then p.getD i 0 else if i = k then p.getD j 0 else if n + k - i = j then p.getD k 0 else p.getD (n + k - i) 0 := by
  have e1 : lastI (fun i => Nat.blt (p.getD i 0) (p.getD (i + 1) 0)) (n - 1) = k + 1 := lastI_s (by omega) (by simpa [Nat.blt_eq] using h1) (fun i i1 i2 => by
    have := h2 i i1 (by omega)
    rw [Bool.eq_false_iff]
    intro q
    have := Nat.blt_eq.mp q
    omega)
  have e2 : lastI (fun i => Nat.blt (p.getD k 0) (p.getD i 0)) n = j + 1 := lastI_s hj (by simpa [Nat.blt_eq] using h3) (fun i i1 i2 => by
    have := h4 i i1 (by omega)
    rw [Bool.eq_false_iff]
    intro q
    have := Nat.blt_eq.mp q
    omega)
  have e : nxt n p = (List.range n).map (fun i => if i < k then p.getD i 0 else if i = k then p.getD j 0 else if n + k - i = j then p.getD k 0 else p.getD (n + k - i) 0) := by
    unfold nxt
    rw [e1]
    dsimp only
    rw [e2]
  rw [e]
  refine ⟨fun q => ?_, fun i hi => getD_map_range _ hi⟩
  have := congrArg List.length q
  simp at this
  omega
theorem nxt_0 {n : Nat} {p : List Nat} (h : ∀ i, i + 1 < n → p.getD (i + 1) 0 ≤ p.getD i 0) : nxt n p = [] := by
  have e1 : lastI (fun i => Nat.blt (p.getD i 0) (p.getD (i + 1) 0)) (n - 1) = 0 := lastI_0 (fun i hi => by
    have := h i (by omega)
    rw [Bool.eq_false_iff]
    intro q
    have := Nat.blt_eq.mp q
    omega)
  unfold nxt
  rw [e1]
/-- the same orders of other things -/
theorem prA_map {v : Nat → Nat} {xs : List Nat} (hv : ∀ a b, a ∈ xs → b ∈ xs → v a = v b → a = b) (k : Nat) : ∀ p : List Nat, (∀ x, x ∈ p → x ∈ xs) → prA (xs.map v) k (p.map v) = (prA xs k p).map (List.map v) := by
  induction k with
  | zero => intro p _; rfl
  | succ k ih =>
    intro p hp
    show (xs.map v).flatMap _ = (xs.flatMap _).map _
    rw [List.map_flatMap, List.flatMap_map]
    have : ∀ ys : List Nat, (∀ y, y ∈ ys → y ∈ xs) → ys.flatMap (fun a => if v a ∈ p.map v then [] else prA (xs.map v) k (p.map v ++ [v a])) = ys.flatMap (fun a => List.map (List.map v) (if a ∈ p then [] else prA xs k (p ++ [a]))) := by
      intro ys
      induction ys with
      | nil => intro _; rfl
      | cons y ys ihy =>
        intro hy
        rw [List.flatMap_cons, List.flatMap_cons, ihy (fun z hz => hy z (List.mem_cons_of_mem _ hz))]
        have y0 := hy y List.mem_cons_self
        by_cases w : y ∈ p
        · rw [if_pos w, if_pos (List.mem_map.mpr ⟨y, w, rfl⟩)]; rfl
        · rw [if_neg w, if_neg (fun q => by
            obtain ⟨a, a1, a2⟩ := List.mem_map.mp q
            exact w (hv a y (hp a a1) y0 a2 ▸ a1))]
          have := ih (p ++ [y]) (fun x hx => by
            rcases List.mem_append.mp hx with q | q
            · exact hp x q
            · rw [List.mem_singleton.mp q]; exact y0)
          rw [List.map_append] at this
          rw [← this]; rfl
    exact this xs (fun _ q => q)
theorem list_getD (xs : List Nat) : xs = (List.range xs.length).map (fun i => xs.getD i 0) := by
  apply List.ext_getElem?
  intro i
  rw [List.getElem?_map]
  by_cases h : i < xs.length
  · rw [List.getElem?_eq_getElem h, List.getElem?_range h]
    simp [List.getD_eq_getElem?_getD, List.getElem?_eq_getElem h]
  · rw [List.getElem?_eq_none (by omega), List.getElem?_eq_none (by simp; omega)]
    rfl
theorem prA_vals {xs : List Nat} (hn : xs.Nodup) : prA xs xs.length [] = (prA (List.range xs.length) xs.length []).map (List.map (fun i => xs.getD i 0)) := by
  have := prA_map (v := fun i => xs.getD i 0) (xs := List.range xs.length) (fun a b ha hb e => getD_inj hn (List.mem_range.mp ha) (List.mem_range.mp hb) e) xs.length [] (by simp)
  rw [← list_getD xs] at this
  exact this
