set_option maxRecDepth 100000
set_option linter.unusedVariables false
/-! a town that is read: pure words of the reader -/
/-- a fault, else the next one -/
def fb (f g : Int × Int) : Int × Int := if f.1 = 0 then g else f
theorem fb_ok {f g : Int × Int} (h : f.1 = 0) : fb f g = g := if_pos h
theorem fb_no {f g : Int × Int} (h : f.1 ≠ 0) : fb f g = f := if_neg h
theorem fb_0 {f g : Int × Int} (h : (fb f g).1 = 0) : f.1 = 0 ∧ g.1 = 0 := by
  by_cases w : f.1 = 0
  · rw [fb_ok w] at h; exact ⟨w, h⟩
  · rw [fb_no w] at h; exact absurd h w
theorem fb_pos {f g : Int × Int} (h : 0 ≤ f.1) (h2 : 0 ≤ g.1) : 0 ≤ (fb f g).1 := by
  unfold fb
  split <;> assumption
/-- the place behind the sign that stands from a place on -/
noncomputable def nx (q : Int → Int) (n p : Int) : Int := tkEnd q n (tkAt q n p)
noncomputable def nxk (q : Int → Int) (n p : Int) : Nat → Int
  | 0 => p
  | k + 1 => nx q n (nxk q n p k)
theorem nx_range {q : Int → Int} {n p : Int} (hp : 0 ≤ p ∧ p ≤ n) : (0 ≤ tkAt q n p ∧ tkAt q n p ≤ n) ∧ (p ≤ tkAt q n p ∧ tkAt q n p ≤ nx q n p) ∧ (0 ≤ nx q n p ∧ nx q n p ≤ n) := by
  have ta := (tkAt_all (q := q) hp.2).1
  have te := tkEnd_le (q := q) ta.2
  unfold nx
  omega
theorem nx_lt {q : Int → Int} {n p : Int} (hp : 0 ≤ p ∧ p ≤ n) (h : tkAt q n p < n) : p < nx q n p := by
  have ta := (tkAt_all (q := q) hp.2).1
  have te := tk_cases q n (tkAt q n p) ta.2
  unfold nx
  omega
theorem nxk_range {q : Int → Int} {n p : Int} (hp : 0 ≤ p ∧ p ≤ n) : ∀ k : Nat, 0 ≤ nxk q n p k ∧ nxk q n p k ≤ n
  | 0 => hp
  | k + 1 => (nx_range (nxk_range hp k)).2.2
theorem tkKd_lt {q : Int → Int} {n a : Int} (h : tkKd q n a ≠ 0) : a < n := by
  by_cases w : n ≤ a
  · exact absurd (tkKd_end w) h
  · omega
theorem tkKd_ge {q : Int → Int} {n a : Int} : 0 ≤ tkKd q n a := by
  by_cases w : n ≤ a
  · rw [tkKd_end w]; decide
  · rcases tk_cases q n a (by omega) with x | x | x | x <;> omega
/-- a word, a sign, a number is asked for -/
noncomputable def asW (c : Int) (q : Int → Int) (n p : Int) : Int × Int := asF (tkKd q n (tkAt q n p) = 1 ∧ tkC q n (tkAt q n p) = c) q n (tkAt q n p)
noncomputable def asS (c : Int) (q : Int → Int) (n p : Int) : Int × Int := asF (tkKd q n (tkAt q n p) = 3 ∧ q (tkAt q n p) = c) q n (tkAt q n p)
noncomputable def nuF (lo hi : Int) (q : Int → Int) (n p : Int) : Int × Int := if 0 ≤ tkBad q n (tkAt q n p) then (1, tkBad q n (tkAt q n p)) else if tkKd q n (tkAt q n p) = 2 then (if lo ≤ tkV q n (tkAt q n p) ∧ tkV q n (tkAt q n p) ≤ hi then (0, 0) else (4, tkAt q n p)) else (1, tkAt q n p)
/-- a name of the town that is read -/
def kn4 (W : sTb) (c : Int) : Prop := nmd (fun i => W 10 i 0) (W 0 0 0) c ≠ -1 ∨ nmd (fun i => W 16 i 0) (W 1 0 0) c ≠ -1 ∨ nmd (fun i => W 18 i 0) (W 2 0 0) c ≠ -1 ∨ nmd (fun i => W 22 i 0) (W 3 0 0) c ≠ -1
noncomputable def frF (W : sTb) (q : Int → Int) (n p : Int) : Int × Int := if 0 ≤ tkBad q n (tkAt q n p) then (1, tkBad q n (tkAt q n p)) else cif (tkKd q n (tkAt q n p) ≠ 1 ∨ sOwn (tkC q n (tkAt q n p))) (1, tkAt q n p) (cif (kn4 W (tkC q n (tkAt q n p))) (2, tkAt q n p) (0, 0))
/-- a word that may stand there does -/
def opW (c : Int) (q : Int → Int) (n p : Int) : Prop := tkBad q n (tkAt q n p) = -1 ∧ tkKd q n (tkAt q n p) = 1 ∧ tkC q n (tkAt q n p) = c
section
variable {q : Int → Int} {n p lo hi c : Int} {W : sTb}
theorem nuF_bad (h : 0 ≤ tkBad q n (tkAt q n p)) : nuF lo hi q n p = (1, tkBad q n (tkAt q n p)) := if_pos h
theorem nuF_no (h : tkBad q n (tkAt q n p) = -1) (h2 : tkKd q n (tkAt q n p) ≠ 2) : nuF lo hi q n p = (1, tkAt q n p) := (if_neg (by omega)).trans (if_neg h2)
theorem nuF_out (h : tkBad q n (tkAt q n p) = -1) (h2 : tkKd q n (tkAt q n p) = 2) (h3 : ¬ (lo ≤ tkV q n (tkAt q n p) ∧ tkV q n (tkAt q n p) ≤ hi)) : nuF lo hi q n p = (4, tkAt q n p) := (if_neg (by omega)).trans ((if_pos h2).trans (if_neg h3))
theorem nuF_ok (h : tkBad q n (tkAt q n p) = -1) (h2 : tkKd q n (tkAt q n p) = 2) (h3 : lo ≤ tkV q n (tkAt q n p) ∧ tkV q n (tkAt q n p) ≤ hi) : nuF lo hi q n p = (0, 0) := (if_neg (by omega)).trans ((if_pos h2).trans (if_pos h3))
theorem frF_bad (h : 0 ≤ tkBad q n (tkAt q n p)) : frF W q n p = (1, tkBad q n (tkAt q n p)) := if_pos h
theorem frF_no (h : tkBad q n (tkAt q n p) = -1) (h2 : tkKd q n (tkAt q n p) ≠ 1 ∨ sOwn (tkC q n (tkAt q n p))) : frF W q n p = (1, tkAt q n p) := (if_neg (by omega)).trans (cif_pos h2)
theorem frF_kn (h : tkBad q n (tkAt q n p) = -1) (h2 : tkKd q n (tkAt q n p) = 1) (h3 : ¬ sOwn (tkC q n (tkAt q n p))) (h4 : kn4 W (tkC q n (tkAt q n p))) : frF W q n p = (2, tkAt q n p) := (if_neg (by omega)).trans ((cif_neg (by rintro (w | w); exact w h2; exact h3 w)).trans (cif_pos h4))
theorem frF_ok (h : tkBad q n (tkAt q n p) = -1) (h2 : tkKd q n (tkAt q n p) = 1) (h3 : ¬ sOwn (tkC q n (tkAt q n p))) (h4 : ¬ kn4 W (tkC q n (tkAt q n p))) : frF W q n p = (0, 0) := (if_neg (by omega)).trans ((cif_neg (by rintro (w | w); exact w h2; exact h3 w)).trans (cif_neg h4))
theorem tkBad_two (hp : 0 ≤ p ∧ p ≤ n) : tkBad q n (tkAt q n p) = -1 ∨ 0 ≤ tkBad q n (tkAt q n p) := by
  have t := nx_range (q := q) hp
  rcases tkBad_ge (q := q) t.1.1 t.1.2 with w | w <;> omega
theorem asF_pos {P : Prop} {a : Int} : 0 ≤ (asF P q n a).1 := by
  unfold asF
  split
  · exact (by decide : (0 : Int) ≤ 1)
  · by_cases w : P
    · rw [cif_pos w]; exact (by decide : (0 : Int) ≤ 0)
    · rw [cif_neg w]; exact (by decide : (0 : Int) ≤ 1)
theorem nuF_pos : 0 ≤ (nuF lo hi q n p).1 := by
  unfold nuF
  split
  · exact (by decide : (0 : Int) ≤ 1)
  · split
    · split
      · exact (by decide : (0 : Int) ≤ 0)
      · exact (by decide : (0 : Int) ≤ 4)
    · exact (by decide : (0 : Int) ≤ 1)
theorem frF_pos : 0 ≤ (frF W q n p).1 := by
  unfold frF
  split
  · exact (by decide : (0 : Int) ≤ 1)
  · by_cases w : tkKd q n (tkAt q n p) ≠ 1 ∨ sOwn (tkC q n (tkAt q n p))
    · rw [cif_pos w]; exact (by decide : (0 : Int) ≤ 1)
    · rw [cif_neg w]
      by_cases w : kn4 W (tkC q n (tkAt q n p))
      · rw [cif_pos w]; exact (by decide : (0 : Int) ≤ 2)
      · rw [cif_neg w]; exact (by decide : (0 : Int) ≤ 0)
theorem knF_pos {e : Int → Int} {m a : Int} : 0 ≤ (knF e m q n a).1 := by
  unfold knF
  split
  · exact (by decide : (0 : Int) ≤ 1)
  · by_cases w : tkKd q n a ≠ 1 ∨ sOwn (tkC q n a)
    · rw [cif_pos w]; exact (by decide : (0 : Int) ≤ 1)
    · rw [cif_neg w]
      split
      · exact (by decide : (0 : Int) ≤ 3)
      · exact (by decide : (0 : Int) ≤ 0)
/-- a number that is well -/
theorem nuF_0 (hp : 0 ≤ p ∧ p ≤ n) (h : (nuF lo hi q n p).1 = 0) : tkBad q n (tkAt q n p) = -1 ∧ tkKd q n (tkAt q n p) = 2 ∧ lo ≤ tkV q n (tkAt q n p) ∧ tkV q n (tkAt q n p) ≤ hi := by
  rcases tkBad_two (q := q) hp with b | b
  · by_cases k : tkKd q n (tkAt q n p) = 2
    · by_cases v : lo ≤ tkV q n (tkAt q n p) ∧ tkV q n (tkAt q n p) ≤ hi
      · exact ⟨b, k, v⟩
      · rw [nuF_out b k v] at h; exact absurd h (by show ¬ (4 : Int) = 0; decide)
    · rw [nuF_no b k] at h; exact absurd h (by show ¬ (1 : Int) = 0; decide)
  · rw [nuF_bad b] at h; exact absurd h (by show ¬ (1 : Int) = 0; decide)
theorem frF_0 (hp : 0 ≤ p ∧ p ≤ n) (h : (frF W q n p).1 = 0) : tkBad q n (tkAt q n p) = -1 ∧ tkKd q n (tkAt q n p) = 1 ∧ ¬ sOwn (tkC q n (tkAt q n p)) ∧ ¬ kn4 W (tkC q n (tkAt q n p)) := by
  rcases tkBad_two (q := q) hp with b | b
  · by_cases k : tkKd q n (tkAt q n p) ≠ 1 ∨ sOwn (tkC q n (tkAt q n p))
    · rw [frF_no b k] at h; exact absurd h (by show ¬ (1 : Int) = 0; decide)
    · have k1 : tkKd q n (tkAt q n p) = 1 := Classical.byContradiction (fun w => k (Or.inl w))
      have k2 : ¬ sOwn (tkC q n (tkAt q n p)) := fun w => k (Or.inr w)
      by_cases v : kn4 W (tkC q n (tkAt q n p))
      · rw [frF_kn b k1 k2 v] at h; exact absurd h (by show ¬ (2 : Int) = 0; decide)
      · exact ⟨b, k1, k2, v⟩
  · rw [frF_bad b] at h; exact absurd h (by show ¬ (1 : Int) = 0; decide)
theorem asF_0 {P : Prop} {a : Int} (h : (asF P q n a).1 = 0) : ¬ 0 ≤ tkBad q n a ∧ P := by
  by_cases b : 0 ≤ tkBad q n a
  · rw [asF_bad b] at h; exact absurd h (by show ¬ (1 : Int) = 0; decide)
  · refine ⟨b, Classical.byContradiction (fun w => ?_)⟩
    have : asF P q n a = (1, a) := (if_neg b).trans (cif_neg w)
    rw [this] at h; exact absurd h (by show ¬ (1 : Int) = 0; decide)
end
/-! a word -/
noncomputable def wdF (W : sTb) (q : Int → Int) (n p : Int) : Int × Int :=
  fb (fb (fb (fb (fb (fb (fb (frF W q n p) (asW 422607680627 q n (nxk q n p 1))) (nuF 1 9 q n (nxk q n p 2))) (asW 126922548733043 q n (nxk q n p 3))) (nuF 0 9 q n (nxk q n p 4))) (nuF 0 9 q n (nxk q n p 5))) (asW 512970880104 q n (nxk q n p 6))) (nuF 0 99 q n (nxk q n p 7))
noncomputable def opP (c : Int) (q : Int → Int) (n p : Int) : Int := cif (opW c q n p) (nx q n p) p
noncomputable def opV (c : Int) (q : Int → Int) (n p : Int) : Int := cif (opW c q n p) 1 0
noncomputable def wdW (W : sTb) (q : Int → Int) (n p : Int) : sTb := fun k i j => if k = 0 then W 0 0 0 + 1 else if i = W 0 0 0 ∧ k = 10 then tkC q n (tkAt q n p) else if i = W 0 0 0 ∧ k = 11 then tkV q n (tkAt q n (nxk q n p 2)) else if i = W 0 0 0 ∧ k = 12 then tkV q n (tkAt q n (nxk q n p 4)) else if i = W 0 0 0 ∧ k = 13 then tkV q n (tkAt q n (nxk q n p 5)) else if i = W 0 0 0 ∧ k = 14 then tkV q n (tkAt q n (nxk q n p 7)) else if i = W 0 0 0 ∧ k = 15 then opV 474148660594 q n (nxk q n p 8) else W k i j
/-! a street: fault, place, what is heard -/
abbrev lpR : Type := (Int × Int) × Int × (Int → Int)
noncomputable def stF (e : Int → Int) (m : Int) (q : Int → Int) (n p : Int) (g : Int → Int) : Int × Int := fb (fb (fb (knF e m q n (tkAt q n p)) (if g (knV e m q n (tkAt q n p)) = -1 then (0, 0) else (3, tkAt q n p))) (asW 24947 q n (nx q n p))) (knF e m q n (tkAt q n (nxk q n p 2)))
noncomputable def stN (e : Int → Int) (m : Int) (q : Int → Int) (n : Int) : Nat → Int → (Int → Int) → lpR
  | 0, p, g => ((0, 0), p, g)
  | f + 1, p, g => if tkKd q n (tkAt q n p) = 1 then (if (stF e m q n p g).1 = 0 then stN e m q n f (nxk q n p 3) (upv g (knV e m q n (tkAt q n p)) (knV e m q n (tkAt q n (nxk q n p 2)))) else (stF e m q n p g, p, g)) else ((0, 0), p, g)
noncomputable def stA (W : sTb) (q : Int → Int) (n p : Int) : lpR := stN (fun i => W 10 i 0) (W 0 0 0) q n n.toNat (nx q n p) (fun _ => -1)
noncomputable def stW (W : sTb) (q : Int → Int) (n p : Int) : sTb := fun k i j => if k = 1 then W 1 0 0 + 1 else if i = W 1 0 0 ∧ k = 16 then tkC q n (tkAt q n p) else if i = W 1 0 0 ∧ k = 17 then (stA W q n p).2.2 j else W k i j
/-! a child -/
noncomputable def chF (e : Int → Int) (m : Int) (q : Int → Int) (n p : Int) (g : Int → Int) : Int × Int := fb (knF e m q n (tkAt q n p)) (if g (knV e m q n (tkAt q n p)) = 1 then (3, tkAt q n p) else (0, 0))
noncomputable def chN (e : Int → Int) (m : Int) (q : Int → Int) (n : Int) : Nat → Int → (Int → Int) → lpR
  | 0, p, g => ((0, 0), p, g)
  | f + 1, p, g => if tkKd q n (tkAt q n p) = 1 then (if (chF e m q n p g).1 = 0 then chN e m q n f (nx q n p) (upv g (knV e m q n (tkAt q n p)) 1) else (chF e m q n p g, p, g)) else ((0, 0), p, g)
noncomputable def chA (W : sTb) (q : Int → Int) (n p : Int) : lpR := chN (fun i => W 10 i 0) (W 0 0 0) q n n.toNat (nxk q n p 5) (fun _ => 0)
noncomputable def chH (W : sTb) (q : Int → Int) (n p : Int) : Int × Int := fb (fb (fb (fb (frF W q n p) (asW 28518 q n (nxk q n p 1))) (knF (fun i => W 16 i 0) (W 1 0 0) q n (tkAt q n (nxk q n p 2)))) (asW 448545973363 q n (nxk q n p 3))) (nuF 1 60 q n (nxk q n p 4))
noncomputable def chW (W : sTb) (q : Int → Int) (n p : Int) : sTb := fun k i j => if k = 2 then W 2 0 0 + 1 else if i = W 2 0 0 ∧ k = 18 then tkC q n (tkAt q n p) else if i = W 2 0 0 ∧ k = 19 then knV (fun i => W 16 i 0) (W 1 0 0) q n (tkAt q n (nxk q n p 2)) else if i = W 2 0 0 ∧ k = 20 then tkV q n (tkAt q n (nxk q n p 4)) else if i = W 2 0 0 ∧ k = 21 then (chA W q n p).2.2 j else W k i j
/-! a law -/
noncomputable def lwH (W : sTb) (q : Int → Int) (n p : Int) : Int × Int := fb (frF W q n p) (asW 1935767923 q n (opP 1937075815 q n (nx q n p)))
noncomputable def lwR (W : sTb) (q : Int → Int) (n p : Int) : roR := roS (fun i => W 10 i 0) (W 0 0 0) q n (nx q n (opP 1937075815 q n (nx q n p)))
noncomputable def lwW (W : sTb) (q : Int → Int) (n p : Int) : sTb := fun k i j => if k = 3 then W 3 0 0 + 1 else if i = W 3 0 0 ∧ k = 22 then tkC q n (tkAt q n p) else W k i j
noncomputable def lwL (W L : sTb) (q : Int → Int) (n p : Int) : sTb := fun k i j => if i = W 3 0 0 ∧ k = 2 then (lwR W q n p).2.1.1 else if i = W 3 0 0 ∧ k = 3 then (lwR W q n p).2.1.2 else if i = W 3 0 0 ∧ k = 4 then opV 1937075815 q n (nx q n p) else if i = W 3 0 0 ∧ k = 5 then (lwR W q n p).2.2.2 j else L k i j
/-! a statement: fault, place, tables -/
abbrev smR : Type := (Int × Int) × Int × sTb × sTb
def stK (W : sTb) (k : Nat) (z : Int) : sTb := fun k' i j => if k' = k then z else W k' i j
noncomputable def smS (W L : sTb) (q : Int → Int) (n p : Int) : smR :=
  if 0 ≤ tkBad q n (tkAt q n p) then ((1, tkBad q n (tkAt q n p)), p, W, L) else
  if tkKd q n (tkAt q n p) = 1 ∧ tkC q n (tkAt q n p) = 2003792484 then (if W 0 0 0 = 24 then ((5, tkAt q n p), p, W, L) else (wdF W q n (nx q n p), opP 474148660594 q n (nxk q n (nx q n p) 8), wdW W q n (nx q n p), L)) else
  if tkKd q n (tkAt q n p) = 1 ∧ tkC q n (tkAt q n p) = 126943972648308 then (if W 1 0 0 = 6 then ((5, tkAt q n p), p, W, L) else (fb (frF W q n (nx q n p)) (stA W q n (nx q n p)).1, (stA W q n (nx q n p)).2.1, stW W q n (nx q n p), L)) else
  if tkKd q n (tkAt q n p) = 1 ∧ tkC q n (tkAt q n p) = 426953501796 then (if W 2 0 0 = 10 then ((5, tkAt q n p), p, W, L) else (fb (chH W q n (nx q n p)) (chA W q n (nx q n p)).1, (chA W q n (nx q n p)).2.1, chW W q n (nx q n p), L)) else
  if tkKd q n (tkAt q n p) = 1 ∧ tkC q n (tkAt q n p) = 7102839 then (if W 3 0 0 = 12 then ((5, tkAt q n p), p, W, L) else (fb (lwH W q n (nx q n p)) (lwR W q n (nx q n p)).1, (lwR W q n (nx q n p)).2.2.1, lwW W q n (nx q n p), lwL W L q n (nx q n p))) else
  if tkKd q n (tkAt q n p) = 1 ∧ tkC q n (tkAt q n p) = 1751474532 then (nuF 1 12 q n (nx q n p), nxk q n p 2, stK W 4 (tkV q n (tkAt q n (nx q n p))), L) else
  if tkKd q n (tkAt q n p) = 1 ∧ tkC q n (tkAt q n p) = 1835363940 then (nuF 1 4 q n (nx q n p), nxk q n p 2, stK W 5 (tkV q n (tkAt q n (nx q n p))), L) else
  if tkKd q n (tkAt q n p) = 1 ∧ tkC q n (tkAt q n p) = 1953853029 then (nuF 0 20 q n (nx q n p), nxk q n p 2, stK W 6 (tkV q n (tkAt q n (nx q n p))), L) else
  ((1, tkAt q n p), p, W, L)
/-! a town: fault, how many statements, tables -/
noncomputable def tnC (W L : sTb) (q : Int → Int) (n p : Int) : Int × Int := fb (smS W L q n p).1 (asS 59 q n (smS W L q n p).2.1)
noncomputable def tnN (q : Int → Int) (n : Int) : Nat → Int → Int → sTb → sTb → smR
  | 0, k, p, W, L => ((0, 0), k, W, L)
  | f + 1, k, p, W, L => if n ≤ tkAt q n p then ((0, 0), k, W, L) else if k = 90 then ((5, tkAt q n p), k, W, L) else if (tnC W L q n p).1 = 0 then tnN q n f (k + 1) (nx q n (smS W L q n p).2.1) (smS W L q n p).2.2.1 (smS W L q n p).2.2.2 else (tnC W L q n p, k, W, L)
def sW0 : sTb := fun k _ _ => if k = 4 then 12 else if k = 5 then 2 else 0
def sL0 : sTb := fun k i _ => if k = 1 then i else 0
noncomputable def sTn (q : Int → Int) (n : Int) : smR := tnN q n 91 0 0 sW0 sL0
/-! what the tables hold while they are read -/
def tOk (W L : sTb) : Prop :=
  (0 ≤ W 0 0 0 ∧ W 0 0 0 ≤ 24) ∧ (0 ≤ W 1 0 0 ∧ W 1 0 0 ≤ 6) ∧ (0 ≤ W 2 0 0 ∧ W 2 0 0 ≤ 10) ∧ (0 ≤ W 3 0 0 ∧ W 3 0 0 ≤ 12) ∧
  (1 ≤ W 4 0 0 ∧ W 4 0 0 ≤ 12) ∧ (1 ≤ W 5 0 0 ∧ W 5 0 0 ≤ 4) ∧ (0 ≤ W 6 0 0 ∧ W 6 0 0 ≤ 20) ∧
  (∀ w : Int, 0 ≤ w → w < W 0 0 0 → (1 ≤ W 11 w 0 ∧ W 11 w 0 ≤ 9) ∧ (0 ≤ W 12 w 0 ∧ W 12 w 0 ≤ 9) ∧ (0 ≤ W 13 w 0 ∧ W 13 w 0 ≤ 9) ∧ (0 ≤ W 14 w 0 ∧ W 14 w 0 ≤ 99) ∧ (W 15 w 0 = 0 ∨ W 15 w 0 = 1)) ∧
  (∀ s w : Int, 0 ≤ s → s < W 1 0 0 → (-1 ≤ W 17 s w ∧ W 17 s w < W 0 0 0) ∧ (W 0 0 0 ≤ w → W 17 s w = -1)) ∧
  (∀ c : Int, 0 ≤ c → c < W 2 0 0 → (0 ≤ W 19 c 0 ∧ W 19 c 0 < W 1 0 0) ∧ (1 ≤ W 20 c 0 ∧ W 20 c 0 ≤ 60)) ∧
  (∀ c w : Int, 0 ≤ c → c < W 2 0 0 → (W 21 c w = 0 ∨ W 21 c w = 1) ∧ (W 0 0 0 ≤ w → W 21 c w = 0)) ∧
  (L 0 0 0 = 0 ∧ L 9 0 0 = 0 ∧ ∀ p : Int, L 1 p 0 = p) ∧
  (∀ l : Int, 0 ≤ l → l < W 3 0 0 → (1 ≤ L 2 l 0 ∧ L 2 l 0 ≤ 8) ∧ (0 ≤ L 3 l 0 ∧ L 3 l 0 ≤ 4) ∧ (L 4 l 0 = 0 ∨ L 4 l 0 = 1)) ∧
  (∀ l k : Int, 0 ≤ l → l < W 3 0 0 → 0 ≤ k → k < L 2 l 0 + L 3 l 0 → 0 ≤ L 5 l k ∧ L 5 l k < W 0 0 0)
theorem tOk.W {W L : sTb} (h : tOk W L) : sWok W := by
  obtain ⟨h0, h1, h2, h3, h4, h5, h6, h7, h8, h9, h10, -⟩ := h
  exact ⟨h0, h1, h2, h3, h4, h5, h6, h7, fun s w s0 s1 _ _ => (h8 s w s0 s1).1, h9, fun c w c0 c1 _ _ => (h10 c w c0 c1).1⟩
theorem tOk.L {W L : sTb} (h : tOk W L) : sLok W L := by
  obtain ⟨h0, h1, h2, h3, h4, h5, h6, h7, h8, h9, h10, ⟨l0, l1, l2⟩, l3, l4⟩ := h
  refine ⟨by omega, fun p p0 p1 => by rw [l2]; exact ⟨p0, p1⟩, fun p q _ _ _ _ _ e => by rw [l2, l2] at e; exact e, fun l a b => ?_, l4⟩
  obtain ⟨x1, x2, x3⟩ := l3 l a b
  exact ⟨by omega, x2, fun w => by omega, x3⟩
theorem tOk_0 : tOk sW0 sL0 := by
  refine ⟨by decide, by decide, by decide, by decide, by decide, by decide, by decide, fun w a b => ?_, fun s w a b => ?_, fun c a b => ?_, fun c w a b => ?_, ⟨rfl, rfl, fun _ => rfl⟩, fun l a b => ?_, fun l k a b => ?_⟩
  all_goals (have b' : _ < (0 : Int) := b; omega)
/-! what comes out is well -/
theorem knV_ok {e : Int → Int} {m : Int} {q : Int → Int} {n p : Int} (hp : 0 ≤ p ∧ p ≤ n) (hm : 0 ≤ m) (h : (knF e m q n (tkAt q n p)).1 = 0) : tkBad q n (tkAt q n p) = -1 ∧ tkKd q n (tkAt q n p) = 1 ∧ ¬ sOwn (tkC q n (tkAt q n p)) ∧ (0 ≤ knV e m q n (tkAt q n p) ∧ knV e m q n (tkAt q n p) < m) ∧ e (knV e m q n (tkAt q n p)) = tkC q n (tkAt q n p) := by
  have t := nx_range (q := q) hp
  rcases knF_cases e m q n (tkAt q n p) t.1.1 t.1.2 hm with w | w
  · exact w.2
  · omega
theorem stN_stop {e : Int → Int} {m : Int} {q : Int → Int} {n : Int} {f : Nat} {p : Int} {g : Int → Int} (h : tkKd q n (tkAt q n p) ≠ 1) : stN e m q n f p g = ((0, 0), p, g) := by
  cases f with
  | zero => rfl
  | succ f => exact if_neg h
theorem stN_bad {e : Int → Int} {m : Int} {q : Int → Int} {n : Int} {f : Nat} {p : Int} {g : Int → Int} (h : tkKd q n (tkAt q n p) = 1) (h2 : (stF e m q n p g).1 ≠ 0) : stN e m q n (f + 1) p g = (stF e m q n p g, p, g) := (if_pos h).trans (if_neg h2)
theorem stN_go {e : Int → Int} {m : Int} {q : Int → Int} {n : Int} {f : Nat} {p : Int} {g : Int → Int} (h : tkKd q n (tkAt q n p) = 1) (h2 : (stF e m q n p g).1 = 0) : stN e m q n (f + 1) p g = stN e m q n f (nxk q n p 3) (upv g (knV e m q n (tkAt q n p)) (knV e m q n (tkAt q n (nxk q n p 2)))) := (if_pos h).trans (if_pos h2)
theorem chN_stop {e : Int → Int} {m : Int} {q : Int → Int} {n : Int} {f : Nat} {p : Int} {g : Int → Int} (h : tkKd q n (tkAt q n p) ≠ 1) : chN e m q n f p g = ((0, 0), p, g) := by
  cases f with
  | zero => rfl
  | succ f => exact if_neg h
theorem chN_bad {e : Int → Int} {m : Int} {q : Int → Int} {n : Int} {f : Nat} {p : Int} {g : Int → Int} (h : tkKd q n (tkAt q n p) = 1) (h2 : (chF e m q n p g).1 ≠ 0) : chN e m q n (f + 1) p g = (chF e m q n p g, p, g) := (if_pos h).trans (if_neg h2)
theorem chN_go {e : Int → Int} {m : Int} {q : Int → Int} {n : Int} {f : Nat} {p : Int} {g : Int → Int} (h : tkKd q n (tkAt q n p) = 1) (h2 : (chF e m q n p g).1 = 0) : chN e m q n (f + 1) p g = chN e m q n f (nx q n p) (upv g (knV e m q n (tkAt q n p)) 1) := (if_pos h).trans (if_pos h2)
theorem stF_0 {e : Int → Int} {m : Int} {q : Int → Int} {n p : Int} {g : Int → Int} (h : (stF e m q n p g).1 = 0) : (knF e m q n (tkAt q n p)).1 = 0 ∧ g (knV e m q n (tkAt q n p)) = -1 ∧ (asW 24947 q n (nx q n p)).1 = 0 ∧ (knF e m q n (tkAt q n (nxk q n p 2))).1 = 0 := by
  unfold stF at h
  obtain ⟨h, h4⟩ := fb_0 h
  obtain ⟨h, h3⟩ := fb_0 h
  obtain ⟨h, h2⟩ := fb_0 h
  refine ⟨h, ?_, h3, h4⟩
  by_cases w : g (knV e m q n (tkAt q n p)) = -1
  · exact w
  · rw [if_neg w] at h2; exact absurd h2 (by show ¬ (3 : Int) = 0; decide)
theorem chF_0 {e : Int → Int} {m : Int} {q : Int → Int} {n p : Int} {g : Int → Int} (h : (chF e m q n p g).1 = 0) : (knF e m q n (tkAt q n p)).1 = 0 ∧ g (knV e m q n (tkAt q n p)) ≠ 1 := by
  unfold chF at h
  obtain ⟨h, h2⟩ := fb_0 h
  refine ⟨h, fun w => ?_⟩
  rw [if_pos w] at h2; exact absurd h2 (by show ¬ (3 : Int) = 0; decide)
theorem stN_ok {e : Int → Int} {m : Int} {q : Int → Int} {n : Int} (hm : 0 ≤ m) : ∀ (f : Nat) (p : Int) (g : Int → Int), (0 ≤ p ∧ p ≤ n) → (∀ w : Int, (-1 ≤ g w ∧ g w < m) ∧ (m ≤ w → g w = -1)) → (p ≤ (stN e m q n f p g).2.1 ∧ (stN e m q n f p g).2.1 ≤ n) ∧ ∀ w : Int, (-1 ≤ (stN e m q n f p g).2.2 w ∧ (stN e m q n f p g).2.2 w < m) ∧ (m ≤ w → (stN e m q n f p g).2.2 w = -1)
  | 0, p, g, hp, hg => ⟨⟨Int.le_refl p, hp.2⟩, hg⟩
  | f + 1, p, g, hp, hg => by
    by_cases k : tkKd q n (tkAt q n p) = 1
    · by_cases y : (stF e m q n p g).1 = 0
      · rw [stN_go k y]
        obtain ⟨y1, y2, y3, y4⟩ := stF_0 y
        have a1 := (knV_ok hp hm y1).2.2.2.1
        have a2 := (knV_ok (nxk_range hp 2) hm y4).2.2.2.1
        have r := nxk_range (q := q) hp 3
        have r1 := nx_range (q := q) hp
        have r2 := nx_range (q := q) (nxk_range (q := q) hp 1)
        have r3 := nx_range (q := q) (nxk_range (q := q) hp 2)
        have ih := stN_ok (e := e) (q := q) hm f (nxk q n p 3) (upv g (knV e m q n (tkAt q n p)) (knV e m q n (tkAt q n (nxk q n p 2)))) r (fun w => by
          by_cases u : w = knV e m q n (tkAt q n p)
          · rw [u, upv_s]; exact ⟨by omega, fun x => by omega⟩
          · rw [upv_n u]; exact hg w)
        have le : p ≤ nxk q n p 3 := by
          show p ≤ nx q n (nxk q n p 2)
          have : nxk q n p 2 = nx q n (nxk q n p 1) := rfl
          have : nxk q n p 1 = nx q n p := rfl
          omega
        exact ⟨⟨by omega, ih.1.2⟩, ih.2⟩
      · rw [stN_bad k y]
        exact ⟨⟨Int.le_refl p, hp.2⟩, hg⟩
    · rw [stN_stop k]
      exact ⟨⟨Int.le_refl p, hp.2⟩, hg⟩
theorem chN_ok {e : Int → Int} {m : Int} {q : Int → Int} {n : Int} (hm : 0 ≤ m) : ∀ (f : Nat) (p : Int) (g : Int → Int), (0 ≤ p ∧ p ≤ n) → (∀ w : Int, (g w = 0 ∨ g w = 1) ∧ (m ≤ w → g w = 0)) → (p ≤ (chN e m q n f p g).2.1 ∧ (chN e m q n f p g).2.1 ≤ n) ∧ ∀ w : Int, ((chN e m q n f p g).2.2 w = 0 ∨ (chN e m q n f p g).2.2 w = 1) ∧ (m ≤ w → (chN e m q n f p g).2.2 w = 0)
  | 0, p, g, hp, hg => ⟨⟨Int.le_refl p, hp.2⟩, hg⟩
  | f + 1, p, g, hp, hg => by
    by_cases k : tkKd q n (tkAt q n p) = 1
    · by_cases y : (chF e m q n p g).1 = 0
      · rw [chN_go k y]
        obtain ⟨y1, y2⟩ := chF_0 y
        have a1 := (knV_ok hp hm y1).2.2.2.1
        have r1 := nx_range (q := q) hp
        have ih := chN_ok (e := e) (q := q) hm f (nx q n p) (upv g (knV e m q n (tkAt q n p)) 1) r1.2.2 (fun w => by
          by_cases u : w = knV e m q n (tkAt q n p)
          · rw [u, upv_s]; exact ⟨Or.inr rfl, fun x => by omega⟩
          · rw [upv_n u]; exact hg w)
        exact ⟨⟨by omega, ih.1.2⟩, ih.2⟩
      · rw [chN_bad k y]
        exact ⟨⟨Int.le_refl p, hp.2⟩, hg⟩
    · rw [chN_stop k]
      exact ⟨⟨Int.le_refl p, hp.2⟩, hg⟩
theorem opP_range {c : Int} {q : Int → Int} {n p : Int} (hp : 0 ≤ p ∧ p ≤ n) : p ≤ opP c q n p ∧ opP c q n p ≤ n := by
  have r := nx_range (q := q) hp
  unfold opP
  by_cases w : opW c q n p
  · rw [cif_pos w]; omega
  · rw [cif_neg w]; omega
theorem opV_01 {c : Int} {q : Int → Int} {n p : Int} : opV c q n p = 0 ∨ opV c q n p = 1 := by
  unfold opV
  by_cases w : opW c q n p
  · rw [cif_pos w]; exact Or.inr rfl
  · rw [cif_neg w]; exact Or.inl rfl
theorem nxk_mono {q : Int → Int} {n p : Int} (hp : 0 ≤ p ∧ p ≤ n) : ∀ k : Nat, p ≤ nxk q n p k
  | 0 => Int.le_refl p
  | k + 1 => by
    have ih := nxk_mono (q := q) hp k
    have r := nx_range (q := q) (nxk_range (q := q) hp k)
    show p ≤ nx q n (nxk q n p k)
    omega
section
variable {W L : sTb} {q : Int → Int} {n p : Int}
theorem wdF_0 (h : (wdF W q n p).1 = 0) : (frF W q n p).1 = 0 ∧ (asW 422607680627 q n (nxk q n p 1)).1 = 0 ∧ (nuF 1 9 q n (nxk q n p 2)).1 = 0 ∧ (asW 126922548733043 q n (nxk q n p 3)).1 = 0 ∧ (nuF 0 9 q n (nxk q n p 4)).1 = 0 ∧ (nuF 0 9 q n (nxk q n p 5)).1 = 0 ∧ (asW 512970880104 q n (nxk q n p 6)).1 = 0 ∧ (nuF 0 99 q n (nxk q n p 7)).1 = 0 := by
  unfold wdF at h
  obtain ⟨h, h7⟩ := fb_0 h
  obtain ⟨h, h6⟩ := fb_0 h
  obtain ⟨h, h5⟩ := fb_0 h
  obtain ⟨h, h4⟩ := fb_0 h
  obtain ⟨h, h3⟩ := fb_0 h
  obtain ⟨h, h2⟩ := fb_0 h
  obtain ⟨h, h1⟩ := fb_0 h
  exact ⟨h, h1, h2, h3, h4, h5, h6, h7⟩
theorem wdW_ok (hp : 0 ≤ p ∧ p ≤ n) (h : tOk W L) (h0 : (wdF W q n p).1 = 0) (hs : W 0 0 0 ≠ 24) : tOk (wdW W q n p) L := by
  obtain ⟨t0, t1, t2, t3, t4, t5, t6, t7, t8, t9, t10, t11, t12, t13⟩ := h
  obtain ⟨-, -, b1, -, b2, b3, -, b4⟩ := wdF_0 h0
  have b1 := nuF_0 (nxk_range hp 2) b1
  have b2 := nuF_0 (nxk_range hp 4) b2
  have b3 := nuF_0 (nxk_range hp 5) b3
  have b4 := nuF_0 (nxk_range hp 7) b4
  have nv := opV_01 (c := 474148660594) (q := q) (n := n) (p := nxk q n p 8)
  have e0 : ∀ i j, wdW W q n p 0 i j = W 0 0 0 + 1 := fun _ _ => rfl
  have e : ∀ (k : Nat) (i j : Int), k ≠ 0 → (k < 10 ∨ 15 < k) → wdW W q n p k i j = W k i j := fun k i j k0 k1 => by
    unfold wdW
    rw [if_neg k0, if_neg (fun w => by omega), if_neg (fun w => by omega), if_neg (fun w => by omega), if_neg (fun w => by omega), if_neg (fun w => by omega), if_neg (fun w => by omega)]
  unfold tOk
  rw [e0, e 1 _ _ (by decide) (by decide), e 2 _ _ (by decide) (by decide), e 3 _ _ (by decide) (by decide), e 4 _ _ (by decide) (by decide), e 5 _ _ (by decide) (by decide), e 6 _ _ (by decide) (by decide)]
  refine ⟨by omega, t1, t2, t3, t4, t5, t6, fun w a b => ?_, fun s w a b => ?_, fun c a b => ?_, fun c w a b => ?_, t11, t12, fun l k a b c d => by have := t13 l k a b c d; omega⟩
  · by_cases y : w = W 0 0 0
    · simp only [wdW, y, true_and]
      simp
      exact ⟨by omega, by omega, by omega, by omega, nv⟩
    · simp only [wdW, y, false_and, if_false]
      simp
      exact t7 w a (by omega)
  · rw [e 17 _ _ (by decide) (by decide)]
    have := t8 s w a b
    exact ⟨by omega, fun y => this.2 (by omega)⟩
  · rw [e 19 _ _ (by decide) (by decide), e 20 _ _ (by decide) (by decide)]
    exact t9 c a b
  · rw [e 21 _ _ (by decide) (by decide)]
    have := t10 c w a b
    exact ⟨this.1, fun y => this.2 (by omega)⟩
theorem stW_ok (hp : 0 ≤ p ∧ p ≤ n) (h : tOk W L) (hs : W 1 0 0 ≠ 6) : tOk (stW W q n p) L := by
  obtain ⟨t0, t1, t2, t3, t4, t5, t6, t7, t8, t9, t10, t11, t12, t13⟩ := h
  have r := nx_range (q := q) hp
  have g := (stN_ok (e := fun i => W 10 i 0) (q := q) (n := n) t0.1 n.toNat (nx q n p) (fun _ => -1) r.2.2 (fun w => ⟨by omega, fun _ => rfl⟩)).2
  have e0 : ∀ i j, stW W q n p 1 i j = W 1 0 0 + 1 := fun _ _ => rfl
  have e : ∀ (k : Nat) (i j : Int), k ≠ 1 → k ≠ 16 → k ≠ 17 → stW W q n p k i j = W k i j := fun k i j k0 k1 k2 => by
    unfold stW
    rw [if_neg k0, if_neg (fun w => k1 w.2), if_neg (fun w => k2 w.2)]
  unfold tOk
  rw [e0, e 0 _ _ (by decide) (by decide) (by decide), e 2 _ _ (by decide) (by decide) (by decide), e 3 _ _ (by decide) (by decide) (by decide), e 4 _ _ (by decide) (by decide) (by decide), e 5 _ _ (by decide) (by decide) (by decide), e 6 _ _ (by decide) (by decide) (by decide)]
  refine ⟨t0, by omega, t2, t3, t4, t5, t6, fun w a b => ?_, fun s w a b => ?_, fun c a b => ?_, fun c w a b => ?_, t11, t12, t13⟩
  · rw [e _ _ _ (by decide) (by decide) (by decide), e _ _ _ (by decide) (by decide) (by decide), e _ _ _ (by decide) (by decide) (by decide), e _ _ _ (by decide) (by decide) (by decide), e _ _ _ (by decide) (by decide) (by decide)]
    exact t7 w a b
  · by_cases y : s = W 1 0 0
    · have : stW W q n p 17 s w = (stA W q n p).2.2 w := by simp [stW, y]
      rw [this]
      exact g w
    · have : stW W q n p 17 s w = W 17 s w := by simp [stW, y]
      rw [this]
      exact t8 s w a (by omega)
  · rw [e _ _ _ (by decide) (by decide) (by decide), e _ _ _ (by decide) (by decide) (by decide)]
    have := t9 c a b
    omega
  · rw [e _ _ _ (by decide) (by decide) (by decide)]
    exact t10 c w a b
theorem chH_0 (h : (chH W q n p).1 = 0) : (frF W q n p).1 = 0 ∧ (asW 28518 q n (nxk q n p 1)).1 = 0 ∧ (knF (fun i => W 16 i 0) (W 1 0 0) q n (tkAt q n (nxk q n p 2))).1 = 0 ∧ (asW 448545973363 q n (nxk q n p 3)).1 = 0 ∧ (nuF 1 60 q n (nxk q n p 4)).1 = 0 := by
  unfold chH at h
  obtain ⟨h, h4⟩ := fb_0 h
  obtain ⟨h, h3⟩ := fb_0 h
  obtain ⟨h, h2⟩ := fb_0 h
  obtain ⟨h, h1⟩ := fb_0 h
  exact ⟨h, h1, h2, h3, h4⟩
theorem chW_ok (hp : 0 ≤ p ∧ p ≤ n) (h : tOk W L) (h0 : (chH W q n p).1 = 0) (hs : W 2 0 0 ≠ 10) : tOk (chW W q n p) L := by
  obtain ⟨t0, t1, t2, t3, t4, t5, t6, t7, t8, t9, t10, t11, t12, t13⟩ := h
  obtain ⟨-, -, b1, -, b2⟩ := chH_0 h0
  have b1 := (knV_ok (nxk_range hp 2) t1.1 b1).2.2.2.1
  have b2 := nuF_0 (nxk_range hp 4) b2
  have g := (chN_ok (e := fun i => W 10 i 0) (q := q) (n := n) t0.1 n.toNat (nxk q n p 5) (fun _ => 0) (nxk_range hp 5) (fun w => ⟨Or.inl rfl, fun _ => rfl⟩)).2
  have e0 : ∀ i j, chW W q n p 2 i j = W 2 0 0 + 1 := fun _ _ => rfl
  have e : ∀ (k : Nat) (i j : Int), k ≠ 2 → (k < 18 ∨ 21 < k) → chW W q n p k i j = W k i j := fun k i j k0 k1 => by
    unfold chW
    rw [if_neg k0, if_neg (fun w => by omega), if_neg (fun w => by omega), if_neg (fun w => by omega), if_neg (fun w => by omega)]
  unfold tOk
  rw [e0, e 0 _ _ (by decide) (by decide), e 1 _ _ (by decide) (by decide), e 3 _ _ (by decide) (by decide), e 4 _ _ (by decide) (by decide), e 5 _ _ (by decide) (by decide), e 6 _ _ (by decide) (by decide)]
  refine ⟨t0, t1, by omega, t3, t4, t5, t6, fun w a b => ?_, fun s w a b => ?_, fun c a b => ?_, fun c w a b => ?_, t11, t12, t13⟩
  · rw [e _ _ _ (by decide) (by decide), e _ _ _ (by decide) (by decide), e _ _ _ (by decide) (by decide), e _ _ _ (by decide) (by decide), e _ _ _ (by decide) (by decide)]
    exact t7 w a b
  · rw [e _ _ _ (by decide) (by decide)]
    exact t8 s w a b
  · by_cases y : c = W 2 0 0
    · have x1 : chW W q n p 19 c 0 = knV (fun i => W 16 i 0) (W 1 0 0) q n (tkAt q n (nxk q n p 2)) := by simp [chW, y]
      have x2 : chW W q n p 20 c 0 = tkV q n (tkAt q n (nxk q n p 4)) := by simp [chW, y]
      rw [x1, x2]
      exact ⟨b1, b2.2.2⟩
    · have x1 : chW W q n p 19 c 0 = W 19 c 0 := by simp [chW, y]
      have x2 : chW W q n p 20 c 0 = W 20 c 0 := by simp [chW, y]
      rw [x1, x2]
      exact t9 c a (by omega)
  · by_cases y : c = W 2 0 0
    · have : chW W q n p 21 c w = (chA W q n p).2.2 w := by simp [chW, y]
      rw [this]
      exact g w
    · have : chW W q n p 21 c w = W 21 c w := by simp [chW, y]
      rw [this]
      exact t10 c w a (by omega)
theorem lwW_ok (hp : 0 ≤ p ∧ p ≤ n) (h : tOk W L) (h0 : (lwR W q n p).1.1 = 0) (hs : W 3 0 0 ≠ 12) : tOk (lwW W q n p) (lwL W L q n p) := by
  obtain ⟨t0, t1, t2, t3, t4, t5, t6, t7, t8, t9, t10, ⟨t11, t14, t15⟩, t12, t13⟩ := h
  have r1 := nx_range (q := q) hp
  have r2 := opP_range (c := 1937075815) (q := q) r1.2.2
  have r3 := nx_range (q := q) (n := n) (p := opP 1937075815 q n (nx q n p)) (by omega)
  obtain ⟨o1, o2, -, -, o5⟩ := roS_ok (e := fun i => W 10 i 0) (m := W 0 0 0) (q := q) t0.1 r3.2.2 h0
  have sv := opV_01 (c := 1937075815) (q := q) (n := n) (p := nx q n p)
  have e0 : ∀ i j, lwW W q n p 3 i j = W 3 0 0 + 1 := fun _ _ => rfl
  have e : ∀ (k : Nat) (i j : Int), k ≠ 3 → k ≠ 22 → lwW W q n p k i j = W k i j := fun k i j k0 k1 => by
    unfold lwW
    rw [if_neg k0, if_neg (fun w => k1 w.2)]
  have eL : ∀ (k : Nat) (i j : Int), k ≠ 2 → k ≠ 3 → k ≠ 4 → k ≠ 5 → lwL W L q n p k i j = L k i j := fun k i j k2 k3 k4 k5 => by
    unfold lwL
    rw [if_neg (fun w => k2 w.2), if_neg (fun w => k3 w.2), if_neg (fun w => k4 w.2), if_neg (fun w => k5 w.2)]
  unfold tOk
  rw [e0, e 0 _ _ (by decide) (by decide), e 1 _ _ (by decide) (by decide), e 2 _ _ (by decide) (by decide), e 4 _ _ (by decide) (by decide), e 5 _ _ (by decide) (by decide), e 6 _ _ (by decide) (by decide)]
  refine ⟨t0, t1, t2, by omega, t4, t5, t6, fun w a b => ?_, fun s w a b => ?_, fun c a b => ?_, fun c w a b => ?_, ⟨by rw [eL _ _ _ (by decide) (by decide) (by decide) (by decide)]; exact t11, by rw [eL _ _ _ (by decide) (by decide) (by decide) (by decide)]; exact t14, fun x => by rw [eL _ _ _ (by decide) (by decide) (by decide) (by decide)]; exact t15 x⟩, fun l a b => ?_, fun l k a b c d => ?_⟩
  · rw [e _ _ _ (by decide) (by decide), e _ _ _ (by decide) (by decide), e _ _ _ (by decide) (by decide), e _ _ _ (by decide) (by decide), e _ _ _ (by decide) (by decide)]
    exact t7 w a b
  · rw [e _ _ _ (by decide) (by decide)]
    exact t8 s w a b
  · rw [e _ _ _ (by decide) (by decide), e _ _ _ (by decide) (by decide)]
    exact t9 c a b
  · rw [e _ _ _ (by decide) (by decide)]
    exact t10 c w a b
  · by_cases y : l = W 3 0 0
    · have x2 : lwL W L q n p 2 l 0 = (lwR W q n p).2.1.1 := by simp [lwL, y]
      have x3 : lwL W L q n p 3 l 0 = (lwR W q n p).2.1.2 := by simp [lwL, y]
      have x4 : lwL W L q n p 4 l 0 = opV 1937075815 q n (nx q n p) := by simp [lwL, y]
      rw [x2, x3, x4]
      exact ⟨o1, o2, sv⟩
    · have x : ∀ k j, lwL W L q n p k l j = L k l j := fun k j => by simp [lwL, y]
      rw [x, x, x]
      exact t12 l a (by omega)
  · by_cases y : l = W 3 0 0
    · have x2 : lwL W L q n p 2 l 0 = (lwR W q n p).2.1.1 := by simp [lwL, y]
      have x3 : lwL W L q n p 3 l 0 = (lwR W q n p).2.1.2 := by simp [lwL, y]
      have x5 : lwL W L q n p 5 l k = (lwR W q n p).2.2.2 k := by simp [lwL, y]
      rw [x2, x3] at d
      rw [x5]
      exact o5 k c d
    · have x : ∀ k j, lwL W L q n p k l j = L k l j := fun k j => by simp [lwL, y]
      rw [x, x] at d
      rw [x]
      exact t13 l k a (by omega) c d
theorem stK_ok (h : tOk W L) {k : Nat} {z : Int} (hk : (k = 4 ∧ 1 ≤ z ∧ z ≤ 12) ∨ (k = 5 ∧ 1 ≤ z ∧ z ≤ 4) ∨ (k = 6 ∧ 0 ≤ z ∧ z ≤ 20)) : tOk (stK W k z) L := by
  obtain ⟨t0, t1, t2, t3, t4, t5, t6, t7, t8, t9, t10, t11, t12, t13⟩ := h
  have e : ∀ (k' : Nat) (i j : Int), (k' < 4 ∨ 6 < k') → stK W k z k' i j = W k' i j := fun k' i j k1 => by
    unfold stK
    rw [if_neg (by omega)]
  unfold tOk
  rw [e 0 _ _ (by decide), e 1 _ _ (by decide), e 2 _ _ (by decide), e 3 _ _ (by decide)]
  refine ⟨t0, t1, t2, t3, ?_, ?_, ?_, fun w a b => ?_, fun s w a b => ?_, fun c a b => ?_, fun c w a b => ?_, t11, t12, t13⟩
  · unfold stK; split <;> omega
  · unfold stK; split <;> omega
  · unfold stK; split <;> omega
  · rw [e _ _ _ (by decide), e _ _ _ (by decide), e _ _ _ (by decide), e _ _ _ (by decide), e _ _ _ (by decide)]
    exact t7 w a b
  · rw [e _ _ _ (by decide)]
    exact t8 s w a b
  · rw [e _ _ _ (by decide), e _ _ _ (by decide)]
    exact t9 c a b
  · rw [e _ _ _ (by decide)]
    exact t10 c w a b
end
/-! a statement by its first word -/
section
variable {W L : sTb} {q : Int → Int} {n p : Int}
/-- the word of the language that stands there -/
def hw (c : Int) (q : Int → Int) (n p : Int) : Prop := tkKd q n (tkAt q n p) = 1 ∧ tkC q n (tkAt q n p) = c
theorem smS_bad (h : 0 ≤ tkBad q n (tkAt q n p)) : smS W L q n p = ((1, tkBad q n (tkAt q n p)), p, W, L) := if_pos h
theorem smS_word (h : ¬ 0 ≤ tkBad q n (tkAt q n p)) (h1 : hw 2003792484 q n p) : smS W L q n p = if W 0 0 0 = 24 then ((5, tkAt q n p), p, W, L) else (wdF W q n (nx q n p), opP 474148660594 q n (nxk q n (nx q n p) 8), wdW W q n (nx q n p), L) := (if_neg h).trans (if_pos h1)
theorem smS_street (h : ¬ 0 ≤ tkBad q n (tkAt q n p)) (h1 : hw 126943972648308 q n p) : smS W L q n p = if W 1 0 0 = 6 then ((5, tkAt q n p), p, W, L) else (fb (frF W q n (nx q n p)) (stA W q n (nx q n p)).1, (stA W q n (nx q n p)).2.1, stW W q n (nx q n p), L) :=
  (if_neg h).trans ((if_neg (fun w => by have := h1.2; omega)).trans (if_pos h1))
theorem smS_child (h : ¬ 0 ≤ tkBad q n (tkAt q n p)) (h1 : hw 426953501796 q n p) : smS W L q n p = if W 2 0 0 = 10 then ((5, tkAt q n p), p, W, L) else (fb (chH W q n (nx q n p)) (chA W q n (nx q n p)).1, (chA W q n (nx q n p)).2.1, chW W q n (nx q n p), L) :=
  (if_neg h).trans ((if_neg (fun w => by have := h1.2; omega)).trans ((if_neg (fun w => by have := h1.2; omega)).trans (if_pos h1)))
theorem smS_law (h : ¬ 0 ≤ tkBad q n (tkAt q n p)) (h1 : hw 7102839 q n p) : smS W L q n p = if W 3 0 0 = 12 then ((5, tkAt q n p), p, W, L) else (fb (lwH W q n (nx q n p)) (lwR W q n (nx q n p)).1, (lwR W q n (nx q n p)).2.2.1, lwW W q n (nx q n p), lwL W L q n (nx q n p)) :=
  (if_neg h).trans ((if_neg (fun w => by have := h1.2; omega)).trans ((if_neg (fun w => by have := h1.2; omega)).trans ((if_neg (fun w => by have := h1.2; omega)).trans (if_pos h1))))
theorem smS_head (h : ¬ 0 ≤ tkBad q n (tkAt q n p)) (h1 : hw 1751474532 q n p) : smS W L q n p = (nuF 1 12 q n (nx q n p), nxk q n p 2, stK W 4 (tkV q n (tkAt q n (nx q n p))), L) :=
  (if_neg h).trans ((if_neg (fun w => by have := h1.2; omega)).trans ((if_neg (fun w => by have := h1.2; omega)).trans ((if_neg (fun w => by have := h1.2; omega)).trans ((if_neg (fun w => by have := h1.2; omega)).trans (if_pos h1)))))
theorem smS_mend (h : ¬ 0 ≤ tkBad q n (tkAt q n p)) (h1 : hw 1835363940 q n p) : smS W L q n p = (nuF 1 4 q n (nx q n p), nxk q n p 2, stK W 5 (tkV q n (tkAt q n (nx q n p))), L) :=
  (if_neg h).trans ((if_neg (fun w => by have := h1.2; omega)).trans ((if_neg (fun w => by have := h1.2; omega)).trans ((if_neg (fun w => by have := h1.2; omega)).trans ((if_neg (fun w => by have := h1.2; omega)).trans ((if_neg (fun w => by have := h1.2; omega)).trans (if_pos h1))))))
theorem smS_tune (h : ¬ 0 ≤ tkBad q n (tkAt q n p)) (h1 : hw 1953853029 q n p) : smS W L q n p = (nuF 0 20 q n (nx q n p), nxk q n p 2, stK W 6 (tkV q n (tkAt q n (nx q n p))), L) :=
  (if_neg h).trans ((if_neg (fun w => by have := h1.2; omega)).trans ((if_neg (fun w => by have := h1.2; omega)).trans ((if_neg (fun w => by have := h1.2; omega)).trans ((if_neg (fun w => by have := h1.2; omega)).trans ((if_neg (fun w => by have := h1.2; omega)).trans ((if_neg (fun w => by have := h1.2; omega)).trans (if_pos h1)))))))
theorem smS_no (h : ¬ 0 ≤ tkBad q n (tkAt q n p)) (h1 : ¬ hw 2003792484 q n p) (h2 : ¬ hw 126943972648308 q n p) (h3 : ¬ hw 426953501796 q n p) (h4 : ¬ hw 7102839 q n p) (h5 : ¬ hw 1751474532 q n p) (h6 : ¬ hw 1835363940 q n p) (h7 : ¬ hw 1953853029 q n p) : smS W L q n p = ((1, tkAt q n p), p, W, L) :=
  (if_neg h).trans ((if_neg h1).trans ((if_neg h2).trans ((if_neg h3).trans ((if_neg h4).trans ((if_neg h5).trans ((if_neg h6).trans (if_neg h7)))))))
theorem smS_ok (hp : 0 ≤ p ∧ p ≤ n) (h : tOk W L) (h0 : (smS W L q n p).1.1 = 0) : (p ≤ (smS W L q n p).2.1 ∧ (smS W L q n p).2.1 ≤ n) ∧ tOk (smS W L q n p).2.2.1 (smS W L q n p).2.2.2 := by
  have r1 := nx_range (q := q) hp
  have r2 := nx_range (q := q) r1.2.2
  have e2 : nxk q n p 2 = nx q n (nx q n p) := rfl
  by_cases b : 0 ≤ tkBad q n (tkAt q n p)
  · rw [smS_bad b] at h0; exact absurd h0 (by show ¬ (1 : Int) = 0; decide)
  by_cases c1 : hw 2003792484 q n p
  · rw [smS_word b c1] at h0 ⊢
    by_cases w : W 0 0 0 = 24
    · rw [if_pos w] at h0; exact absurd h0 (by show ¬ (5 : Int) = 0; decide)
    · rw [if_neg w] at h0 ⊢
      have k := nxk_range (q := q) r1.2.2 8
      have k2 := nxk_mono (q := q) r1.2.2 8
      have op := opP_range (c := 474148660594) (q := q) k
      exact ⟨⟨by show p ≤ opP 474148660594 q n (nxk q n (nx q n p) 8); omega, op.2⟩, wdW_ok r1.2.2 h h0 w⟩
  by_cases c2 : hw 126943972648308 q n p
  · rw [smS_street b c2] at h0 ⊢
    by_cases w : W 1 0 0 = 6
    · rw [if_pos w] at h0; exact absurd h0 (by show ¬ (5 : Int) = 0; decide)
    · rw [if_neg w] at h0 ⊢
      have g := (stN_ok (e := fun i => W 10 i 0) (q := q) (n := n) h.1.1 n.toNat (nx q n (nx q n p)) (fun _ => -1) r2.2.2 (fun w => ⟨by have := h.1; omega, fun _ => rfl⟩)).1
      exact ⟨⟨by show p ≤ (stA W q n (nx q n p)).2.1; unfold stA; omega, g.2⟩, stW_ok r1.2.2 h w⟩
  by_cases c3 : hw 426953501796 q n p
  · rw [smS_child b c3] at h0 ⊢
    by_cases w : W 2 0 0 = 10
    · rw [if_pos w] at h0; exact absurd h0 (by show ¬ (5 : Int) = 0; decide)
    · rw [if_neg w] at h0 ⊢
      have h0 : (fb (chH W q n (nx q n p)) (chA W q n (nx q n p)).1).1 = 0 := h0
      have k := nxk_range (q := q) r1.2.2 5
      have k2 := nxk_mono (q := q) r1.2.2 5
      have g := (chN_ok (e := fun i => W 10 i 0) (q := q) (n := n) h.1.1 n.toNat (nxk q n (nx q n p) 5) (fun _ => 0) k (fun w => ⟨Or.inl rfl, fun _ => rfl⟩)).1
      exact ⟨⟨by show p ≤ (chA W q n (nx q n p)).2.1; unfold chA; omega, g.2⟩, chW_ok r1.2.2 h (fb_0 h0).1 w⟩
  by_cases c4 : hw 7102839 q n p
  · rw [smS_law b c4] at h0 ⊢
    by_cases w : W 3 0 0 = 12
    · rw [if_pos w] at h0; exact absurd h0 (by show ¬ (5 : Int) = 0; decide)
    · rw [if_neg w] at h0 ⊢
      have h0 : (fb (lwH W q n (nx q n p)) (lwR W q n (nx q n p)).1).1 = 0 := h0
      have r3 := opP_range (c := 1937075815) (q := q) r2.2.2
      have r4 := nx_range (q := q) (n := n) (p := opP 1937075815 q n (nx q n (nx q n p))) (by omega)
      have g := (roS_ok (e := fun i => W 10 i 0) (m := W 0 0 0) (q := q) h.1.1 r4.2.2 (fb_0 h0).2).2.2.1
      exact ⟨⟨by show p ≤ (lwR W q n (nx q n p)).2.2.1; unfold lwR; omega, g.2⟩, lwW_ok r1.2.2 h (fb_0 h0).2 w⟩
  by_cases c5 : hw 1751474532 q n p
  · rw [smS_head b c5] at h0 ⊢
    have v := nuF_0 r1.2.2 h0
    exact ⟨⟨by show p ≤ nxk q n p 2; omega, by show nxk q n p 2 ≤ n; omega⟩, stK_ok h (Or.inl ⟨rfl, v.2.2⟩)⟩
  by_cases c6 : hw 1835363940 q n p
  · rw [smS_mend b c6] at h0 ⊢
    have v := nuF_0 r1.2.2 h0
    exact ⟨⟨by show p ≤ nxk q n p 2; omega, by show nxk q n p 2 ≤ n; omega⟩, stK_ok h (Or.inr (Or.inl ⟨rfl, v.2.2⟩))⟩
  by_cases c7 : hw 1953853029 q n p
  · rw [smS_tune b c7] at h0 ⊢
    have v := nuF_0 r1.2.2 h0
    exact ⟨⟨by show p ≤ nxk q n p 2; omega, by show nxk q n p 2 ≤ n; omega⟩, stK_ok h (Or.inr (Or.inr ⟨rfl, v.2.2⟩))⟩
  · rw [smS_no b c1 c2 c3 c4 c5 c6 c7] at h0
    exact absurd h0 (by show ¬ (1 : Int) = 0; decide)
end
section
variable {W L : sTb} {q : Int → Int} {n p k : Int} {f : Nat}
theorem tnN_end (h : n ≤ tkAt q n p) : tnN q n f k p W L = ((0, 0), k, W, L) := by
  cases f with
  | zero => rfl
  | succ f => exact if_pos h
theorem tnN_90 (h : tkAt q n p < n) (h2 : k = 90) : tnN q n (f + 1) k p W L = ((5, tkAt q n p), k, W, L) := (if_neg (by omega)).trans (if_pos h2)
theorem tnN_bad (h : tkAt q n p < n) (h2 : k ≠ 90) (h3 : (tnC W L q n p).1 ≠ 0) : tnN q n (f + 1) k p W L = (tnC W L q n p, k, W, L) := (if_neg (by omega)).trans ((if_neg h2).trans (if_neg h3))
theorem tnN_go (h : tkAt q n p < n) (h2 : k ≠ 90) (h3 : (tnC W L q n p).1 = 0) : tnN q n (f + 1) k p W L = tnN q n f (k + 1) (nx q n (smS W L q n p).2.1) (smS W L q n p).2.2.1 (smS W L q n p).2.2.2 := (if_neg (by omega)).trans ((if_neg h2).trans (if_pos h3))
end
theorem tnC_0 {W L : sTb} {q : Int → Int} {n p : Int} (h : (tnC W L q n p).1 = 0) : (smS W L q n p).1.1 = 0 ∧ (asS 59 q n (smS W L q n p).2.1).1 = 0 := fb_0 h
