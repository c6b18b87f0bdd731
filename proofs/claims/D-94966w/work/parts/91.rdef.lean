set_option maxRecDepth 100000
set_option linter.unusedVariables false
/-! what the calls answer that alter nothing of the town -/
def rOrder (W L : sTb) (p : Int) : Int := if 0 ≤ p ∧ p < W 3 0 0 then L 1 p 0 else -1
def rAlike (W : sTb) (a b : Int) : Int := if (0 ≤ a ∧ a < W 0 0 0) ∧ (0 ≤ b ∧ b < W 0 0 0) then sLikes W a b else -1
def rHears (W : sTb) (c w said : Int) : Int := if (0 ≤ c ∧ c < W 2 0 0) ∧ (0 ≤ w ∧ w < W 0 0 0) then (if said = 0 then sHeard W c w else sSaid W c w) else -1
def rStatus (Q : sMi) (r : Int) : Int := if 0 ≤ r ∧ r ≤ 5 then Q 2 r else -1
def rFault (Q : sMi) (k : Int) : Int := if k = 0 then Q 3 0 else if k = 1 then Q 4 0 else -1
def rHas (W L : sTb) (B : sBk) (U : sUn) (Q : sMi) (k : Int) : Int := if k = 0 then W 0 0 0 else if k = 1 then W 1 0 0 else if k = 2 then W 2 0 0 else if k = 3 then W 3 0 0 else if k = 4 then sStand L (W 3 0 0) else if k = 5 then W 4 0 0 else if k = 6 then W 5 0 0 else if k = 7 then W 6 0 0 else if k = 8 then L 0 0 0 else if k = 9 then B.1 else if k = 10 then U.1 else if k = 11 then Q 5 0 else -1
def rBook (B : sBk) (k j : Int) : Int := if (0 ≤ k ∧ k < B.1) ∧ (0 ≤ j ∧ j ≤ 3) then B.2 k j else -1
noncomputable def sHasN (L : sTb) (nl w : Int) : Int := it (fun l n => cif (sHas (sRw L l) w) (n + 1) n) 0 nl.toNat
noncomputable def rWord (W L : sTb) (w k : Int) : Int := if 0 ≤ w ∧ w < W 0 0 0 then (if k = 0 then W 11 w 0 else if k = 1 then W 12 w 0 else if k = 2 then W 13 w 0 else if k = 3 then W 14 w 0 else if k = 4 then W 15 w 0 else if k = 5 then sHasN L (W 3 0 0) w else -1) else -1
def rMeaning (W L : sTb) (l : Int) : Int := if 0 ≤ l ∧ l < W 3 0 0 then sMeaning W (sRw L l) else 1000000000
noncomputable def rSays (W L : sTb) (c l k : Int) : Int := if (0 ≤ c ∧ c < W 2 0 0) ∧ (0 ≤ l ∧ l < W 3 0 0) ∧ 0 < L 2 l 0 then sTells (sKind W c (sRw L l) (sHolds W L c l)) (sSayR W c (sRw L l) (sHolds W L c l)) k else -1
noncomputable def sSitN (W L : sTb) (c : Int) : sSit := sSits W L c (sSeats L (W 3 0 0)).2 (sSeats L (W 3 0 0)).1.toNat
noncomputable def rSits (W L : sTb) (c l k : Int) : Int := if (0 ≤ c ∧ c < W 2 0 0) ∧ (0 ≤ l ∧ l < W 3 0 0) ∧ 0 < L 2 l 0 then sTells ((sSitN W L c).2.1 l) ((sSitN W L c).2.2 l) k else -1
noncomputable def rSitting (W L : sTb) (c k : Int) : Int := if (0 ≤ c ∧ c < W 2 0 0) ∧ (0 ≤ k ∧ k ≤ 4) then it (fun i s => if (sSitN W L c).2.1 ((sSeats L (W 3 0 0)).2 i) = k then s + 1 else s) 0 (sSeats L (W 3 0 0)).1.toNat else -1
/-- who stands has a seat -/
theorem sSeats_all {L : sTb} {n : Int} (hn : 0 ≤ n) {p : Int} (hp : 0 ≤ p ∧ p < n) (hs : 0 < L 2 (L 1 p 0) 0) : ∃ i : Int, (0 ≤ i ∧ i < (sSeats L n).1) ∧ (sSeats L n).2 i = L 1 p 0 := by
  have e := it_inv (f := sSeatF L) (a := ((0 : Int), (fun _ => (0 : Int)))) (n := n.toNat) (fun k st => 0 ≤ st.1 ∧ (p < k → ∃ i : Int, (0 ≤ i ∧ i < st.1) ∧ st.2 i = L 1 p 0)) ⟨by dsimp only; omega, fun q => by omega⟩ (fun k k0 k1 st hst => by
    obtain ⟨g0, g1⟩ := hst
    unfold sSeatF
    by_cases q : 0 < L 2 (L 1 k 0) 0
    · rw [if_pos q]
      refine ⟨by dsimp only; omega, fun q2 => ?_⟩
      dsimp only
      by_cases w : p = k
      · exact ⟨st.1, by omega, by rw [upI_s, w]⟩
      · obtain ⟨i, i0, i1⟩ := g1 (by omega)
        exact ⟨i, by omega, by rw [upI_n (by omega)]; exact i1⟩
    · rw [if_neg q]
      refine ⟨g0, fun q2 => ?_⟩
      by_cases w : p = k
      · rw [w] at hs; exact absurd hs q
      · exact g1 (by omega))
  exact e.2 (by omega)
/-- one-to-one on places below n is onto -/
theorem one_onto (n : Nat) : ∀ f : Int → Int, (∀ p : Int, 0 ≤ p → p < n → 0 ≤ f p ∧ f p < n) → (∀ p q : Int, 0 ≤ p → p < n → 0 ≤ q → q < n → f p = f q → p = q) → ∀ y : Int, 0 ≤ y → y < n → ∃ p : Int, (0 ≤ p ∧ p < n) ∧ f p = y := by
  induction n with
  | zero => intro f _ _ y y0 y1; omega
  | succ n ih =>
    intro f hf hi y y0 y1
    have fn := hf n (by omega) (by omega)
    have ne : ∀ p : Int, 0 ≤ p → p < n → f p ≠ f n := fun p p0 p1 e => by
      have := hi p n p0 (by omega) (by omega) (by omega) e
      omega
    have h1 : ∀ p : Int, 0 ≤ p → p < n → 0 ≤ (if f p = n then f n else f p) ∧ (if f p = n then f n else f p) < n := fun p p0 p1 => by
      have := hf p p0 (by omega)
      have := ne p p0 p1
      split <;> omega
    have h2 : ∀ p q : Int, 0 ≤ p → p < n → 0 ≤ q → q < n → (if f p = n then f n else f p) = (if f q = n then f n else f q) → p = q := fun p q p0 p1 q0 q1 e => by
      have a1 := ne p p0 p1
      have a2 := ne q q0 q1
      by_cases w1 : f p = n
      · by_cases w2 : f q = n
        · exact hi p q p0 (by omega) q0 (by omega) (by omega)
        · rw [if_pos w1, if_neg w2] at e; exact absurd e.symm a2
      · by_cases w2 : f q = n
        · rw [if_neg w1, if_pos w2] at e; exact absurd e a1
        · rw [if_neg w1, if_neg w2] at e; exact hi p q p0 (by omega) q0 (by omega) e
    have s1 := ih (fun p => if f p = n then f n else f p) h1 h2
    by_cases w : f n = n
    · by_cases wy : y = n
      · exact ⟨n, by omega, by omega⟩
      · obtain ⟨p, p0, p1⟩ := s1 y y0 (by omega)
        by_cases w1 : f p = n
        · exact absurd (w1.trans w.symm) (ne p p0.1 p0.2)
        · rw [if_neg w1] at p1
          exact ⟨p, by omega, p1⟩
    · by_cases wy : y = n
      · obtain ⟨p, p0, p1⟩ := s1 (f n) fn.1 (by omega)
        by_cases w1 : f p = n
        · exact ⟨p, by omega, by omega⟩
        · rw [if_neg w1] at p1; exact absurd p1 (ne p p0.1 p0.2)
      · obtain ⟨p, p0, p1⟩ := s1 y y0 (by omega)
        by_cases w1 : f p = n
        · rw [if_pos w1] at p1
          exact ⟨n, by omega, p1⟩
        · rw [if_neg w1] at p1
          exact ⟨p, by omega, p1⟩
theorem sOrd_onto {W L : sTb} (hLk : sLok W L) (h9 : L 9 0 0 = 0) {l : Int} (hl : 0 ≤ l ∧ l < W 3 0 0) : ∃ p : Int, (0 ≤ p ∧ p < W 3 0 0) ∧ L 1 p 0 = l := by
  have e : ((W 3 0 0).toNat : Int) = W 3 0 0 := by omega
  obtain ⟨p, p0, p1⟩ := one_onto (W 3 0 0).toNat (fun p => L 1 p 0) (fun p p0 p1 => by
    have w := hLk.2.1 p p0 (by omega)
    show 0 ≤ L 1 p 0 ∧ L 1 p 0 < _
    omega) (fun p q p0 p1 q0 q1 eq => hLk.2.2.1 p q p0 (by omega) q0 (by omega) h9 eq) l hl.1 (by omega)
  exact ⟨p, by omega, p1⟩
noncomputable def rLaw (W L : sTb) (l k : Int) : Int := if 0 ≤ l ∧ l < W 3 0 0 then (if 10 ≤ k ∧ k ≤ 9 + L 2 l 0 + L 3 l 0 then L 5 l (k - 10) else if k = 0 then L 2 l 0 else if k = 1 then L 3 l 0 else if k = 2 then L 4 l 0 else if k = 3 then sFirst (fun p => L 1 p 0 = l) (W 3 0 0).toNat else if k = 4 then sBeats W (sRw L l) else if k = 5 then (if 0 < L 2 l 0 then sBy W L l else 0) else -1) else -1
noncomputable def sGoods (W L : sTb) (c : Int) (n : Int) : Int := it (fun l n => if 0 < L 2 l 0 ∧ sKind W c (sRw L l) (sHolds W L c l) = 0 then n + 1 else n) 0 n.toNat
noncomputable def rChild (W L : sTb) (c k : Int) : Int := if 0 ≤ c ∧ c < W 2 0 0 then (if k = 0 then W 19 c 0 else if k = 1 then W 20 c 0 else if k = 2 then sKnown W c else if k = 3 then sGoods W L c (W 3 0 0) else -1) else -1
noncomputable def rOdds (W L : sTb) (l : Int) : Int := if (0 ≤ l ∧ l < W 3 0 0 ∧ 0 < L 2 l 0) ∧ 0 < W 2 0 0 then 1000 * sBy W L l / W 2 0 0 else -1
