set_option maxRecDepth 100000
set_option linter.unusedVariables false
/-! plain words: sittings, laws that come to be others -/
def upI {α : Type} (g : Int → α) (i : Int) (x : α) : Int → α := fun j => if j = i then x else g j
theorem upI_s {α : Type} {g : Int → α} {i : Int} {x : α} : upI g i x i = x := if_pos rfl
theorem upI_n {α : Type} {g : Int → α} {i j : Int} {x : α} (h : j ≠ i) : upI g i x j = g j := if_neg h
/-- the first place ahead of n of which p is so; -1 -/
noncomputable def sFirst (p : Int → Prop) (n : Nat) : Int := it (fun j r => cif (r = -1 ∧ p j) j r) (-1) n
theorem sFirst_none {p : Int → Prop} {n : Nat} (h : ∀ j : Int, 0 ≤ j → j < n → ¬ p j) : sFirst p n = -1 := by
  unfold sFirst
  exact it_inv (fun _ r => r = -1) rfl (fun k h0 h1 s hs => by rw [cif_neg (fun w => h k h0 h1 w.2)]; exact hs)
theorem sFirst_some {p : Int → Prop} {n : Nat} {v : Int} (h0 : 0 ≤ v) (h1 : v < n) (hv : p v) (h : ∀ j : Int, 0 ≤ j → j < v → ¬ p j) : sFirst p n = v := by
  unfold sFirst
  have e := it_inv (f := fun j r => cif (r = -1 ∧ p j) j r) (a := (-1 : Int)) (n := n) (fun k r => if k ≤ v then r = -1 else r = v) (by rw [if_pos h0]) (fun k k0 k1 s hs => by
    by_cases q : k + 1 ≤ v
    · rw [if_pos q]
      rw [if_pos (show k ≤ v by omega)] at hs
      rw [cif_neg (fun w => h k k0 (by omega) w.2)]
      exact hs
    · rw [if_neg q]
      by_cases q2 : k ≤ v
      · rw [if_pos q2] at hs
        have q3 : k = v := by omega
        rw [cif_pos ⟨hs, q3 ▸ hv⟩, q3]
      · rw [if_neg q2] at hs
        rw [cif_neg (fun w => by omega)]
        exact hs)
  rw [if_neg (by omega)] at e
  exact e
def sSeatF (L : sTb) : Int → Int × (Int → Int) → Int × (Int → Int) := fun p st => if 0 < L 2 (L 1 p 0) 0 then (st.1 + 1, upI st.2 st.1 (L 1 p 0)) else st
/-- the laws that stand, in their order -/
def sSeats (L : sTb) (nl : Int) : Int × (Int → Int) := it (sSeatF L) (0, fun _ => 0) nl.toNat
def sStand (L : sTb) (nl : Int) : Int := it (fun l n => if 0 < L 2 l 0 then n + 1 else n) 0 nl.toNat
def sHolds (W L : sTb) (c l : Int) : Int := W 20 c 0 + (if L 4 l 0 = 0 then 0 else W 6 0 0)
/-- held, kinds and rows by law -/
abbrev sSit : Type := Int × (Int → Int) × (Int → sRow)
def sRunP (st : sSit) (seat : Int → Int) (u : sRow) (j : Int) : Prop := st.2.1 (seat j) ≠ 3 ∧ 1 < (st.2.2 (seat j)).1 ∧ 1 < u.1 ∧ (st.2.2 (seat j)).2.2 0 = u.2.2 0 ∧ (st.2.2 (seat j)).2.2 1 = u.2.2 1
noncomputable def sRun (st : sSit) (seat : Int → Int) (u : sRow) (i : Int) : Int := sFirst (sRunP st seat u) i.toNat
noncomputable def sSitK (W : sTb) (c : Int) (R : sRow) (left : Int) (st : sSit) (seat : Int → Int) (i : Int) : sSit :=
  if sKind W c R left = 3 then (st.1, upI st.2.1 (seat i) 3, upI st.2.2 (seat i) (sSayR W c R left))
  else if sRun st seat (sSayR W c R left) i = -1 then (st.1 + 1, upI st.2.1 (seat i) (sKind W c R left), upI st.2.2 (seat i) (sSayR W c R left))
  else (st.1 + 1, upI st.2.1 (seat i) 4, upI st.2.2 (seat i) (st.2.2 (seat (sRun st seat (sSayR W c R left) i))))
noncomputable def sSitF (W L : sTb) (c : Int) (seat : Int → Int) : Int → sSit → sSit := fun i st =>
  if W 4 0 0 ≤ st.1 then (st.1, upI st.2.1 (seat i) 3, upI st.2.2 (seat i) (0, 0, fun _ => 0))
  else sSitK W c (sRw L (seat i)) (sHolds W L c (seat i)) st seat i
noncomputable def sSits (W L : sTb) (c : Int) (seat : Int → Int) (n : Nat) : sSit := it (sSitF W L c seat) (0, fun _ => 0, fun _ => (0, 0, fun _ => 0)) n
theorem sRw_ok {W L : sTb} {l : Int} (hk : sLok W L) (h : 0 ≤ l ∧ l < W 3 0 0) : sRok (W 0 0 0) (sRw L l) := by
  have g := hk.2.2.2.1 l h.1 h.2
  exact ⟨g.1, g.2.1, fun k k0 k1 => hk.2.2.2.2 l k h.1 h.2 k0 k1⟩
theorem sKind_range {W : sTb} {c : Int} {R : sRow} {left : Int} : 0 ≤ sKind W c R left ∧ sKind W c R left ≤ 3 := by
  unfold sKind
  by_cases q : sLost W c R left
  · rw [cif_pos q]; omega
  · rw [cif_neg q]
    by_cases q : sCut W c R left
    · rw [cif_pos q]; omega
    · rw [cif_neg q]
      by_cases q : sSame W c R
      · rw [cif_pos q]; omega
      · rw [cif_neg q]; omega
/-- what stands behind so many seats -/
theorem sSits_ok {W L : sTb} {c : Int} {seat : Int → Int} {n : Nat} (hW : sWok W) (hk : sLok W L) (hc : 0 ≤ c ∧ c < W 2 0 0) (hs : ∀ i : Int, 0 ≤ i → i < n → 0 ≤ seat i ∧ seat i < W 3 0 0) :
    (0 ≤ (sSits W L c seat n).1 ∧ (sSits W L c seat n).1 ≤ W 4 0 0 ∧ (sSits W L c seat n).1 ≤ n) ∧ ∀ l : Int, (0 ≤ (sSits W L c seat n).2.1 l ∧ (sSits W L c seat n).2.1 l ≤ 4) ∧ sRok (W 0 0 0) ((sSits W L c seat n).2.2 l) := by
  have z0 : sRok (W 0 0 0) (0, 0, fun _ => 0) := ⟨by dsimp only; omega, by dsimp only; omega, fun k k0 k1 => by dsimp only at k1; omega⟩
  have w4 := hW.2.2.2.2.1
  unfold sSits
  refine it_inv (f := sSitF W L c seat) (a := ((0 : Int), (fun _ => (0 : Int)), (fun _ => (((0 : Int), (0 : Int), (fun _ => (0 : Int))) : sRow)))) (fun k st => (0 ≤ st.1 ∧ st.1 ≤ W 4 0 0 ∧ st.1 ≤ k) ∧ ∀ l : Int, (0 ≤ st.2.1 l ∧ st.2.1 l ≤ 4) ∧ sRok (W 0 0 0) (st.2.2 l)) ⟨by dsimp only; omega, fun l => ⟨by dsimp only; omega, z0⟩⟩ (fun k k0 k1 st hst => ?_)
  obtain ⟨g1, g2⟩ := hst
  have gs := hs k k0 k1
  have gk := sKind_range (W := W) (c := c) (R := sRw L (seat k)) (left := sHolds W L c (seat k))
  have gu := sSayR_ok (left := sHolds W L c (seat k)) hW hc (sRw_ok hk gs)
  have up : ∀ (x : Int) (R : sRow), 0 ≤ x ∧ x ≤ 4 → sRok (W 0 0 0) R → ∀ l : Int, (0 ≤ upI st.2.1 (seat k) x l ∧ upI st.2.1 (seat k) x l ≤ 4) ∧ sRok (W 0 0 0) (upI st.2.2 (seat k) R l) := by
    intro x R hx hR l
    unfold upI
    by_cases q : l = seat k
    · rw [if_pos q, if_pos q]; exact ⟨hx, hR⟩
    · rw [if_neg q, if_neg q]; exact g2 l
  unfold sSitF
  by_cases q : W 4 0 0 ≤ st.1
  · rw [if_pos q]
    exact ⟨by dsimp only; omega, up 3 _ (by omega) z0⟩
  · rw [if_neg q]
    unfold sSitK
    by_cases q1 : sKind W c (sRw L (seat k)) (sHolds W L c (seat k)) = 3
    · rw [if_pos q1]
      exact ⟨by dsimp only; omega, up 3 _ (by omega) gu⟩
    · rw [if_neg q1]
      by_cases q2 : sRun st seat (sSayR W c (sRw L (seat k)) (sHolds W L c (seat k))) k = -1
      · rw [if_pos q2]
        exact ⟨by dsimp only; omega, up _ _ (by omega) gu⟩
      · rw [if_neg q2]
        exact ⟨by dsimp only; omega, up 4 _ (by omega) (g2 _).2⟩
theorem sSeats_ok {W L : sTb} (hW : sWok W) (hk : sLok W L) {n : Int} (hn : 0 ≤ n ∧ n ≤ W 3 0 0) : (0 ≤ (sSeats L n).1 ∧ (sSeats L n).1 ≤ n) ∧ ∀ i : Int, 0 ≤ i → i < (sSeats L n).1 → (0 ≤ (sSeats L n).2 i ∧ (sSeats L n).2 i < W 3 0 0) ∧ 0 < L 2 ((sSeats L n).2 i) 0 := by
  have e := it_inv (f := sSeatF L) (a := ((0 : Int), (fun _ => (0 : Int)))) (n := n.toNat) (fun k st => (0 ≤ st.1 ∧ st.1 ≤ k) ∧ ∀ i : Int, 0 ≤ i → i < st.1 → (0 ≤ st.2 i ∧ st.2 i < W 3 0 0) ∧ 0 < L 2 (st.2 i) 0) ⟨by dsimp only; omega, fun i i0 i1 => by dsimp only at i1; omega⟩ (fun k k0 k1 st hst => by
    obtain ⟨g1, g2⟩ := hst
    have g3 := hk.2.1 k k0 (by omega)
    unfold sSeatF
    by_cases q : 0 < L 2 (L 1 k 0) 0
    · rw [if_pos q]
      refine ⟨by dsimp only; omega, fun i i0 i1 => ?_⟩
      dsimp only at i1 ⊢
      by_cases q2 : i = st.1
      · rw [q2, upI_s]; exact ⟨g3, q⟩
      · rw [upI_n q2]; exact g2 i i0 (by omega)
    · rw [if_neg q]
      exact ⟨by omega, g2⟩)
  rw [show ((n.toNat : Nat) : Int) = n by omega] at e
  exact e
/-! a law comes to be another row; the book -/
def sLset (L : sTb) (l : Int) (R : sRow) : sTb := fun k i j => if i = l ∧ k = 2 then R.1 else if i = l ∧ k = 3 then R.2.1 else if i = l ∧ k = 5 then R.2.2 j else L k i j
abbrev sBk : Type := Int × (Int → Int → Int)
def sLine (y l c k : Int) : Int → Int := fun j => if j = 0 then y else if j = 1 then l else if j = 2 then c else k
def sPush (B : sBk) (ln : Int → Int) : sBk := if B.1 = 100 then (100, upI (fun k => B.2 (k + 1)) 99 ln) else (B.1 + 1, upI B.2 B.1 ln)
noncomputable def sBecome (c : Int) (l : Int) (kind : Int) (R : sRow) (p : sTb × sBk) : sTb × sBk := cif (sAlike (sRw p.1 l) R) p (sLset p.1 l R, sPush p.2 (sLine (p.1 0 0 0) l c kind))
noncomputable def sRenewF (c : Int) (st : sSit) (seat : Int → Int) : Int → sTb × sBk → sTb × sBk := fun i p => sBecome c (seat i) (st.2.1 (seat i)) (st.2.2 (seat i)) p
noncomputable def sRenew (W L : sTb) (c : Int) (B : sBk) : sTb × sBk := it (sRenewF c (sSits W L c (sSeats L (W 3 0 0)).2 (sSeats L (W 3 0 0)).1.toNat) (sSeats L (W 3 0 0)).2) (L, B) (sSeats L (W 3 0 0)).1.toNat
def sSeedF (s : Int) : Int := (1103515245 * s + 12345) % 2147483648
def sYear1 (L : sTb) : sTb := fun k i j => if k = 0 then L 0 0 0 + 1 else L k i j
/-- a year: layer, book, seed -/
noncomputable def sYear (W : sTb) (p : sTb × sBk × Int) : sTb × sBk × Int :=
  if (p.1 0 0 0 + 1) % 9 = 0 ∧ 0 < W 2 0 0 then
    ((sRenew W (sYear1 p.1) (sSeedF p.2.2 / 64 % W 2 0 0) p.2.1).1, (sRenew W (sYear1 p.1) (sSeedF p.2.2 / 64 % W 2 0 0) p.2.1).2, sSeedF p.2.2)
  else (sYear1 p.1, p.2.1, p.2.2)
noncomputable def sBy (W L : sTb) (l : Int) : Int := it (fun c n => if sKind W c (sRw L l) (sHolds W L c l) = 0 then n + 1 else n) 0 (W 2 0 0).toNat
noncomputable def sByR (W : sTb) (R : sRow) (sung : Int) : Int := it (fun c n => if sKind W c R (W 20 c 0 + (if sung = 0 then 0 else W 6 0 0)) = 0 then n + 1 else n) 0 (W 2 0 0).toNat
