set_option maxRecDepth 100000
set_option linter.unusedVariables false
/-! the plain law's words: pure functions on tables. A town's tables W, a layer's L: by kind, row, column -/
abbrev sTb : Type := Nat → Int → Int → Int
abbrev sRow : Type := Int × Int × (Int → Int)
noncomputable def cif {α : Type} (p : Prop) (a b : α) : α := @ite α p (Classical.propDecidable p) a b
theorem cif_pos {α : Type} {p : Prop} {a b : α} (h : p) : cif p a b = a := by unfold cif; exact if_pos h
theorem cif_neg {α : Type} {p : Prop} {a b : α} (h : ¬ p) : cif p a b = b := by unfold cif; exact if_neg h
/-- a loop from 0 on -/
def it {α : Type} (f : Int → α → α) (a : α) : Nat → α
  | 0 => a
  | k + 1 => f k (it f a k)
theorem it_zero {α : Type} (f : Int → α → α) (a : α) : it f a (0 : Int).toNat = a := rfl
theorem it_succ {α : Type} (f : Int → α → α) (a : α) {v : Int} (h : 0 ≤ v) : it f a (v + 1).toNat = f v (it f a v.toNat) := by
  have e : (v + 1).toNat = v.toNat + 1 := by omega
  rw [e]
  show f (v.toNat : Int) _ = _
  rw [Int.toNat_of_nonneg h]
theorem it_congr {α : Type} {f g : Int → α → α} {a : α} {n : Nat} (h : ∀ k : Int, 0 ≤ k → k < n → ∀ s, f k s = g k s) : it f a n = it g a n := by
  induction n with
  | zero => rfl
  | succ m ih =>
    show f m (it f a m) = g m (it g a m)
    rw [ih (fun k h0 h1 s => h k h0 (by omega) s), h m (by omega) (by omega)]
/-- an invariant of a loop -/
theorem it_inv {α : Type} {f : Int → α → α} {a : α} (P : Int → α → Prop) (h0 : P 0 a) {n : Nat} (h : ∀ k : Int, 0 ≤ k → k < n → ∀ s, P k s → P (k + 1) (f k s)) : P n (it f a n) := by
  induction n with
  | zero => exact h0
  | succ m ih =>
    have e := h m (by omega) (by omega) _ (ih (fun k h0 h1 s => h k h0 (by omega) s))
    exact e
theorem upF_same {F : jFl} {f a : Nat} {z : Int} : upF F f a z f a = z := if_pos ⟨rfl, rfl⟩
theorem upA_same {A : jAr} {a : Nat} {i z : Int} : upA A a i z a i = z := if_pos ⟨rfl, rfl⟩
theorem upA_at {A : jAr} {a : Nat} {i j z : Int} (h : j = i) : upA A a i z a j = z := if_pos ⟨rfl, h⟩
/-! words -/
def sLikes (W : sTb) (a b : Int) : Int := (if W 13 a 0 = W 13 b 0 then 2 else 0) + (if W 12 a 0 = W 12 b 0 then 1 else 0) + (if W 11 a 0 = W 11 b 0 then 1 else 0)
def sHeard (W : sTb) (c w : Int) : Int := if W 17 (W 19 c 0) w = -1 then w else W 17 (W 19 c 0) w
def sNearF (W : sTb) (c h : Int) : Int → Int × Int → Int × Int := fun k p => if W 21 c k = 1 then (if p.2 < sLikes W k h then (k, sLikes W k h) else p) else p
def sNear (W : sTb) (c h : Int) : Nat → Int × Int := it (sNearF W c h) (h, W 5 0 0 - 1)
def sSaid (W : sTb) (c w : Int) : Int := if W 21 c (sHeard W c w) = 1 then sHeard W c w else (sNear W c (sHeard W c w) (W 0 0 0).toNat).1
/-! a saying -/
def sU (W : sTb) (c : Int) (r : Int → Int) (k : Int) : Int := sSaid W c (r k)
def sCost (W : sTb) (c : Int) (r : Int → Int) (k : Int) : Int := W 11 (sU W c r k) 0 - (if 0 < k ∧ W 13 (sU W c r (k - 1)) 0 = W 13 (sU W c r k) 0 then 1 else 0)
def sLeft (W : sTb) (c : Int) (r : Int → Int) (left : Int) : Nat → Int := it (fun k l => l - sCost W c r k) left
def sLeft2 (W : sTb) (c : Int) (r : sRow) (left : Int) : Nat → Int := it (fun k l => l - sCost W c r.2.2 (r.1 + k)) (sLeft W c r.2.2 left r.1.toNat - 1)
def sLost (W : sTb) (c : Int) (r : sRow) (left : Int) : Prop := ∃ k : Int, 0 ≤ k ∧ k < r.1 ∧ sLeft W c r.2.2 left (k + 1).toNat < 0
def sCut (W : sTb) (c : Int) (r : sRow) (left : Int) : Prop := 0 < r.2.1 ∧ ∃ k : Int, 0 ≤ k ∧ k < r.2.1 ∧ sLeft2 W c r left (k + 1).toNat < 0
def sSame (W : sTb) (c : Int) (r : sRow) : Prop := ∀ k : Int, 0 ≤ k → k < r.1 + r.2.1 → sU W c r.2.2 k = r.2.2 k
noncomputable def sKind (W : sTb) (c : Int) (r : sRow) (left : Int) : Int := cif (sLost W c r left) 3 (cif (sCut W c r left) 2 (cif (sSame W c r) 0 1))
noncomputable def sMain (W : sTb) (c : Int) (r : sRow) (left : Int) : Int := cif (sLost W c r left) 0 r.1
noncomputable def sBut (W : sTb) (c : Int) (r : sRow) (left : Int) : Int := cif (sLost W c r left) 0 (cif (sCut W c r left) 0 r.2.1)
/-! what the tables of a town hold -/
def sWok (W : sTb) : Prop :=
  (0 ≤ W 0 0 0 ∧ W 0 0 0 ≤ 24) ∧ (0 ≤ W 1 0 0 ∧ W 1 0 0 ≤ 6) ∧ (0 ≤ W 2 0 0 ∧ W 2 0 0 ≤ 10) ∧ (0 ≤ W 3 0 0 ∧ W 3 0 0 ≤ 12) ∧
  (1 ≤ W 4 0 0 ∧ W 4 0 0 ≤ 12) ∧ (1 ≤ W 5 0 0 ∧ W 5 0 0 ≤ 4) ∧ (0 ≤ W 6 0 0 ∧ W 6 0 0 ≤ 20) ∧
  (∀ w : Int, 0 ≤ w → w < W 0 0 0 → (1 ≤ W 11 w 0 ∧ W 11 w 0 ≤ 9) ∧ (0 ≤ W 12 w 0 ∧ W 12 w 0 ≤ 9) ∧ (0 ≤ W 13 w 0 ∧ W 13 w 0 ≤ 9) ∧ (0 ≤ W 14 w 0 ∧ W 14 w 0 ≤ 99) ∧ (W 15 w 0 = 0 ∨ W 15 w 0 = 1)) ∧
  (∀ s w : Int, 0 ≤ s → s < W 1 0 0 → 0 ≤ w → w < W 0 0 0 → -1 ≤ W 17 s w ∧ W 17 s w < W 0 0 0) ∧
  (∀ c : Int, 0 ≤ c → c < W 2 0 0 → (0 ≤ W 19 c 0 ∧ W 19 c 0 < W 1 0 0) ∧ (1 ≤ W 20 c 0 ∧ W 20 c 0 ≤ 60)) ∧
  (∀ c w : Int, 0 ≤ c → c < W 2 0 0 → 0 ≤ w → w < W 0 0 0 → W 21 c w = 0 ∨ W 21 c w = 1)
/-- a layer's tables: 0 year, 1 order, 2 main, 3 but, 4 sung, 5 words -/
def sLok (W L : sTb) : Prop :=
  (0 ≤ L 0 0 0 ∧ L 0 0 0 ≤ 9999) ∧
  (∀ p : Int, 0 ≤ p → p < W 3 0 0 → 0 ≤ L 1 p 0 ∧ L 1 p 0 < W 3 0 0) ∧
  (∀ p q : Int, 0 ≤ p → p < W 3 0 0 → 0 ≤ q → q < W 3 0 0 → L 9 0 0 = 0 → L 1 p 0 = L 1 q 0 → p = q) ∧
  (∀ l : Int, 0 ≤ l → l < W 3 0 0 → (0 ≤ L 2 l 0 ∧ L 2 l 0 ≤ 8) ∧ (0 ≤ L 3 l 0 ∧ L 3 l 0 ≤ 4) ∧ (L 2 l 0 = 0 → L 3 l 0 = 0) ∧ (L 4 l 0 = 0 ∨ L 4 l 0 = 1)) ∧
  (∀ l k : Int, 0 ≤ l → l < W 3 0 0 → 0 ≤ k → k < L 2 l 0 + L 3 l 0 → 0 ≤ L 5 l k ∧ L 5 l k < W 0 0 0)
def sRw (L : sTb) (l : Int) : sRow := (L 2 l 0, L 3 l 0, fun k => L 5 l k)
/-! the model's heap holds such tables -/
abbrev mBk (o : Nat) (F : jFl) : Prop := 0 ≤ F 3039 o ∧ F 3039 o < 2
def mrW (o : Nat) (F : jFl) (A : jAr) (W : sTb) : Prop :=
  mBk o F ∧ (A (o + 2) (F 3039 o) = W 0 0 0 ∧ A (o + 9) (F 3039 o) = W 1 0 0 ∧ A (o + 12) (F 3039 o) = W 2 0 0 ∧ A (o + 17) (F 3039 o) = W 3 0 0) ∧
  (A (o + 23) (F 3039 o) = W 4 0 0 ∧ A (o + 24) (F 3039 o) = W 5 0 0 ∧ A (o + 25) (F 3039 o) = W 6 0 0) ∧
  (∀ w : Int, 0 ≤ w → w < W 0 0 0 → A (o + 3) (24 * F 3039 o + w) = W 10 w 0 ∧ A (o + 4) (24 * F 3039 o + w) = W 11 w 0 ∧ A (o + 5) (24 * F 3039 o + w) = W 12 w 0 ∧ A (o + 6) (24 * F 3039 o + w) = W 13 w 0 ∧ A (o + 7) (24 * F 3039 o + w) = W 14 w 0 ∧ A (o + 8) (24 * F 3039 o + w) = W 15 w 0) ∧
  (∀ s : Int, 0 ≤ s → s < W 1 0 0 → A (o + 10) (6 * F 3039 o + s) = W 16 s 0 ∧ ∀ w : Int, 0 ≤ w → w < W 0 0 0 → A (o + 11) (24 * (6 * F 3039 o + s) + w) = W 17 s w) ∧
  (∀ c : Int, 0 ≤ c → c < W 2 0 0 → A (o + 13) (10 * F 3039 o + c) = W 18 c 0 ∧ A (o + 14) (10 * F 3039 o + c) = W 19 c 0 ∧ A (o + 15) (10 * F 3039 o + c) = W 20 c 0 ∧ ∀ w : Int, 0 ≤ w → w < W 0 0 0 → A (o + 16) (24 * (10 * F 3039 o + c) + w) = W 21 c w) ∧
  (∀ l : Int, 0 ≤ l → l < W 3 0 0 → A (o + 18) (12 * F 3039 o + l) = W 22 l 0)
def mrL (o : Nat) (A : jAr) (v nl : Int) (L : sTb) : Prop :=
  A (o + 28) v = L 0 0 0 ∧ (∀ p : Int, 0 ≤ p → p < nl → A (o + 29) (12 * v + p) = L 1 p 0) ∧
  (∀ l : Int, 0 ≤ l → l < nl → A (o + 30) (12 * v + l) = L 2 l 0 ∧ A (o + 31) (12 * v + l) = L 3 l 0 ∧ A (o + 32) (12 * v + l) = L 4 l 0 ∧ ∀ k : Int, 0 ≤ k → k < L 2 l 0 + L 3 l 0 → A (o + 33) (12 * (12 * v + l) + k) = L 5 l k)
theorem mrW.of {o : Nat} {F F' : jFl} {A A' : jAr} {W : sTb} (hb : F' 3039 o = F 3039 o) (h : ∀ k : Nat, 2 ≤ k → k ≤ 25 → A' (o + k) = A (o + k)) (hW : mrW o F A W) : mrW o F' A' W := by
  unfold mrW mBk at *
  rw [hb, h 2 (by omega) (by omega), h 3 (by omega) (by omega), h 4 (by omega) (by omega), h 5 (by omega) (by omega), h 6 (by omega) (by omega), h 7 (by omega) (by omega), h 8 (by omega) (by omega), h 9 (by omega) (by omega), h 10 (by omega) (by omega), h 11 (by omega) (by omega), h 12 (by omega) (by omega), h 13 (by omega) (by omega), h 14 (by omega) (by omega), h 15 (by omega) (by omega), h 16 (by omega) (by omega), h 17 (by omega) (by omega), h 18 (by omega) (by omega), h 23 (by omega) (by omega), h 24 (by omega) (by omega), h 25 (by omega) (by omega)]
  exact hW
theorem mrL.of {o : Nat} {A A' : jAr} {v nl : Int} {L : sTb} (h : ∀ k : Nat, 28 ≤ k → k ≤ 33 → A' (o + k) = A (o + k)) (hL : mrL o A v nl L) : mrL o A' v nl L := by
  unfold mrL at *
  rw [h 28 (by omega) (by omega), h 29 (by omega) (by omega), h 30 (by omega) (by omega), h 31 (by omega) (by omega), h 32 (by omega) (by omega), h 33 (by omega) (by omega)]
  exact hL
theorem sHeard_range {W : sTb} {c w : Int} (hW : sWok W) (hc : 0 ≤ c ∧ c < W 2 0 0) (hw : 0 ≤ w ∧ w < W 0 0 0) : 0 ≤ sHeard W c w ∧ sHeard W c w < W 0 0 0 := by
  obtain ⟨w0, w1, w2, w3, w4, w5, w6, w7, w8, w9, w10⟩ := hW
  have g1 := w9 c hc.1 hc.2
  have g2 := w8 _ w g1.1.1 g1.1.2 hw.1 hw.2
  unfold sHeard
  split <;> omega
theorem sSaid_range {W : sTb} {c w : Int} (hW : sWok W) (hc : 0 ≤ c ∧ c < W 2 0 0) (hw : 0 ≤ w ∧ w < W 0 0 0) : 0 ≤ sSaid W c w ∧ sSaid W c w < W 0 0 0 := by
  have h := sHeard_range hW hc hw
  unfold sSaid
  split
  · exact h
  · have e := it_inv (f := sNearF W c (sHeard W c w)) (a := (sHeard W c w, W 5 0 0 - 1)) (fun _ p => 0 ≤ p.1 ∧ p.1 < W 0 0 0) h (n := (W 0 0 0).toNat) (fun k h0 h1 s hs => by
      unfold sNearF
      split
      · split
        · exact ⟨h0, by omega⟩
        · exact hs
      · exact hs)
    exact e
theorem sCost_range {W : sTb} {c : Int} {r : Int → Int} {k : Int} (hW : sWok W) (hc : 0 ≤ c ∧ c < W 2 0 0) (hw : 0 ≤ r k ∧ r k < W 0 0 0) : 0 ≤ sCost W c r k ∧ sCost W c r k ≤ 9 := by
  have h := sSaid_range hW hc hw
  have g := hW.2.2.2.2.2.2.2.1 _ h.1 h.2
  unfold sCost sU
  split <;> omega
/-! only the words of a row count -/
/-- so many words, all of the town -/
def sRok (nw : Int) (R : sRow) : Prop := (0 ≤ R.1 ∧ R.1 ≤ 8) ∧ (0 ≤ R.2.1 ∧ R.2.1 ≤ 4) ∧ ∀ k : Int, 0 ≤ k → k < R.1 + R.2.1 → 0 ≤ R.2.2 k ∧ R.2.2 k < nw
section
variable {W : sTb} {c : Int} {R R' : sRow} {left : Int}
theorem sCost_congr {r r' : Int → Int} {n k : Int} (h : ∀ k : Int, 0 ≤ k → k < n → r k = r' k) (h0 : 0 ≤ k) (h1 : k < n) : sCost W c r k = sCost W c r' k := by
  unfold sCost sU
  rw [h k h0 h1]
  by_cases q : 0 < k
  · rw [h (k - 1) (by omega) (by omega)]
  · rw [if_neg (fun w => q w.1), if_neg (fun w => q w.1)]
theorem say_congr (h1 : R.1 = R'.1) (h2 : R.2.1 = R'.2.1) (h3 : ∀ k : Int, 0 ≤ k → k < R.1 + R.2.1 → R.2.2 k = R'.2.2 k) (p1 : 0 ≤ R.1) (p2 : 0 ≤ R.2.1) : sKind W c R left = sKind W c R' left ∧ sMain W c R left = sMain W c R' left ∧ sBut W c R left = sBut W c R' left ∧ ∀ k : Int, 0 ≤ k → k < R.1 + R.2.1 → sU W c R.2.2 k = sU W c R'.2.2 k := by
  obtain ⟨m, b, f⟩ := R
  obtain ⟨m', b', g⟩ := R'
  dsimp only at h1 h2 h3 p1 p2 ⊢
  subst h1 h2
  have hu : ∀ k : Int, 0 ≤ k → k < m + b → sU W c f k = sU W c g k := fun k k0 k1 => by unfold sU; rw [h3 k k0 k1]
  have hl : ∀ n : Nat, (n : Int) ≤ m → sLeft W c f left n = sLeft W c g left n := fun n hn => by
    unfold sLeft
    exact it_congr (fun k k0 k1 s => by rw [sCost_congr h3 k0 (by omega)])
  have hl2 : ∀ n : Nat, (n : Int) ≤ b → sLeft2 W c (m, b, f) left n = sLeft2 W c (m, b, g) left n := fun n hn => by
    unfold sLeft2
    dsimp only
    rw [hl m.toNat (by omega)]
    exact it_congr (fun k k0 k1 s => by rw [sCost_congr h3 (by omega) (by omega)])
  have e1 : sLost W c (m, b, f) left ↔ sLost W c (m, b, g) left := by
    unfold sLost
    dsimp only
    constructor
    · rintro ⟨k, k0, k1, k2⟩; exact ⟨k, k0, k1, by rw [← hl _ (by omega)]; exact k2⟩
    · rintro ⟨k, k0, k1, k2⟩; exact ⟨k, k0, k1, by rw [hl _ (by omega)]; exact k2⟩
  have e2 : sCut W c (m, b, f) left ↔ sCut W c (m, b, g) left := by
    unfold sCut
    dsimp only
    constructor
    · rintro ⟨q, k, k0, k1, k2⟩; exact ⟨q, k, k0, k1, by rw [← hl2 _ (by omega)]; exact k2⟩
    · rintro ⟨q, k, k0, k1, k2⟩; exact ⟨q, k, k0, k1, by rw [hl2 _ (by omega)]; exact k2⟩
  have e3 : sSame W c (m, b, f) ↔ sSame W c (m, b, g) := by
    unfold sSame
    dsimp only
    constructor
    · intro w k k0 k1; rw [← hu k k0 k1, ← h3 k k0 k1]; exact w k k0 k1
    · intro w k k0 k1; rw [hu k k0 k1, h3 k k0 k1]; exact w k k0 k1
  have e4 := propext e1
  have e5 := propext e2
  have e6 := propext e3
  refine ⟨?_, ?_, ?_, hu⟩
  · unfold sKind; rw [e4, e5, e6]
  · unfold sMain; rw [e4]
  · unfold sBut; rw [e4, e5]
end
