set_option maxRecDepth 100000
set_option linter.unusedVariables false
/-! the component's heap: words, rows, by numbers -/
def wds (N : jSh) (F : jFl) (W : sTb) (wA : Int → Int) : Prop := ∀ i : Int, 0 ≤ i → i < W 0 0 0 → ∃ b : Nat, wA i = (b : Int) ∧ jtg N b = 14 ∧ jfn N 0 b = 1 ∧ jfn N 3903 b = i ∧ F 4200 b = W 11 i 0 ∧ F 4203 b = W 12 i 0 ∧ F 4206 b = W 13 i 0 ∧ F 4209 b = W 14 i 0 ∧ F 4212 b = W 15 i 0
theorem wds.inj {N : jSh} {F : jFl} {W : sTb} {wA : Int → Int} (h : wds N F W wA) {i j : Int} (hi : 0 ≤ i ∧ i < W 0 0 0) (hj : 0 ≤ j ∧ j < W 0 0 0) : (wA i = wA j ∨ (wA i < 0 ∧ wA j < 0)) ↔ i = j := by
  obtain ⟨b, e1, -, -, e2, -⟩ := h i hi.1 hi.2
  obtain ⟨c, f1, -, -, f2, -⟩ := h j hj.1 hj.2
  constructor
  · rintro (q | ⟨q, -⟩)
    · rw [e1, f1] at q
      have q2 : b = c := by omega
      rw [← e2, ← f2, q2]
    · omega
  · intro q
    exact Or.inl (by rw [q])
theorem jast_word {N : jSh} {b : Nat} {z : Int} (h : z = (b : Int)) (ht : jtg N b = 14) : jast N "ChildSays$Word" z := Or.inr ⟨b, _, h, (by rw [ht]; rfl), Or.inl rfl⟩
theorem wds.ast {N : jSh} {F : jFl} {W : sTb} {wA : Int → Int} (h : wds N F W wA) {i : Int} (hi : 0 ≤ i ∧ i < W 0 0 0) : jast N "ChildSays$Word" (wA i) := by
  obtain ⟨b, e1, e2, -⟩ := h i hi.1 hi.2
  exact jast_word e1 e2
def rowOk (N : jSh) (r : Nat) : Prop := jtg N r = 4 ∧ jfn N 0 r = 1 ∧ jfn N 1202 r = ((r + 1 : Nat) : Int) ∧ jtg N (r + 1) = 107 ∧ jfn N 0 (r + 1) = 1 ∧ jln N (r + 1) = 12
def rowIs (N : jSh) (F : jFl) (A : jAr) (wA : Int → Int) (r : Nat) (R : sRow) : Prop := rowOk N r ∧ F 1203 r = R.1 ∧ F 1206 r = R.2.1 ∧ ∀ k : Int, 0 ≤ k → k < R.1 + R.2.1 → A (r + 1) k = wA (R.2.2 k)
def sAlike (R R' : sRow) : Prop := R.1 = R'.1 ∧ R.2.1 = R'.2.1 ∧ ∀ k : Int, 0 ≤ k → k < R.1 + R.2.1 → R.2.2 k = R'.2.2 k
/-- from lo up to hi (not hi) what lies there may be another -/
def fr (lo hi : Nat) (F : jFl) (A : jAr) (F' : jFl) (A' : jAr) : Prop := ∀ a : Nat, (a < lo ∨ hi ≤ a) → (∀ f, F' f a = F f a) ∧ A' a = A a
theorem fr.refl (lo hi : Nat) (F : jFl) (A : jAr) : fr lo hi F A F A := fun _ _ => ⟨fun _ => rfl, rfl⟩
theorem fr.trans {lo hi : Nat} {F F' F'' : jFl} {A A' A'' : jAr} (h : fr lo hi F A F' A') (h2 : fr lo hi F' A' F'' A'') : fr lo hi F A F'' A'' := fun a ha => ⟨fun f => ((h2 a ha).1 f).trans ((h a ha).1 f), (h2 a ha).2.trans (h a ha).2⟩
theorem fr.mono {lo hi lo2 hi2 : Nat} {F F' : jFl} {A A' : jAr} (h : fr lo hi F A F' A') (h1 : lo2 ≤ lo) (h2 : hi ≤ hi2) : fr lo2 hi2 F A F' A' := fun a ha => h a (by omega)
theorem fr.upF {lo hi f a : Nat} {F F' : jFl} {A A' : jAr} {z : Int} (h : fr lo hi F A F' A') (ha : lo ≤ a ∧ a < hi) : fr lo hi F A (upF F' f a z) A' := fun b hb => ⟨fun g => by
  rw [← (h b hb).1 g]
  show (if g = f ∧ b = a then z else F' g b) = _
  rw [if_neg (by omega)], (h b hb).2⟩
theorem fr.upA {lo hi a : Nat} {F F' : jFl} {A A' : jAr} {i z : Int} (h : fr lo hi F A F' A') (ha : lo ≤ a ∧ a < hi) : fr lo hi F A F' (upA A' a i z) := fun b hb => ⟨(h b hb).1, by
  rw [← (h b hb).2]
  funext j
  show (if b = a ∧ j = i then z else A' b j) = _
  rw [if_neg (by omega)]⟩
theorem rowIs.fr {N : jSh} {F F' : jFl} {A A' : jAr} {wA : Int → Int} {r : Nat} {R : sRow} {lo hi : Nat} (h : rowIs N F A wA r R) (hf : fr lo hi F A F' A') (h1 : r < lo ∨ hi ≤ r) (h2 : r + 1 < lo ∨ hi ≤ r + 1) : rowIs N F' A' wA r R := by
  obtain ⟨a1, a2, a3, a4⟩ := h
  exact ⟨a1, by rw [(hf r h1).1, a2], by rw [(hf r h1).1, a3], by rw [(hf (r + 1) h2).2]; exact a4⟩
/-! what rows say -/
def sNevers (W : sTb) (R : sRow) : Int := it (fun k n => if W 15 (R.2.2 k) 0 = 0 then n else n + 1) 0 R.1.toNat
def sPlainN (nv : Int → Int) : Nat → Int → Int
  | 0, v => v
  | n + 1, v => if nv v = 0 then v else sPlainN nv n (v + 1)
def sPlain (W : sTb) (R : sRow) (v : Int) : Int := sPlainN (fun k => W 15 (R.2.2 k) 0) (R.1 - v).toNat v
theorem sPlain_end {W : sTb} {R : sRow} {v : Int} (h : R.1 ≤ v) : sPlain W R v = v := by
  unfold sPlain
  rw [show (R.1 - v).toNat = 0 by omega]
  rfl
theorem sPlain_at {W : sTb} {R : sRow} {v : Int} (h : v < R.1) (h2 : W 15 (R.2.2 v) 0 = 0) : sPlain W R v = v := by
  unfold sPlain
  rw [show (R.1 - v).toNat = (R.1 - (v + 1)).toNat + 1 by omega]
  show (if _ then _ else _) = _
  rw [if_pos h2]
theorem sPlain_go {W : sTb} {R : sRow} {v : Int} (h : v < R.1) (h2 : ¬ W 15 (R.2.2 v) 0 = 0) : sPlain W R v = sPlain W R (v + 1) := by
  unfold sPlain
  rw [show (R.1 - v).toNat = (R.1 - (v + 1)).toNat + 1 by omega]
  show (if _ then _ else _) = _
  rw [if_neg h2]
def sAgc (R R' : sRow) (p : Int × Int) : Prop := p.1 < R.1 ∧ p.2 < R'.1 ∧ R.2.2 p.1 = R'.2.2 p.2
noncomputable def sAgSt (W : sTb) (R R' : sRow) (p : Int × Int) : Int × Int := cif (sAgc R R' p) (sPlain W R (p.1 + 1), sPlain W R' (p.2 + 1)) p
noncomputable def sAgN (W : sTb) (R R' : sRow) (n : Nat) : Int × Int := it (fun _ p => sAgSt W R R' p) (sPlain W R 0, sPlain W R' 0) n
def sAgs (W : sTb) (R R' : sRow) : Prop := ∃ n : Nat, sAgN W R R' n = (R.1, R'.1)
theorem sAg_stuck {W : sTb} {R R' : sRow} {n : Nat} (h : ¬ sAgc R R' (sAgN W R R' n)) (m : Nat) : sAgN W R R' (n + m) = sAgN W R R' n := by
  induction m with
  | zero => rfl
  | succ m ih =>
    show sAgSt W R R' (sAgN W R R' (n + m)) = _
    rw [ih]
    exact cif_neg h
theorem sAg_final {W : sTb} {R R' : sRow} {n : Nat} {p : Int × Int} (hp : sAgN W R R' n = p) (h : ¬ sAgc R R' p) : sAgs W R R' ↔ p = (R.1, R'.1) := by
  constructor
  · rintro ⟨m, hm⟩
    have hc : ¬ sAgc R R' (sAgN W R R' m) := by rw [hm]; intro w; have := w.1; dsimp only at this; omega
    have e1 := sAg_stuck (W := W) (n := n) (by rw [hp]; exact h) m
    have e2 := sAg_stuck (W := W) hc n
    rw [← hm, ← e2, Nat.add_comm, e1, hp]
  · intro e
    exact ⟨n, by rw [hp, e]⟩
def sSumW (W : sTb) (g : Int → Int) (n : Nat) : Int := it (fun k s => s + W 14 (g k) 0) 0 n
def sMeaning (W : sTb) (R : sRow) : Int := (if sNevers W R % 2 = 1 then - sSumW W R.2.2 R.1.toNat else sSumW W R.2.2 R.1.toNat) - sSumW W (fun k => R.2.2 (R.1 + k)) R.2.1.toNat
def sBeats (W : sTb) (R : sRow) : Int := it (fun k s => s + W 11 (R.2.2 k) 0) 0 (R.1 + R.2.1).toNat
def sHas (R : sRow) (w : Int) : Prop := ∃ k : Int, 0 ≤ k ∧ k < R.1 + R.2.1 ∧ R.2.2 k = w
/-! streets, children -/
def stIs (N : jSh) (A : jAr) (W : sTb) (wA : Int → Int) (s : Int) (b : Nat) : Prop := (jtg N b = 15 ∧ jfn N 0 b = 1 ∧ jfn N 3903 b = s ∧ jfn N 4502 b = ((b + 3 : Nat) : Int) ∧ jtg N (b + 3) = 107 ∧ jfn N 0 (b + 3) = 1 ∧ jln N (b + 3) = 24 ∧ jtg N (b + 2) = 108) ∧ ∀ w : Int, 0 ≤ w → w < W 0 0 0 → A (b + 3) w = (if W 17 s w = -1 then -1 else wA (W 17 s w))
def sKnown (W : sTb) (c : Int) : Int := it (fun w n => if W 21 c w = 1 then n + 1 else n) 0 (W 0 0 0).toNat
def chOk (N : jSh) (c : Int) (b : Nat) : Prop := jtg N b = 16 ∧ jfn N 0 b = 1 ∧ jfn N 3903 b = c ∧ jfn N 4811 b = ((b + 3 : Nat) : Int) ∧ jtg N (b + 3) = 105 ∧ jfn N 0 (b + 3) = 1 ∧ jln N (b + 3) = 24 ∧ jfn N 4814 b = ((b + 4 : Nat) : Int) ∧ jtg N (b + 4) = 107 ∧ jfn N 0 (b + 4) = 1 ∧ jln N (b + 4) = 24
def chIs (N : jSh) (F : jFl) (A : jAr) (W : sTb) (wA sA : Int → Int) (c : Int) (b : Nat) : Prop := chOk N c b ∧ jfn N 4802 b = sA (W 19 c 0) ∧ F 4803 b = W 20 c 0 ∧ F 4806 b = sKnown W c ∧ (∀ w : Int, 0 ≤ w → w < W 0 0 0 → A (b + 3) w = W 21 c w) ∧ ∀ w : Int, 0 ≤ w → w < W 0 0 0 → A (b + 4) w = wA (sSaid W c w)
/-! sayings -/
def sayOk (N : jSh) (x o : Nat) : Prop := jtg N o = 3 ∧ jfn N 0 o = 1 ∧ jfn N 902 o = ((o + 1 : Nat) : Int) ∧ rowOk N (o + 1) ∧ jfn N 914 o = (x : Int)
def sayIs (N : jSh) (F : jFl) (A : jAr) (wA : Int → Int) (o : Nat) (kind : Int) (R : sRow) : Prop := F 903 o = kind ∧ rowIs N F A wA (o + 1) R
def sLeftG (W : sTb) (c : Int) (r : Int → Int) (left from_ : Int) : Nat → Int := it (fun k l => l - sCost W c r (from_ + k)) left
theorem sLeft_G {W : sTb} {c : Int} {r : Int → Int} {left : Int} {n : Nat} : sLeft W c r left n = sLeftG W c r left 0 n := by
  unfold sLeft sLeftG
  exact it_congr (fun k _ _ s => by rw [Int.zero_add])
theorem sLeft2_G {W : sTb} {c : Int} {R : sRow} {left : Int} {n : Nat} : sLeft2 W c R left n = sLeftG W c R.2.2 (sLeft W c R.2.2 left R.1.toNat - 1) R.1 n := rfl
theorem sLeftG_succ {W : sTb} {c : Int} {r : Int → Int} {left from_ v : Int} (h : 0 ≤ v) : sLeftG W c r left from_ (v + 1).toNat = sLeftG W c r left from_ v.toNat - sCost W c r (from_ + v) := it_succ _ _ h
/-- the row that is said -/
noncomputable def sSayR (W : sTb) (c : Int) (R : sRow) (left : Int) : sRow := (sMain W c R left, sBut W c R left, sU W c R.2.2)
theorem sSayR_ok {W : sTb} {c : Int} {R : sRow} {left : Int} (hW : sWok W) (hc : 0 ≤ c ∧ c < W 2 0 0) (h : sRok (W 0 0 0) R) : sRok (W 0 0 0) (sSayR W c R left) := by
  obtain ⟨h1, h2, h3⟩ := h
  have m1 : 0 ≤ sMain W c R left ∧ sMain W c R left ≤ R.1 := by
    unfold sMain
    by_cases q : sLost W c R left
    · rw [cif_pos q]; omega
    · rw [cif_neg q]; omega
  have m2 : 0 ≤ sBut W c R left ∧ sBut W c R left ≤ R.2.1 := by
    unfold sBut
    by_cases q : sLost W c R left
    · rw [cif_pos q]; omega
    · rw [cif_neg q]
      by_cases q : sCut W c R left
      · rw [cif_pos q]; omega
      · rw [cif_neg q]; omega
  refine ⟨⟨m1.1, by show sMain W c R left ≤ 8; omega⟩, ⟨m2.1, by show sBut W c R left ≤ 4; omega⟩, fun k k0 k1 => ?_⟩
  have k2 : k < sMain W c R left + sBut W c R left := k1
  exact sSaid_range hW hc (h3 k k0 (by omega))
theorem wds.of {N : jSh} {F F' : jFl} {W : sTb} {wA : Int → Int} (h : wds N F W wA) (hf : ∀ f b, f / 300 = 14 → jtg N b = 14 → F' f b = F f b) : wds N F' W wA := fun i h0 h1 => by
  obtain ⟨b, e1, e2, e3, e4, e5, e6, e7, e8, e9⟩ := h i h0 h1
  exact ⟨b, e1, e2, e3, e4, by rw [hf _ _ (by decide) e2, e5], by rw [hf _ _ (by decide) e2, e6], by rw [hf _ _ (by decide) e2, e7], by rw [hf _ _ (by decide) e2, e8], by rw [hf _ _ (by decide) e2, e9]⟩
def sFailG (W : sTb) (c : Int) (r : Int → Int) (left from_ n : Int) : Prop := ∃ k : Int, 0 ≤ k ∧ k < n ∧ sLeftG W c r left from_ (k + 1).toNat < 0
theorem sLost_G {W : sTb} {c : Int} {R : sRow} {left : Int} : sLost W c R left ↔ sFailG W c R.2.2 left 0 R.1 := by
  unfold sLost sFailG
  constructor
  · rintro ⟨k, k0, k1, k2⟩; exact ⟨k, k0, k1, by rw [← sLeft_G]; exact k2⟩
  · rintro ⟨k, k0, k1, k2⟩; exact ⟨k, k0, k1, by rw [sLeft_G]; exact k2⟩
theorem sCut_G {W : sTb} {c : Int} {R : sRow} {left : Int} : sCut W c R left ↔ 0 < R.2.1 ∧ sFailG W c R.2.2 (sLeft W c R.2.2 left R.1.toNat - 1) R.1 R.2.1 := Iff.rfl
theorem chIs.of {N : jSh} {F F' : jFl} {A A' : jAr} {W : sTb} {wA sA : Int → Int} {c : Int} {b : Nat} (h : chIs N F A W wA sA c b) (hf : ∀ f, f / 300 = 16 → F' f b = F f b) (h1 : A' (b + 3) = A (b + 3)) (h2 : A' (b + 4) = A (b + 4)) : chIs N F' A' W wA sA c b := by
  obtain ⟨a1, a2, a3, a4, a5, a6⟩ := h
  exact ⟨a1, a2, by rw [hf _ (by decide), a3], by rw [hf _ (by decide), a4], by rw [h1]; exact a5, by rw [h2]; exact a6⟩
theorem rowIs.of {N : jSh} {F F' : jFl} {A A' : jAr} {wA : Int → Int} {r : Nat} {R : sRow} (h : rowIs N F A wA r R) (h1 : F' 1203 r = F 1203 r) (h2 : F' 1206 r = F 1206 r) (h3 : A' (r + 1) = A (r + 1)) : rowIs N F' A' wA r R := by
  obtain ⟨a1, a2, a3, a4⟩ := h
  exact ⟨a1, by rw [h1, a2], by rw [h2, a3], by rw [h3]; exact a4⟩
