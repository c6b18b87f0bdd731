set_option maxRecDepth 100000
set_option linter.unusedVariables false
/-! the model's reader: words, tables of the bank that is read; printed by gen/prove.py out of spec/au.mt2.spec -/
/-- how large a bank is in the array k -/
def bsz (k : Nat) : Int := ([0, 0, 1, 24, 24, 24, 24, 24, 24, 1, 6, 144, 1, 10, 10, 10, 240, 1, 12, 12, 12, 12, 144, 1, 1, 1] : List Int).getD k 0
/-- only the bank b is written -/
def mfB (o : Nat) (b : Int) (A A' : jAr) : Prop := (∀ a : Nat, (a < o + 2 ∨ (o + 25 < a ∧ a ≠ o + 26)) → A' a = A a) ∧ ∀ k : Nat, 2 ≤ k → k ≤ 25 → ∀ i : Int, (i < bsz k * b ∨ bsz k * b + bsz k ≤ i) → A' (o + k) i = A (o + k) i
theorem mfB.refl (o : Nat) (b : Int) (A : jAr) : mfB o b A A := ⟨fun _ _ => rfl, fun _ _ _ _ _ => rfl⟩
theorem mfB.trans {o : Nat} {b : Int} {A A' A'' : jAr} (h : mfB o b A A') (h2 : mfB o b A' A'') : mfB o b A A'' := ⟨fun a ha => (h2.1 a ha).trans (h.1 a ha), fun k k0 k1 i hi => (h2.2 k k0 k1 i hi).trans (h.2 k k0 k1 i hi)⟩
theorem mfB.up {o : Nat} {b : Int} {A A' : jAr} (h : mfB o b A A') {k : Nat} {i z : Int} (hk : 2 ≤ k ∧ k ≤ 25) (hi : bsz k * b ≤ i ∧ i < bsz k * b + bsz k) : mfB o b A (upA A' (o + k) i z) := ⟨fun a ha => by rw [upA_o (by omega)]; exact h.1 a ha, fun k' k0 k1 i' hi' => by
    by_cases w : k' = k
    · subst w
      rw [upA_i (by omega)]
      exact h.2 k' k0 k1 i' hi'
    · rw [upA_o (by omega)]
      exact h.2 k' k0 k1 i' hi'⟩
theorem mfB.r26 {o : Nat} {b : Int} {A A' : jAr} (h : ∀ a, a ≠ o + 26 → A' a = A a) : mfB o b A A' := ⟨fun a ha => h a (by omega), fun k k0 k1 i _ => by rw [h _ (by omega)]⟩
/-- the other bank stays -/
theorem mfB.oth {o : Nat} {b c : Int} {A A' : jAr} (h : mfB o b A A') (hb : 0 ≤ b ∧ b < 2) (hc : 0 ≤ c ∧ c < 2) (hn : c ≠ b) {k : Nat} {i : Int} (hk : 2 ≤ k ∧ k ≤ 25) (hz : 0 ≤ bsz k) (hi : bsz k * c ≤ i ∧ i < bsz k * c + bsz k) : A' (o + k) i = A (o + k) i := h.2 k hk.1 hk.2 i (by
  have e : (b = 0 ∧ c = 1) ∨ (b = 1 ∧ c = 0) := by omega
  rcases e with ⟨e1, e2⟩ | ⟨e1, e2⟩ <;> rw [e1] <;> rw [e2] at hi <;> omega)
theorem mrW.oth {o : Nat} {F F' : jFl} {A A' : jAr} {W : sTb} {b : Int} (hW : sWok W) (h : mrW o F A W) (hf : F' 3039 o = F 3039 o) (hb : 0 ≤ b ∧ b < 2) (hn : F 3039 o ≠ b) (m : mfB o b A A') : mrW o F' A' W := by
  obtain ⟨w0, w1, w2, w3, -⟩ := hW
  unfold mrW mBk at *
  rw [hf]
  generalize F 3039 o = c at *
  obtain ⟨h0, ⟨a1, a2, a3, a4⟩, ⟨a5, a6, a7⟩, h4, h5, h6, h7⟩ := h
  have e : ∀ (k : Nat) (i : Int), (2 ≤ k ∧ k ≤ 25) → 0 ≤ bsz k → (bsz k * c ≤ i ∧ i < bsz k * c + bsz k) → A' (o + k) i = A (o + k) i := fun k i hk hz hi => m.oth hb h0 hn hk hz hi
  refine ⟨h0, ⟨?_, ?_, ?_, ?_⟩, ⟨?_, ?_, ?_⟩, fun w x y => ?_, fun s x y => ⟨?_, fun w x2 y2 => ?_⟩, fun s x y => ⟨?_, ?_, ?_, fun w x2 y2 => ?_⟩, fun l x y => ?_⟩
  · rw [e 2 c (by decide) (by decide) (by show 1 * c ≤ c ∧ c < 1 * c + 1; omega)]; exact a1
  · rw [e 9 c (by decide) (by decide) (by show 1 * c ≤ c ∧ c < 1 * c + 1; omega)]; exact a2
  · rw [e 12 c (by decide) (by decide) (by show 1 * c ≤ c ∧ c < 1 * c + 1; omega)]; exact a3
  · rw [e 17 c (by decide) (by decide) (by show 1 * c ≤ c ∧ c < 1 * c + 1; omega)]; exact a4
  · rw [e 23 c (by decide) (by decide) (by show 1 * c ≤ c ∧ c < 1 * c + 1; omega)]; exact a5
  · rw [e 24 c (by decide) (by decide) (by show 1 * c ≤ c ∧ c < 1 * c + 1; omega)]; exact a6
  · rw [e 25 c (by decide) (by decide) (by show 1 * c ≤ c ∧ c < 1 * c + 1; omega)]; exact a7
  · have z : 24 * c ≤ 24 * c + w ∧ 24 * c + w < 24 * c + 24 := by omega
    rw [e 3 _ (by decide) (by decide) z, e 4 _ (by decide) (by decide) z, e 5 _ (by decide) (by decide) z, e 6 _ (by decide) (by decide) z, e 7 _ (by decide) (by decide) z, e 8 _ (by decide) (by decide) z]
    exact h4 w x y
  · rw [e 10 _ (by decide) (by decide) (by show 6 * c ≤ 6 * c + s ∧ 6 * c + s < 6 * c + 6; omega)]; exact (h5 s x y).1
  · rw [e 11 _ (by decide) (by decide) (by show 144 * c ≤ 24 * (6 * c + s) + w ∧ 24 * (6 * c + s) + w < 144 * c + 144; omega)]; exact (h5 s x y).2 w x2 y2
  · rw [e 13 _ (by decide) (by decide) (by show 10 * c ≤ 10 * c + s ∧ 10 * c + s < 10 * c + 10; omega)]; exact (h6 s x y).1
  · rw [e 14 _ (by decide) (by decide) (by show 10 * c ≤ 10 * c + s ∧ 10 * c + s < 10 * c + 10; omega)]; exact (h6 s x y).2.1
  · rw [e 15 _ (by decide) (by decide) (by show 10 * c ≤ 10 * c + s ∧ 10 * c + s < 10 * c + 10; omega)]; exact (h6 s x y).2.2.1
  · rw [e 16 _ (by decide) (by decide) (by show 240 * c ≤ 24 * (10 * c + s) + w ∧ 24 * (10 * c + s) + w < 240 * c + 240; omega)]; exact (h6 s x y).2.2.2 w x2 y2
  · rw [e 18 _ (by decide) (by decide) (by show 12 * c ≤ 12 * c + l ∧ 12 * c + l < 12 * c + 12; omega)]; exact h7 l x y
/-! the bank that is read, in the tables' words -/
def rWd (o : Nat) (A : jAr) (b : Int) (W : sTb) (m : Int) : Prop := ∀ w : Int, 0 ≤ w → w < m → A (o + 3) (24 * b + w) = W 10 w 0 ∧ A (o + 4) (24 * b + w) = W 11 w 0 ∧ A (o + 5) (24 * b + w) = W 12 w 0 ∧ A (o + 6) (24 * b + w) = W 13 w 0 ∧ A (o + 7) (24 * b + w) = W 14 w 0 ∧ A (o + 8) (24 * b + w) = W 15 w 0
def rSt (o : Nat) (A : jAr) (b : Int) (W : sTb) (m : Int) : Prop := ∀ s : Int, 0 ≤ s → s < m → A (o + 10) (6 * b + s) = W 16 s 0 ∧ ∀ w : Int, 0 ≤ w → w < 24 → A (o + 11) (24 * (6 * b + s) + w) = W 17 s w
def rCh (o : Nat) (A : jAr) (b : Int) (W : sTb) (m : Int) : Prop := ∀ c : Int, 0 ≤ c → c < m → A (o + 13) (10 * b + c) = W 18 c 0 ∧ A (o + 14) (10 * b + c) = W 19 c 0 ∧ A (o + 15) (10 * b + c) = W 20 c 0 ∧ ∀ w : Int, 0 ≤ w → w < 24 → A (o + 16) (24 * (10 * b + c) + w) = W 21 c w
def rLw (o : Nat) (A : jAr) (b : Int) (W L : sTb) (m : Int) : Prop := ∀ l : Int, 0 ≤ l → l < m → A (o + 18) (12 * b + l) = W 22 l 0 ∧ A (o + 19) (12 * b + l) = L 4 l 0 ∧ A (o + 20) (12 * b + l) = L 2 l 0 ∧ A (o + 21) (12 * b + l) = L 3 l 0 ∧ ∀ k : Int, 0 ≤ k → k < L 2 l 0 + L 3 l 0 → A (o + 22) (12 * (12 * b + l) + k) = L 5 l k
def mrR (o : Nat) (A : jAr) (b : Int) (W L : sTb) : Prop := ((A (o + 2) b = W 0 0 0 ∧ A (o + 9) b = W 1 0 0 ∧ A (o + 12) b = W 2 0 0 ∧ A (o + 17) b = W 3 0 0) ∧ A (o + 23) b = W 4 0 0 ∧ A (o + 24) b = W 5 0 0 ∧ A (o + 25) b = W 6 0 0) ∧ rWd o A b W (W 0 0 0) ∧ rSt o A b W (W 1 0 0) ∧ rCh o A b W (W 2 0 0) ∧ rLw o A b W L (W 3 0 0)
section
variable {o : Nat} {A A' : jAr} {b m : Int} {W W' L L' : sTb}
theorem rWd.of (h : rWd o A b W m) (hA : ∀ k : Nat, 3 ≤ k → k ≤ 8 → A' (o + k) = A (o + k)) (hW : ∀ k : Nat, 10 ≤ k → k ≤ 15 → ∀ i, W' k i 0 = W k i 0) : rWd o A' b W' m := fun w x y => by
  rw [hA 3 (by decide) (by decide), hA 4 (by decide) (by decide), hA 5 (by decide) (by decide), hA 6 (by decide) (by decide), hA 7 (by decide) (by decide), hA 8 (by decide) (by decide), hW 10 (by decide) (by decide), hW 11 (by decide) (by decide), hW 12 (by decide) (by decide), hW 13 (by decide) (by decide), hW 14 (by decide) (by decide), hW 15 (by decide) (by decide)]
  exact h w x y
theorem rSt.of (h : rSt o A b W m) (hA : A' (o + 10) = A (o + 10) ∧ A' (o + 11) = A (o + 11)) (hW : ∀ i j, W' 16 i j = W 16 i j ∧ W' 17 i j = W 17 i j) : rSt o A' b W' m := fun s x y => by
  rw [hA.1, hA.2, (hW _ _).1]
  exact ⟨(h s x y).1, fun w x2 y2 => by rw [(hW _ _).2]; exact (h s x y).2 w x2 y2⟩
theorem rCh.of (h : rCh o A b W m) (hA : ∀ k : Nat, 13 ≤ k → k ≤ 16 → A' (o + k) = A (o + k)) (hW : ∀ k : Nat, 18 ≤ k → k ≤ 21 → ∀ i j, W' k i j = W k i j) : rCh o A' b W' m := fun c x y => by
  rw [hA 13 (by decide) (by decide), hA 14 (by decide) (by decide), hA 15 (by decide) (by decide), hA 16 (by decide) (by decide), hW 18 (by decide) (by decide), hW 19 (by decide) (by decide), hW 20 (by decide) (by decide)]
  exact ⟨(h c x y).1, (h c x y).2.1, (h c x y).2.2.1, fun w x2 y2 => by rw [hW 21 (by decide) (by decide)]; exact (h c x y).2.2.2 w x2 y2⟩
theorem rLw.of (h : rLw o A b W L m) (hA : ∀ k : Nat, 18 ≤ k → k ≤ 22 → A' (o + k) = A (o + k)) (hW : ∀ i, W' 22 i 0 = W 22 i 0) : rLw o A' b W' L m := fun l x y => by
  rw [hA 18 (by decide) (by decide), hA 19 (by decide) (by decide), hA 20 (by decide) (by decide), hA 21 (by decide) (by decide), hA 22 (by decide) (by decide), hW]
  exact h l x y
theorem mrR.of (h : mrR o A b W L) (hA : ∀ k : Nat, 2 ≤ k → k ≤ 25 → A' (o + k) = A (o + k)) : mrR o A' b W L := by
  obtain ⟨⟨⟨a1, a2, a3, a4⟩, a5, a6, a7⟩, h1, h2, h3, h4⟩ := h
  refine ⟨⟨⟨by rw [hA 2 (by decide) (by decide)]; exact a1, by rw [hA 9 (by decide) (by decide)]; exact a2, by rw [hA 12 (by decide) (by decide)]; exact a3, by rw [hA 17 (by decide) (by decide)]; exact a4⟩, by rw [hA 23 (by decide) (by decide)]; exact a5, by rw [hA 24 (by decide) (by decide)]; exact a6, by rw [hA 25 (by decide) (by decide)]; exact a7⟩, h1.of (fun k k0 k1 => hA k (by omega) (by omega)) (fun _ _ _ _ => rfl), h2.of ⟨hA 10 (by decide) (by decide), hA 11 (by decide) (by decide)⟩ (fun _ _ => ⟨rfl, rfl⟩), h3.of (fun k k0 k1 => hA k (by omega) (by omega)) (fun _ _ _ _ _ => rfl), h4.of (fun k k0 k1 => hA k (by omega) (by omega)) (fun _ => rfl)⟩
theorem mrR.nm {F : jFl} (h : mrR o A b W L) (ht : tOk W L) (hb : F 3114 o = b) (hb2 : 0 ≤ b ∧ b < 2) : ∀ k : Int, 0 ≤ k → k ≤ 3 → mNm o F A k (eK W k) (mK W k) := fun k k0 k1 => by
  obtain ⟨⟨⟨a1, a2, a3, a4⟩, a5, a6, a7⟩, h1, h2, h3, h4⟩ := h
  obtain ⟨t0, t1, t2, t3, -⟩ := ht
  unfold mNm
  rw [hb]
  have e : k = 0 ∨ k = 1 ∨ k = 2 ∨ k = 3 := by omega
  rcases e with e | e | e | e <;> subst e
  · exact ⟨hb2, t0.1, Or.inl ⟨rfl, t0.2, a1, fun i i0 i1 => (h1 i i0 i1).1⟩⟩
  · exact ⟨hb2, t1.1, Or.inr (Or.inl ⟨rfl, t1.2, a2, fun i i0 i1 => (h2 i i0 i1).1⟩)⟩
  · exact ⟨hb2, t2.1, Or.inr (Or.inr (Or.inl ⟨rfl, t2.2, a3, fun i i0 i1 => (h3 i i0 i1).1⟩))⟩
  · exact ⟨hb2, t3.1, Or.inr (Or.inr (Or.inr ⟨rfl, t3.2, a4, fun i i0 i1 => (h4 i i0 i1).1⟩))⟩
end
/-- what a statement leaves -/
def smP (o : Nat) (q : Int → Int) (n b : Int) (F : jFl) (A : jAr) (F' : jFl) (A' : jAr) (R : smR) : Prop := mgF o F F' ∧ mfB o b A A' ∧ ∃ c : Int × Int, mG o q n c R.2.1 F' ∧ (c.1 = 0 → mrR o A' b R.2.2.1 R.2.2.2) ∧ (c = R.1 ∨ (R.1.1 = 0 ∧ c = (1, tkAt q n R.2.1) ∧ tkKd q n (tkAt q n R.2.1) = 1 ∧ tkBad q n (tkAt q n R.2.1) = -1))
/-- a word's columns -/
def wdA (o : Nat) (v : Int) (A : jAr) (c1 c2 c3 c4 c5 c6 : Int) : jAr := upA (upA (upA (upA (upA (upA A (o + 3) v c1) (o + 4) v c2) (o + 5) v c3) (o + 6) v c4) (o + 7) v c5) (o + 8) v c6
theorem upA_upA {A : jAr} {a : Nat} {i z z' : Int} : upA (upA A a i z) a i z' = upA A a i z' := by
  funext a' i'
  by_cases w : a' = a
  · subst w
    by_cases y : i' = i
    · subst y; rw [upA_s, upA_s]
    · rw [upA_i y, upA_i y, upA_i y]
  · rw [upA_o w, upA_o w, upA_o w]
theorem wdA_o {o : Nat} {v : Int} {A : jAr} {c1 c2 c3 c4 c5 c6 : Int} {a : Nat} (h : a < o + 3 ∨ o + 8 < a) : wdA o v A c1 c2 c3 c4 c5 c6 a = A a := by
  unfold wdA
  rw [upA_o (by omega), upA_o (by omega), upA_o (by omega), upA_o (by omega), upA_o (by omega), upA_o (by omega)]
theorem wdA_i {o : Nat} {v : Int} {A : jAr} {c1 c2 c3 c4 c5 c6 : Int} {a : Nat} {i : Int} (h : i ≠ v) : wdA o v A c1 c2 c3 c4 c5 c6 a i = A a i := by
  unfold wdA
  rw [upA_i h, upA_i h, upA_i h, upA_i h, upA_i h, upA_i h]
theorem wdA_s {o : Nat} {v : Int} {A : jAr} {c1 c2 c3 c4 c5 c6 : Int} : wdA o v A c1 c2 c3 c4 c5 c6 (o + 3) v = c1 ∧ wdA o v A c1 c2 c3 c4 c5 c6 (o + 4) v = c2 ∧ wdA o v A c1 c2 c3 c4 c5 c6 (o + 5) v = c3 ∧ wdA o v A c1 c2 c3 c4 c5 c6 (o + 6) v = c4 ∧ wdA o v A c1 c2 c3 c4 c5 c6 (o + 7) v = c5 ∧ wdA o v A c1 c2 c3 c4 c5 c6 (o + 8) v = c6 := by
  unfold wdA
  refine ⟨?_, ?_, ?_, ?_, ?_, upA_s⟩
  · rw [upA_o (by omega), upA_o (by omega), upA_o (by omega), upA_o (by omega), upA_o (by omega), upA_s]
  · rw [upA_o (by omega), upA_o (by omega), upA_o (by omega), upA_o (by omega), upA_s]
  · rw [upA_o (by omega), upA_o (by omega), upA_o (by omega), upA_s]
  · rw [upA_o (by omega), upA_o (by omega), upA_s]
  · rw [upA_o (by omega), upA_s]
theorem wdA_f {o : Nat} {v b : Int} {A : jAr} {c1 c2 c3 c4 c5 c6 : Int} (h : 24 * b ≤ v ∧ v < 24 * b + 24) : mfB o b A (wdA o v A c1 c2 c3 c4 c5 c6) := by
  unfold wdA
  exact ((((((mfB.refl o b A).up (by decide) h).up (by decide) h).up (by decide) h).up (by decide) h).up (by decide) h).up (by decide) h
theorem mrR.word {o : Nat} {A : jAr} {b : Int} {W L : sTb} {q : Int → Int} {n p : Int} (h : mrR o A b W L) : mrR o (upA (wdA o (24 * b + W 0 0 0) A (tkC q n (tkAt q n p)) (tkV q n (tkAt q n (nxk q n p 2))) (tkV q n (tkAt q n (nxk q n p 4))) (tkV q n (tkAt q n (nxk q n p 5))) (tkV q n (tkAt q n (nxk q n p 7))) (opV 474148660594 q n (nxk q n p 8))) (o + 2) b (W 0 0 0 + 1)) b (wdW W q n p) L := by
  obtain ⟨⟨⟨a1, a2, a3, a4⟩, a5, a6, a7⟩, h1, h2, h3, h4⟩ := h
  obtain ⟨A', hA'⟩ : ∃ A', wdA o (24 * b + W 0 0 0) A (tkC q n (tkAt q n p)) (tkV q n (tkAt q n (nxk q n p 2))) (tkV q n (tkAt q n (nxk q n p 4))) (tkV q n (tkAt q n (nxk q n p 5))) (tkV q n (tkAt q n (nxk q n p 7))) (opV 474148660594 q n (nxk q n p 8)) = A' := ⟨_, rfl⟩
  have e0 : ∀ i j, wdW W q n p 0 i j = W 0 0 0 + 1 := fun _ _ => rfl
  have e : ∀ (k : Nat) (i j : Int), k ≠ 0 → (k < 10 ∨ 15 < k) → wdW W q n p k i j = W k i j := fun k i j k0 k1 => by
    unfold wdW
    rw [if_neg k0, if_neg (fun w => by omega), if_neg (fun w => by omega), if_neg (fun w => by omega), if_neg (fun w => by omega), if_neg (fun w => by omega), if_neg (fun w => by omega)]
  have f : ∀ a : Nat, (a < o + 2 ∨ o + 8 < a) → upA A' (o + 2) b (W 0 0 0 + 1) a = A a := fun a ha => by rw [upA_o (by omega), ← hA', wdA_o (by omega)]
  rw [hA']
  refine ⟨⟨⟨by rw [upA_s, e0], ?_, ?_, ?_⟩, ?_, ?_, ?_⟩, fun w x y => ?_, ?_, ?_, ?_⟩
  · rw [f _ (by omega), e 1 _ _ (by decide) (by decide)]; exact a2
  · rw [f _ (by omega), e 2 _ _ (by decide) (by decide)]; exact a3
  · rw [f _ (by omega), e 3 _ _ (by decide) (by decide)]; exact a4
  · rw [f _ (by omega), e 4 _ _ (by decide) (by decide)]; exact a5
  · rw [f _ (by omega), e 5 _ _ (by decide) (by decide)]; exact a6
  · rw [f _ (by omega), e 6 _ _ (by decide) (by decide)]; exact a7
  · rw [e0] at y
    rw [upA_o (by omega), upA_o (by omega), upA_o (by omega), upA_o (by omega), upA_o (by omega), upA_o (by omega)]
    by_cases z : w = W 0 0 0
    · subst z
      have s := wdA_s (o := o) (v := 24 * b + W 0 0 0) (A := A) (c1 := tkC q n (tkAt q n p)) (c2 := tkV q n (tkAt q n (nxk q n p 2))) (c3 := tkV q n (tkAt q n (nxk q n p 4))) (c4 := tkV q n (tkAt q n (nxk q n p 5))) (c5 := tkV q n (tkAt q n (nxk q n p 7))) (c6 := opV 474148660594 q n (nxk q n p 8))
      rw [hA'] at s
      rw [s.1, s.2.1, s.2.2.1, s.2.2.2.1, s.2.2.2.2.1, s.2.2.2.2.2]
      simp [wdW]
    · have g : ∀ a : Nat, A' a (24 * b + w) = A a (24 * b + w) := fun a => by rw [← hA', wdA_i (by omega)]
      rw [g, g, g, g, g, g]
      have t := h1 w x (by omega)
      simp only [wdW, z, false_and, if_false]
      simp
      exact t
  · rw [e 1 _ _ (by decide) (by decide)]
    exact h2.of ⟨f _ (by omega), f _ (by omega)⟩ (fun i j => ⟨e _ _ _ (by decide) (by decide), e _ _ _ (by decide) (by decide)⟩)
  · rw [e 2 _ _ (by decide) (by decide)]
    exact h3.of (fun k k0 k1 => f _ (by omega)) (fun k k0 k1 i j => e _ _ _ (by omega) (by omega))
  · rw [e 3 _ _ (by decide) (by decide)]
    exact h4.of (fun k k0 k1 => f _ (by omega)) (fun i => e _ _ _ (by decide) (by decide))
theorem opW_no {c : Int} {q : Int → Int} {n p : Int} (h : ¬ opW c q n p) : opP c q n p = p ∧ opV c q n p = 0 := ⟨cif_neg h, cif_neg h⟩
theorem opW_yes {c : Int} {q : Int → Int} {n p : Int} (h : opW c q n p) : opP c q n p = nx q n p ∧ opV c q n p = 1 := ⟨cif_pos h, cif_pos h⟩
set_option maxHeartbeats 2000000 in
theorem sX9_wording {o : Nat} {F : jFl} {A : jAr} {q : Int → Int} {n p b : Int} {W L : sTb} (hT : mTp o F A q n) (hG : mG o q n (0, 0) p F) (hb : F 3114 o = b) (hb2 : 0 ≤ b ∧ b < 2) (hR : mrR o A b W L) (ht : tOk W L) : wpX9_wording o F A (fun F' A' => ∀ R : smR, R = (if W 0 0 0 = 24 then ((5, tkAt q n p), p, W, L) else (wdF W q n (nx q n p), opP 474148660594 q n (nxk q n (nx q n p) 8), wdW W q n (nx q n p), L)) → smP o q n b F A F' A' R) := by
  unfold wpX9_wording
  have m0 : A (o + 2) b = W 0 0 0 := hR.1.1.1
  have t0 := ht.1
  obtain ⟨g1, g2, g3⟩ := hG.2.1 rfl
  have r1 := nx_range (q := q) g3
  refine ⟨by (rw [hb]; omega), ?_⟩ -- s1: (0 ≤ F 3114 o ∧ F 3114 o < 2)
  intro z3 e3
  rw [hb, m0] at e3
  refine ⟨_, sX9_counts hT hG, ?_⟩ -- call wpX9_counts o z3 F A P5
  intro z7 F8 A9 p5
  obtain ⟨u1, u2, u3, u4⟩ := p5
  subst u1
  refine ⟨fun hc => ?_, fun hc => ?_⟩ -- c1
  · -- case (¬ z7 = 0)
    have ns : W 0 0 0 ≠ 24 := fun w => by
      have := (u3 (by rw [e3, if_neg (fun y => y w)]; decide)).1
      omega
    obtain ⟨-, G8⟩ := u4 (by rw [e3, if_pos ns])
    have b8 : F8 3114 o = b := by rw [u2 _ _ (fun _ => by decide)]; exact hb
    refine ⟨by (rw [u2 _ _ (fun _ => by decide), hb]; omega), ?_⟩ -- s2: (0 ≤ F8 3114 o ∧ F8 3114 o < 2)
    refine ⟨by (rw [b8, m0]; omega), ?_⟩ -- s3: jR ((24 * (F8 3114 o)) + (A9 (o + 2) (F8 3114 o)))
    intro v16 e16
    rw [b8, m0] at e16
    have v0 : 24 * b ≤ v16 ∧ v16 < 24 * b + 24 := by omega
    have T8 := hT.of u2 rfl
    refine ⟨_, sX9_fresh (W := W) T8 G8 (hR.nm ht b8 hb2), ?_⟩ -- call wpX9_fresh o F8 A9 P17
    intro z19 F20 A21 p17
    obtain ⟨y1, y2, y3, y4⟩ := p17
    subst y1
    rw [fb_ok rfl] at y3
    have y4 := y4 rfl
    refine ⟨by omega, ?_⟩ -- s4: (0 ≤ v16 ∧ v16 < 48)
    intro A26 e26
    have T26 : mTp o F20 A26 q n := (T8.of y2 rfl).of (mgF.refl o _) (by rw [e26, upA_o (by omega)])
    refine ⟨_, sX9_must T26 y3, ?_⟩ -- call wpX9_must o 422607680627 F20 A26 P28
    intro F31 A32 p28
    obtain ⟨a1, a2, a3⟩ := p28
    subst a1
    have T32 := T26.of a2 rfl
    refine ⟨_, sX9_number T32 a3, ?_⟩ -- call wpX9_number o 1 9 F31 A32 P36
    intro z38 F39 A40 p36
    obtain ⟨c1, c2, c3, c4⟩ := p36
    subst c1
    refine ⟨by omega, ?_⟩ -- s5: (0 ≤ v16 ∧ v16 < 48)
    intro A45 e45
    have T45 : mTp o F39 A45 q n := (T32.of c2 rfl).of (mgF.refl o _) (by rw [e45, upA_o (by omega)])
    refine ⟨_, sX9_must T45 c3, ?_⟩ -- call wpX9_must o 126922548733043 F39 A45 P47
    intro F50 A51 p47
    obtain ⟨d1, d2, d3⟩ := p47
    subst d1
    have T51 := T45.of d2 rfl
    refine ⟨_, sX9_number T51 d3, ?_⟩ -- call wpX9_number o 0 9 F50 A51 P55
    intro z57 F58 A59 p55
    obtain ⟨h1, h2, h3, h4⟩ := p55
    subst h1
    refine ⟨by omega, ?_⟩ -- s6: (0 ≤ v16 ∧ v16 < 48)
    intro A64 e64
    have T64 : mTp o F58 A64 q n := (T51.of h2 rfl).of (mgF.refl o _) (by rw [e64, upA_o (by omega)])
    refine ⟨_, sX9_number T64 h3, ?_⟩ -- call wpX9_number o 0 9 F58 A64 P66
    intro z68 F69 A70 p66
    obtain ⟨i1, i2, i3, i4⟩ := p66
    subst i1
    refine ⟨by omega, ?_⟩ -- s7: (0 ≤ v16 ∧ v16 < 48)
    intro A75 e75
    have T75 : mTp o F69 A75 q n := (T64.of i2 rfl).of (mgF.refl o _) (by rw [e75, upA_o (by omega)])
    refine ⟨_, sX9_must T75 i3, ?_⟩ -- call wpX9_must o 512970880104 F69 A75 P77
    intro F80 A81 p77
    obtain ⟨j1, j2, j3⟩ := p77
    subst j1
    have T81 := T75.of j2 rfl
    refine ⟨_, sX9_number T81 j3, ?_⟩ -- call wpX9_number o 0 99 F80 A81 P85
    intro z87 F88 A89 p85
    obtain ⟨k1, k2, k3, k4⟩ := p85
    subst k1
    have gg : mgF o F F88 := (((((((u2.trans y2).trans a2).trans c2).trans d2).trans h2).trans i2).trans j2).trans k2
    have T89 := T81.of k2 rfl
    have kw : mG o q n (wdF W q n (nx q n p)) (nxk q n (nx q n p) 8) F88 := k3
    refine ⟨by omega, ?_⟩ -- s8: (0 ≤ v16 ∧ v16 < 48)
    intro A94 e94
    refine ⟨by omega, ?_⟩ -- s9: (0 ≤ v16 ∧ v16 < 48)
    intro A97 e97
    have eW : A97 = wdA o v16 A21 z19 z38 z57 z68 z87 0 := by rw [e97, e94, e75, e64, e45, e26]; rfl
    refine ⟨fun (F100 : jFl) (A101 : jAr) => mgF o F F100 ∧ mG o q n (wdF W q n (nx q n p)) (opP 474148660594 q n (nxk q n (nx q n p) 8)) F100 ∧ A101 = wdA o v16 A21 z19 z38 z57 z68 z87 (opV 474148660594 q n (nxk q n (nx q n p) 8)) ∨ mgF o F F100 ∧ (wdF W q n (nx q n p)).1 ≠ 0 ∧ mG o q n (wdF W q n (nx q n p)) (nxk q n (nx q n p) 8) F100 ∧ A101 = wdA o v16 A21 z19 z38 z57 z68 z87 0, ?_, ?_⟩ -- join K103
    · intro F100 A101 k103
      have ok : F100 3024 o = 0 → mgF o F F100 ∧ (wdF W q n (nx q n p)).1 = 0 ∧ mG o q n (wdF W q n (nx q n p)) (opP 474148660594 q n (nxk q n (nx q n p) 8)) F100 ∧ A101 = wdA o v16 A21 z19 z38 z57 z68 z87 (opV 474148660594 q n (nxk q n (nx q n p) 8)) := fun w => by
        rcases k103 with ⟨w1, w2, w3⟩ | ⟨w1, w2, w3, w4⟩
        · exact ⟨w1, by rw [← w2.1.1]; exact w, w2, w3⟩
        · exact absurd (by rw [← w3.1.1]; exact w) w2
      refine ⟨fun hc => ?_, fun hc => ?_⟩ -- c2
      · -- case (¬ (F100 3024 o) = 0)
        -- l1: Q F100 A101
        intro R hR'
        rw [if_neg ns] at hR'
        subst hR'
        have gm : mgF o F F100 ∧ mG o q n (wdF W q n (nx q n p)) (opP 474148660594 q n (nxk q n (nx q n p) 8)) F100 ∧ ∃ z, A101 = wdA o v16 A21 z19 z38 z57 z68 z87 z := by
          rcases k103 with ⟨w1, w2, w3⟩ | ⟨w1, w2, w3, w4⟩
          · exact ⟨w1, w2, _, w3⟩
          · exact ⟨w1, w3.any w2, _, w4⟩
        obtain ⟨w1, w2, z, w3⟩ := gm
        exact ⟨w1, by rw [w3]; exact wdA_f v0, _, w2, fun w => by
          have : F100 3024 o = 0 := by rw [w2.1.1]; exact w
          contradiction, Or.inl rfl⟩
      · -- case ¬ (¬ (F100 3024 o) = 0)
        obtain ⟨w1, w2, w3, w4⟩ := ok (by omega)
        have b100 : F100 3114 o = b := by rw [w1 _ _ (fun _ => by decide)]; exact hb
        have c100 : A101 (o + 2) b = W 0 0 0 := by rw [w4, wdA_o (by omega)]; exact m0
        refine ⟨by (rw [b100]; omega), ?_⟩ -- s10: (0 ≤ F100 3114 o ∧ F100 3114 o < 2)
        refine ⟨by (rw [b100]; omega), ?_⟩ -- s11: (0 ≤ F100 3114 o ∧ F100 3114 o < 2)
        refine ⟨by (rw [b100, c100]; omega), ?_⟩ -- s12: jR ((A101 (o + 2) (F100 3114 o)) + 1)
        intro A110 e110
        -- l2: Q F100 A110
        intro R hR'
        rw [if_neg ns] at hR'
        subst hR'
        rw [b100, c100, w4] at e110
        obtain ⟨q1, q2, q3, q4, q5, q6, q7, q8⟩ := wdF_0 w2
        have f1 : (fb (frF W q n (nx q n p)) (asW 422607680627 q n (nxk q n (nx q n p) 1))).1 = 0 := by rw [fb_ok q1]; exact q2
        have f2 : (fb (fb (frF W q n (nx q n p)) (asW 422607680627 q n (nxk q n (nx q n p) 1))) (nuF 1 9 q n (nxk q n (nx q n p) 2))).1 = 0 := by rw [fb_ok f1]; exact q3
        have f3 : (fb (fb (fb (frF W q n (nx q n p)) (asW 422607680627 q n (nxk q n (nx q n p) 1))) (nuF 1 9 q n (nxk q n (nx q n p) 2))) (asW 126922548733043 q n (nxk q n (nx q n p) 3))).1 = 0 := by rw [fb_ok f2]; exact q4
        have f4 : (fb (fb (fb (fb (frF W q n (nx q n p)) (asW 422607680627 q n (nxk q n (nx q n p) 1))) (nuF 1 9 q n (nxk q n (nx q n p) 2))) (asW 126922548733043 q n (nxk q n (nx q n p) 3))) (nuF 0 9 q n (nxk q n (nx q n p) 4))).1 = 0 := by rw [fb_ok f3]; exact q5
        have f5 : (fb (fb (fb (fb (fb (frF W q n (nx q n p)) (asW 422607680627 q n (nxk q n (nx q n p) 1))) (nuF 1 9 q n (nxk q n (nx q n p) 2))) (asW 126922548733043 q n (nxk q n (nx q n p) 3))) (nuF 0 9 q n (nxk q n (nx q n p) 4))) (nuF 0 9 q n (nxk q n (nx q n p) 5))).1 = 0 := by rw [fb_ok f4]; exact q6
        have f6 : (fb (fb (fb (fb (fb (fb (frF W q n (nx q n p)) (asW 422607680627 q n (nxk q n (nx q n p) 1))) (nuF 1 9 q n (nxk q n (nx q n p) 2))) (asW 126922548733043 q n (nxk q n (nx q n p) 3))) (nuF 0 9 q n (nxk q n (nx q n p) 4))) (nuF 0 9 q n (nxk q n (nx q n p) 5))) (asW 512970880104 q n (nxk q n (nx q n p) 6))).1 = 0 := by rw [fb_ok f5]; exact q7
        have x1 : z19 = tkC q n (tkAt q n (nx q n p)) := y4 q1
        have x2 : z38 = tkV q n (tkAt q n (nxk q n (nx q n p) 2)) := c4 f1 q3
        have x3 : z57 = tkV q n (tkAt q n (nxk q n (nx q n p) 4)) := h4 f3 q5
        have x4 : z68 = tkV q n (tkAt q n (nxk q n (nx q n p) 5)) := i4 f4 q6
        have x5 : z87 = tkV q n (tkAt q n (nxk q n (nx q n p) 7)) := k4 f6 q8
        refine ⟨w1, ?_, _, w3, fun _ => ?_, Or.inl rfl⟩
        · rw [e110]
          exact (wdA_f v0).up (k := 2) (by decide) (by show 1 * b ≤ b ∧ b < 1 * b + 1; omega)
        · rw [e110, e16, x1, x2, x3, x4, x5]
          exact hR.word
    refine ⟨fun hc => ?_, fun hc => ?_⟩ -- c3
    · -- case (¬ (F88 3024 o) = 0)
      -- l3: K103 F88 A97
      exact Or.inr ⟨gg, by rw [← kw.1.1]; exact hc, kw, eW⟩
    · -- case ¬ (¬ (F88 3024 o) = 0)
      have w0 : (wdF W q n (nx q n p)).1 = 0 := by rw [← kw.1.1]; omega
      obtain ⟨v1, v2, v3⟩ := kw.2.1 w0
      refine ⟨fun hc => ?_, fun hc => ?_⟩ -- c4
      · -- case (¬ (F88 3036 o) = (-1))
        -- l4: K103 F88 A97
        have nop : ¬ opW 474148660594 q n (nxk q n (nx q n p) 8) := fun w => hc (by rw [v2.2.2.2.1]; exact w.1)
        exact Or.inl ⟨gg, by rw [(opW_no nop).1]; exact kw, by rw [(opW_no nop).2]; exact eW⟩
      · -- case ¬ (¬ (F88 3036 o) = (-1))
        refine ⟨_, sX9_isWord, ?_⟩ -- call wpX9_isWord o 474148660594 F88 A97 P113
        intro z115 p113
        have bd : tkBad q n (tkAt q n (nxk q n (nx q n p) 8)) = -1 := by rw [← v2.2.2.2.1]; omega
        have iw : z115 ≠ 0 ↔ opW 474148660594 q n (nxk q n (nx q n p) 8) := by
          rw [p113, v2.2.2.1]
          constructor
          · intro w
            by_cases y : tkKd q n (tkAt q n (nxk q n (nx q n p) 8)) = 1 ∧ F88 3022 o = 474148660594
            · exact ⟨bd, y.1, by rw [← v2.2.2.2.2.1 y.1]; exact y.2⟩
            · rw [if_neg y] at w; exact absurd rfl w
          · intro w
            rw [if_pos ⟨w.2.1, by rw [v2.2.2.2.2.1 w.2.1]; exact w.2.2⟩]
            decide
        refine ⟨fun hc => ?_, fun hc => ?_⟩ -- c5
        · -- case (z115 = 0)
          -- l5: K103 F88 A97
          have nop : ¬ opW 474148660594 q n (nxk q n (nx q n p) 8) := fun w => (iw.mpr w) hc
          exact Or.inl ⟨gg, by rw [(opW_no nop).1]; exact kw, by rw [(opW_no nop).2]; exact eW⟩
        · -- case ¬ (z115 = 0)
          refine ⟨by omega, ?_⟩ -- s13: (0 ≤ v16 ∧ v16 < 48)
          intro A120 e120
          have T120 : mTp o F88 A120 q n := hT.of gg (by rw [e120, upA_o (by omega), eW, wdA_o (by omega)])
          refine ⟨_, sX9_ahead (q := q) (n := n) (p := nx q n (nxk q n (nx q n p) 8)) T120.1 T120.2.1 T120.2.2 v2.2.1 (nx_range (q := q) v3).2.2, ?_⟩ -- call wpX9_ahead o F88 A120 P122
          intro F125 A126 p122
          -- l6: K103 F125 A126
          obtain ⟨o1, o2, o3⟩ := p122
          subst o1
          have yop := iw.mp (by assumption)
          exact Or.inl ⟨gg.trans o3.mgF, by rw [(opW_yes yop).1]; exact kw.go w0 w0 o2 o3, by rw [(opW_yes yop).2, e120, eW]; exact upA_upA⟩
  · -- case ¬ (¬ z7 = 0)
    -- l7: Q F8 A9
    intro R hR'
    have full : W 0 0 0 = 24 := Classical.byContradiction (fun w => by
      have := (u4 (by rw [e3, if_pos w])).1
      omega)
    rw [if_pos full] at hR'
    subst hR'
    exact ⟨u2, mfB.refl o b _, _, (u3 (by rw [e3, if_neg (fun w => w full)]; decide)).2, fun w => absurd w (by show ¬ (5 : Int) = 0; decide), Or.inl rfl⟩

