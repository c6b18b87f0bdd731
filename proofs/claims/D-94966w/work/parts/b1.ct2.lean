set_option maxRecDepth 100000
set_option linter.unusedVariables false
/-! the component's reader: words; printed by gen/prove.py out of spec/b1.ct2.spec -/
section
variable {S : Nat → Nat} {o : Nat} {N N' : jSh} {F F' : jFl} {A A' : jAr}
theorem rfr.put (h : rfr S o N F A N' F' A') {f a : Nat} {z : Int} (ha : jnx N ≤ a) : rfr S o N F A (jpF N' f a z) F' A' := ⟨⟨h.1.1, fun b hb => ⟨(h.1.2 b hb).1, (h.1.2 b hb).2.1, fun g => by rw [jpF_a (by omega)]; exact (h.1.2 b hb).2.2 g⟩⟩, h.2.1, h.2.2.1, fun M g => (h.2.2.2.1 M g).put f a z, h.2.2.2.2⟩
theorem rfr.upF (h : rfr S o N F A N' F' A') {f a : Nat} {z : Int} (ha : jnx N ≤ a) (ht : jtg N' a ≠ 20) : rfr S o N F A N' (upF F' f a z) A' := ⟨h.1, fun b hb hbo g => by rw [upF_a (by omega)]; exact h.2.1 b hb hbo g, h.2.2.1, fun M g => (h.2.2.2.1 M g).of (fun l hl => by
  have : l ≠ a := fun w => ht (by rw [← w]; exact hl)
  exact ⟨upF_a this, upF_a this⟩), h.2.2.2.2⟩
theorem rfr.upA (h : rfr S o N F A N' F' A') {a : Nat} {i z : Int} (ha : jnx N ≤ a) : rfr S o N F A N' F' (upA A' a i z) := ⟨h.1, h.2.1, fun b hb => by rw [upA_o (by omega)]; exact h.2.2.1 b hb, h.2.2.2⟩
theorem rfr.add (h : rfr S o N F A N' F' A') {A2 : jAr} {t n sl : Nat} {ow : Int} (h20 : t ≠ 20) (h104 : t ≠ 104) (hA : ∀ b, b ≠ jnx N' → A2 b = A' b) : rfr S o N F A (jnew N' t n sl ow) (nwF N' F') A2 := ⟨h.1.trans (nex.new _ _ _ _ _), fun b hb hbo g => by rw [nwF_o (by have := h.1.1; omega)]; exact h.2.1 b hb hbo g, fun b hb => by rw [hA b (by have := h.1.1; omega)]; exact h.2.2.1 b hb, fun M g => (h.2.2.2.1 M g).add h20 h104, fun g => (h.2.2.2.2 g).new⟩
end
/-- how much room the lists have -/
def lsum (N : jSh) (F : jFl) (h : Nat) : Nat := lcp N F (h + 1) + lcp N F (h + 2) + lcp N F (h + 3) + lcp N F (h + 4) + lcp N F (h + 5)
/-- their arrays are new, or empty -/
def lLo (lo : Nat) (N : jSh) (F : jFl) (h : Nat) : Prop := ∀ j : Nat, 1 ≤ j → j ≤ 5 → lo ≤ lar F (h + j) ∨ jln N (lar F (h + j)) = 0
/-- below lo all stays -/
def lf (lo : Nat) (N : jSh) (F : jFl) (A : jAr) (N' : jSh) (F' : jFl) (A' : jAr) : Prop := nex N N' ∧ ∀ a : Nat, a < lo → (∀ f, F' f a = F f a) ∧ A' a = A a
theorem lf.trans {lo : Nat} {N N' N'' : jSh} {F F' F'' : jFl} {A A' A'' : jAr} (h : lf lo N F A N' F' A') (h2 : lf lo N' F' A' N'' F'' A'') : lf lo N F A N'' F'' A'' := ⟨h.1.trans h2.1, fun a ha => ⟨fun f => ((h2.2 a ha).1 f).trans ((h.2 a ha).1 f), (h2.2 a ha).2.trans (h.2 a ha).2⟩⟩
theorem rfr.lf {S : Nat → Nat} {o lo : Nat} {N N' : jSh} {F F' : jFl} {A A' : jAr} (h : rfr S o N F A N' F' A') (ho : lo ≤ o) (hx : lo ≤ jnx N) : lf lo N F A N' F' A' := ⟨h.1, fun a ha => ⟨fun f => h.2.1 a (by omega) (by omega) f, h.2.2.1 a (by omega)⟩⟩
section
variable {S : Nat → Nat} {u M : Int} {lo o x h : Nat} {n : Int} {q : Int → Int} {N N' : jSh} {F F' : jFl} {A A' : jAr} {W W' L L' : sTb} {wA sA cA lA : Int → Int} {k : Int}
theorem jli.arr {l : Nat} {m : Int} {e : Int → Int} (hl : jli N F A l m e) (hn : nb N) : jtg N (lar F l) = 104 ∧ lar F l < jnx N := by
  obtain ⟨-, -, -, b9, z4, z5, -⟩ := hl
  have : lar F l = b9 := by show (F 6002 l).toNat = b9; rw [z4]; rfl
  rw [this]
  exact ⟨z5, hn b9 (by rw [z5]; decide)⟩
/-- a list that is left alone -/
theorem jli.same {l : Nat} {m : Int} {e : Int → Int} (hl : jli N F A l m e) (hn : nb N) (ex : nex N N') (hF : F' 6002 l = F 6002 l) : lar F' l = lar F l ∧ lcp N' F' l = lcp N F l ∧ jln N' (lar F' l) = jln N (lar F l) := by
  have e : lar F' l = lar F l := by show (F' 6002 l).toNat = (F 6002 l).toNat; rw [hF]
  have y := hl.arr hn
  have z : jln N' (lar F' l) = jln N (lar F l) := by rw [e]; exact ex.ln hn y.1 (by decide)
  exact ⟨e, z, z⟩
theorem rfr.lists (r : rfr S o N F A N' F' A') (ho : jtg N o = 11) (hn : nb N) (t : tLs N F A h W wA sA cA lA) : lsum N' F' h = lsum N F h ∧ (lLo lo N F h → lLo lo N' F' h) := by
  have y : ∀ {l : Nat} {m : Int} {e : Int → Int}, jli N F A l m e → lar F' l = lar F l ∧ lcp N' F' l = lcp N F l ∧ jln N' (lar F' l) = jln N (lar F l) := fun {l m e} hl => hl.same hn r.1 (r.2.1 l (hn l (by rw [hl.1.1]; decide)) (fun w => by have := hl.1.1; rw [w, ho] at this; omega) _)
  obtain ⟨t1, t2, t3, t4, t5, -⟩ := t
  refine ⟨by unfold lsum; rw [(y t1).2.1, (y t2).2.1, (y t3).2.1, (y t4).2.1, (y t5).2.1], fun q j j0 j1 => ?_⟩
  have e : j = 1 ∨ j = 2 ∨ j = 3 ∨ j = 4 ∨ j = 5 := by omega
  have qq := q j j0 j1
  rcases e with e | e | e | e | e <;> subst e
  · rw [(y t1).2.2, (y t1).1]; exact qq
  · rw [(y t2).2.2, (y t2).1]; exact qq
  · rw [(y t3).2.2, (y t3).1]; exact qq
  · rw [(y t4).2.2, (y t4).1]; exact qq
  · rw [(y t5).2.2, (y t5).1]; exact qq
/-- what an act on the list h + j leaves -/
theorem lop.all {j : Nat} (p : lop S M N F A (h + j) N' F' A') {M0 : Int} (g : gi S M0 N F) (hj : 1 ≤ j ∧ j ≤ 5) (t : tLs N F A h W wA sA cA lA) (hlo : lo ≤ h) (hx : h + 6 < jnx N) (q : lLo lo N F h) : ug N F A N' F' A' ∧ (∀ (i : Nat) (m : Int) (e : Int → Int), h + i ≠ h + j → jli N F A (h + i) m e → jli N' F' A' (h + i) m e) ∧ lLo lo N' F' h ∧ lf lo N F A N' F' A' ∧ (jnx N' + lsum N F h ≤ jnx N + lsum N' F' h ∧ jsu N' + 4 * lsum N F h ≤ jsu N + 4 * lsum N' F' h) := by
  have hl : isL N F (h + j) := by
    obtain ⟨t1, t2, t3, t4, t5, -⟩ := t
    have e : j = 1 ∨ j = 2 ∨ j = 3 ∨ j = 4 ∨ j = 5 := by omega
    rcases e with e | e | e | e | e <;> subst e
    · exact t1.isL
    · exact t2.isL
    · exact t3.isL
    · exact t4.isL
    · exact t5.isL
  have k := p.kp
  have y : ∀ {i : Nat} {m : Int} {e : Int → Int}, i ≠ j → jli N F A (h + i) m e → lar F' (h + i) = lar F (h + i) ∧ lcp N' F' (h + i) = lcp N F (h + i) ∧ jln N' (lar F' (h + i)) = jln N (lar F (h + i)) := fun {i m e} hi hl => hl.same g.1 p.2.1 (p.2.2.1 _ (g.1 _ (by rw [hl.1.1]; decide)) (by omega) _)
  obtain ⟨c1, c2, c3, c4, c5, ⟨c6, c7⟩, c8, c9, c10⟩ := id p
  obtain ⟨t1, t2, t3, t4, t5, -⟩ := id t
  refine ⟨k.ug hl, fun i m e hi hl' => k.jli g hl hl' hi, fun i i0 i1 => ?_, ⟨p.2.1, fun a ha => ⟨fun f => c3 a (by omega) (by omega) f, c5 a (by omega) ?_⟩⟩, ?_⟩
  · have qq := q i i0 i1
    by_cases w : i = j
    · subst w
      rcases c10 with w | w
      · rw [w]
        rcases qq with z | z
        · exact Or.inl z
        · refine Or.inr ?_
          rw [p.2.1.ln g.1 hl.2.2 (by decide)]; exact z
      · exact Or.inl (by omega)
    · have e : i = 1 ∨ i = 2 ∨ i = 3 ∨ i = 4 ∨ i = 5 := by omega
      rcases e with e | e | e | e | e <;> subst e
      · rw [(y w t1).2.2, (y w t1).1]; exact qq
      · rw [(y w t2).2.2, (y w t2).1]; exact qq
      · rw [(y w t3).2.2, (y w t3).1]; exact qq
      · rw [(y w t4).2.2, (y w t4).1]; exact qq
      · rw [(y w t5).2.2, (y w t5).1]; exact qq
  · rcases q j hj.1 hj.2 with z | z
    · exact Or.inl (by omega)
    · by_cases w : a = lar F (h + j)
      · exact Or.inr (by rw [w]; exact z)
      · exact Or.inl w
  · unfold lsum
    have e : j = 1 ∨ j = 2 ∨ j = 3 ∨ j = 4 ∨ j = 5 := by omega
    rcases e with e | e | e | e | e <;> subst e
    · rw [(y (by decide) t2).2.1, (y (by decide) t3).2.1, (y (by decide) t4).2.1, (y (by decide) t5).2.1]; omega
    · rw [(y (by decide) t1).2.1, (y (by decide) t3).2.1, (y (by decide) t4).2.1, (y (by decide) t5).2.1]; omega
    · rw [(y (by decide) t1).2.1, (y (by decide) t2).2.1, (y (by decide) t4).2.1, (y (by decide) t5).2.1]; omega
    · rw [(y (by decide) t1).2.1, (y (by decide) t2).2.1, (y (by decide) t3).2.1, (y (by decide) t5).2.1]; omega
    · rw [(y (by decide) t1).2.1, (y (by decide) t2).2.1, (y (by decide) t3).2.1, (y (by decide) t4).2.1]; omega
theorem rdO.ug (r : rdO S u N A o x h n q) (e : ug N F A N' F' A') (hn : nb N') : rdO S u N' A' o x h n q := by
  obtain ⟨⟨a1, a2, a3, a4, a5⟩, ⟨b1, b2, b3⟩, c, d⟩ := r
  have hx : x + 141 ≤ jnx N := by
    have := b1 (x + 140) (by rw [(b3.1 140 (by decide)).1]; decide)
    omega
  have ef := fun f => e.1.fn b1 a1 (by decide) f
  exact ⟨⟨e.1.tg b1 a1 (by decide), by rw [ef, a2], by rw [ef, a3], by rw [ef, a4], by rw [ef, a5]⟩, ⟨hn, b2.kv b1 e.1 (e.kv b1) (Or.inl rfl), b3.ex b1 e.1 hx⟩, c, fun i i0 i1 => by rw [(e.at b1 (show jtg N (x + 1) = 111 from (b3.1 1 (by decide)).1) (by decide)).2]; exact d i i0 i1⟩
/-- rows under other words' places -/
theorem rowIs.toW {r : Nat} {R : sRow} {wA' : Int → Int} (h' : rowIs N F A wA r R) (e : ∀ j : Int, 0 ≤ j → j < R.1 + R.2.1 → wA' (R.2.2 j) = wA (R.2.2 j)) : rowIs N F A wA' r R := ⟨h'.1, h'.2.1, h'.2.2.1, fun j j0 j1 => by rw [e j j0 j1]; exact h'.2.2.2 j j0 j1⟩
theorem sKnown_congr {c : Int} (h0 : W' 0 0 0 = W 0 0 0) (h : ∀ w, W' 21 c w = W 21 c w) : sKnown W' c = sKnown W c := by
  unfold sKnown
  rw [h0]
  exact it_congr (fun w _ _ s => by rw [h])
/-- one word more -/
theorem tOb.word {b : Nat} {F : jFl} (t : tOb u N F A W L wA sA cA lA) (ht : tOk W L) (e0 : W' 0 0 0 = W 0 0 0 + 1) (e1 : ∀ (k : Nat) (i j : Int), k ≠ 0 → (k < 10 ∨ 15 < k) → W' k i j = W k i j) (e2 : ∀ (k : Nat) (i j : Int), k ≠ 0 → i ≠ W 0 0 0 → W' k i j = W k i j) (hb : jtg N b = 14 ∧ jfn N 0 b = 1 ∧ jfn N 3903 b = W 0 0 0) (hF : F 4200 b = W' 11 (W 0 0 0) 0 ∧ F 4203 b = W' 12 (W 0 0 0) 0 ∧ F 4206 b = W' 13 (W 0 0 0) 0 ∧ F 4209 b = W' 14 (W 0 0 0) 0 ∧ F 4212 b = W' 15 (W 0 0 0) 0) (hs : strIs N A u (jfn N 3902 b) (W' 10 (W 0 0 0) 0)) : tOb u N F A W' L (upI wA (W 0 0 0) (b : Int)) sA cA lA := by
  obtain ⟨h1, h2, h3, h4, ⟨n1, n2, n3, n4⟩, h6⟩ := t
  have k1 := ht.2.2.2.2.2.2.2.2.1
  have k5 := ht.2.2.2.2.2.2.2.2.2.2.2.2.2
  refine ⟨fun i i0 i1 => ?_, fun s s0 s1 => ?_, fun c c0 c1 => ?_, fun l l0 l1 => ?_, ⟨fun i i0 i1 => ?_, ?_, ?_, ?_⟩, h6⟩
  · by_cases w : i = W 0 0 0
    · rw [w, upI_s]
      exact ⟨b, rfl, hb.1, hb.2.1, hb.2.2, hF⟩
    · rw [upI_n w, e2 _ _ _ (by decide) w, e2 _ _ _ (by decide) w, e2 _ _ _ (by decide) w, e2 _ _ _ (by decide) w, e2 _ _ _ (by decide) w]
      exact h1 i i0 (by omega)
  · rw [e1 1 _ _ (by decide) (by decide)] at s1
    obtain ⟨b', y1, y2, y3⟩ := h2 s s0 s1
    refine ⟨b', y1, y2, fun w w0 w1 => ?_⟩
    have e17 : w24 W' 17 s w = W 17 s w := e1 17 s w (by decide) (by decide)
    have o17 : w24 W 17 s w = W 17 s w := rfl
    have y := y3 w w0 w1
    rw [o17] at y
    rw [y, e17]
    by_cases z : W 17 s w = -1
    · rw [if_pos z, if_pos z]
    · have := (k1 s w s0 s1).1
      rw [if_neg z, if_neg z, upI_n (by omega)]
  · rw [e1 2 _ _ (by decide) (by decide)] at c1
    obtain ⟨b', y1, y2, y3, y4, y5, y6⟩ := h3 c c0 c1
    have e21 : ∀ w, W' 21 c w = W 21 c w := fun w => e1 _ _ _ (by decide) (by decide)
    exact ⟨b', y1, y2, by rw [e1 19 _ _ (by decide) (by decide)]; exact y3, by rw [e1 20 _ _ (by decide) (by decide)]; exact y4, by rw [y5]; exact (sKnown_congr rfl (fun w => (e21 w).symm)), fun w w0 w1 => by rw [e21]; exact y6 w w0 w1⟩
  · rw [e1 3 _ _ (by decide) (by decide)] at l1
    obtain ⟨b', y1, y2, y3, y4⟩ := h4 l l0 l1
    exact ⟨b', y1, y2, y3, y4.toW (fun j j0 j1 => by
      have := k5 l j l0 l1 j0 j1
      have e : (sRw L l).2.2 j = L 5 l j := rfl
      rw [e, upI_n (by omega)])⟩
  · by_cases w : i = W 0 0 0
    · rw [w, upI_s]
      exact ⟨b, rfl, hb.1, hs⟩
    · rw [upI_n w, e2 _ _ _ (by decide) w]
      exact n1 i i0 (by omega)
  · rw [e1 1 _ _ (by decide) (by decide)]
    exact fun s s0 s1 => by rw [e1 16 _ _ (by decide) (by decide)]; exact n2 s s0 s1
  · rw [e1 2 _ _ (by decide) (by decide)]
    exact fun s s0 s1 => by rw [e1 18 _ _ (by decide) (by decide)]; exact n3 s s0 s1
  · rw [e1 3 _ _ (by decide) (by decide)]
    exact fun s s0 s1 => by rw [e1 22 _ _ (by decide) (by decide)]; exact n4 s s0 s1
end
theorem jcob_14 : Cond.castable RX13 "java/lang/Object" ∈ jnw := List.elem_iff.mp (by decide +kernel)
theorem jcob_15 : Cond.castable RX14 "java/lang/Object" ∈ jnw := List.elem_iff.mp (by decide +kernel)
theorem jcob_16 : Cond.castable RX15 "java/lang/Object" ∈ jnw := List.elem_iff.mp (by decide +kernel)
theorem jcob_17 : Cond.castable RX16 "java/lang/Object" ∈ jnw := List.elem_iff.mp (by decide +kernel)
/-- children lie there -/
def loC (lo : Nat) (W : sTb) (cA : Int → Int) : Prop := ∀ c : Int, 0 ≤ c → c < W 2 0 0 → (lo : Int) ≤ cA c
theorem loC.of {lo : Nat} {W W' : sTb} {cA : Int → Int} (h : loC lo W cA) (e : W' 2 0 0 = W 2 0 0) : loC lo W' cA := fun c c0 c1 => h c c0 (by rw [e] at c1; exact c1)
/-- what a statement of the component leaves, when all is well -/
def stP (S : Nat → Nat) (u : Int) (lo : Nat) (M : Int) (N : jSh) (F : jFl) (A : jAr) (o x h : Nat) (n : Int) (q : Int → Int) (R : smR) (k p ec es : Int) (N' : jSh) (F' : jFl) (A' : jAr) : Prop := R.1.1 = 0 ∧ (∃ wA sA cA lA : Int → Int, tRd u N' F' A' h R.2.2.1 R.2.2.2 wA sA cA lA k ∧ loC lo R.2.2.1 cA) ∧ rdO S u N' A' o x h n q ∧ gi S M N' F' ∧ lLo lo N' F' h ∧ lf lo N F A N' F' A' ∧ ∃ c' : Int, rA N' F' A' o q n R.2.1 c' ∧ (p ≤ c' ∧ c' ≤ n) ∧ (jnx N' : Int) + lsum N F h ≤ jnx N + lsum N' F' h + 8 * (c' - p) + ec ∧ (jsu N' : Int) + 4 * lsum N F h ≤ jsu N + 4 * lsum N' F' h + 40 * (c' - p) + es
/-- what it throws -/
def stX (S : Nat → Nat) (n : Int) (o : Nat) (N : jSh) (F : jFl) (A : jAr) (p : Int) (r : Int × Int) (X : Nat → jSh → jFl → jAr → Prop) : Prop := ∀ (b : Nat) (N' : jSh) (F' : jFl) (A' : jAr), flt N' b r → rfr S o N F A N' F' A' → ((jnx N' : Int) ≤ jnx N + 8 * (n - p) + 60 ∧ (jsu N' : Int) ≤ jsu N + 40 * (n - p) + 5500) → X b N' F' A'
/-- a statement's fault, that of what ends it taken with it -/
noncomputable def smT (q : Int → Int) (n : Int) (R : smR) : Int × Int := fb R.1 (asS 59 q n R.2.1)
theorem txt.ug {N N' : jSh} {F F' : jFl} {A A' : jAr} {b v n : Nat} {g : Int → Int} (h : txt N A b v g n) (hn : nb N) (e : ug N F A N' F' A') : txt N' A' b v g n := by
  obtain ⟨⟨h1, h2, h3⟩, ⟨h4, h5, h6⟩, h7⟩ := h
  exact ⟨⟨e.1.tg hn h1 (by decide), by rw [e.1.fn hn h1 (by decide), h2], by rw [e.1.fn hn h1 (by decide), h3]⟩, ⟨e.1.tg hn h4 (by decide), by rw [e.1.ln hn h4 (by decide), h5], h6⟩, by rw [(e.at hn h4 (by decide)).2]; exact h7⟩
theorem rA.ug {N N' : jSh} {F F' : jFl} {A A' : jAr} {o : Nat} {q : Int → Int} {n p c : Int} (h : rA N F A o q n p c) (hn : nb N) (e : ug N F A N' F' A') (hF : ∀ f, F' f o = F f o) : rA N' F' A' o q n p c := by
  obtain ⟨h0, ⟨h1, h2⟩ | ⟨⟨h1, h3, h4, h5, h6, h7, h8⟩, h2⟩⟩ := h
  · exact ⟨h0, Or.inl ⟨h1.of hF, h2⟩⟩
  · refine ⟨h0, Or.inr ⟨⟨by rw [hF, hF, hF, hF]; exact h1, h3, h4, by rw [hF]; exact h5, fun w => ?_, by rw [hF]; exact h7, by rw [hF]; exact h8⟩, h2⟩⟩
    obtain ⟨b, v, y1, y2⟩ := h6 w
    exact ⟨b, v, by rw [hF]; exact y1, y2.ug hn e⟩
theorem sX12_init_14 {o : Nat} {a1 : Int} {a2 : Int} {N : jSh} {F : jFl} {A : jAr} (ho : jfn N 0 o = 1) : wqX12_init_14 o a1 a2 N F A (fun N' F' A' => N' = jpF (jpF N 3902 o a1) 3903 o a2 ∧ F' = F ∧ A' = A) := by
  unfold wqX12_init_14
  refine ⟨by exact ho, ?_⟩ -- s1: jfn N 0 o = 1
  intro N3 e3
  intro N8 e8
  -- l1: Q N8 F A
  exact ⟨by rw [e8, e3], rfl, rfl⟩

theorem sX13_init {o : Nat} {a1 : Int} {a2 : Int} {N : jSh} {F : jFl} {A : jAr} (ho : jfn N 0 o = 1) : wqX13_init o a1 a2 N F A (fun N' F' A' => N' = jpF (jpF N 3902 o a1) 3903 o a2 ∧ F' = F ∧ A' = A) := by
  unfold wqX13_init
  refine ⟨_, sX12_init_14 ho, ?_⟩ -- call wqX12_init_14 o a1 a2 N F A P1
  intro N6 F4 A5 p1
  -- l1: Q N6 F4 A5
  exact p1

set_option maxHeartbeats 4000000 in
theorem sX10_word {S : Nat → Nat} {o : Nat} {a1 : Int} {N : jSh} {F : jFl} {A : jAr} {u M k p : Int} {x h lo : Nat} {n : Int} {q : Int → Int} {W L : sTb} {wA sA cA lA : Int → Int} (hO : rdO S u N A o x h n q) (hU : rU F o q n p) (t : tRd u N F A h W L wA sA cA lA k) (ht : tOk W L) (g : gi S M N F) (hM : M ≤ 900000000) (hlo : lo ≤ o ∧ lo ≤ h ∧ lo ≤ jnx N) (hL : lLo lo N F h) (hC : loC lo W cA) {a : Int} (ha : a1 = a) {RR : smR} (hRR : RR = (if W 0 0 0 = 24 then ((5, a), a, W, L) else (wdF W q n p, opP 474148660594 q n (nxk q n p 8), wdW W q n p, L))) {X : Nat → jSh → jFl → jAr → Prop} (hX : (smT q n RR).1 ≠ 0 → stX S n o N F A p (smT q n RR) X) : wqX10_word S o a1 N F A (fun N' F' A' => stP S u lo (M + 2) N F A o x h n q RR k p 1 7 N' F' A') (X) := by
  unfold wqX10_word
  have hnb := hO.2.1.1
  have tOo := hO.1.1
  have hp := hU.2.2.1
  have hoo := hO.2.1.2.1.1
  have hox := hnb o (by rw [tOo]; decide)
  have hhx : h + 6 < jnx N := hnb (h + 6) (by rw [t.2.2.1.2.2.2.2.2.1.1]; decide)
  have n1 := nxk_range (q := q) hp 1
  have n2 := nxk_range (q := q) hp 2
  have n3 := nxk_range (q := q) hp 3
  have n4 := nxk_range (q := q) hp 4
  have n5 := nxk_range (q := q) hp 5
  have n6 := nxk_range (q := q) hp 6
  have n7 := nxk_range (q := q) hp 7
  have n8 := nxk_range (q := q) hp 8
  refine ⟨_, by exact hO.1.2.2.2.2, ?_⟩ -- d1: jfn N 3305 o = (b1 : Int)
  refine ⟨by exact t.1.1.1, ?_⟩ -- s1: jtg N b1 = 2
  refine ⟨_, by exact t.1.2.1, ?_⟩ -- d4: jfn N 617 b1 = (b4 : Int)
  refine ⟨by exact t.2.2.1.1.1.1, ?_⟩ -- s2: jtg N b4 = 20
  refine ⟨_, sJ2_size t.2.2.1.1, ?_⟩ -- call wqJ2_size b4 N F A P7
  intro z9 p7
  refine ⟨_, sX10_space (S := S) hnb (fun w b N' F' A' y1 y2 y3 y4 => by
    have full : W 0 0 0 = 24 := by omega
    rw [if_pos full] at hRR
    have e : smT q n RR = (5, a) := by rw [hRR]; exact fb_no (by show (5 : Int) ≠ 0; decide)
    rw [e] at hX
    rw [ha] at y1
    exact hX (by show (5 : Int) ≠ 0; decide) b N' F' A' y1 y2 (by omega)), ?_⟩ -- call wqX10_space o z9 24 a1 N F A P14 X
  intro p14
  have ns : W 0 0 0 ≠ 24 := fun w => p14 (by rw [p7]; exact w)
  rw [if_neg ns] at hRR
  have hT : smT q n RR = fb (wdF W q n p) (asS 59 q n (opP 474148660594 q n (nxk q n p 8))) := by rw [hRR]; rfl
  intro b21 N22 F23 e21 e22 e23
  have r22 : rfr S o N F A N22 F23 A := by rw [e22, e23]; exact (rfr.refl S o N F A).add (by decide) (by decide) (fun _ _ => rfl)
  have x22 : jnx N22 = jnx N + 1 := by rw [e22, jnewNx]
  have y22 : jsu N22 = jsu N + 7 := by rw [e22, jnewSu]
  have t22 : jtg N22 b21 = 14 := by rw [e22, e21, jnewTg]
  have o22 : jfn N22 0 b21 = 1 := by rw [e22, e21, jnew_f0]
  have bo : b21 ≠ o := by omega
  have F22 : ∀ f, F23 f o = F f o := fun f => by rw [e23, nwF_o (by omega)]
  have U22 : rU F23 o q n p := hU.of F22
  refine ⟨_, sX10_newName (c := p) (hO.go r22) ⟨hp, Or.inl ⟨U22, rfl⟩⟩ (t.go r22 tOo hnb) (fun w b N' F' A' y1 y2 y3 => by
    have e : smT q n RR = frF W q n p := by rw [hT]; unfold wdF; simp only [fb_no w]
    rw [e] at hX
    exact hX w b N' F' A' y1 (r22.trans y2) (by unfold xB at y3; omega)), ?_⟩ -- call wqX10_newName S o N22 F23 A P29 X
  intro z31 N34 F32 A33 p29
  obtain ⟨f0, s34, U34, r34, k34, -⟩ := p29
  have R34 := r22.trans r34
  have t34 : jtg N34 b21 = 14 := by rw [(r34.1.2 b21 (by omega)).1]; exact t22
  have o34 : jfn N34 0 b21 = 1 := by rw [(r34.1.2 b21 (by omega)).2.2]; exact o22
  have nb34 := R34.2.2.2.2 hnb
  have T34 := t.go R34 tOo hnb
  refine ⟨_, by exact (hO.go R34).1.2.2.2.2, ?_⟩ -- d40: jfn N34 3305 o = (b40 : Int)
  refine ⟨by exact T34.1.1.1, ?_⟩ -- s3: jtg N34 b40 = 2
  refine ⟨_, by exact T34.1.2.1, ?_⟩ -- d43: jfn N34 617 b40 = (b43 : Int)
  refine ⟨by exact T34.2.2.1.1.1.1, ?_⟩ -- s4: jtg N34 b43 = 20
  refine ⟨_, sJ2_size T34.2.2.1.1, ?_⟩ -- call wqJ2_size b43 N34 F32 A33 P46
  intro z48 p46
  refine ⟨_, sX13_init o34, ?_⟩ -- call wqX13_init b21 z31 z48 N34 F32 A33 P54
  intro N59 F57 A58 p54
  obtain ⟨i1, i2, i3⟩ := p54
  subst i2 i3
  have R59 : rfr S o N F A N59 F57 A58 := by rw [i1]; exact (R34.put (by omega)).put (by omega)
  have x59 : jnx N59 = jnx N34 := by rw [i1]; rfl
  have y59 : jsu N59 = jsu N34 := by rw [i1]; rfl
  have t59 : ∀ a, jtg N59 a = jtg N34 a := fun a => by rw [i1]; rfl
  have b59 : jtg N59 b21 = 14 ∧ jfn N59 0 b21 = 1 ∧ jfn N59 3903 b21 = W 0 0 0 ∧ jfn N59 3902 b21 = z31 := ⟨by rw [t59]; exact t34, by rw [i1, jpF_f (by decide), jpF_f (by decide)]; exact o34, by rw [i1, jpF_s]; exact p46, by rw [i1, jpF_f (by decide), jpF_s]⟩
  have s59 : strIs N59 A58 u z31 (tkC q n (tkAt q n p)) := by
    obtain ⟨b, v, m, y1, ⟨y2, y3, y4⟩, ⟨y5, y6, y7⟩, y8⟩ := s34
    have bb : b ≠ b21 := fun w => by rw [w, t34] at y2; omega
    have vb : v ≠ b21 := fun w => by rw [w, t34] at y5; omega
    exact ⟨b, v, m, y1, ⟨by rw [t59]; exact y2, by rw [i1, jpF_a bb, jpF_a bb]; exact y3, by rw [i1, jpF_a bb, jpF_a bb]; exact y4⟩, ⟨by rw [t59]; exact y5, by rw [i1]; exact y6, y7⟩, y8⟩
  have nb59 := R59.2.2.2.2 hnb
  have K59 : kB N22 N59 p (nxk q n p 1) := by unfold kB at *; rw [x59, y59]; exact k34
  have Q59 : nex N59 N59 ∧ ∀ a : Nat, a < jnx N59 → A58 a = A58 a := ⟨nex.refl _, fun _ _ => rfl⟩
  have lt59 : b21 < jnx N59 := by have := R34.1.1; have := r34.1.1; omega
  refine ⟨_, sX10_asks (c := nxk q n p 1) (hO.go R59) ⟨n1, Or.inl ⟨U34, rfl⟩⟩ (((hO.go R59).2.1.2.1.2.1 1 (by decide)).2) (fun w b N' F' A' y1 y2 y3 => by
    have w : (asW 422607680627 q n (nxk q n p 1)).1 ≠ 0 := w
    have f0' : (frF W q n p).1 = 0 := by rw [f0]
    have e : smT q n RR = asW 422607680627 q n (nxk q n p 1) := by rw [hT]; unfold wdF; simp only [fb_ok f0', fb_no w]
    rw [e] at hX
    exact hX w b N' F' A' y1 (R59.trans y2) (by unfold xB at y3; unfold kB at K59; omega)), ?_⟩ -- call wqX10_asks S o (S 2 : Int) N59 F57 A58 P65 X
  intro N70 F68 A69 p65
  obtain ⟨f1, U70, r70, k70⟩ := p65
  have f1 : asW 422607680627 q n (nxk q n p 1) = (0, 0) := f1
  have R70 := R59.trans r70
  have K70 : kB N22 N70 p (nxk q n p 2) := K59.trans k70
  have Q70 : nex N59 N70 ∧ ∀ a : Nat, a < jnx N59 → A69 a = A58 a := ⟨Q59.1.trans r70.1, fun a ha => (r70.2.2.1 a (by have := Q59.1.1; omega)).trans (Q59.2 a ha)⟩
  have j70 : ∀ f, F68 f b21 = F57 f b21 := fun f => r70.2.1 b21 (by have := Q59.1.1; omega) bo f
  refine ⟨_, sX10_number (c := nxk q n p 2) (hO.go R70) ⟨n2, Or.inl ⟨U70, rfl⟩⟩ (fun w b N' F' A' y1 y2 y3 => by
    have f0' : (frF W q n p).1 = 0 := by rw [f0]
    have f1' : (asW 422607680627 q n (nxk q n p 1)).1 = 0 := by rw [f1]
    have e : smT q n RR = nuF 1 9 q n (nxk q n p 2) := by rw [hT]; unfold wdF; simp only [fb_ok f0', fb_ok f1', fb_no w]
    rw [e] at hX
    exact hX w b N' F' A' y1 (R70.trans y2) (by unfold xB at y3; unfold kB at K70; omega)), ?_⟩ -- call wqX10_number S o 1 9 N70 F68 A69 P76 X
  intro z78 N81 F79 A80 p76
  obtain ⟨f2, v2, U81, r81, k81⟩ := p76
  have R81 := R70.trans r81
  have K81 : kB N22 N81 p (nxk q n p 3) := K70.trans k81
  have Q81 : nex N59 N81 ∧ ∀ a : Nat, a < jnx N59 → A80 a = A58 a := ⟨Q70.1.trans r81.1, fun a ha => (r81.2.2.1 a (by have := Q70.1.1; omega)).trans (Q70.2 a ha)⟩
  have j81 : ∀ f, F79 f b21 = F68 f b21 := fun f => r81.2.1 b21 (by have := Q70.1.1; omega) bo f
  intro F89 e89
  have R89 : rfr S o N F A N81 F89 A80 := by rw [e89]; exact R81.upF (by omega) (by rw [(Q81.1.2 b21 lt59).1, b59.1]; decide)
  have U89 : rU F89 o q n (nxk q n p 3) := U81.of (fun f => by rw [e89, upF_a (Ne.symm bo)])
  refine ⟨_, sX10_asks (c := nxk q n p 3) (hO.go R89) ⟨n3, Or.inl ⟨U89, rfl⟩⟩ (((hO.go R89).2.1.2.1.2.1 2 (by decide)).2) (fun w b N' F' A' y1 y2 y3 => by
    have w : (asW 126922548733043 q n (nxk q n p 3)).1 ≠ 0 := w
    have f0' : (frF W q n p).1 = 0 := by rw [f0]
    have f1' : (asW 422607680627 q n (nxk q n p 1)).1 = 0 := by rw [f1]
    have f2' : (nuF 1 9 q n (nxk q n p 2)).1 = 0 := by rw [f2]
    have e : smT q n RR = asW 126922548733043 q n (nxk q n p 3) := by rw [hT]; unfold wdF; simp only [fb_ok f0', fb_ok f1', fb_ok f2', fb_no w]
    rw [e] at hX
    exact hX w b N' F' A' y1 (R89.trans y2) (by unfold xB at y3; unfold kB at K81; omega)), ?_⟩ -- call wqX10_asks S o (S 3 : Int) N81 F89 A80 P91 X
  intro N96 F94 A95 p91
  obtain ⟨f3, U96, r96, k96⟩ := p91
  have f3 : asW 126922548733043 q n (nxk q n p 3) = (0, 0) := f3
  have R96 := R89.trans r96
  have K96 : kB N22 N96 p (nxk q n p 4) := K81.trans k96
  have Q96 : nex N59 N96 ∧ ∀ a : Nat, a < jnx N59 → A95 a = A58 a := ⟨Q81.1.trans r96.1, fun a ha => (r96.2.2.1 a (by have := Q81.1.1; omega)).trans (Q81.2 a ha)⟩
  have j96 : ∀ f, F94 f b21 = F89 f b21 := fun f => r96.2.1 b21 (by have := Q81.1.1; omega) bo f
  refine ⟨_, sX10_number (c := nxk q n p 4) (hO.go R96) ⟨n4, Or.inl ⟨U96, rfl⟩⟩ (fun w b N' F' A' y1 y2 y3 => by
    have f0' : (frF W q n p).1 = 0 := by rw [f0]
    have f1' : (asW 422607680627 q n (nxk q n p 1)).1 = 0 := by rw [f1]
    have f2' : (nuF 1 9 q n (nxk q n p 2)).1 = 0 := by rw [f2]
    have f3' : (asW 126922548733043 q n (nxk q n p 3)).1 = 0 := by rw [f3]
    have e : smT q n RR = nuF 0 9 q n (nxk q n p 4) := by rw [hT]; unfold wdF; simp only [fb_ok f0', fb_ok f1', fb_ok f2', fb_ok f3', fb_no w]
    rw [e] at hX
    exact hX w b N' F' A' y1 (R96.trans y2) (by unfold xB at y3; unfold kB at K96; omega)), ?_⟩ -- call wqX10_number S o 0 9 N96 F94 A95 P102 X
  intro z104 N107 F105 A106 p102
  obtain ⟨f4, v4, U107, r107, k107⟩ := p102
  have R107 := R96.trans r107
  have K107 : kB N22 N107 p (nxk q n p 5) := K96.trans k107
  have Q107 : nex N59 N107 ∧ ∀ a : Nat, a < jnx N59 → A106 a = A58 a := ⟨Q96.1.trans r107.1, fun a ha => (r107.2.2.1 a (by have := Q96.1.1; omega)).trans (Q96.2 a ha)⟩
  have j107 : ∀ f, F105 f b21 = F94 f b21 := fun f => r107.2.1 b21 (by have := Q96.1.1; omega) bo f
  intro F115 e115
  have R115 : rfr S o N F A N107 F115 A106 := by rw [e115]; exact R107.upF (by omega) (by rw [(Q107.1.2 b21 lt59).1, b59.1]; decide)
  have U115 : rU F115 o q n (nxk q n p 5) := U107.of (fun f => by rw [e115, upF_a (Ne.symm bo)])
  refine ⟨_, sX10_number (c := nxk q n p 5) (hO.go R115) ⟨n5, Or.inl ⟨U115, rfl⟩⟩ (fun w b N' F' A' y1 y2 y3 => by
    have f0' : (frF W q n p).1 = 0 := by rw [f0]
    have f1' : (asW 422607680627 q n (nxk q n p 1)).1 = 0 := by rw [f1]
    have f2' : (nuF 1 9 q n (nxk q n p 2)).1 = 0 := by rw [f2]
    have f3' : (asW 126922548733043 q n (nxk q n p 3)).1 = 0 := by rw [f3]
    have f4' : (nuF 0 9 q n (nxk q n p 4)).1 = 0 := by rw [f4]
    have e : smT q n RR = nuF 0 9 q n (nxk q n p 5) := by rw [hT]; unfold wdF; simp only [fb_ok f0', fb_ok f1', fb_ok f2', fb_ok f3', fb_ok f4', fb_no w]
    rw [e] at hX
    exact hX w b N' F' A' y1 (R115.trans y2) (by unfold xB at y3; unfold kB at K107; omega)), ?_⟩ -- call wqX10_number S o 0 9 N107 F115 A106 P117 X
  intro z119 N122 F120 A121 p117
  obtain ⟨f5, v5, U122, r122, k122⟩ := p117
  have R122 := R115.trans r122
  have K122 : kB N22 N122 p (nxk q n p 6) := K107.trans k122
  have Q122 : nex N59 N122 ∧ ∀ a : Nat, a < jnx N59 → A121 a = A58 a := ⟨Q107.1.trans r122.1, fun a ha => (r122.2.2.1 a (by have := Q107.1.1; omega)).trans (Q107.2 a ha)⟩
  have j122 : ∀ f, F120 f b21 = F115 f b21 := fun f => r122.2.1 b21 (by have := Q107.1.1; omega) bo f
  intro F130 e130
  have R130 : rfr S o N F A N122 F130 A121 := by rw [e130]; exact R122.upF (by omega) (by rw [(Q122.1.2 b21 lt59).1, b59.1]; decide)
  have U130 : rU F130 o q n (nxk q n p 6) := U122.of (fun f => by rw [e130, upF_a (Ne.symm bo)])
  refine ⟨_, sX10_asks (c := nxk q n p 6) (hO.go R130) ⟨n6, Or.inl ⟨U130, rfl⟩⟩ (((hO.go R130).2.1.2.1.2.1 3 (by decide)).2) (fun w b N' F' A' y1 y2 y3 => by
    have w : (asW 512970880104 q n (nxk q n p 6)).1 ≠ 0 := w
    have f0' : (frF W q n p).1 = 0 := by rw [f0]
    have f1' : (asW 422607680627 q n (nxk q n p 1)).1 = 0 := by rw [f1]
    have f2' : (nuF 1 9 q n (nxk q n p 2)).1 = 0 := by rw [f2]
    have f3' : (asW 126922548733043 q n (nxk q n p 3)).1 = 0 := by rw [f3]
    have f4' : (nuF 0 9 q n (nxk q n p 4)).1 = 0 := by rw [f4]
    have f5' : (nuF 0 9 q n (nxk q n p 5)).1 = 0 := by rw [f5]
    have e : smT q n RR = asW 512970880104 q n (nxk q n p 6) := by rw [hT]; unfold wdF; simp only [fb_ok f0', fb_ok f1', fb_ok f2', fb_ok f3', fb_ok f4', fb_ok f5', fb_no w]
    rw [e] at hX
    exact hX w b N' F' A' y1 (R130.trans y2) (by unfold xB at y3; unfold kB at K122; omega)), ?_⟩ -- call wqX10_asks S o (S 4 : Int) N122 F130 A121 P132 X
  intro N137 F135 A136 p132
  obtain ⟨f6, U137, r137, k137⟩ := p132
  have f6 : asW 512970880104 q n (nxk q n p 6) = (0, 0) := f6
  have R137 := R130.trans r137
  have K137 : kB N22 N137 p (nxk q n p 7) := K122.trans k137
  have Q137 : nex N59 N137 ∧ ∀ a : Nat, a < jnx N59 → A136 a = A58 a := ⟨Q122.1.trans r137.1, fun a ha => (r137.2.2.1 a (by have := Q122.1.1; omega)).trans (Q122.2 a ha)⟩
  have j137 : ∀ f, F135 f b21 = F130 f b21 := fun f => r137.2.1 b21 (by have := Q122.1.1; omega) bo f
  refine ⟨_, sX10_number (c := nxk q n p 7) (hO.go R137) ⟨n7, Or.inl ⟨U137, rfl⟩⟩ (fun w b N' F' A' y1 y2 y3 => by
    have f0' : (frF W q n p).1 = 0 := by rw [f0]
    have f1' : (asW 422607680627 q n (nxk q n p 1)).1 = 0 := by rw [f1]
    have f2' : (nuF 1 9 q n (nxk q n p 2)).1 = 0 := by rw [f2]
    have f3' : (asW 126922548733043 q n (nxk q n p 3)).1 = 0 := by rw [f3]
    have f4' : (nuF 0 9 q n (nxk q n p 4)).1 = 0 := by rw [f4]
    have f5' : (nuF 0 9 q n (nxk q n p 5)).1 = 0 := by rw [f5]
    have f6' : (asW 512970880104 q n (nxk q n p 6)).1 = 0 := by rw [f6]
    have e : smT q n RR = nuF 0 99 q n (nxk q n p 7) := by rw [hT]; unfold wdF; simp only [fb_ok f0', fb_ok f1', fb_ok f2', fb_ok f3', fb_ok f4', fb_ok f5', fb_ok f6', fb_no w]
    rw [e] at hX
    exact hX w b N' F' A' y1 (R137.trans y2) (by unfold xB at y3; unfold kB at K137; omega)), ?_⟩ -- call wqX10_number S o 0 99 N137 F135 A136 P143 X
  intro z145 N148 F146 A147 p143
  obtain ⟨f7, v7, U148, r148, k148⟩ := p143
  have R148 := R137.trans r148
  have K148 : kB N22 N148 p (nxk q n p 8) := K137.trans k148
  have Q148 : nex N59 N148 ∧ ∀ a : Nat, a < jnx N59 → A147 a = A58 a := ⟨Q137.1.trans r148.1, fun a ha => (r148.2.2.1 a (by have := Q137.1.1; omega)).trans (Q137.2 a ha)⟩
  have j148 : ∀ f, F146 f b21 = F135 f b21 := fun f => r148.2.1 b21 (by have := Q137.1.1; omega) bo f
  intro F156 e156
  have R156 : rfr S o N F A N148 F156 A147 := by rw [e156]; exact R148.upF (by omega) (by rw [(Q148.1.2 b21 lt59).1, b59.1]; decide)
  have U156 : rU F156 o q n (nxk q n p 8) := U148.of (fun f => by rw [e156, upF_a (Ne.symm bo)])
  refine ⟨_, sX10_takes (c := nxk q n p 8) (hO.go R156) ⟨n8, Or.inl ⟨U156, rfl⟩⟩ (((hO.go R156).2.1.2.1.2.1 4 (by decide)).2) (fun w b N' F' A' y1 y2 y3 => by
    have w0 : (wdF W q n p).1 = 0 := by unfold wdF; rw [f0, f1, f2, f3, f4, f5, f6, f7]; decide
    have nop : ¬ opW 474148660594 q n (nxk q n p 8) := fun y => by have := y.1; omega
    have e : smT q n RR = (1, tkBad q n (tkAt q n (nxk q n p 8))) := by rw [hT, fb_ok w0, (opW_no nop).1]; exact asF_bad w
    rw [e] at hX
    exact hX ne10 b N' F' A' y1 (R156.trans y2) (by unfold xB at y3; unfold kB at K148; omega)), ?_⟩ -- call wqX10_takes S o (S 5 : Int) N148 F156 A147 P158 X
  intro z160 N163 F161 A162 p158
  obtain ⟨tk, r163, k163⟩ := p158
  have R163 := R156.trans r163
  have K163 := K148.trans k163
  have Q163 : nex N59 N163 ∧ ∀ a : Nat, a < jnx N59 → A162 a = A58 a := ⟨Q148.1.trans r163.1, fun a ha => (r163.2.2.1 a (by have := Q148.1.1; omega)).trans (Q148.2 a ha)⟩
  have j163 : ∀ f, F161 f b21 = F156 f b21 := fun f => r163.2.1 b21 (by have := Q148.1.1; omega) bo f
  have n9 := nx_range (q := q) n8
  intro F171 e171
  have t163 : jtg N163 b21 = 14 := by rw [(Q163.1.2 b21 lt59).1]; exact b59.1
  have R171 : rfr S o N F A N163 F171 A162 := by rw [e171]; exact R163.upF (by omega) (by rw [t163]; decide)
  have T171 := t.go R171 tOo hnb
  have O171 := hO.go R171
  have nb163 := R171.2.2.2.2 hnb
  have b163 : jtg N163 b21 = 14 ∧ jfn N163 0 b21 = 1 ∧ jfn N163 3903 b21 = W 0 0 0 := ⟨t163, by rw [(Q163.1.2 b21 lt59).2.2]; exact b59.2.1, by rw [(Q163.1.2 b21 lt59).2.2]; exact b59.2.2.1⟩
  have s163 : strIs N163 A162 u (jfn N163 3902 b21) (tkC q n (tkAt q n p)) := by
    rw [(Q163.1.2 b21 lt59).2.2, b59.2.2.2]
    exact s59.kv nb59 Q163.1 (fun a ha => Q163.2 a (nb59 a (by omega))) (Or.inl rfl)
  have zz : z160 = opV 474148660594 q n (nxk q n p 8) ∧ rA N163 F171 A162 o q n (opP 474148660594 q n (nxk q n p 8)) (nx q n (nxk q n p 8)) := by
    rcases tk with ⟨w1, w2, w3, w4⟩ | ⟨w1, w2, w3⟩
    · have yes : opW 474148660594 q n (nxk q n p 8) := ⟨w4, w2⟩
      rw [(opW_yes yes).1, (opW_yes yes).2]
      exact ⟨w1, n9.2.2, Or.inl ⟨w3.of (fun f => by rw [e171, upF_a (Ne.symm bo)]), rfl⟩⟩
    · have nop : ¬ opW 474148660594 q n (nxk q n p 8) := fun y => w2 y.2
      rw [(opW_no nop).1, (opW_no nop).2]
      exact ⟨w1, n8, Or.inr ⟨w3.ex nb163 (nex.refl _) (fun _ _ => rfl) (fun f => by rw [e171, upF_a (Ne.symm bo)]), rfl⟩⟩
  refine ⟨_, by exact O171.1.2.2.2.2, ?_⟩ -- d173: jfn N163 3305 o = (b173 : Int)
  refine ⟨by exact T171.1.1.1, ?_⟩ -- s5: jtg N163 b173 = 2
  refine ⟨_, by exact T171.1.2.1, ?_⟩ -- d176: jfn N163 617 b173 = (b176 : Int)
  refine ⟨by exact T171.2.2.1.1.1.1, ?_⟩ -- s6: jtg N163 b176 = 20
  refine ⟨_, sJ2_add T171.2.2.1.1 (R171.2.2.2.1 M g) (by omega) (by have := ht.1; omega) (jast_obj rfl t163 rfl jcob_14), ?_⟩ -- call wqJ2_add S b176 (b21 : Int) N163 F171 A162 P179
  intro z181 N184 F182 A183 p179
  -- l1: Q N184 F182 A183
  obtain ⟨l1, lp⟩ := p179
  have g163 := R171.2.2.2.1 M g
  have hx163 : h + 6 < jnx N163 := by have := R171.1.1; omega
  have ls := R171.lists (lo := lo) tOo hnb t.2.2.1
  obtain ⟨a1, a2, a3, a4, a5, a6⟩ := lop.all (j := 1) (lo := lo) lp g163 (by decide) T171.2.2.1 hlo.2.1 hx163 (ls.2 hL)
  have w0 : (wdF W q n p).1 = 0 := by unfold wdF; rw [f0, f1, f2, f3, f4, f5, f6, f7]; decide
  have e0 : ∀ i j, wdW W q n p 0 i j = W 0 0 0 + 1 := fun _ _ => rfl
  have e1 : ∀ (k : Nat) (i j : Int), k ≠ 0 → (k < 10 ∨ 15 < k) → wdW W q n p k i j = W k i j := fun k i j k0 k1 => by
    unfold wdW
    rw [if_neg k0, if_neg (fun w => by omega), if_neg (fun w => by omega), if_neg (fun w => by omega), if_neg (fun w => by omega), if_neg (fun w => by omega), if_neg (fun w => by omega)]
  have e2 : ∀ (k : Nat) (i j : Int), k ≠ 0 → i ≠ W 0 0 0 → wdW W q n p k i j = W k i j := fun k i j k0 i0 => by
    unfold wdW
    rw [if_neg k0, if_neg (fun w => i0 w.1), if_neg (fun w => i0 w.1), if_neg (fun w => i0 w.1), if_neg (fun w => i0 w.1), if_neg (fun w => i0 w.1), if_neg (fun w => i0 w.1)]
  have ob : tOb u N163 F171 A162 (wdW W q n p) L (upI wA (W 0 0 0) (b21 : Int)) sA cA lA := T171.2.2.2.word ht (e0 0 0) e1 e2 b163 (by
    refine ⟨?_, ?_, ?_, ?_, ?_⟩
    · rw [e171, upF_f (by decide), j163, e156, upF_f (by decide), j148, j137, e130, upF_f (by decide), j122, e115, upF_f (by decide), j107, j96, e89, upF_s, v2]; simp [wdW]
    · rw [e171, upF_f (by decide), j163, e156, upF_f (by decide), j148, j137, e130, upF_f (by decide), j122, e115, upF_s, v4]; simp [wdW]
    · rw [e171, upF_f (by decide), j163, e156, upF_f (by decide), j148, j137, e130, upF_s, v5]; simp [wdW]
    · rw [e171, upF_f (by decide), j163, e156, upF_s, v7]; simp [wdW]
    · rw [e171, upF_s, zz.1]; simp [wdW]) (by
    have : wdW W q n p 10 (W 0 0 0) 0 = tkC q n (tkAt q n p) := by simp [wdW]
    rw [this]; exact s163)
  have hf := (a1.at nb163 T171.1.1.1 (by decide)).1
  have hlo2 : ∀ f, F182 f o = F171 f o := fun f => lp.2.2.1 o (by have := R171.1.1; omega) (by
    intro w
    have := O171.1.1
    rw [w, T171.2.2.1.1.1.1] at this
    omega) f
  obtain ⟨t1, t2, t3, t4⟩ := T171
  subst hRR
  refine ⟨w0, ⟨upI wA (W 0 0 0) (b21 : Int), sA, cA, lA, ⟨t1.ex nb163 lp.2.1, ?_, ⟨l1, ?_, ?_, ?_, ?_, ?_⟩, ob.ug nb163 a1⟩, hC.of (e1 2 0 0 (by decide) (by decide))⟩, O171.ug a1 lp.1.1, lp.1.mono (by omega) (by omega), a3, (R171.lf hlo.1 hlo.2.2).trans a4, nx q n (nxk q n p 8), zz.2.ug nb163 a1 hlo2, ?_, ?_, ?_⟩
  · exact (show tFl F182 h (wdW W q n p) k from by
      unfold tFl at *
      rw [hf, hf, hf, hf, hf, e1 4 _ _ (by decide) (by decide), e1 5 _ _ (by decide) (by decide), e1 6 _ _ (by decide) (by decide)]
      exact t2)
  · exact (show jli N184 F182 A183 (h + 2) (wdW W q n p 1 0 0) sA from by rw [e1 1 _ _ (by decide) (by decide)]; exact a2 2 _ _ (by omega) t3.2.1)
  · exact (show jli N184 F182 A183 (h + 3) (wdW W q n p 2 0 0) cA from by rw [e1 2 _ _ (by decide) (by decide)]; exact a2 3 _ _ (by omega) t3.2.2.1)
  · exact (show jli N184 F182 A183 (h + 4) (wdW W q n p 3 0 0) lA from by rw [e1 3 _ _ (by decide) (by decide)]; exact a2 4 _ _ (by omega) t3.2.2.2.1)
  · exact (show jli N184 F182 A183 (h + 5) (wdW W q n p 3 0 0) lA from by rw [e1 3 _ _ (by decide) (by decide)]; exact a2 5 _ _ (by omega) t3.2.2.2.2.1)
  · exact a2 6 _ _ (by omega) t3.2.2.2.2.2
  · have := nxk_mono (q := q) hp 8
    omega
  · have x8 : nx q n (nxk q n p 8) = tkEnd q n (tkAt q n (nxk q n p 8)) := rfl
    unfold kB at K163
    have := ls.1
    have := nxk_mono (q := q) hp 8
    omega
  · have x8 : nx q n (nxk q n p 8) = tkEnd q n (tkAt q n (nxk q n p 8)) := rfl
    unfold kB at K163
    have := ls.1
    have := nxk_mono (q := q) hp 8
    omega

