set_option maxRecDepth 100000
set_option linter.unusedVariables false
/-! the component's whole state: town, book, what can be undone -/
def bkIs (N : jSh) (F : jFl) (A : jAr) (l : Nat) (B : sBk) : Prop := ∃ e : Int → Int, jli N F A l B.1 e ∧ ∀ k : Int, 0 ≤ k → k < B.1 → ∃ b : Nat, e k = (b : Int) ∧ jtg N b = 19 ∧ jfn N 5700 b = B.2 k 0 ∧ jfn N 5703 b = B.2 k 1 ∧ jfn N 5706 b = B.2 k 2 ∧ jfn N 5709 b = B.2 k 3
def wasOk (N : jSh) (x : Nat) (nl y : Int) (w : Nat) : Prop := (x + 141 ≤ w ∧ jtg N w = 18 ∧ jfn N 5420 w = (x : Int) ∧ jfn N 5400 w = y ∧ jfn N 5403 w = nl) ∧ (jfn N 5408 w = ((w + 1 : Nat) : Int) ∧ jtg N (w + 1) = 116 ∧ jln N (w + 1) = 12) ∧ (jfn N 5411 w = ((w + 2 : Nat) : Int) ∧ jtg N (w + 2) = 113 ∧ jln N (w + 2) = 12) ∧ (jfn N 5414 w = ((w + 3 : Nat) : Int) ∧ jtg N (w + 3) = 105 ∧ jln N (w + 3) = 12) ∧ jfn N 5417 w = ((w + 4 : Nat) : Int)
def wasIs (N : jSh) (F : jFl) (A : jAr) (x : Nat) (W : sTb) (wA lA : Int → Int) (w : Nat) (L : sTb) (B : sBk) : Prop := wasOk N x (W 3 0 0) (L 0 0 0) w ∧ (sLok W L ∧ L 9 0 0 = 0) ∧ (∀ k : Nat, (k : Int) < W 3 0 0 → A (w + 1) k = ((w + 5 + 2 * k : Nat) : Int) ∧ rowIs N F A wA (w + 5 + 2 * k) (sRw L k) ∧ A (w + 2) k = lA (L 1 k 0) ∧ A (w + 3) k = L 4 k 0) ∧ bkIs N F A (w + 4) B
/-- what can be undone: how many, which -/
abbrev sUn : Type := Int × (Int → sTb × sBk)
def acs (N : jSh) (F : jFl) (A : jAr) (x : Nat) (W : sTb) (wA lA : Int → Int) (U : sUn) : Prop := (0 ≤ U.1 ∧ U.1 ≤ 20) ∧ ∃ e : Int → Int, jli N F A (x + 10) U.1 e ∧ ∀ i : Int, 0 ≤ i → i < U.1 → ∃ w : Nat, e i = (w : Int) ∧ wasIs N F A x W wA lA w (U.2 i).1 (U.2 i).2
/-- the sayings' places in their arrays -/
def sarr (A : jAr) (x : Nat) : Prop := (∀ k : Nat, k < 12 → A (x + 15) k = ((x + 17 + 3 * k : Nat) : Int)) ∧ (∀ k : Nat, k < 12 → A (x + 99) k = ((x + 101 + 3 * k : Nat) : Int)) ∧ ∀ k : Nat, k < 10 → A (x + 54) k = ((x + 57 + 3 * k : Nat) : Int)
def cst (S : Nat → Nat) (M : Int) (N : jSh) (F : jFl) (A : jAr) (x t : Nat) (W L : sTb) (B : sBk) (U : sUn) (wA sA cA lA : Int → Int) : Prop :=
  (gi S M N F ∧ lay N x ∧ sarr A x) ∧ ctx N F A x t W L wA sA cA lA ∧ bkIs N F A (t + 6) B ∧ acs N F A x W wA lA U
section
variable {N N' : jSh} {F F' : jFl} {A A' : jAr} {W L : sTb} {wA sA cA lA : Int → Int}
/-! the same in a larger heap -/
theorem rowOk.ex {r : Nat} (h : rowOk N r) (hn : nb N) (e : nex N N') : rowOk N' r := by
  obtain ⟨a1, a2, a3, a4, a5, a6⟩ := h
  exact ⟨e.tg hn a1 (by decide), by rw [e.fn hn a1 (by decide), a2], by rw [e.fn hn a1 (by decide), a3], e.tg hn a4 (by decide), by rw [e.fn hn a4 (by decide), a5], by rw [e.ln hn a4 (by decide), a6]⟩
theorem rowIs.ex {r : Nat} {R : sRow} (h : rowIs N F A wA r R) (hn : nb N) (e : nex N N') (h1 : F' 1203 r = F 1203 r) (h2 : F' 1206 r = F 1206 r) (h3 : A' (r + 1) = A (r + 1)) : rowIs N' F' A' wA r R := by
  obtain ⟨a1, a2, a3, a4⟩ := h.of h1 h2 h3
  exact ⟨a1.ex hn e, a2, a3, a4⟩
theorem wds.ex (h : wds N F W wA) (hn : nb N) (e : nex N N') : wds N' F W wA := fun i h0 h1 => by
  obtain ⟨b, e1, e2, e3, e4, e5⟩ := h i h0 h1
  exact ⟨b, e1, e.tg hn e2 (by decide), by rw [e.fn hn e2 (by decide), e3], by rw [e.fn hn e2 (by decide), e4], e5⟩
theorem stIs.ex {s : Int} {b : Nat} (h : stIs N A W wA s b) (hn : nb N) (e : nex N N') : stIs N' A W wA s b := by
  obtain ⟨⟨a1, a2, a3, a4, a5, a6, a7, a9⟩, a8⟩ := h
  exact ⟨⟨e.tg hn a1 (by decide), by rw [e.fn hn a1 (by decide), a2], by rw [e.fn hn a1 (by decide), a3], by rw [e.fn hn a1 (by decide), a4], e.tg hn a5 (by decide), by rw [e.fn hn a5 (by decide), a6], by rw [e.ln hn a5 (by decide), a7], e.tg hn a9 (by decide)⟩, a8⟩
theorem chIs.ex {c : Int} {b : Nat} (h : chIs N F A W wA sA c b) (hn : nb N) (e : nex N N') : chIs N' F A W wA sA c b := by
  obtain ⟨⟨a1, a2, a3, a4, a5, a6, a7, a8, a9, a10, a11⟩, a12, a13⟩ := h
  refine ⟨⟨e.tg hn a1 (by decide), by rw [e.fn hn a1 (by decide), a2], by rw [e.fn hn a1 (by decide), a3], by rw [e.fn hn a1 (by decide), a4], e.tg hn a5 (by decide), by rw [e.fn hn a5 (by decide), a6], by rw [e.ln hn a5 (by decide), a7], by rw [e.fn hn a1 (by decide), a8], e.tg hn a9 (by decide), by rw [e.fn hn a9 (by decide), a10], by rw [e.ln hn a9 (by decide), a11]⟩, by rw [e.fn hn a1 (by decide), a12], a13⟩
theorem lawOk.ex {l : Int} {b : Nat} (h : lawOk N l b) (hn : nb N) (e : nex N N') : lawOk N' l b := by
  obtain ⟨a1, a2, a3, a4, a5⟩ := h
  exact ⟨e.tg hn a1 (by decide), by rw [e.fn hn a1 (by decide), a2], by rw [e.fn hn a1 (by decide), a3], by rw [e.fn hn a1 (by decide), a4], a5.ex hn e⟩
theorem lws.ex (h : lws N F A W L wA lA) (hn : nb N) (e : nex N N') : lws N' F A W L wA lA := fun l l0 l1 => by
  obtain ⟨b, e1, e2, e3, e4⟩ := h l l0 l1
  exact ⟨b, e1, e2.ex hn e, e3, e4.ex hn e rfl rfl rfl⟩
theorem jli.ex {l : Nat} {n : Int} {f : Int → Int} (h : jli N F A l n f) (hn : nb N) (e : nex N N') : jli N' F A l n f := h.moved hn e rfl rfl (fun _ => rfl)
theorem twn.ex {t : Nat} (h : twn N F A t W L wA sA cA lA) (hn : nb N) (e : nex N N') : twn N' F A t W L wA sA cA lA := by
  obtain ⟨⟨a1, a2, a3, a4, a5, a6, a7, a8⟩, h2, ⟨l1, l2, l3, l4, l5⟩, h4, h5, h6, h7⟩ := h
  have ef := fun f => e.fn hn a1 (by decide) f
  refine ⟨⟨e.tg hn a1 (by decide), by rw [ef, a2], by rw [ef, a3], by rw [ef, a4], by rw [ef, a5], by rw [ef, a6], by rw [ef, a7], by rw [ef, a8]⟩, h2, ⟨l1.ex hn e, l2.ex hn e, l3.ex hn e, l4.ex hn e, l5.ex hn e⟩, h4.ex hn e, fun s s0 s1 => ?_, fun c c0 c1 => ?_, h7.ex hn e⟩
  · obtain ⟨b, e1, e2⟩ := h5 s s0 s1
    exact ⟨b, e1, e2.ex hn e⟩
  · obtain ⟨b, e1, e2⟩ := h6 c c0 c1
    exact ⟨b, e1, e2.ex hn e⟩
theorem ctx.ex {x t : Nat} (h : ctx N F A x t W L wA sA cA lA) (hn : nb N) (e : nex N N') : ctx N' F A x t W L wA sA cA lA :=
  ⟨⟨e.tg hn h.1.1 (by decide), by rw [e.fn hn h.1.1 (by decide), h.1.2.1], h.1.2.2⟩, h.2.1, h.2.2.ex hn e⟩
theorem bkIs.ex {l : Nat} {B : sBk} (h : bkIs N F A l B) (hn : nb N) (e : nex N N') : bkIs N' F A l B := by
  obtain ⟨f, h1, h2⟩ := h
  refine ⟨f, h1.ex hn e, fun k k0 k1 => ?_⟩
  obtain ⟨b, b1, b2, b3, b4, b5, b6⟩ := h2 k k0 k1
  have ef := fun f => e.fn hn b2 (by decide) f
  exact ⟨b, b1, e.tg hn b2 (by decide), by rw [ef, b3], by rw [ef, b4], by rw [ef, b5], by rw [ef, b6]⟩
theorem wasOk.ex {x w : Nat} {nl y : Int} (h : wasOk N x nl y w) (hn : nb N) (e : nex N N') : wasOk N' x nl y w := by
  obtain ⟨⟨a0, a1, a2, a3, a4⟩, ⟨b1, b2, b3⟩, ⟨c1, c2, c3⟩, ⟨d1, d2, d3⟩, f1⟩ := h
  have ef := fun f => e.fn hn a1 (by decide) f
  exact ⟨⟨a0, e.tg hn a1 (by decide), by rw [ef, a2], by rw [ef, a3], by rw [ef, a4]⟩, ⟨by rw [ef, b1], e.tg hn b2 (by decide), by rw [e.ln hn b2 (by decide), b3]⟩, ⟨by rw [ef, c1], e.tg hn c2 (by decide), by rw [e.ln hn c2 (by decide), c3]⟩, ⟨by rw [ef, d1], e.tg hn d2 (by decide), by rw [e.ln hn d2 (by decide), d3]⟩, by rw [ef, f1]⟩
theorem wasIs.ex {x w : Nat} {L : sTb} {B : sBk} (h : wasIs N F A x W wA lA w L B) (hn : nb N) (e : nex N N') : wasIs N' F A x W wA lA w L B := by
  obtain ⟨h1, h2, h3, h4⟩ := h
  refine ⟨h1.ex hn e, h2, fun k hk => ?_, h4.ex hn e⟩
  obtain ⟨g1, g2, g3⟩ := h3 k hk
  exact ⟨g1, g2.ex hn e rfl rfl rfl, g3⟩
theorem acs.ex {x : Nat} {U : sUn} (h : acs N F A x W wA lA U) (hn : nb N) (e : nex N N') : acs N' F A x W wA lA U := by
  obtain ⟨h1, f, h2, h3⟩ := h
  refine ⟨h1, f, h2.ex hn e, fun i i0 i1 => ?_⟩
  obtain ⟨w, w1, w2⟩ := h3 i i0 i1
  exact ⟨w, w1, w2.ex hn e⟩
theorem lay.ex {x : Nat} (h : lay N x) (hn : nb N) (e : nex N N') (hx : x + 141 ≤ jnx N) : lay N' x := by
  obtain ⟨h1, h2, h3⟩ := h
  have hf : ∀ q ∈ fldT, q.2.1 < 141 := by decide
  have hl : ∀ q ∈ lenT, q.1 < 141 := by decide
  exact ⟨fun k hk => ⟨by rw [(e.2 (x + k) (by omega)).1]; exact (h1 k hk).1, by rw [(e.2 (x + k) (by omega)).2.2]; exact (h1 k hk).2⟩, fun q hq => by rw [(e.2 _ (by have := hf q hq; omega)).2.2]; exact h2 q hq, fun q hq => by rw [(e.2 _ (by have := hl q hq; omega)).2.1]; exact h3 q hq⟩
end
/-! what an act leaves as it was -/
section
variable {N : jSh} {F F' : jFl} {A A' : jAr} {W L : sTb} {wA sA cA lA : Int → Int}
/-- all but lists' own cells, law rows, years: cells of these kinds, and what lies right behind, are as they were -/
def fK (N : jSh) (F : jFl) (A : jAr) (F' : jFl) (A' : jAr) : Prop := ∀ a : Nat, (jtg N a = 14 ∨ jtg N a = 15 ∨ jtg N a = 16) → (∀ f, F' f a = F f a) ∧ A' (a + 3) = A (a + 3) ∧ A' (a + 4) = A (a + 4)
theorem wds.fK (h : wds N F W wA) (k : fK N F A F' A') : wds N F' W wA := h.of (fun f b _ hb => (k b (Or.inl hb)).1 f)
theorem stIs.fK {s : Int} {b : Nat} (h : stIs N A W wA s b) (k : fK N F A F' A') : stIs N A' W wA s b := ⟨h.1, by rw [(k b (Or.inr (Or.inl h.1.1))).2.1]; exact h.2⟩
theorem chIs.fK {c : Int} {b : Nat} (h : chIs N F A W wA sA c b) (k : fK N F A F' A') : chIs N F' A' W wA sA c b := by
  have q := k b (Or.inr (Or.inr h.1.1))
  exact h.of (fun f _ => q.1 f) q.2.1 q.2.2
end
/-- an act on the list o -/
def kp (N : jSh) (F : jFl) (A : jAr) (o : Nat) (N' : jSh) (F' : jFl) (A' : jAr) : Prop := nex N N' ∧ (∀ a : Nat, a < jnx N → a ≠ o → ∀ f, F' f a = F f a) ∧ ∀ a : Nat, a < jnx N → a ≠ lar F o → A' a = A a
theorem lop.kp {S : Nat → Nat} {M : Int} {N : jSh} {F : jFl} {A : jAr} {o : Nat} {N' : jSh} {F' : jFl} {A' : jAr} (h : lop S M N F A o N' F' A') : kp N F A o N' F' A' := ⟨h.2.1, h.2.2.1, fun a ha q => h.2.2.2.2.1 a ha (Or.inl q)⟩
/-- o is a list -/
def isL (N : jSh) (F : jFl) (o : Nat) : Prop := jtg N o = 20 ∧ 0 ≤ F 6002 o ∧ jtg N (lar F o) = 104
theorem jli.isL {N : jSh} {F : jFl} {A : jAr} {l : Nat} {n : Int} {e : Int → Int} (h : jli N F A l n e) : isL N F l := by
  obtain ⟨y1, y2, y3, b, y4, y5, y6, -⟩ := h
  have eb : lar F l = b := by show (F 6002 l).toNat = b; rw [y4]; rfl
  exact ⟨y1.1, by rw [y4]; omega, by rw [eb]; exact y5⟩
section
variable {S : Nat → Nat} {M : Int} {N N' : jSh} {F F' : jFl} {A A' : jAr} {W L : sTb} {wA sA cA lA : Int → Int} {o : Nat}
theorem kp.f (k : kp N F A o N' F' A') (g : gi S M N F) (ho : isL N F o) {a t : Nat} (ht : jtg N a = t) (h0 : t ≠ 0) (h20 : t ≠ 20) (f : Nat) : F' f a = F f a := k.2.1 a (g.1 a (by rw [ht]; exact h0)) (fun w => by rw [w, ho.1] at ht; omega) f
theorem kp.a (k : kp N F A o N' F' A') (g : gi S M N F) (ho : isL N F o) {a t : Nat} (ht : jtg N a = t) (h0 : t ≠ 0) (h104 : t ≠ 104) : A' a = A a := k.2.2 a (g.1 a (by rw [ht]; exact h0)) (fun w => by rw [w, ho.2.2] at ht; omega)
theorem kp.jli (k : kp N F A o N' F' A') (g : gi S M N F) (ho : isL N F o) {l : Nat} {n : Int} {e : Int → Int} (hl : jli N F A l n e) (hne : l ≠ o) : jli N' F' A' l n e := by
  have hl0 := g.1 l (by rw [hl.1.1]; decide)
  have hlt := hl.1.1
  refine hl.moved g.1 k.1 (k.2.1 l hl0 hne _) (k.2.1 l hl0 hne _) (fun q => ?_)
  obtain ⟨-, -, y3, b, y4, y5, y6, -⟩ := hl
  have eb : lar F l = b := by show (F 6002 l).toNat = b; rw [y4]; rfl
  have ho2 := ho.2.1
  by_cases w : F 6002 l = F 6002 o
  · have := g.2.2.2.1 l o hlt ho.1 hne w (by rw [y4]; omega)
    rw [show (F 6002 l).toNat = b from eb] at this
    rw [eb] at q
    omega
  · refine k.2.2 _ (by rw [eb]; exact g.1 b (by rw [y5]; decide)) (fun w2 => ?_)
    rw [eb] at w2
    have w4 : (F 6002 o).toNat = b := w2.symm
    omega
theorem kp.wds (k : kp N F A o N' F' A') (g : gi S M N F) (ho : isL N F o) (h : wds N F W wA) : wds N' F' W wA := (h.of (fun f b _ hb => k.f g ho hb (by decide) (by decide) f)).ex g.1 k.1
theorem kp.st (k : kp N F A o N' F' A') (g : gi S M N F) (ho : isL N F o) {s : Int} {b : Nat} (h : stIs N A W wA s b) : stIs N' A' W wA s b := by
  have e : stIs N A' W wA s b := ⟨h.1, by rw [k.a g ho h.1.2.2.2.2.1 (by decide) (by decide)]; exact h.2⟩
  exact e.ex g.1 k.1
theorem kp.ch (k : kp N F A o N' F' A') (g : gi S M N F) (ho : isL N F o) {c : Int} {b : Nat} (h : chIs N F A W wA sA c b) : chIs N' F' A' W wA sA c b := (h.of (fun f _ => k.f g ho h.1.1 (by decide) (by decide) f) (k.a g ho h.1.2.2.2.2.1 (by decide) (by decide)) (k.a g ho h.1.2.2.2.2.2.2.2.2.1 (by decide) (by decide))).ex g.1 k.1
theorem kp.row (k : kp N F A o N' F' A') (g : gi S M N F) (ho : isL N F o) {r : Nat} {R : sRow} (h : rowIs N F A wA r R) : rowIs N' F' A' wA r R := h.ex g.1 k.1 (k.f g ho h.1.1 (by decide) (by decide) _) (k.f g ho h.1.1 (by decide) (by decide) _) (k.a g ho h.1.2.2.2.1 (by decide) (by decide))
theorem kp.lws (k : kp N F A o N' F' A') (g : gi S M N F) (ho : isL N F o) (h : lws N F A W L wA lA) : lws N' F' A' W L wA lA := fun l l0 l1 => by
  obtain ⟨b, e1, e2, e3, e4⟩ := h l l0 l1
  exact ⟨b, e1, e2.ex g.1 k.1, by rw [k.f g ho e2.1 (by decide) (by decide), e3], k.row g ho e4⟩
theorem kp.twn (k : kp N F A o N' F' A') (g : gi S M N F) (ho : isL N F o) {t : Nat} (h : twn N F A t W L wA sA cA lA) (hne : o < t + 1 ∨ t + 5 < o) : twn N' F' A' t W L wA sA cA lA := by
  obtain ⟨h1, h2, ⟨l1, l2, l3, l4, l5⟩, h4, h5, h6, h7⟩ := h
  have ef := fun f => k.f g ho h1.1 (by decide) (by decide) f
  obtain ⟨a1, a2, a3, a4, a5, a6, a7, a8⟩ := h1
  have en := fun f => k.1.fn g.1 a1 (by decide) f
  refine ⟨⟨k.1.tg g.1 a1 (by decide), by rw [en, a2], by rw [en, a3], by rw [en, a4], by rw [en, a5], by rw [en, a6], by rw [en, a7], by rw [en, a8]⟩, by rw [ef, ef, ef, ef]; exact h2, ⟨k.jli g ho l1 (by omega), k.jli g ho l2 (by omega), k.jli g ho l3 (by omega), k.jli g ho l4 (by omega), k.jli g ho l5 (by omega)⟩, k.wds g ho h4, fun s s0 s1 => ?_, fun c c0 c1 => ?_, k.lws g ho h7⟩
  · obtain ⟨b, e1, e2⟩ := h5 s s0 s1
    exact ⟨b, e1, k.st g ho e2⟩
  · obtain ⟨b, e1, e2⟩ := h6 c c0 c1
    exact ⟨b, e1, k.ch g ho e2⟩
theorem kp.ctx (k : kp N F A o N' F' A') (g : gi S M N F) (ho : isL N F o) {x t : Nat} (h : ctx N F A x t W L wA sA cA lA) (hne : o < t + 1 ∨ t + 5 < o) : ctx N' F' A' x t W L wA sA cA lA :=
  ⟨⟨k.1.tg g.1 h.1.1 (by decide), by rw [k.1.fn g.1 h.1.1 (by decide), h.1.2.1], by rw [k.f g ho h.1.1 (by decide) (by decide)]; exact h.1.2.2⟩, h.2.1, k.twn g ho h.2.2 hne⟩
theorem kp.bk (k : kp N F A o N' F' A') (g : gi S M N F) (ho : isL N F o) {l : Nat} {B : sBk} (h : bkIs N F A l B) (hne : l ≠ o) : bkIs N' F' A' l B := by
  obtain ⟨f, h1, h2⟩ := h
  refine ⟨f, k.jli g ho h1 hne, fun i k0 k1 => ?_⟩
  obtain ⟨b, b1, b2, b3, b4, b5, b6⟩ := h2 i k0 k1
  have ef := fun f => k.1.fn g.1 b2 (by decide) f
  exact ⟨b, b1, k.1.tg g.1 b2 (by decide), by rw [ef, b3], by rw [ef, b4], by rw [ef, b5], by rw [ef, b6]⟩
theorem kp.was (k : kp N F A o N' F' A') (g : gi S M N F) (ho : isL N F o) {x w : Nat} {B : sBk} (h : wasIs N F A x W wA lA w L B) (hne : w + 4 ≠ o) : wasIs N' F' A' x W wA lA w L B := by
  obtain ⟨h1, h2, h3, h4⟩ := h
  refine ⟨h1.ex g.1 k.1, h2, fun i hi => ?_, k.bk g ho h4 hne⟩
  obtain ⟨g1, g2, g3, g4⟩ := h3 i hi
  exact ⟨by rw [k.a g ho h1.2.1.2.1 (by decide) (by decide)]; exact g1, k.row g ho g2, by rw [k.a g ho h1.2.2.1.2.1 (by decide) (by decide)]; exact g3, by rw [k.a g ho h1.2.2.2.1.2.1 (by decide) (by decide)]; exact g4⟩
theorem kp.acs (k : kp N F A o N' F' A') (g : gi S M N F) (ho : isL N F o) {x : Nat} {U : sUn} (h : acs N F A x W wA lA U) (hne : x + 10 ≠ o) (hw : ∀ w : Nat, jtg N w = 18 → w + 4 ≠ o) : acs N' F' A' x W wA lA U := by
  obtain ⟨h1, f, h2, h3⟩ := h
  refine ⟨h1, f, k.jli g ho h2 hne, fun i i0 i1 => ?_⟩
  obtain ⟨w, w1, w2⟩ := h3 i i0 i1
  exact ⟨w, w1, k.was g ho w2 (hw w w2.1.1.2.1)⟩
/-! a law's row is written -/
theorem ctx_row {x t b : Nat} {l : Int} {R : sRow} (h : ctx N F A x t W L wA sA cA lA) (hl : 0 ≤ l ∧ l < W 3 0 0) (hb : lA l = (b : Int)) (hf : fr (b + 3) (b + 5) F A F' A') (hR : rowIs N F' A' wA (b + 3) R) (hk : sRok (W 0 0 0) R) (h1 : sRo1 R) : ctx N F' A' x t W (sLset L l R) wA sA cA lA := by
  obtain ⟨b2, e1, e2, e3, e4⟩ := h.lw hl
  have eb : b2 = b := by omega
  subst eb
  have tb := e2.1
  have t1 := e2.2.2.2.2.1
  have t2 := e2.2.2.2.2.2.2.2.1
  have nf : ∀ a t : Nat, jtg N a = t → t ≠ 4 → t ≠ 107 → (∀ f, F' f a = F f a) ∧ A' a = A a := fun a t ht h4 h107 => hf a (by
    by_cases w : a = b2 + 3
    · rw [w, t1] at ht; omega
    · by_cases w2 : a = b2 + 3 + 1
      · rw [w2, t2] at ht; omega
      · omega)
  have hj : ∀ {l : Nat} {n : Int} {e : Int → Int}, jli N F A l n e → jli N F' A' l n e := fun {l n e} q => by
    obtain ⟨q1, q2, q3, c, q4, q5, q6, q7⟩ := q
    exact ⟨q1, by rw [(nf l 20 q1.1 (by decide) (by decide)).1, q2], q3, c, by rw [(nf l 20 q1.1 (by decide) (by decide)).1, q4], q5, q6, by rw [(nf c 104 q5 (by decide) (by decide)).2]; exact q7⟩
  obtain ⟨⟨x1, x2, x3⟩, ⟨hW, hL⟩, h1', h2', ⟨l1, l2, l3, l4, l5⟩, h4, h5, h6, h7⟩ := h
  refine ⟨⟨x1, x2, by rw [(nf x 1 x1 (by decide) (by decide)).1]; exact x3⟩, ⟨hW, (sBecome_ok (c := 0) (kind := 0) (p := (L, (0, fun _ _ => 0))) hL hl hk h1 (by dsimp only; omega)).1 |> fun q => ?_⟩, h1', ?_, ⟨hj l1, hj l2, hj l3, hj l4, ?_⟩, h4.of (fun f a _ ha => (nf a 14 ha (by decide) (by decide)).1 f), fun s s0 s1 => ?_, fun c c0 c1 => ?_, fun m m0 m1 => ?_⟩
  · obtain ⟨k1, k2, k3, k4, k5⟩ := hL
    refine ⟨by rw [sLset_k (by decide) (by decide) (by decide)]; exact k1, fun a a0 a1 => by rw [sLset_k (by decide) (by decide) (by decide)]; exact k2 a a0 a1, fun a b a0 a1 b0 b1 => by rw [sLset_k (by decide) (by decide) (by decide), sLset_k (by decide) (by decide) (by decide), sLset_k (by decide) (by decide) (by decide)]; exact k3 a b a0 a1 b0 b1, fun m m0 m1 => ?_, fun m k m0 m1 kk0 kk1 => ?_⟩
    · have g := k4 m m0 m1
      simp only [sLset]
      by_cases w : m = l
      · simp [w]
        rw [w] at g
        exact ⟨hk.1, hk.2.1, h1, g.2.2.2⟩
      · simp [w]; exact g
    · simp only [sLset] at kk1 ⊢
      by_cases w : m = l
      · simp [w] at kk1 ⊢
        exact hk.2.2 k kk0 kk1
      · simp [w] at kk1 ⊢
        exact k5 m k m0 m1 kk0 kk1
  · have q := (nf t 2 h1'.1 (by decide) (by decide)).1
    rw [q, q, q, q, sLset_k (by decide) (by decide) (by decide)]
    exact h2'
  · have e : (fun p => lA (sLset L l R 1 p 0)) = fun p => lA (L 1 p 0) := by funext p; rw [sLset_k (by decide) (by decide) (by decide)]
    rw [e]
    exact hj l5
  · obtain ⟨c, c1, c2⟩ := h5 s s0 s1
    refine ⟨c, c1, c2.1, ?_⟩
    rw [(hf (c + 3) (by
      by_cases w : c + 3 = b2 + 3
      · have := c2.1.1; rw [show c = b2 by omega, tb] at this; omega
      · by_cases w2 : c = b2 + 1
        · have := c2.1.2.2.2.2.2.2.2; rw [w2, show b2 + 1 + 2 = b2 + 3 by omega, t1] at this; omega
        · omega)).2]
    exact c2.2
  · obtain ⟨d, d1, d2⟩ := h6 c c0 c1
    have n0 : d ≠ b2 := fun w => by have := d2.1.1; rw [w, tb] at this; omega
    have n1 : d ≠ b2 + 3 := fun w => by have := d2.1.1; rw [w, t1] at this; omega
    have n2 : d + 3 ≠ b2 + 3 := by omega
    have n3 : d + 3 ≠ b2 + 4 := fun w => by have := d2.1.2.2.2.2.1; rw [w, show b2 + 4 = b2 + 3 + 1 by omega, t2] at this; omega
    have n4 : d + 4 ≠ b2 + 3 := fun w => by have := d2.1.2.2.2.2.2.2.2.2.1; rw [w, t1] at this; omega
    have n5 : d + 4 ≠ b2 + 4 := by omega
    have n6 : d ≠ b2 + 4 := fun w => by have := d2.1.1; rw [w, t2] at this; omega
    exact ⟨d, d1, d2.of (fun f _ => (hf d (by omega)).1 f) (hf (d + 3) (by omega)).2 (hf (d + 4) (by omega)).2⟩
  · obtain ⟨d, d1, d2, d3, d4⟩ := h7 m m0 m1
    have n1 : d ≠ b2 + 3 := fun w => by have := d2.1; rw [w, t1] at this; omega
    have n6 : d ≠ b2 + 4 := fun w => by have := d2.1; rw [w, t2] at this; omega
    by_cases w : m = l
    · have hd : d = b2 := by rw [w] at d1; omega
      subst hd
      refine ⟨d, d1, d2, ?_, ?_⟩
      · rw [(hf d (by omega)).1, d3, sLset_k (by decide) (by decide) (by decide)]
      · have eR : sRw (sLset L l R) m = R := by
          unfold sRw sLset
          rw [w]
          simp
        rw [eR]; exact hR
    · have n0 : d ≠ b2 := fun w2 => w (by
        have q1 := d2.2.2.1
        have q2 := e2.2.2.1
        rw [w2] at q1; omega)
      have n7 : d + 3 ≠ b2 + 4 := fun w2 => by have := d2.2.2.2.2.1; rw [w2, t2] at this; omega
      have n8 : d + 4 ≠ b2 + 3 := fun w2 => by have := d2.2.2.2.2.2.2.2.1; rw [show d + 3 + 1 = b2 + 3 by omega, t1] at this; omega
      have eR : sRw (sLset L l R) m = sRw L m := by
        unfold sRw sLset
        simp [w]
      refine ⟨d, d1, d2, ?_, ?_⟩
      · rw [(hf d (by omega)).1, d3, sLset_k (by decide) (by decide) (by decide)]
      · rw [eR]; exact d4.fr hf (by omega) (by omega)
theorem bkIs.row {b l : Nat} {B : sBk} (h : bkIs N F A l B) (t1 : jtg N (b + 3) = 4) (t2 : jtg N (b + 3 + 1) = 107) (hf : fr (b + 3) (b + 5) F A F' A') : bkIs N F' A' l B := by
  obtain ⟨e, ⟨q1, q2, q3, c, q4, q5, q6, q7⟩, h2⟩ := h
  have nf : ∀ a t : Nat, jtg N a = t → t ≠ 4 → t ≠ 107 → (∀ f, F' f a = F f a) ∧ A' a = A a := fun a t ht h4 h107 => hf a (by
    by_cases w : a = b + 3
    · rw [w, t1] at ht; omega
    · by_cases w2 : a = b + 3 + 1
      · rw [w2, t2] at ht; omega
      · omega)
  exact ⟨e, ⟨q1, by rw [(nf l 20 q1.1 (by decide) (by decide)).1, q2], q3, c, by rw [(nf l 20 q1.1 (by decide) (by decide)).1, q4], q5, q6, by rw [(nf c 104 q5 (by decide) (by decide)).2]; exact q7⟩, h2⟩
theorem wasIs.row {x w b : Nat} {B : sBk} (h : wasIs N F A x W wA lA w L B) (tb : jtg N b = 17) (t1 : jtg N (b + 3) = 4) (t2 : jtg N (b + 3 + 1) = 107) (hf : fr (b + 3) (b + 5) F A F' A') : wasIs N F' A' x W wA lA w L B := by
  obtain ⟨h1, h2, h3, h4⟩ := h
  have nf : ∀ a t : Nat, jtg N a = t → t ≠ 4 → t ≠ 107 → (∀ f, F' f a = F f a) ∧ A' a = A a := fun a t ht h4 h107 => hf a (by
    by_cases w : a = b + 3
    · rw [w, t1] at ht; omega
    · by_cases w2 : a = b + 3 + 1
      · rw [w2, t2] at ht; omega
      · omega)
  have t20 : jtg N (w + 4) = 20 := by obtain ⟨e, q, -⟩ := h4; exact q.1.1
  refine ⟨h1, h2, fun k hk => ?_, h4.row t1 t2 hf⟩
  obtain ⟨g1, g2, g3, g4⟩ := h3 k hk
  have nb1 : w + 2 + 2 * k ≠ b := fun q => by
    by_cases k0 : k = 0
    · have := h1.2.2.1.2.1
      rw [show w + 2 = b by omega, tb] at this; omega
    · by_cases k1 : k = 1
      · rw [show w + 4 = b by omega, tb] at t20; omega
      · obtain ⟨-, g5, -⟩ := h3 (k - 2) (by omega)
        have := g5.1.2.2.2.1
        rw [show w + 5 + 2 * (k - 2) + 1 = b by omega, tb] at this; omega
  have n1 : w + 5 + 2 * k ≠ b + 3 := by omega
  have n2 : w + 5 + 2 * k ≠ b + 4 := fun q => by have := g2.1.1; rw [q, t2] at this; omega
  have n3 : w + 5 + 2 * k + 1 ≠ b + 3 := fun q => by have := g2.1.2.2.2.1; rw [q, t1] at this; omega
  exact ⟨by rw [(nf _ 116 h1.2.1.2.1 (by decide) (by decide)).2]; exact g1, g2.fr hf (by omega) (by omega), by rw [(nf _ 113 h1.2.2.1.2.1 (by decide) (by decide)).2]; exact g3, by rw [(nf _ 105 h1.2.2.2.1.2.1 (by decide) (by decide)).2]; exact g4⟩
theorem acs.row {x b : Nat} {U : sUn} (h : acs N F A x W wA lA U) (tb : jtg N b = 17) (t1 : jtg N (b + 3) = 4) (t2 : jtg N (b + 3 + 1) = 107) (hf : fr (b + 3) (b + 5) F A F' A') : acs N F' A' x W wA lA U := by
  obtain ⟨h1, f, ⟨q1, q2, q3, c, q4, q5, q6, q7⟩, h3⟩ := h
  have nf : ∀ a t : Nat, jtg N a = t → t ≠ 4 → t ≠ 107 → (∀ f, F' f a = F f a) ∧ A' a = A a := fun a t ht h4 h107 => hf a (by
    by_cases w : a = b + 3
    · rw [w, t1] at ht; omega
    · by_cases w2 : a = b + 3 + 1
      · rw [w2, t2] at ht; omega
      · omega)
  refine ⟨h1, f, ⟨q1, by rw [(nf _ 20 q1.1 (by decide) (by decide)).1, q2], q3, c, by rw [(nf _ 20 q1.1 (by decide) (by decide)).1, q4], q5, q6, by rw [(nf c 104 q5 (by decide) (by decide)).2]; exact q7⟩, fun i i0 i1 => ?_⟩
  obtain ⟨w, w1, w2⟩ := h3 i i0 i1
  exact ⟨w, w1, w2.row tb t1 t2 hf⟩
/-! scratch is written -/
theorem bkIs.fr {lo hi l : Nat} {B : sBk} (h : bkIs N F A l B) (hs : scr N lo hi) (hf : fr lo hi F A F' A') : bkIs N F' A' l B := by
  obtain ⟨e, h1, h2⟩ := h
  exact ⟨e, h1.fr hs hf, h2⟩
theorem wasIs.fr {lo hi x w : Nat} {B : sBk} (h : wasIs N F A x W wA lA w L B) (hs : scr N lo hi) (hhi : hi ≤ x + 141) (hf : fr lo hi F A F' A') : wasIs N F' A' x W wA lA w L B := by
  obtain ⟨h1, h2, h3, h4⟩ := h
  have hw := h1.1.1
  refine ⟨h1, h2, fun k hk => ?_, h4.fr hs hf⟩
  obtain ⟨g1, g2, g3, g4⟩ := h3 k hk
  exact ⟨by rw [(hf _ (by omega)).2]; exact g1, g2.fr hf (by omega) (by omega), by rw [(hf _ (by omega)).2]; exact g3, by rw [(hf _ (by omega)).2]; exact g4⟩
theorem acs.fr {lo hi x : Nat} {U : sUn} (h : acs N F A x W wA lA U) (hs : scr N lo hi) (hhi : hi ≤ x + 141) (hf : fr lo hi F A F' A') : acs N F' A' x W wA lA U := by
  obtain ⟨h1, f, h2, h3⟩ := h
  refine ⟨h1, f, h2.fr hs hf, fun i i0 i1 => ?_⟩
  obtain ⟨w, w1, w2⟩ := h3 i i0 i1
  exact ⟨w, w1, w2.fr hs hhi hf⟩
end
