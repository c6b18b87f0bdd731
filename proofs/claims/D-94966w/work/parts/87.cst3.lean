set_option maxRecDepth 100000
set_option linter.unusedVariables false
/-! single writes into a layer -/
def sYr (L : sTb) (y : Int) : sTb := fun k i j => if k = 0 then y else L k i j
def sOset (L : sTb) (p v : Int) : sTb := fun k i j => if k = 1 ∧ i = p then v else L k i j
def sSset (L : sTb) (l z : Int) : sTb := fun k i j => if k = 4 ∧ i = l then z else L k i j
/-- the order is being written -/
def sFl (L : sTb) (z : Int) : sTb := fun k i j => if k = 9 then z else L k i j
/-- alike where it counts -/
def sLeq (nl : Int) (L L' : sTb) : Prop := L 0 0 0 = L' 0 0 0 ∧ (∀ p : Int, 0 ≤ p → p < nl → L 1 p 0 = L' 1 p 0) ∧ ∀ l : Int, 0 ≤ l → l < nl → L 2 l 0 = L' 2 l 0 ∧ L 3 l 0 = L' 3 l 0 ∧ L 4 l 0 = L' 4 l 0 ∧ ∀ k : Int, 0 ≤ k → k < L 2 l 0 + L 3 l 0 → L 5 l k = L' 5 l k
theorem jli.ext {N : jSh} {F : jFl} {A : jAr} {l : Nat} {n : Int} {e e' : Int → Int} (h : jli N F A l n e) (he : ∀ k : Int, 0 ≤ k → k < n → e k = e' k) : jli N F A l n e' := by
  obtain ⟨q1, q2, q3, b, q4, q5, q6, q7, q8, q9⟩ := h
  exact ⟨q1, q2, q3, b, q4, q5, q6, fun k k0 k1 => by rw [q7 k k0 k1, he k k0 k1], q8, fun k k0 k1 => by rw [← he k k0 k1]; exact q9 k k0 k1⟩
section
variable {S : Nat → Nat} {M M' : Int} {N : jSh} {F F' : jFl} {A A' : jAr} {x t : Nat} {W L L' : sTb} {B : sBk} {U : sUn} {wA sA cA lA : Int → Int}
theorem cst.leq (h : cst S M N F A x t W L B U wA sA cA lA) (hk : sLok W L') (e : sLeq (W 3 0 0) L L') : cst S M N F A x t W L' B U wA sA cA lA := by
  obtain ⟨a, ⟨a1, ⟨a2, a3⟩, t1, t2, ⟨l1, l2, l3, l4, l5⟩, h4, h5, h6, h7⟩, b, c⟩ := h
  obtain ⟨e0, e1, e2⟩ := e
  refine ⟨a, ⟨a1, ⟨a2, hk⟩, t1, ⟨t2.1, t2.2.1, t2.2.2.1, by rw [t2.2.2.2, e0]⟩, ⟨l1, l2, l3, l4, l5.ext (fun k k0 k1 => by rw [e1 k k0 k1])⟩, h4, h5, h6, fun l l0 l1 => ?_⟩, b, c⟩
  obtain ⟨d, d1, d2, d3, d4, d5, d6, d7⟩ := h7 l l0 l1
  obtain ⟨g1, g2, g3, g4⟩ := e2 l l0 l1
  exact ⟨d, d1, d2, by rw [d3, g3], d4, by rw [d5]; exact g1, by rw [d6]; exact g2, fun k k0 k1 => by
    have k2 : k < L 2 l 0 + L 3 l 0 := by rw [g1, g2]; exact k1
    rw [d7 k k0 k2]
    show wA (L 5 l k) = wA (L' 5 l k)
    rw [g4 k k0 k2]⟩
theorem sLeq.of9 {nl z : Int} : sLeq nl L (sFl L z) := ⟨rfl, fun _ _ _ => rfl, fun _ _ _ => ⟨rfl, rfl, rfl, fun _ _ _ => rfl⟩⟩
theorem cst.flag (h : cst S M N F A x t W L B U wA sA cA lA) : cst S M N F A x t W (sFl L 1) B U wA sA cA lA := by
  refine h.leq ?_ sLeq.of9
  obtain ⟨k1, k2, k3, k4, k5⟩ := h.2.1.oL
  exact ⟨k1, k2, fun p q _ _ _ _ h9 => absurd h9 (by show ¬ (1 : Int) = 0; decide), k4, k5⟩
theorem cst.yr {y : Int} (h : cst S M N F A x t W L B U wA sA cA lA) (hy : 0 ≤ y ∧ y ≤ 9999) : cst S M N (upF F 612 t y) A x t W (sYr L y) B U wA sA cA lA := by
  have f0 : ∀ a : Nat, jtg N a ≠ 2 → ∀ f, upF F 612 t y f a = F f a := fun a ha f => upF_a (fun w => ha (by rw [w]; exact h.2.1.tt))
  have hj : ∀ {l : Nat} {n : Int} {e : Int → Int}, jli N F A l n e → jli N (upF F 612 t y) A l n e := fun {l n e} q => by
    obtain ⟨q1, q2, q3, c, q4, q5⟩ := q
    exact ⟨q1, by rw [f0 l (by rw [q1.1]; decide), q2], q3, c, by rw [f0 l (by rw [q1.1]; decide), q4], q5⟩
  have hb : ∀ {l : Nat} {B : sBk}, bkIs N F A l B → bkIs N (upF F 612 t y) A l B := fun {l B} q => by
    obtain ⟨e, q1, q2⟩ := q
    exact ⟨e, hj q1, q2⟩
  have hr : ∀ {r : Nat} {R : sRow}, rowIs N F A wA r R → rowIs N (upF F 612 t y) A wA r R := fun {r R} q => q.of (f0 _ (by rw [q.1.1]; decide) _) (f0 _ (by rw [q.1.1]; decide) _) rfl
  obtain ⟨⟨g, ly, sa⟩, ⟨⟨x1, x2, x3⟩, ⟨hW, ⟨k1, k2, k3, k4, k5⟩⟩, t1, t2, ⟨l1, l2, l3, l4, l5⟩, h4, h5, h6, h7⟩, hbk, ha1, e, ha2, ha3⟩ := h
  refine ⟨⟨g.of (fun l hl => ⟨f0 l (by rw [hl]; decide) _, f0 l (by rw [hl]; decide) _⟩), ly, sa⟩, ⟨⟨x1, x2, by rw [f0 x (by rw [x1]; decide)]; exact x3⟩, ⟨hW, ⟨hy, k2, k3, k4, k5⟩⟩, t1, ⟨by rw [upF_f (by decide)]; exact t2.1, by rw [upF_f (by decide)]; exact t2.2.1, by rw [upF_f (by decide)]; exact t2.2.2.1, upF_s⟩, ⟨hj l1, hj l2, hj l3, hj l4, hj l5⟩, h4.of (fun f a _ ha => f0 a (by rw [ha]; decide) f), h5, fun c c0 c1 => ?_, fun m m0 m1 => ?_⟩, hb hbk, ha1, e, hj ha2, fun i i0 i1 => ?_⟩
  · obtain ⟨d, d1, d2⟩ := h6 c c0 c1
    exact ⟨d, d1, d2.of (fun f _ => f0 d (by rw [d2.1.1]; decide) f) rfl rfl⟩
  · obtain ⟨d, d1, d2, d3, d4⟩ := h7 m m0 m1
    exact ⟨d, d1, d2, by rw [f0 d (by rw [d2.1]; decide)]; exact d3, hr d4⟩
  · obtain ⟨w, w1, w2, w3, w4, w5⟩ := ha3 i i0 i1
    refine ⟨w, w1, w2, w3, fun k hk => ?_, hb w5⟩
    obtain ⟨g1, g2, g3⟩ := w4 k hk
    exact ⟨g1, hr g2, g3⟩
theorem cst.sng {l z : Int} {b : Nat} (h : cst S M N F A x t W L B U wA sA cA lA) (hl : 0 ≤ l ∧ l < W 3 0 0) (hb : lA l = (b : Int)) (hz : z = 0 ∨ z = 1) : cst S M N (upF F 5103 b z) A x t W (sSset L l z) B U wA sA cA lA := by
  obtain ⟨b2, e1, e2, e3, e4⟩ := h.2.1.lw hl
  have eb : b2 = b := by omega
  subst eb
  have f0 : ∀ a : Nat, jtg N a ≠ 17 → ∀ f, upF F 5103 b2 z f a = F f a := fun a ha f => upF_a (fun w => ha (by rw [w]; exact e2.1))
  have hj : ∀ {l : Nat} {n : Int} {e : Int → Int}, jli N F A l n e → jli N (upF F 5103 b2 z) A l n e := fun {l n e} q => by
    obtain ⟨q1, q2, q3, c, q4, q5⟩ := q
    exact ⟨q1, by rw [f0 l (by rw [q1.1]; decide), q2], q3, c, by rw [f0 l (by rw [q1.1]; decide), q4], q5⟩
  have hbk' : ∀ {l : Nat} {B : sBk}, bkIs N F A l B → bkIs N (upF F 5103 b2 z) A l B := fun {l B} q => by
    obtain ⟨e, q1, q2⟩ := q
    exact ⟨e, hj q1, q2⟩
  have hr : ∀ {r : Nat} {R : sRow}, rowIs N F A wA r R → rowIs N (upF F 5103 b2 z) A wA r R := fun {r R} q => q.of (f0 _ (by rw [q.1.1]; decide) _) (f0 _ (by rw [q.1.1]; decide) _) rfl
  obtain ⟨⟨g, ly, sa⟩, ⟨⟨x1, x2, x3⟩, ⟨hW, ⟨k1, k2, k3, k4, k5⟩⟩, t1, t2, ⟨l1, l2, l3, l4, l5⟩, h4, h5, h6, h7⟩, hbk, ha1, e, ha2, ha3⟩ := h
  have ft : ∀ g, upF F 5103 b2 z g t = F g t := f0 t (by rw [t1.1]; decide)
  refine ⟨⟨g.of (fun l hl => ⟨f0 l (by rw [hl]; decide) _, f0 l (by rw [hl]; decide) _⟩), ly, sa⟩, ⟨⟨x1, x2, by rw [f0 x (by rw [x1]; decide)]; exact x3⟩, ⟨hW, ⟨k1, k2, k3, fun m m0 m1 => ?_, k5⟩⟩, t1, by rw [ft, ft, ft, ft]; exact t2, ⟨hj l1, hj l2, hj l3, hj l4, hj l5⟩, h4.of (fun f a _ ha => f0 a (by rw [ha]; decide) f), h5, fun c c0 c1 => ?_, fun m m0 m1 => ?_⟩, hbk' hbk, ha1, e, hj ha2, fun i i0 i1 => ?_⟩
  · have q := k4 m m0 m1
    refine ⟨q.1, q.2.1, q.2.2.1, ?_⟩
    show (if (4 : Nat) = 4 ∧ m = l then z else L 4 m 0) = 0 ∨ (if (4 : Nat) = 4 ∧ m = l then z else L 4 m 0) = 1
    split
    · exact hz
    · exact q.2.2.2
  · obtain ⟨d, d1, d2⟩ := h6 c c0 c1
    exact ⟨d, d1, d2.of (fun f _ => f0 d (by rw [d2.1.1]; decide) f) rfl rfl⟩
  · obtain ⟨d, d1, d2, d3, d4⟩ := h7 m m0 m1
    refine ⟨d, d1, d2, ?_, hr d4⟩
    show upF F 5103 b2 z 5103 d = (if (4 : Nat) = 4 ∧ m = l then z else L 4 m 0)
    by_cases w : m = l
    · rw [if_pos ⟨rfl, w⟩]
      have : d = b2 := by rw [w] at d1; omega
      rw [this, upF_s]
    · rw [if_neg (fun q => w q.2), upF_a (fun w2 => w (by
        have q1 := d2.2.2.1
        have q2 := e2.2.2.1
        rw [w2] at q1; omega))]
      exact d3
  · obtain ⟨w, w1, w2, w3, w4, w5⟩ := ha3 i i0 i1
    refine ⟨w, w1, w2, w3, fun k hk => ?_, hbk' w5⟩
    obtain ⟨g1, g2, g3⟩ := w4 k hk
    exact ⟨g1, hr g2, g3⟩
/-- a place of the order is written -/
theorem cst.ord {p v : Int} (h : cst S M N F A x t W L B U wA sA cA lA) (h9 : L 9 0 0 ≠ 0) (hp : 0 ≤ p ∧ p < W 3 0 0) (hv : 0 ≤ v ∧ v < W 3 0 0) (hl : jli N F' A' (t + 5) (W 3 0 0) (upI (fun p => lA (L 1 p 0)) p (lA v))) (hF : F' = F) (hA : ∀ a, a ≠ lar F (t + 5) → A' a = A a) (hc : lcp N F (t + 5) ≠ 0) : cst S M N F' A' x t W (sOset L p v) B U wA sA cA lA := by
  subst hF
  have g := h.1.1
  have il := h.2.1.lO.isL
  have hk : kp N F' A (t + 5) N F' A' := ⟨nex.refl _, fun _ _ _ _ => rfl, fun a _ q => hA a q⟩
  have tt := h.2.1.tt
  have na : ∀ i : Nat, i < 141 → tagT.getD i 0 ≠ 104 → A' (x + i) = A (x + i) := fun i hi ht => hA (x + i) (fun w => by
    have e := (h.1.2.1.1 i hi).1
    rw [w, il.2.2] at e
    exact ht e.symm)
  have t10 : x + 10 ≠ t + 5 := fun w => by have := h.t5; omega
  have hw : ∀ w : Nat, jtg N w = 18 → w + 4 ≠ t + 5 := fun w hw e => by
    have q := h.2.1.lW.1.1
    rw [show t + 1 = w by omega, hw] at q
    omega
  have hacs := hk.acs g il h.2.2.2 t10 hw
  have hbk := hk.bk g il h.2.2.1 (by omega)
  obtain ⟨⟨g, ly, sa⟩, ⟨⟨x1, x2, x3⟩, ⟨hW, ⟨k1, k2, k3, k4, k5⟩⟩, t1, t2, ⟨l1, l2, l3, l4, l5⟩, h4, h5, h6, h7⟩, -, -⟩ := h
  refine ⟨⟨g, ly, ?_⟩, ⟨⟨x1, x2, x3⟩, ⟨hW, ⟨k1, fun q q0 q1 => ?_, fun q r _ _ _ _ h0 => absurd h0 h9, k4, k5⟩⟩, t1, t2, ⟨hk.jli g il l1 (by omega), hk.jli g il l2 (by omega), hk.jli g il l3 (by omega), hk.jli g il l4 (by omega), ?_⟩, hk.wds g il h4, fun s s0 s1 => ?_, fun c c0 c1 => ?_, hk.lws g il h7⟩, hbk, hacs⟩
  · unfold sarr
    rw [na 15 (by decide) (by decide), na 99 (by decide) (by decide), na 54 (by decide) (by decide)]
    exact sa
  · show 0 ≤ (if (1 : Nat) = 1 ∧ q = p then v else L 1 q 0) ∧ (if (1 : Nat) = 1 ∧ q = p then v else L 1 q 0) < _
    split
    · exact hv
    · exact k2 q q0 q1
  · refine hl.ext (fun q q0 q1 => ?_)
    show upI (fun p => lA (L 1 p 0)) p (lA v) q = lA (if (1 : Nat) = 1 ∧ q = p then v else L 1 q 0)
    by_cases w : q = p
    · rw [if_pos ⟨rfl, w⟩, w, upI_s]
    · rw [if_neg (fun w2 => w w2.2), upI_n w]
  · obtain ⟨b, e1, e2⟩ := h5 s s0 s1
    exact ⟨b, e1, hk.st g il e2⟩
  · obtain ⟨b, e1, e2⟩ := h6 c c0 c1
    exact ⟨b, e1, hk.ch g il e2⟩
end
