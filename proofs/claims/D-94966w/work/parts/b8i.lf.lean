set_option maxRecDepth 100000
set_option linter.unusedVariables false
/-! component and model side by side: what each leaves of the other; printed by gen/lawf.py -/
set_option maxHeartbeats 8000000 in
theorem cst.alA {S : Nat → Nat} {M : Int} {N : jSh} {F : jFl} {A A' : jAr} {x t : Nat} {W L : sTb} {B : sBk} {U : sUn} {wA sA cA lA : Int → Int} (h : cst S M N F A x t W L B U wA sA cA lA) (hA : ∀ b : Nat, jtg N b ≠ 103 → jtg N b ≠ 102 → A' b = A b) : cst S M N F A' x t W L B U wA sA cA lA := by
  have ht : ∀ (b k : Nat), jtg N b = k → k ≠ 103 ∧ k ≠ 102 → A' b = A b := fun b k hb hk => hA b (by rw [hb]; exact hk.1) (by rw [hb]; exact hk.2)
  have hj : ∀ {l : Nat} {n : Int} {e : Int → Int}, jli N F A l n e → jli N F A' l n e := fun {l n e} q => by
    obtain ⟨q1, q2, q3, c, q4, q5, q6⟩ := q
    exact ⟨q1, q2, q3, c, q4, q5, by rw [ht c 104 q5 (by decide)]; exact q6⟩
  have hb : ∀ {l : Nat} {B : sBk}, bkIs N F A l B → bkIs N F A' l B := fun {l B} q => by
    obtain ⟨e, q1, q2⟩ := q
    exact ⟨e, hj q1, q2⟩
  have hr : ∀ {r : Nat} {R : sRow}, rowIs N F A wA r R → rowIs N F A' wA r R := fun {r R} q => q.of rfl rfl (ht _ 107 q.1.2.2.2.1 (by decide))
  obtain ⟨⟨g, ly, sa⟩, ⟨⟨x1, x2, x3⟩, ⟨hW, hL⟩, t1, t2, ⟨l1, l2, l3, l4, l5⟩, h4, h5, h6, h7⟩, hbk, ha1, e, ha2, ha3⟩ := h
  refine ⟨⟨g, ly, sarr_of sa (ht _ 110 (ly.1 15 (by decide)).1 (by decide)) (ht _ 110 (ly.1 99 (by decide)).1 (by decide)) (ht _ 110 (ly.1 54 (by decide)).1 (by decide))⟩, ⟨⟨x1, x2, x3⟩, ⟨hW, hL⟩, t1, t2, ⟨hj l1, hj l2, hj l3, hj l4, hj l5⟩, h4, fun s s0 s1 => ?_, fun c c0 c1 => ?_, fun m m0 m1 => ?_⟩, hb hbk, ha1, e, hj ha2, fun i i0 i1 => ?_⟩
  · obtain ⟨d, d1, d2⟩ := h5 s s0 s1
    exact ⟨d, d1, d2.1, by rw [ht _ 107 d2.1.2.2.2.2.1 (by decide)]; exact d2.2⟩
  · obtain ⟨d, d1, d2⟩ := h6 c c0 c1
    exact ⟨d, d1, d2.of (fun f _ => rfl) (ht _ 105 d2.1.2.2.2.2.1 (by decide)) (ht _ 107 d2.1.2.2.2.2.2.2.2.2.1 (by decide))⟩
  · obtain ⟨d, d1, d2, d3, d4⟩ := h7 m m0 m1
    exact ⟨d, d1, d2, d3, hr d4⟩
  · obtain ⟨w, w1, w2, w3, w4, w5⟩ := ha3 i i0 i1
    refine ⟨w, w1, w2, w3, fun k hk => ?_, hb w5⟩
    obtain ⟨y1, y2, y3, y4⟩ := w4 k hk
    exact ⟨by rw [ht _ 116 w2.2.1.2.1 (by decide)]; exact y1, hr y2, by rw [ht _ 113 w2.2.2.1.2.1 (by decide)]; exact y3, by rw [ht _ 105 w2.2.2.2.1.2.1 (by decide)]; exact y4⟩
set_option maxHeartbeats 8000000 in
theorem cst.alF {S : Nat → Nat} {M : Int} {N : jSh} {F F' : jFl} {A : jAr} {x t : Nat} {W L : sTb} {B : sBk} {U : sUn} {wA sA cA lA : Int → Int} (h : cst S M N F A x t W L B U wA sA cA lA) (q0 : ∀ b : Nat, jtg N b ≠ 10 → ∀ f, F' f b = F f b) : cst S M N F' A x t W L B U wA sA cA lA := by
  have tx := h.2.1.tx
  have f0 : ∀ a : Nat, jtg N a ≠ 10 → ∀ f, F' f a = F f a := q0
  have hj : ∀ {l : Nat} {n : Int} {e : Int → Int}, jli N F A l n e → jli N F' A l n e := fun {l n e} q => by
    obtain ⟨q1, q2, q3, c, q4, q5⟩ := q
    exact ⟨q1, by rw [f0 l (by rw [q1.1]; decide), q2], q3, c, by rw [f0 l (by rw [q1.1]; decide), q4], q5⟩
  have hb : ∀ {l : Nat} {B : sBk}, bkIs N F A l B → bkIs N F' A l B := fun {l B} q => by
    obtain ⟨e, q1, q2⟩ := q
    exact ⟨e, hj q1, q2⟩
  have hr : ∀ {r : Nat} {R : sRow}, rowIs N F A wA r R → rowIs N F' A wA r R := fun {r R} q => q.of (f0 _ (by rw [q.1.1]; decide) _) (f0 _ (by rw [q.1.1]; decide) _) rfl
  obtain ⟨⟨g, ly, sa⟩, ⟨⟨x1, x2, x3⟩, ⟨hW, hL⟩, t1, t2, ⟨l1, l2, l3, l4, l5⟩, h4, h5, h6, h7⟩, hbk, ha1, e, ha2, ha3⟩ := h
  have ft : ∀ g, F' g t = F g t := f0 t (by rw [t1.1]; decide)
  refine ⟨⟨g.of (fun l hl => ⟨f0 l (by rw [hl]; decide) _, f0 l (by rw [hl]; decide) _⟩), ly, sa⟩, ⟨⟨x1, x2, by rw [f0 x (by rw [tx]; decide)]; exact x3⟩, ⟨hW, hL⟩, t1, by rw [ft, ft, ft, ft]; exact t2, ⟨hj l1, hj l2, hj l3, hj l4, hj l5⟩, h4.of (fun f a _ ha => f0 a (by rw [ha]; decide) f), h5, fun c c0 c1 => ?_, fun m m0 m1 => ?_⟩, hb hbk, ha1, e, hj ha2, fun i i0 i1 => ?_⟩
  · obtain ⟨d, d1, d2⟩ := h6 c c0 c1
    exact ⟨d, d1, d2.of (fun f _ => f0 d (by rw [d2.1.1]; decide) f) rfl rfl⟩
  · obtain ⟨d, d1, d2, d3, d4⟩ := h7 m m0 m1
    exact ⟨d, d1, d2, by rw [f0 d (by rw [d2.1]; decide)]; exact d3, hr d4⟩
  · obtain ⟨w, w1, w2, w3, w4, w5⟩ := ha3 i i0 i1
    refine ⟨w, w1, w2, w3, fun k hk => ?_, hb w5⟩
    obtain ⟨g1, g2, g3⟩ := w4 k hk
    exact ⟨g1, hr g2, g3⟩
theorem xst.mono {S : Nat → Nat} {M M' R R' : Int} {N : jSh} {F : jFl} {A : jAr} {x : Nat} {W L : sTb} {B : sBk} {U : sUn} {Q : sMi} (h : xst S M R N F A x W L B U Q) (h1 : M ≤ M') (h2 : M' ≤ 1000000000) (h3 : R ≤ R') : xst S M' R' N F A x W L B U Q := by
  obtain ⟨t, wA, sA, cA, lA, c0, h9, h19, hQ, hX⟩ := h
  exact ⟨t, wA, sA, cA, lA, c0.mono h1 h2, h9, h19, hQ.mono h3, hX⟩
theorem xst.scr {S : Nat → Nat} {M R : Int} {N : jSh} {F F' : jFl} {A A' : jAr} {x : Nat} {W L : sTb} {B : sBk} {U : sUn} {Q : sMi} (h : xst S M R N F A x W L B U Q) (hf : fr (x + 11) (x + 140) F A F' A') (hs : sarr A' x) : xst S M R N F' A' x W L B U Q ∧ xrs x N F A N F' A' := by
  obtain ⟨t, wA, sA, cA, lA, c0, h9, h19, hQ, hX⟩ := h
  exact ⟨⟨t, wA, sA, cA, lA, c0.scr (Nat.le_refl _) (by omega) hf hs, h9, h19, hQ.fr (by omega) hf, hX.kw c0.1.1.1 (nex.refl _) (hf.kw c0.1.2.1 (by omega) (by omega))⟩, nex.refl _, hf.kz (by omega) (by omega), by omega, by omega⟩
theorem xst.sa {S : Nat → Nat} {M R : Int} {N : jSh} {F : jFl} {A : jAr} {x : Nat} {W L : sTb} {B : sBk} {U : sUn} {Q : sMi} (h : xst S M R N F A x W L B U Q) : sarr A x ∧ lay N x ∧ nb N ∧ x + 141 ≤ jnx N := by
  obtain ⟨t, wA, sA, cA, lA, c0, h9, h19, hQ, hX⟩ := h
  exact ⟨c0.1.2.2, c0.1.2.1, c0.1.1.1, c0.hx⟩
theorem mSh.at {N : jSh} {o : Nat} (h : mSh N o) {k : Nat} (h1 : 1 ≤ k) (h2 : k ≤ 48) : jtg N (o + k) = 102 ∨ jtg N (o + k) = 103 := by
  have q : ∀ k : Nat, 1 ≤ k → k ≤ 48 → ∃ q ∈ mTab, q.2.1 = k ∧ (q.2.2.2 = 102 ∨ q.2.2.2 = 103) := by
    intro k h1 h2
    have : ∀ k : Fin 49, 1 ≤ k.val → ∃ q ∈ mTab, q.2.1 = k.val ∧ (q.2.2.2 = 102 ∨ q.2.2.2 = 103) := by decide
    exact this ⟨k, by omega⟩ h1
  obtain ⟨e, he, e1, e2⟩ := q k h1 h2
  have := (h.2.2 e he).2.2
  rw [e1] at this
  rw [this]
  exact e2
theorem mSh.ex {N N' : jSh} {o : Nat} (h : mSh N o) (hn : nb N) (e : nex N N') : mSh N' o := by
  have t := h.1
  refine ⟨e.tg hn t (by decide), by rw [e.fn hn t (by decide)]; exact h.2.1, fun q hq => ?_⟩
  obtain ⟨q1, q2, q3⟩ := h.2.2 q hq
  have z : jtg N (o + q.2.1) ≠ 0 := by
    rw [q3]
    have : ∀ q ∈ mTab, q.2.2.2 ≠ 0 := by decide
    exact this q hq
  have w := e.2 _ (hn _ z)
  exact ⟨by rw [e.fn hn t (by decide)]; exact q1, w.2.1.trans q2, w.1.trans q3⟩
theorem xst.mo {S : Nat → Nat} {M R : Int} {N : jSh} {F F' : jFl} {A A' : jAr} {x : Nat} {W L : sTb} {B : sBk} {U : sUn} {Q : sMi} (h : xst S M R N F A x W L B U Q) (hm : mo (x + 142) F A F' A') (hM : mSh N (x + 142)) : xst S M R N F' A' x W L B U Q := by
  obtain ⟨t, wA, sA, cA, lA, c0, h9, h19, hQ, hX⟩ := h
  have hF : ∀ b : Nat, jtg N b ≠ 10 → ∀ f, F' f b = F f b := fun b hb f => hm.1 b (fun w => hb (by rw [w]; exact hM.1)) f
  have hA : ∀ b : Nat, (jtg N b ≠ 103 ∧ jtg N b ≠ 102) ∨ b < x + 142 → A' b = A b := fun b hb => by
    refine hm.2 b ?_
    rcases hb with hb | hb
    · by_cases w : b ≤ x + 142 ∨ x + 142 + 49 ≤ b
      · exact w
      · have q := hM.at (k := b - (x + 142)) (by omega) (by omega)
        rw [show x + 142 + (b - (x + 142)) = b from by omega] at q
        omega
    · omega
  have t0 : jtg N x = 1 := (c0.1.2.1.1 0 (by decide)).1
  exact ⟨t, wA, sA, cA, lA, (c0.alA (fun b h1 h2 => hA b (Or.inl ⟨h1, h2⟩))).alF hF, h9, h19, hQ.of (fun f _ => hF x (by rw [t0]; decide) f) (hA _ (Or.inr (by omega))) (hA _ (Or.inr (by omega))), hX.kw c0.1.1.1 (nex.refl _) (fun a ha => ⟨fun f => hm.1 a (fun w => by
    rw [w, hM.1] at ha
    omega) f, hA a (by omega)⟩)⟩
theorem mst.kz {R : Int} {N : jSh} {F F' : jFl} {A A' : jAr} {x : Nat} {W L : sTb} {B : sBk} {U : sUn} {Q : sMi} (h : mst R (x + 142) F A W L B U Q) (hM : mSh N (x + 142)) (k : kz x N F A F' A') : mst R (x + 142) F' A' W L B U Q := by
  have f := (k (x + 142) (Or.inl (Nat.le_refl _)) (Or.inl hM.1)).1
  have a : ∀ k : Nat, 1 ≤ k → k ≤ 48 → A' (x + 142 + k) = A (x + 142 + k) := fun j h1 h2 => (k (x + 142 + j) (Or.inl (by omega)) (Or.inr (hM.at h1 h2))).2
  refine h.mi6 (fun g _ => f g) (fun k h1 h2 _ _ => a k (by omega) (by omega)) ?_
  exact h.2.2.2.of (fun g _ => f g) (a 1 (by decide) (by decide)) (a 27 (by decide) (by decide)) (a 48 (by decide) (by decide))
theorem mst.mfr {R : Int} {o : Nat} {F F' : jFl} {A A' : jAr} {W L : sTb} {B : sBk} {U : sUn} {Q : sMi} (h : mst R o F A W L B U Q) (hf : mfr o F A F' A') : mst R o F' A' W L B U Q := by
  refine h.mi6 (fun g hg => hf.1 g o (fun _ => by omega)) (fun k h1 h2 _ _ => hf.2 _ (by omega)) ?_
  exact h.2.2.2.of (fun g hg => hf.1 g o (fun _ => by omega)) (hf.2 _ (by omega)) (hf.2 _ (by omega)) (hf.2 _ (by omega))
