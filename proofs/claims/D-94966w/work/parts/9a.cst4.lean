set_option maxRecDepth 100000
set_option linter.unusedVariables false
/-! tape and refusals are no part of the town -/
theorem cst.ar {S : Nat → Nat} {M : Int} {N : jSh} {F : jFl} {A A' : jAr} {x t : Nat} {W L : sTb} {B : sBk} {U : sUn} {wA sA cA lA : Int → Int} (h : cst S M N F A x t W L B U wA sA cA lA) (hA : ∀ b : Nat, jtg N b ≠ 111 → jtg N b ≠ 102 → A' b = A b) : cst S M N F A' x t W L B U wA sA cA lA := by
  have ht : ∀ (b k : Nat), jtg N b = k → k ≠ 111 ∧ k ≠ 102 → A' b = A b := fun b k hb hk => hA b (by rw [hb]; exact hk.1) (by rw [hb]; exact hk.2)
  have hj : ∀ {l : Nat} {n : Int} {e : Int → Int}, jli N F A l n e → jli N F A' l n e := fun {l n e} q => by
    obtain ⟨q1, q2, q3, c, q4, q5, q6⟩ := q
    exact ⟨q1, q2, q3, c, q4, q5, by rw [ht c 104 q5 (by decide)]; exact q6⟩
  have hb : ∀ {l : Nat} {B : sBk}, bkIs N F A l B → bkIs N F A' l B := fun {l B} q => by
    obtain ⟨e, q1, q2⟩ := q
    exact ⟨e, hj q1, q2⟩
  have hr : ∀ {r : Nat} {R : sRow}, rowIs N F A wA r R → rowIs N F A' wA r R := fun {r R} q => q.of rfl rfl (ht _ 107 q.1.2.2.2.1 (by decide))
  obtain ⟨⟨g, ly, sa⟩, ⟨⟨x1, x2, x3⟩, ⟨hW, hL⟩, t1, t2, ⟨l1, l2, l3, l4, l5⟩, h4, h5, h6, h7⟩, hbk, ha1, e, ha2, ha3⟩ := h
  refine ⟨⟨g, ly, sarr_of sa (ht _ 110 (ly.1 15 (by decide)).1 (by decide)) (ht _ 110 (ly.1 99 (by decide)).1 (by decide)) (ht _ 110 (ly.1 54 (by decide)).1 (by decide))⟩, ⟨⟨x1, x2, x3⟩, ⟨hW, hL⟩, t1, t2, ⟨hj l1, hj l2, hj l3, hj l4, hj l5⟩, h4, fun s s0 s1 => ?_, fun c c0 c1 => ?_, fun m m0 m1 => ?_⟩, hb hbk, ha1, e, hj ha2, fun i i0 i1 => ?_⟩
  · obtain ⟨d, d1, d2⟩ := h5 s s0 s1
    exact ⟨d, d1, d2.1, by rw [ht _ 107 d2.1.2.2.2.2.1 (by decide)]; exact d2.2⟩
  · obtain ⟨d, d1, d2⟩ := h6 c c0 c1
    exact ⟨d, d1, d2.of (fun f _ => rfl) (ht _ 105 d2.1.2.2.2.2.1 (by decide)) (ht _ 107 d2.1.2.2.2.2.2.2.2.2.1 (by decide))⟩
  · obtain ⟨d, d1, d2, d3, d4⟩ := h7 m m0 m1
    exact ⟨d, d1, d2, d3, hr d4⟩
  · obtain ⟨w, w1, w2, w3, w4, w5⟩ := ha3 i i0 i1
    refine ⟨w, w1, w2, w3, fun k hk => ?_, hb w5⟩
    obtain ⟨y1, y2, y3, y4⟩ := w4 k hk
    exact ⟨by rw [ht _ 116 w2.2.1.2.1 (by decide)]; exact y1, hr y2, by rw [ht _ 113 w2.2.2.1.2.1 (by decide)]; exact y3, by rw [ht _ 105 w2.2.2.2.1.2.1 (by decide)]; exact y4⟩
