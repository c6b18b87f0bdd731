set_option maxRecDepth 100000
set_option linter.unusedVariables false
/-! the component's tape, refusals, fault, seed -/
def cMi (R : Int) (x : Nat) (F : jFl) (A : jAr) (Q : sMi) : Prop := (F 303 x = Q 0 0 ∧ 0 ≤ Q 0 0 ∧ Q 0 0 ≤ 1600) ∧ (∀ i : Int, 0 ≤ i → i < Q 0 0 → A (x + 1) i = Q 1 i ∧ 0 ≤ Q 1 i ∧ Q 1 i ≤ 255) ∧ (∀ r : Int, 0 ≤ r → r < 6 → A (x + 2) r = Q 2 r ∧ 0 ≤ Q 2 r ∧ Q 2 r ≤ R) ∧ (F 312 x = Q 3 0 ∧ F 315 x = Q 4 0) ∧ (F 319 x = Q 5 0 ∧ 0 ≤ Q 5 0 ∧ Q 5 0 < 2147483648) ∧ F 330 x = 0
theorem cMi.of {R : Int} {x : Nat} {F F' : jFl} {A A' : jAr} {Q : sMi} (h : cMi R x F A Q) (hF : ∀ f, f = 303 ∨ f = 312 ∨ f = 315 ∨ f = 319 ∨ f = 330 → F' f x = F f x) (h1 : A' (x + 1) = A (x + 1)) (h2 : A' (x + 2) = A (x + 2)) : cMi R x F' A' Q := by
  unfold cMi at *
  rw [hF 303 (by decide), hF 312 (by decide), hF 315 (by decide), hF 319 (by decide), hF 330 (by decide), h1, h2]
  exact h
theorem cMi.mono {R R' : Int} {x : Nat} {F : jFl} {A : jAr} {Q : sMi} (h : cMi R x F A Q) (hr : R ≤ R') : cMi R' x F A Q := ⟨h.1, h.2.1, fun r r0 r1 => by have := h.2.2.1 r r0 r1; exact ⟨this.1, this.2.1, by omega⟩, h.2.2.2⟩
theorem cMi.fr {R : Int} {x : Nat} {F F' : jFl} {A A' : jAr} {Q : sMi} (h : cMi R x F A Q) {lo hi : Nat} (hl : x + 2 < lo) (q : fr lo hi F A F' A') : cMi R x F' A' Q :=
  h.of (fun f _ => (q x (Or.inl (by omega))).1 f) (q (x + 1) (Or.inl (by omega))).2 (q (x + 2) (Or.inl (by omega))).2
/-- one refusal more -/
theorem cMi.ref {R : Int} {x : Nat} {F : jFl} {A : jAr} {Q : sMi} (h : cMi R x F A Q) {r : Int} (h1 : 0 ≤ r ∧ r < 6) : cMi (R + 1) x F (upA A (x + 2) r (A (x + 2) r + 1)) (qRef Q r) := by
  obtain ⟨g1, g2, g3, g4, g5, g6⟩ := h
  have e : ∀ k i, k ≠ 2 → qRef Q r k i = Q k i := fun k i hk => if_neg (fun w => hk w.1)
  refine ⟨by rw [e 0 0 (by decide)]; exact g1, fun i i0 i1 => ?_, fun i i0 i1 => ?_, ?_, ?_, g6⟩
  · rw [e 0 0 (by decide)] at i1
    rw [upA_a (by omega), e 1 i (by decide)]
    exact g2 i i0 i1
  · have q := g3 i i0 i1
    by_cases w : i = r
    · rw [w] at q ⊢
      have e2 : qRef Q r 2 r = Q 2 r + 1 := if_pos ⟨rfl, rfl⟩
      rw [upA_s, e2]
      omega
    · have e2 : qRef Q r 2 i = Q 2 i := if_neg (fun q => w q.2)
      rw [upA_i w, e2]
      omega
  · rw [e 3 0 (by decide), e 4 0 (by decide)]; exact g4
  · rw [e 5 0 (by decide)]; exact g5
theorem sarr_of {x : Nat} {A A' : jAr} (hs : sarr A x) (h1 : A' (x + 15) = A (x + 15)) (h2 : A' (x + 99) = A (x + 99)) (h3 : A' (x + 54) = A (x + 54)) : sarr A' x := by
  unfold sarr
  rw [h1, h2, h3]
  exact hs
