set_option maxRecDepth 100000
set_option linter.unusedVariables false
/-! the law: each call on both sides; printed by gen/lawp.py -/
theorem two_if {c : Prop} [Decidable c] {z z' e1 e2 : Int} {P1 P2 R1 R2 : Prop} (h : if c then z = e1 ∧ P1 else z = e2 ∧ P2) (h' : if c then z' = e1 ∧ R1 else z' = e2 ∧ R2) : z = z' ∧ ((P1 ∧ R1) ∨ (P2 ∧ R2)) := by
  by_cases w : c
  · rw [if_pos w] at h h'
    exact ⟨h.1.trans h'.1.symm, Or.inl ⟨h.2, h'.2⟩⟩
  · rw [if_neg w] at h h'
    exact ⟨h.1.trans h'.1.symm, Or.inr ⟨h.2, h'.2⟩⟩
theorem if_map {c : Prop} [Decidable c] {E1 E2 P1 P2 R1 R2 : Prop} (h : if c then E1 ∧ P1 else E2 ∧ P2) (f : P1 → R1) (g : P2 → R2) : if c then E1 ∧ R1 else E2 ∧ R2 := by
  by_cases w : c
  · rw [if_pos w] at h ⊢
    exact ⟨h.1, f h.2⟩
  · rw [if_neg w] at h ⊢
    exact ⟨h.1, g h.2⟩
theorem if_any {c : Prop} [Decidable c] {E1 E2 P1 P2 R : Prop} (h : if c then E1 ∧ P1 ∧ R else E2 ∧ P2 ∧ R) : R := by
  by_cases w : c
  · rw [if_pos w] at h
    exact h.2.2
  · rw [if_neg w] at h
    exact h.2.2
def lst (S : Nat → Nat) (x s n : Nat) (nx0 su0 κ : Int) (N : jSh) (F : jFl) (A : jAr) : Prop := (∃ (W L : sTb) (B : sBk) (U : sUn) (Q : sMi), xst S (1000000 * κ) κ N F A x W L B U Q ∧ mst κ (x + 142) F A W L B U Q) ∧ mSh N (x + 142) ∧ (s < x ∧ jtg N s = 102 ∧ jln N s = n ∧ ∀ i : Int, jR (A s i)) ∧ (jnx N : Int) ≤ nx0 + 18000 * κ ∧ (jsu N : Int) ≤ su0 + 80000 * κ
theorem lst.mid {S : Nat → Nat} {x s n : Nat} {nx0 su0 κ : Int} {N N' : jSh} {F F' : jFl} {A A' : jAr} (h : lst S x s n nx0 su0 κ N F A) (q : xrs x N F A N' F' A') : A' s = A s ∧ jln N' s = n := by
  obtain ⟨⟨W, L, B, U, Q, hx, hm⟩, hsh, hs, hnx, hsu⟩ := h
  have hn := hx.sa.2.2.1
  exact ⟨(q.2.1 s (Or.inr hs.1) (Or.inr (Or.inl hs.2.1))).2, (q.1.ln hn hs.2.1 (by decide)).trans hs.2.2.1⟩
theorem lst.fin {S : Nat → Nat} {x s n : Nat} {nx0 su0 κ : Int} {N N' : jSh} {F F' F2 : jFl} {A A' A2 : jAr} (h : lst S x s n nx0 su0 κ N F A) (hκ : 0 ≤ κ ∧ κ ≤ 63) (q : xrs x N F A N' F' A') (hsh : mSh N' (x + 142)) (hm : mo (x + 142) F' A' F2 A2) (hσ : ∃ (W L : sTb) (B : sBk) (U : sUn) (Q : sMi), xst S (1000000 * κ + 1000000) (κ + 1) N' F' A' x W L B U Q ∧ mst (κ + 1) (x + 142) F2 A2 W L B U Q) : lst S x s n nx0 su0 (κ + 1) N' F2 A2 := by
  have hmid := h.mid q
  obtain ⟨⟨W, L, B, U, Q, hx, hm0⟩, hsh0, hs, hnx, hsu⟩ := h
  have hn := hx.sa.2.2.1
  obtain ⟨W', L', B', U', Q', g1, g2⟩ := hσ
  have e : A2 s = A s := (hm.2 s (Or.inl (by omega))).trans hmid.1
  refine ⟨⟨W', L', B', U', Q', (g1.mo hm hsh).mono (by omega) (by omega) (by omega), g2⟩, hsh, ⟨hs.1, q.1.tg hn hs.2.1 (by decide), hmid.2, fun i => by rw [e]; exact hs.2.2.2 i⟩, ?_, ?_⟩
  · have := q.2.2.1
    omega
  · have := q.2.2.2
    omega
theorem lst.up {S : Nat → Nat} {x s n : Nat} {nx0 su0 κ : Int} {N : jSh} {F : jFl} {A : jAr} (h : lst S x s n nx0 su0 κ N F A) (hκ : 0 ≤ κ ∧ κ ≤ 63) : lst S x s n nx0 su0 (κ + 1) N F A := by
  obtain ⟨⟨W, L, B, U, Q, hx, hm⟩, hsh, hs, hnx, hsu⟩ := h
  exact ⟨⟨W, L, B, U, Q, hx.mono (by omega) (by omega) (by omega), hm.mono (by omega)⟩, hsh, hs, by omega, by omega⟩
theorem lp_feed {S : Nat → Nat} {x s n : Nat} {nx0 su0 κ : Int} {N : jSh} {F : jFl} {A : jAr} (h : lst S x s n nx0 su0 κ N F A) (hκ : 0 ≤ κ ∧ κ ≤ 63) (a1 : Int) (a2 : Int) (a3 : Int) (a4 : Int) (a5 : Int) : ∃ P, wqX0_feed x a1 a2 a3 a4 a5 N F A P ∧ ∀ z F' A', P z F' A' → (A' s = A s ∧ jln N s = n) ∧ ∃ P', wqX9_feed (x + 142) a1 a2 a3 a4 a5 N F' A' P' ∧ ∀ z' F'' A'', P' z' F'' A'' → z = z' ∧ lst S x s n nx0 su0 (κ + 1) N F'' A'' := by
  have h0 := h
  obtain ⟨⟨W, L, B, U, Q, hx, hm⟩, hsh, hs, hnx, hsu⟩ := h
  have hn := hx.sa.2.2.1
  refine ⟨_, sX0_feed hx (by omega) (by omega), fun z F' A' pp => ?_⟩
  obtain ⟨p, q⟩ := pp
  replace hm := hm.kz hsh q.2.1
  refine ⟨h0.mid q, _, ⟨hsh, fX9_feed (sX9_feed hm (by omega))⟩, fun z' F'' A'' pp => ?_⟩
  obtain ⟨p', hmo⟩ := pp
  have r := two_if p p'
  refine ⟨r.1, h0.fin hκ q hsh hmo ?_⟩
  rcases r.2 with w | w
  · exact ⟨_, _, _, _, _, w.1, w.2⟩
  · exact ⟨_, _, _, _, _, w.1, w.2⟩
theorem lp_end {S : Nat → Nat} {x s n : Nat} {nx0 su0 κ : Int} {N : jSh} {F : jFl} {A : jAr} (h : lst S x s n nx0 su0 κ N F A) (hκ : 0 ≤ κ ∧ κ ≤ 63) (a1 : Int) : ∃ P, wqX0_end x a1 N F A P ∧ ∀ z F' A', P z F' A' → (A' s = A s ∧ jln N s = n) ∧ ∃ P', wqX9_end (x + 142) a1 N F' A' P' ∧ ∀ z' F'' A'', P' z' F'' A'' → z = z' ∧ lst S x s n nx0 su0 (κ + 1) N F'' A'' := by
  have h0 := h
  obtain ⟨⟨W, L, B, U, Q, hx, hm⟩, hsh, hs, hnx, hsu⟩ := h
  have hn := hx.sa.2.2.1
  have hx0 := hx
  obtain ⟨t, wA, sA, cA, lA, c0, h9, h19, hQ, hX⟩ := hx0
  refine ⟨_, sX0_end c0.1.2.1 hQ (by omega), fun z F' A' p => ?_⟩
  obtain ⟨p, pF, pA⟩ := p
  have qF : ∀ f b, (b = x → f ≠ 303 ∧ f ≠ 312 ∧ f ≠ 315 ∧ f ≠ 319) → F' f b = F f b := fun f b w => by
    rcases pF with e | ⟨y, e⟩
    · rw [e]
    · rw [e]; exact if_neg (fun w2 => by have := w w2.2; omega)
  have cv := fun {Q' : sMi} (c : cMi (κ + 1) x F' A' Q') (h6 : Q' 6 = Q 6) (h7 : Q' 7 = Q 7) => hx.mi2 (M' := 1000000 * κ + 1000000) ⟨by omega, by omega⟩ c qF (fun b _ w => pA b w) h6 h7
  have pq := if_map p (fun c => cv c rfl rfl) (fun c => cv c rfl rfl)
  have q : xrs x N F A N F' A' := if_any pq
  replace hm := hm.kz hsh q.2.1
  refine ⟨h0.mid q, _, ⟨hsh, fX9_end (sX9_end hm (by omega))⟩, fun z' F'' A'' pp => ?_⟩
  obtain ⟨p', hmo⟩ := pp
  have r := two_if pq p'
  refine ⟨r.1, h0.fin hκ q hsh hmo ?_⟩
  rcases r.2 with w | w
  · exact ⟨_, _, _, _, _, w.1.1, w.2⟩
  · exact ⟨_, _, _, _, _, w.1.1, w.2⟩
theorem lp_town {S : Nat → Nat} {x s n : Nat} {nx0 su0 κ : Int} {N : jSh} {F : jFl} {A : jAr} (h : lst S x s n nx0 su0 κ N F A) (hκ : 0 ≤ κ ∧ κ ≤ 63) : ∃ P, wqX0_town S x N F A P ∧ ∀ z N' F' A', P z N' F' A' → (A' s = A s ∧ jln N' s = n) ∧ ∃ P', wqX9_town (x + 142) N' F' A' P' ∧ ∀ z' F'' A'', P' z' F'' A'' → z = z' ∧ lst S x s n nx0 su0 (κ + 1) N' F'' A'' := by
  have h0 := h
  obtain ⟨⟨W, L, B, U, Q, hx, hm⟩, hsh, hs, hnx, hsu⟩ := h
  have hn := hx.sa.2.2.1
  refine ⟨_, sX0_town hx (by omega) (by omega) (RR := sTn (Q 1) (Q 0 0)) rfl, fun z N' F' A' pp => ?_⟩
  obtain ⟨p, q⟩ := pp
  replace hm := hm.kz hsh q.2.1
  have hsh1 := hsh.ex hn q.1
  refine ⟨h0.mid q, _, ⟨hsh1, fX9_town (sX9_town hm (by omega))⟩, fun z' F'' A'' pp => ?_⟩
  obtain ⟨p', hmo⟩ := pp
  by_cases w : (sTn (Q 1) (Q 0 0)).1.1 = 0
  · exact ⟨(p.2 w).1.trans (p'.2 w).1.symm, h0.fin hκ q hsh1 hmo ⟨_, _, _, _, _, (p.2 w).2, (p'.2 w).2⟩⟩
  · exact ⟨(p.1 w).1.trans (p'.1 w).1.symm, h0.fin hκ q hsh1 hmo ⟨_, _, _, _, _, (p.1 w).2, (p'.1 w).2⟩⟩
theorem lp_fault {S : Nat → Nat} {x s n : Nat} {nx0 su0 κ : Int} {N : jSh} {F : jFl} {A : jAr} (h : lst S x s n nx0 su0 κ N F A) (hκ : 0 ≤ κ ∧ κ ≤ 63) (a1 : Int) : ∃ P, wqX0_fault x a1 N F A P ∧ ∀ z, P z → ∃ P', wqX9_fault (x + 142) a1 N F A P' ∧ ∀ z', P' z' → z = z' ∧ lst S x s n nx0 su0 (κ + 1) N F A := by
  have h0 := h
  obtain ⟨⟨W, L, B, U, Q, hx, hm⟩, hsh, hs, hnx, hsu⟩ := h
  have hn := hx.sa.2.2.1
  have hx0 := hx
  obtain ⟨t, wA, sA, cA, lA, c0, h9, h19, hQ, hX⟩ := hx0
  refine ⟨_, sX0_fault hQ, fun z p => ?_⟩
  have qx := hx
  have q : xrs x N F A N F A := ⟨nex.refl _, kz.refl _ _ _ _, by omega, by omega⟩
  refine ⟨_, ⟨hsh, sX9_fault hm.2.2.2⟩, fun z' p' => ?_⟩
  have hmm := hm
  have hmo := mo.refl (x + 142) F A
  exact ⟨(p).trans (p').symm, h0.fin hκ q hsh hmo ⟨W, L, B, U, Q, qx.mono (by omega) (by omega) (by omega), hmm.mono (by omega)⟩⟩
theorem lp_has {S : Nat → Nat} {x s n : Nat} {nx0 su0 κ : Int} {N : jSh} {F : jFl} {A : jAr} (h : lst S x s n nx0 su0 κ N F A) (hκ : 0 ≤ κ ∧ κ ≤ 63) (a1 : Int) : ∃ P, wqX0_has x a1 N F A P ∧ ∀ z, P z → ∃ P', wqX9_has (x + 142) a1 N F A P' ∧ ∀ z', P' z' → z = z' ∧ lst S x s n nx0 su0 (κ + 1) N F A := by
  have h0 := h
  obtain ⟨⟨W, L, B, U, Q, hx, hm⟩, hsh, hs, hnx, hsu⟩ := h
  have hn := hx.sa.2.2.1
  have hx0 := hx
  obtain ⟨t, wA, sA, cA, lA, c0, h9, h19, hQ, hX⟩ := hx0
  refine ⟨_, sX0_has c0 hQ, fun z p => ?_⟩
  have qx := hx
  have q : xrs x N F A N F A := ⟨nex.refl _, kz.refl _ _ _ _, by omega, by omega⟩
  refine ⟨_, ⟨hsh, sX9_has hm⟩, fun z' p' => ?_⟩
  have hmm := hm
  have hmo := mo.refl (x + 142) F A
  exact ⟨(p).trans (p').symm, h0.fin hκ q hsh hmo ⟨W, L, B, U, Q, qx.mono (by omega) (by omega) (by omega), hmm.mono (by omega)⟩⟩
theorem lp_letter {S : Nat → Nat} {x s n : Nat} {nx0 su0 κ : Int} {N : jSh} {F : jFl} {A : jAr} (h : lst S x s n nx0 su0 κ N F A) (hκ : 0 ≤ κ ∧ κ ≤ 63) (a1 : Int) (a2 : Int) (a3 : Int) : ∃ P, wqX0_letter S x a1 a2 a3 N F A P ∧ ∀ z, P z → ∃ P', wqX9_letter (x + 142) a1 a2 a3 N F A P' ∧ ∀ z', P' z' → z = z' ∧ lst S x s n nx0 su0 (κ + 1) N F A := by
  have h0 := h
  obtain ⟨⟨W, L, B, U, Q, hx, hm⟩, hsh, hs, hnx, hsu⟩ := h
  have hn := hx.sa.2.2.1
  have hx0 := hx
  obtain ⟨t, wA, sA, cA, lA, c0, h9, h19, hQ, hX⟩ := hx0
  refine ⟨_, sX0_letter c0.2.1 hX.1, fun z p => ?_⟩
  have qx := hx
  have q : xrs x N F A N F A := ⟨nex.refl _, kz.refl _ _ _ _, by omega, by omega⟩
  refine ⟨_, ⟨hsh, sX9_letter hm.1.1 hX.1.ok⟩, fun z' p' => ?_⟩
  have hmm := hm
  have hmo := mo.refl (x + 142) F A
  exact ⟨(p).trans (p').symm, h0.fin hκ q hsh hmo ⟨W, L, B, U, Q, qx.mono (by omega) (by omega) (by omega), hmm.mono (by omega)⟩⟩
theorem lp_word {S : Nat → Nat} {x s n : Nat} {nx0 su0 κ : Int} {N : jSh} {F : jFl} {A : jAr} (h : lst S x s n nx0 su0 κ N F A) (hκ : 0 ≤ κ ∧ κ ≤ 63) (a1 : Int) (a2 : Int) : ∃ P, wqX0_word x a1 a2 N F A P ∧ ∀ z, P z → ∃ P', wqX9_word (x + 142) a1 a2 N F A P' ∧ ∀ z', P' z' → z = z' ∧ lst S x s n nx0 su0 (κ + 1) N F A := by
  have h0 := h
  obtain ⟨⟨W, L, B, U, Q, hx, hm⟩, hsh, hs, hnx, hsu⟩ := h
  have hn := hx.sa.2.2.1
  have hx0 := hx
  obtain ⟨t, wA, sA, cA, lA, c0, h9, h19, hQ, hX⟩ := hx0
  refine ⟨_, sX0_word c0.2.1, fun z p => ?_⟩
  have qx := hx
  have q : xrs x N F A N F A := ⟨nex.refl _, kz.refl _ _ _ _, by omega, by omega⟩
  refine ⟨_, ⟨hsh, sX9_word hm.1.1⟩, fun z' p' => ?_⟩
  have hmm := hm
  have hmo := mo.refl (x + 142) F A
  exact ⟨(p).trans (p').symm, h0.fin hκ q hsh hmo ⟨W, L, B, U, Q, qx.mono (by omega) (by omega) (by omega), hmm.mono (by omega)⟩⟩
theorem lp_child {S : Nat → Nat} {x s n : Nat} {nx0 su0 κ : Int} {N : jSh} {F : jFl} {A : jAr} (h : lst S x s n nx0 su0 κ N F A) (hκ : 0 ≤ κ ∧ κ ≤ 63) (a1 : Int) (a2 : Int) : ∃ P, wqX0_child x a1 a2 N F A P ∧ ∀ z F' A', P z F' A' → (A' s = A s ∧ jln N s = n) ∧ ∃ P', wqX9_child (x + 142) a1 a2 N F' A' P' ∧ ∀ z' F'' A'', P' z' F'' A'' → z = z' ∧ lst S x s n nx0 su0 (κ + 1) N F'' A'' := by
  have h0 := h
  obtain ⟨⟨W, L, B, U, Q, hx, hm⟩, hsh, hs, hnx, hsu⟩ := h
  have hn := hx.sa.2.2.1
  have hx0 := hx
  obtain ⟨t, wA, sA, cA, lA, c0, h9, h19, hQ, hX⟩ := hx0
  refine ⟨_, sX0_child c0.2.1 c0.1.2.1, fun z F' A' p => ?_⟩
  have k : fr (x + 11) (x + 140) F A F' A' := fun a ha => p.2 a (by omega)
  obtain ⟨qx, q⟩ := hx.scr k (sarr_of c0.1.2.2 (p.2 _ (by omega)).2 (p.2 _ (by omega)).2 (p.2 _ (by omega)).2)
  replace hm := hm.kz hsh q.2.1
  refine ⟨h0.mid q, _, ⟨hsh, fX9_child (sX9_child hm.1.1)⟩, fun z' F'' A'' pp => ?_⟩
  obtain ⟨p', hmo⟩ := pp
  have hmm := hm.mfr p'.2
  exact ⟨(p.1).trans (p'.1).symm, h0.fin hκ q hsh hmo ⟨W, L, B, U, Q, qx.mono (by omega) (by omega) (by omega), hmm.mono (by omega)⟩⟩
theorem lp_law {S : Nat → Nat} {x s n : Nat} {nx0 su0 κ : Int} {N : jSh} {F : jFl} {A : jAr} (h : lst S x s n nx0 su0 κ N F A) (hκ : 0 ≤ κ ∧ κ ≤ 63) (a1 : Int) (a2 : Int) (ra : jR a2) : ∃ P, wqX0_law x a1 a2 N F A P ∧ ∀ z F' A', P z F' A' → (A' s = A s ∧ jln N s = n) ∧ ∃ P', wqX9_law (x + 142) a1 a2 N F' A' P' ∧ ∀ z' F'' A'', P' z' F'' A'' → z = z' ∧ lst S x s n nx0 su0 (κ + 1) N F'' A'' := by
  have h0 := h
  obtain ⟨⟨W, L, B, U, Q, hx, hm⟩, hsh, hs, hnx, hsu⟩ := h
  have hn := hx.sa.2.2.1
  have hx0 := hx
  obtain ⟨t, wA, sA, cA, lA, c0, h9, h19, hQ, hX⟩ := hx0
  refine ⟨_, sX0_law c0.2.1 c0.1.2.1 h9 ra, fun z F' A' p => ?_⟩
  have k : fr (x + 11) (x + 140) F A F' A' := fun a ha => p.2 a (by omega)
  obtain ⟨qx, q⟩ := hx.scr k (sarr_of c0.1.2.2 (p.2 _ (by omega)).2 (p.2 _ (by omega)).2 (p.2 _ (by omega)).2)
  replace hm := hm.kz hsh q.2.1
  refine ⟨h0.mid q, _, ⟨hsh, fX9_law (sX9_law hm.1.1 hm.1.2)⟩, fun z' F'' A'' pp => ?_⟩
  obtain ⟨p', hmo⟩ := pp
  have hmm := hm.mfr p'.2
  exact ⟨(p.1).trans (p'.1).symm, h0.fin hκ q hsh hmo ⟨W, L, B, U, Q, qx.mono (by omega) (by omega) (by omega), hmm.mono (by omega)⟩⟩
theorem lp_order {S : Nat → Nat} {x s n : Nat} {nx0 su0 κ : Int} {N : jSh} {F : jFl} {A : jAr} (h : lst S x s n nx0 su0 κ N F A) (hκ : 0 ≤ κ ∧ κ ≤ 63) (a1 : Int) : ∃ P, wqX0_order x a1 N F A P ∧ ∀ z, P z → ∃ P', wqX9_order (x + 142) a1 N F A P' ∧ ∀ z', P' z' → z = z' ∧ lst S x s n nx0 su0 (κ + 1) N F A := by
  have h0 := h
  obtain ⟨⟨W, L, B, U, Q, hx, hm⟩, hsh, hs, hnx, hsu⟩ := h
  have hn := hx.sa.2.2.1
  have hx0 := hx
  obtain ⟨t, wA, sA, cA, lA, c0, h9, h19, hQ, hX⟩ := hx0
  refine ⟨_, sX0_order c0.2.1, fun z p => ?_⟩
  have qx := hx
  have q : xrs x N F A N F A := ⟨nex.refl _, kz.refl _ _ _ _, by omega, by omega⟩
  refine ⟨_, ⟨hsh, sX9_order hm.1.1⟩, fun z' p' => ?_⟩
  have hmm := hm
  have hmo := mo.refl (x + 142) F A
  exact ⟨(p).trans (p').symm, h0.fin hκ q hsh hmo ⟨W, L, B, U, Q, qx.mono (by omega) (by omega) (by omega), hmm.mono (by omega)⟩⟩
theorem lp_alike {S : Nat → Nat} {x s n : Nat} {nx0 su0 κ : Int} {N : jSh} {F : jFl} {A : jAr} (h : lst S x s n nx0 su0 κ N F A) (hκ : 0 ≤ κ ∧ κ ≤ 63) (a1 : Int) (a2 : Int) : ∃ P, wqX0_alike x a1 a2 N F A P ∧ ∀ z, P z → ∃ P', wqX9_alike (x + 142) a1 a2 N F A P' ∧ ∀ z', P' z' → z = z' ∧ lst S x s n nx0 su0 (κ + 1) N F A := by
  have h0 := h
  obtain ⟨⟨W, L, B, U, Q, hx, hm⟩, hsh, hs, hnx, hsu⟩ := h
  have hn := hx.sa.2.2.1
  have hx0 := hx
  obtain ⟨t, wA, sA, cA, lA, c0, h9, h19, hQ, hX⟩ := hx0
  refine ⟨_, sX0_alike c0.2.1, fun z p => ?_⟩
  have qx := hx
  have q : xrs x N F A N F A := ⟨nex.refl _, kz.refl _ _ _ _, by omega, by omega⟩
  refine ⟨_, ⟨hsh, sX9_alike hm.1.1⟩, fun z' p' => ?_⟩
  have hmm := hm
  have hmo := mo.refl (x + 142) F A
  exact ⟨(p).trans (p').symm, h0.fin hκ q hsh hmo ⟨W, L, B, U, Q, qx.mono (by omega) (by omega) (by omega), hmm.mono (by omega)⟩⟩
theorem lp_hears {S : Nat → Nat} {x s n : Nat} {nx0 su0 κ : Int} {N : jSh} {F : jFl} {A : jAr} (h : lst S x s n nx0 su0 κ N F A) (hκ : 0 ≤ κ ∧ κ ≤ 63) (a1 : Int) (a2 : Int) (a3 : Int) : ∃ P, wqX0_hears x a1 a2 a3 N F A P ∧ ∀ z, P z → ∃ P', wqX9_hears (x + 142) a1 a2 a3 N F A P' ∧ ∀ z', P' z' → z = z' ∧ lst S x s n nx0 su0 (κ + 1) N F A := by
  have h0 := h
  obtain ⟨⟨W, L, B, U, Q, hx, hm⟩, hsh, hs, hnx, hsu⟩ := h
  have hn := hx.sa.2.2.1
  have hx0 := hx
  obtain ⟨t, wA, sA, cA, lA, c0, h9, h19, hQ, hX⟩ := hx0
  refine ⟨_, sX0_hears c0.2.1, fun z p => ?_⟩
  have qx := hx
  have q : xrs x N F A N F A := ⟨nex.refl _, kz.refl _ _ _ _, by omega, by omega⟩
  refine ⟨_, ⟨hsh, sX9_hears hm.1.1⟩, fun z' p' => ?_⟩
  have hmm := hm
  have hmo := mo.refl (x + 142) F A
  exact ⟨(p).trans (p').symm, h0.fin hκ q hsh hmo ⟨W, L, B, U, Q, qx.mono (by omega) (by omega) (by omega), hmm.mono (by omega)⟩⟩
theorem lp_says {S : Nat → Nat} {x s n : Nat} {nx0 su0 κ : Int} {N : jSh} {F : jFl} {A : jAr} (h : lst S x s n nx0 su0 κ N F A) (hκ : 0 ≤ κ ∧ κ ≤ 63) (a1 : Int) (a2 : Int) (a3 : Int) : ∃ P, wqX0_says x a1 a2 a3 N F A P ∧ ∀ z F' A', P z F' A' → (A' s = A s ∧ jln N s = n) ∧ ∃ P', wqX9_says (x + 142) a1 a2 a3 N F' A' P' ∧ ∀ z' F'' A'', P' z' F'' A'' → z = z' ∧ lst S x s n nx0 su0 (κ + 1) N F'' A'' := by
  have h0 := h
  obtain ⟨⟨W, L, B, U, Q, hx, hm⟩, hsh, hs, hnx, hsu⟩ := h
  have hn := hx.sa.2.2.1
  have hx0 := hx
  obtain ⟨t, wA, sA, cA, lA, c0, h9, h19, hQ, hX⟩ := hx0
  refine ⟨_, sX0_says c0.2.1 c0.1.2.1, fun z F' A' p => ?_⟩
  have k : fr (x + 11) (x + 140) F A F' A' := fun a ha => p.2 a (by omega)
  obtain ⟨qx, q⟩ := hx.scr k (sarr_of c0.1.2.2 (p.2 _ (by omega)).2 (p.2 _ (by omega)).2 (p.2 _ (by omega)).2)
  replace hm := hm.kz hsh q.2.1
  refine ⟨h0.mid q, _, ⟨hsh, fX9_says (sX9_says hm.1.1)⟩, fun z' F'' A'' pp => ?_⟩
  obtain ⟨p', hmo⟩ := pp
  have hmm := hm.mfr p'.2
  exact ⟨(p.1).trans (p'.1).symm, h0.fin hκ q hsh hmo ⟨W, L, B, U, Q, qx.mono (by omega) (by omega) (by omega), hmm.mono (by omega)⟩⟩
theorem lp_sits {S : Nat → Nat} {x s n : Nat} {nx0 su0 κ : Int} {N : jSh} {F : jFl} {A : jAr} (h : lst S x s n nx0 su0 κ N F A) (hκ : 0 ≤ κ ∧ κ ≤ 63) (a1 : Int) (a2 : Int) (a3 : Int) : ∃ P, wqX0_sits x a1 a2 a3 N F A P ∧ ∀ z F' A', P z F' A' → (A' s = A s ∧ jln N s = n) ∧ ∃ P', wqX9_sits (x + 142) a1 a2 a3 N F' A' P' ∧ ∀ z' F'' A'', P' z' F'' A'' → z = z' ∧ lst S x s n nx0 su0 (κ + 1) N F'' A'' := by
  have h0 := h
  obtain ⟨⟨W, L, B, U, Q, hx, hm⟩, hsh, hs, hnx, hsu⟩ := h
  have hn := hx.sa.2.2.1
  have hx0 := hx
  obtain ⟨t, wA, sA, cA, lA, c0, h9, h19, hQ, hX⟩ := hx0
  refine ⟨_, sX0_sits c0.2.1 c0.1.2.1 c0.1.2.2 h9, fun z F' A' p => ?_⟩
  have k : fr (x + 11) (x + 140) F A F' A' := fun a ha => p.2.1 a (by omega)
  obtain ⟨qx, q⟩ := hx.scr k p.2.2
  replace hm := hm.kz hsh q.2.1
  refine ⟨h0.mid q, _, ⟨hsh, fX9_sits (sX9_sits hm.1.1 hm.1.2)⟩, fun z' F'' A'' pp => ?_⟩
  obtain ⟨p', hmo⟩ := pp
  have hmm := hm.mfr p'.2
  exact ⟨(p.1).trans (p'.1).symm, h0.fin hκ q hsh hmo ⟨W, L, B, U, Q, qx.mono (by omega) (by omega) (by omega), hmm.mono (by omega)⟩⟩
theorem lp_sitting {S : Nat → Nat} {x s n : Nat} {nx0 su0 κ : Int} {N : jSh} {F : jFl} {A : jAr} (h : lst S x s n nx0 su0 κ N F A) (hκ : 0 ≤ κ ∧ κ ≤ 63) (a1 : Int) (a2 : Int) : ∃ P, wqX0_sitting S x a1 a2 N F A P ∧ ∀ z F' A', P z F' A' → (A' s = A s ∧ jln N s = n) ∧ ∃ P', wqX9_sitting (x + 142) a1 a2 N F' A' P' ∧ ∀ z' F'' A'', P' z' F'' A'' → z = z' ∧ lst S x s n nx0 su0 (κ + 1) N F'' A'' := by
  have h0 := h
  obtain ⟨⟨W, L, B, U, Q, hx, hm⟩, hsh, hs, hnx, hsu⟩ := h
  have hn := hx.sa.2.2.1
  have hx0 := hx
  obtain ⟨t, wA, sA, cA, lA, c0, h9, h19, hQ, hX⟩ := hx0
  refine ⟨_, sX0_sitting c0.2.1 c0.1.2.1 c0.1.2.2 h9, fun z F' A' p => ?_⟩
  have k : fr (x + 11) (x + 140) F A F' A' := fun a ha => p.2.1 a (by omega)
  obtain ⟨qx, q⟩ := hx.scr k p.2.2
  replace hm := hm.kz hsh q.2.1
  refine ⟨h0.mid q, _, ⟨hsh, fX9_sitting (sX9_sitting hm.1.1 hm.1.2)⟩, fun z' F'' A'' pp => ?_⟩
  obtain ⟨p', hmo⟩ := pp
  have hmm := hm.mfr p'.2
  exact ⟨(p.1).trans (p'.1).symm, h0.fin hκ q hsh hmo ⟨W, L, B, U, Q, qx.mono (by omega) (by omega) (by omega), hmm.mono (by omega)⟩⟩
theorem lp_tell {S : Nat → Nat} {x s n : Nat} {nx0 su0 κ : Int} {N : jSh} {F : jFl} {A : jAr} (h : lst S x s n nx0 su0 κ N F A) (hκ : 0 ≤ κ ∧ κ ≤ 63) (a1 : Int) (a2 : Int) : ∃ P, wqX0_tell S x a1 a2 N F A P ∧ ∀ z N' F' A', P z N' F' A' → (A' s = A s ∧ jln N' s = n) ∧ ∃ P', wqX9_tell (x + 142) a1 a2 N' F' A' P' ∧ ∀ z' F'' A'', P' z' F'' A'' → z = z' ∧ lst S x s n nx0 su0 (κ + 1) N' F'' A'' := by
  have h0 := h
  obtain ⟨⟨W, L, B, U, Q, hx, hm⟩, hsh, hs, hnx, hsu⟩ := h
  have hn := hx.sa.2.2.1
  refine ⟨_, sX0_tell (S := S) hx (by omega) (by omega), fun z N' F' A' pp => ?_⟩
  obtain ⟨p, q⟩ := pp
  replace hm := hm.kz hsh q.2.1
  have hsh1 := hsh.ex hn q.1
  refine ⟨h0.mid q, _, ⟨hsh1, fX9_tell (sX9_tell hm (by omega))⟩, fun z' F'' A'' pp => ?_⟩
  obtain ⟨p', hmo⟩ := pp
  have r := two_if p p'
  refine ⟨r.1, h0.fin hκ q hsh1 hmo ?_⟩
  rcases r.2 with w | w
  · exact ⟨_, _, _, _, _, w.1, w.2⟩
  · exact ⟨_, _, _, _, _, w.1, w.2⟩
theorem lp_anew {S : Nat → Nat} {x s n : Nat} {nx0 su0 κ : Int} {N : jSh} {F : jFl} {A : jAr} (h : lst S x s n nx0 su0 κ N F A) (hκ : 0 ≤ κ ∧ κ ≤ 63) (a1 : Int) : ∃ P, wqX0_anew S x a1 N F A P ∧ ∀ z N' F' A', P z N' F' A' → (A' s = A s ∧ jln N' s = n) ∧ ∃ P', wqX9_anew (x + 142) a1 N' F' A' P' ∧ ∀ z' F'' A'', P' z' F'' A'' → z = z' ∧ lst S x s n nx0 su0 (κ + 1) N' F'' A'' := by
  have h0 := h
  obtain ⟨⟨W, L, B, U, Q, hx, hm⟩, hsh, hs, hnx, hsu⟩ := h
  have hn := hx.sa.2.2.1
  refine ⟨_, sX0_anew (S := S) hx (by omega) (by omega), fun z N' F' A' pp => ?_⟩
  obtain ⟨p, q⟩ := pp
  replace hm := hm.kz hsh q.2.1
  have hsh1 := hsh.ex hn q.1
  refine ⟨h0.mid q, _, ⟨hsh1, fX9_anew (sX9_anew hm (by omega))⟩, fun z' F'' A'' pp => ?_⟩
  obtain ⟨p', hmo⟩ := pp
  have r := two_if p p'
  refine ⟨r.1, h0.fin hκ q hsh1 hmo ?_⟩
  rcases r.2 with w | w
  · exact ⟨_, _, _, _, _, w.1, w.2⟩
  · exact ⟨_, _, _, _, _, w.1, w.2⟩
theorem lp_council {S : Nat → Nat} {x s n : Nat} {nx0 su0 κ : Int} {N : jSh} {F : jFl} {A : jAr} (h : lst S x s n nx0 su0 κ N F A) (hκ : 0 ≤ κ ∧ κ ≤ 63) (a1 : Int) : ∃ P, wqX0_council S x a1 N F A P ∧ ∀ z N' F' A', P z N' F' A' → (A' s = A s ∧ jln N' s = n) ∧ ∃ P', wqX9_council (x + 142) a1 N' F' A' P' ∧ ∀ z' F'' A'', P' z' F'' A'' → z = z' ∧ lst S x s n nx0 su0 (κ + 1) N' F'' A'' := by
  have h0 := h
  obtain ⟨⟨W, L, B, U, Q, hx, hm⟩, hsh, hs, hnx, hsu⟩ := h
  have hn := hx.sa.2.2.1
  refine ⟨_, sX0_council hx (by omega) (by omega), fun z N' F' A' pp => ?_⟩
  obtain ⟨p, q⟩ := pp
  replace hm := hm.kz hsh q.2.1
  have hsh1 := hsh.ex hn q.1
  refine ⟨h0.mid q, _, ⟨hsh1, fX9_council (sX9_council hm (by omega))⟩, fun z' F'' A'' pp => ?_⟩
  obtain ⟨p', hmo⟩ := pp
  by_cases w : 0 ≤ a1 ∧ a1 < W 3 0 0
  · have p1 := p.2 w
    have p2 := p'.2 w
    by_cases w2 : (sCoF W Q).1 = 0
    · exact ⟨(p1.2 w2).1.trans (p2.2 w2).1.symm, h0.fin hκ q hsh1 hmo ⟨_, _, _, _, _, (p1.2 w2).2, (p2.2 w2).2⟩⟩
    · exact ⟨(p1.1 w2).1.trans (p2.1 w2).1.symm, h0.fin hκ q hsh1 hmo ⟨_, _, _, _, _, (p1.1 w2).2, (p2.1 w2).2⟩⟩
  · exact ⟨(p.1 w).1.trans (p'.1 w).1.symm, h0.fin hκ q hsh1 hmo ⟨_, _, _, _, _, (p.1 w).2, (p'.1 w).2⟩⟩
theorem lp_sing {S : Nat → Nat} {x s n : Nat} {nx0 su0 κ : Int} {N : jSh} {F : jFl} {A : jAr} (h : lst S x s n nx0 su0 κ N F A) (hκ : 0 ≤ κ ∧ κ ≤ 63) (a1 : Int) (a2 : Int) (hb : a2 = 0 ∨ a2 = 1) : ∃ P, wqX0_sing S x a1 a2 N F A P ∧ ∀ z N' F' A', P z N' F' A' → (A' s = A s ∧ jln N' s = n) ∧ ∃ P', wqX9_sing (x + 142) a1 a2 N' F' A' P' ∧ ∀ z' F'' A'', P' z' F'' A'' → z = z' ∧ lst S x s n nx0 su0 (κ + 1) N' F'' A'' := by
  have h0 := h
  obtain ⟨⟨W, L, B, U, Q, hx, hm⟩, hsh, hs, hnx, hsu⟩ := h
  have hn := hx.sa.2.2.1
  refine ⟨_, sX0_sing (S := S) hx (by omega) (by omega) hb, fun z N' F' A' pp => ?_⟩
  obtain ⟨p, q⟩ := pp
  replace hm := hm.kz hsh q.2.1
  have hsh1 := hsh.ex hn q.1
  refine ⟨h0.mid q, _, ⟨hsh1, fX9_sing (sX9_sing hm (by omega) hb)⟩, fun z' F'' A'' pp => ?_⟩
  obtain ⟨p', hmo⟩ := pp
  have r := two_if p p'
  refine ⟨r.1, h0.fin hκ q hsh1 hmo ?_⟩
  rcases r.2 with w | w
  · exact ⟨_, _, _, _, _, w.1, w.2⟩
  · exact ⟨_, _, _, _, _, w.1, w.2⟩
theorem lp_swap {S : Nat → Nat} {x s n : Nat} {nx0 su0 κ : Int} {N : jSh} {F : jFl} {A : jAr} (h : lst S x s n nx0 su0 κ N F A) (hκ : 0 ≤ κ ∧ κ ≤ 63) (a1 : Int) (a2 : Int) : ∃ P, wqX0_swap S x a1 a2 N F A P ∧ ∀ z N' F' A', P z N' F' A' → (A' s = A s ∧ jln N' s = n) ∧ ∃ P', wqX9_swap (x + 142) a1 a2 N' F' A' P' ∧ ∀ z' F'' A'', P' z' F'' A'' → z = z' ∧ lst S x s n nx0 su0 (κ + 1) N' F'' A'' := by
  have h0 := h
  obtain ⟨⟨W, L, B, U, Q, hx, hm⟩, hsh, hs, hnx, hsu⟩ := h
  have hn := hx.sa.2.2.1
  refine ⟨_, sX0_swap (S := S) hx (by omega) (by omega), fun z N' F' A' pp => ?_⟩
  obtain ⟨p, q⟩ := pp
  replace hm := hm.kz hsh q.2.1
  have hsh1 := hsh.ex hn q.1
  refine ⟨h0.mid q, _, ⟨hsh1, fX9_swap (sX9_swap hm (by omega))⟩, fun z' F'' A'' pp => ?_⟩
  obtain ⟨p', hmo⟩ := pp
  have r := two_if p p'
  refine ⟨r.1, h0.fin hκ q hsh1 hmo ?_⟩
  rcases r.2 with w | w
  · exact ⟨_, _, _, _, _, w.1, w.2⟩
  · exact ⟨_, _, _, _, _, w.1, w.2⟩
theorem lp_years {S : Nat → Nat} {x s n : Nat} {nx0 su0 κ : Int} {N : jSh} {F : jFl} {A : jAr} (h : lst S x s n nx0 su0 κ N F A) (hκ : 0 ≤ κ ∧ κ ≤ 63) (a1 : Int) : ∃ P, wqX0_years S x a1 N F A P ∧ ∀ z N' F' A', P z N' F' A' → (A' s = A s ∧ jln N' s = n) ∧ ∃ P', wqX9_years (x + 142) a1 N' F' A' P' ∧ ∀ z' F'' A'', P' z' F'' A'' → z = z' ∧ lst S x s n nx0 su0 (κ + 1) N' F'' A'' := by
  have h0 := h
  obtain ⟨⟨W, L, B, U, Q, hx, hm⟩, hsh, hs, hnx, hsu⟩ := h
  have hn := hx.sa.2.2.1
  refine ⟨_, sX0_years hx (by omega) (by omega), fun z N' F' A' pp => ?_⟩
  obtain ⟨p, q⟩ := pp
  replace hm := hm.kz hsh q.2.1
  have hsh1 := hsh.ex hn q.1
  refine ⟨h0.mid q, _, ⟨hsh1, fX9_years (sX9_years hm (by omega))⟩, fun z' F'' A'' pp => ?_⟩
  obtain ⟨p', hmo⟩ := pp
  have r := two_if p p'
  refine ⟨r.1, h0.fin hκ q hsh1 hmo ?_⟩
  rcases r.2 with w | w
  · exact ⟨_, _, _, _, _, w.1, w.2⟩
  · exact ⟨_, _, _, _, _, w.1, w.2⟩
theorem lp_undo {S : Nat → Nat} {x s n : Nat} {nx0 su0 κ : Int} {N : jSh} {F : jFl} {A : jAr} (h : lst S x s n nx0 su0 κ N F A) (hκ : 0 ≤ κ ∧ κ ≤ 63) : ∃ P, wqX0_undo S x N F A P ∧ ∀ z N' F' A', P z N' F' A' → (A' s = A s ∧ jln N' s = n) ∧ ∃ P', wqX9_undo (x + 142) N' F' A' P' ∧ ∀ z' F'' A'', P' z' F'' A'' → z = z' ∧ lst S x s n nx0 su0 (κ + 1) N' F'' A'' := by
  have h0 := h
  obtain ⟨⟨W, L, B, U, Q, hx, hm⟩, hsh, hs, hnx, hsu⟩ := h
  have hn := hx.sa.2.2.1
  refine ⟨_, sX0_undo hx (by omega) (by omega), fun z N' F' A' pp => ?_⟩
  obtain ⟨p, q⟩ := pp
  replace hm := hm.kz hsh q.2.1
  have hsh1 := hsh.ex hn q.1
  refine ⟨h0.mid q, _, ⟨hsh1, fX9_undo (sX9_undo hm (by omega))⟩, fun z' F'' A'' pp => ?_⟩
  obtain ⟨p', hmo⟩ := pp
  refine ⟨p.1.trans p'.1.symm, h0.fin hκ q hsh1 hmo ?_⟩
  have p1 := p.2
  have p2 := p'.2
  by_cases w : U.1 = 0
  · rw [if_pos w] at p1 p2; exact ⟨_, _, _, _, _, p1, p2⟩
  · rw [if_neg w] at p1 p2; exact ⟨_, _, _, _, _, p1, p2⟩
theorem lp_seed {S : Nat → Nat} {x s n : Nat} {nx0 su0 κ : Int} {N : jSh} {F : jFl} {A : jAr} (h : lst S x s n nx0 su0 κ N F A) (hκ : 0 ≤ κ ∧ κ ≤ 63) (a1 : Int) (ra : jR a1) : ∃ P, wqX0_seed x a1 N F A P ∧ ∀ z F' A', P z F' A' → (A' s = A s ∧ jln N s = n) ∧ ∃ P', wqX9_seed (x + 142) a1 N F' A' P' ∧ ∀ z' F'' A'', P' z' F'' A'' → z = z' ∧ lst S x s n nx0 su0 (κ + 1) N F'' A'' := by
  have h0 := h
  obtain ⟨⟨W, L, B, U, Q, hx, hm⟩, hsh, hs, hnx, hsu⟩ := h
  have hn := hx.sa.2.2.1
  have hx0 := hx
  obtain ⟨t, wA, sA, cA, lA, c0, h9, h19, hQ, hX⟩ := hx0
  refine ⟨_, sX0_seed c0.1.2.1 hQ (by omega) ra, fun z F' A' p => ?_⟩
  obtain ⟨p, pF, pA⟩ := p
  have qF : ∀ f b, (b = x → f ≠ 303 ∧ f ≠ 312 ∧ f ≠ 315 ∧ f ≠ 319) → F' f b = F f b := fun f b w => by
    rcases pF with e | ⟨y, e⟩
    · rw [e]
    · rw [e]; exact if_neg (fun w2 => by have := w w2.2; omega)
  have cv := fun {Q' : sMi} (c : cMi (κ + 1) x F' A' Q') (h6 : Q' 6 = Q 6) (h7 : Q' 7 = Q 7) => hx.mi2 (M' := 1000000 * κ + 1000000) ⟨by omega, by omega⟩ c qF (fun b _ w => pA b w) h6 h7
  have pq := if_map p (fun c => cv c rfl rfl) (fun c => cv c rfl rfl)
  have q : xrs x N F A N F' A' := if_any pq
  replace hm := hm.kz hsh q.2.1
  refine ⟨h0.mid q, _, ⟨hsh, fX9_seed (sX9_seed hm (by omega) ra)⟩, fun z' F'' A'' pp => ?_⟩
  obtain ⟨p', hmo⟩ := pp
  have r := two_if pq p'
  refine ⟨r.1, h0.fin hκ q hsh hmo ?_⟩
  rcases r.2 with w | w
  · exact ⟨_, _, _, _, _, w.1.1, w.2⟩
  · exact ⟨_, _, _, _, _, w.1.1, w.2⟩
theorem lp_book {S : Nat → Nat} {x s n : Nat} {nx0 su0 κ : Int} {N : jSh} {F : jFl} {A : jAr} (h : lst S x s n nx0 su0 κ N F A) (hκ : 0 ≤ κ ∧ κ ≤ 63) (a1 : Int) (a2 : Int) : ∃ P, wqX0_book x a1 a2 N F A P ∧ ∀ z, P z → ∃ P', wqX9_book (x + 142) a1 a2 N F A P' ∧ ∀ z', P' z' → z = z' ∧ lst S x s n nx0 su0 (κ + 1) N F A := by
  have h0 := h
  obtain ⟨⟨W, L, B, U, Q, hx, hm⟩, hsh, hs, hnx, hsu⟩ := h
  have hn := hx.sa.2.2.1
  have hx0 := hx
  obtain ⟨t, wA, sA, cA, lA, c0, h9, h19, hQ, hX⟩ := hx0
  refine ⟨_, sX0_book c0.2.1 c0.2.2.1, fun z p => ?_⟩
  have qx := hx
  have q : xrs x N F A N F A := ⟨nex.refl _, kz.refl _ _ _ _, by omega, by omega⟩
  refine ⟨_, ⟨hsh, sX9_book hm.2.1⟩, fun z' p' => ?_⟩
  have hmm := hm
  have hmo := mo.refl (x + 142) F A
  exact ⟨(p).trans (p').symm, h0.fin hκ q hsh hmo ⟨W, L, B, U, Q, qx.mono (by omega) (by omega) (by omega), hmm.mono (by omega)⟩⟩
theorem lp_odds {S : Nat → Nat} {x s n : Nat} {nx0 su0 κ : Int} {N : jSh} {F : jFl} {A : jAr} (h : lst S x s n nx0 su0 κ N F A) (hκ : 0 ≤ κ ∧ κ ≤ 63) (a1 : Int) : ∃ P, wqX0_odds x a1 N F A P ∧ ∀ z F' A', P z F' A' → (A' s = A s ∧ jln N s = n) ∧ ∃ P', wqX9_odds (x + 142) a1 N F' A' P' ∧ ∀ z' F'' A'', P' z' F'' A'' → z = z' ∧ lst S x s n nx0 su0 (κ + 1) N F'' A'' := by
  have h0 := h
  obtain ⟨⟨W, L, B, U, Q, hx, hm⟩, hsh, hs, hnx, hsu⟩ := h
  have hn := hx.sa.2.2.1
  have hx0 := hx
  obtain ⟨t, wA, sA, cA, lA, c0, h9, h19, hQ, hX⟩ := hx0
  refine ⟨_, sX0_odds c0.2.1 c0.1.2.1, fun z F' A' p => ?_⟩
  have k : fr (x + 11) (x + 140) F A F' A' := fun a ha => p.2 a (by omega)
  obtain ⟨qx, q⟩ := hx.scr k (sarr_of c0.1.2.2 (p.2 _ (by omega)).2 (p.2 _ (by omega)).2 (p.2 _ (by omega)).2)
  replace hm := hm.kz hsh q.2.1
  refine ⟨h0.mid q, _, ⟨hsh, fX9_odds (sX9_odds hm.1.1)⟩, fun z' F'' A'' pp => ?_⟩
  obtain ⟨p', hmo⟩ := pp
  have hmm := hm.mfr p'.2
  exact ⟨(p.1).trans (p'.1).symm, h0.fin hκ q hsh hmo ⟨W, L, B, U, Q, qx.mono (by omega) (by omega) (by omega), hmm.mono (by omega)⟩⟩
theorem lp_becomes_2 {S : Nat → Nat} {x s n : Nat} {nx0 su0 κ : Int} {N : jSh} {F : jFl} {A : jAr} (h : lst S x s n nx0 su0 κ N F A) (hκ : 0 ≤ κ ∧ κ ≤ 63) (a1 : Int) (a2 : Int) (a3 : Int) : ∃ P, wqX0_becomes_2 x a1 a2 a3 N F A P ∧ ∀ z F' A', P z F' A' → (A' s = A s ∧ jln N s = n) ∧ ∃ P', wqX9_becomes (x + 142) a1 a2 a3 N F' A' P' ∧ ∀ z' F'' A'', P' z' F'' A'' → z = z' ∧ lst S x s n nx0 su0 (κ + 1) N F'' A'' := by
  have h0 := h
  obtain ⟨⟨W, L, B, U, Q, hx, hm⟩, hsh, hs, hnx, hsu⟩ := h
  have hn := hx.sa.2.2.1
  have hx0 := hx
  obtain ⟨t, wA, sA, cA, lA, c0, h9, h19, hQ, hX⟩ := hx0
  refine ⟨_, sX0_becomes_2 c0.2.1 c0.1.2.1 c0.1.2.2, fun z F' A' p => ?_⟩
  have k : fr (x + 11) (x + 140) F A F' A' := fun a ha => p.2.2 a (by omega)
  obtain ⟨qx, q⟩ := hx.scr k p.2.1
  replace hm := hm.kz hsh q.2.1
  refine ⟨h0.mid q, _, ⟨hsh, fX9_becomes (sX9_becomes hm.1.1)⟩, fun z' F'' A'' pp => ?_⟩
  obtain ⟨p', hmo⟩ := pp
  have hmm := hm.mfr p'.2
  exact ⟨(p.1).trans (p'.1).symm, h0.fin hκ q hsh hmo ⟨W, L, B, U, Q, qx.mono (by omega) (by omega) (by omega), hmm.mono (by omega)⟩⟩
theorem lp_round {S : Nat → Nat} {x s n : Nat} {nx0 su0 κ : Int} {N : jSh} {F : jFl} {A : jAr} (h : lst S x s n nx0 su0 κ N F A) (hκ : 0 ≤ κ ∧ κ ≤ 63) (a1 : Int) (a2 : Int) (a3 : Int) : ∃ P, wqX0_round S x a1 a2 a3 N F A P ∧ ∀ z F' A', P z F' A' → (A' s = A s ∧ jln N s = n) ∧ ∃ P', wqX9_round (x + 142) a1 a2 a3 N F' A' P' ∧ ∀ z' F'' A'', P' z' F'' A'' → z = z' ∧ lst S x s n nx0 su0 (κ + 1) N F'' A'' := by
  have h0 := h
  obtain ⟨⟨W, L, B, U, Q, hx, hm⟩, hsh, hs, hnx, hsu⟩ := h
  have hn := hx.sa.2.2.1
  have hx0 := hx
  obtain ⟨t, wA, sA, cA, lA, c0, h9, h19, hQ, hX⟩ := hx0
  refine ⟨_, sX0_round c0.2.1 c0.1.2.1, fun z F' A' p => ?_⟩
  have k : fr (x + 11) (x + 140) F A F' A' := fun a ha => p.2 a (by omega)
  obtain ⟨qx, q⟩ := hx.scr k (sarr_of c0.1.2.2 (p.2 _ (by omega)).2 (p.2 _ (by omega)).2 (p.2 _ (by omega)).2)
  replace hm := hm.kz hsh q.2.1
  refine ⟨h0.mid q, _, ⟨hsh, fX9_round (sX9_round hm.1.1)⟩, fun z' F'' A'' pp => ?_⟩
  obtain ⟨p', hmo⟩ := pp
  have hmm := hm.mfr p'.2
  exact ⟨rRound.one hm.1.1.1.1 hm.1.1.1.2 p.1 p'.1, h0.fin hκ q hsh hmo ⟨W, L, B, U, Q, qx.mono (by omega) (by omega) (by omega), hmm.mono (by omega)⟩⟩
theorem lp_best {S : Nat → Nat} {x s n : Nat} {nx0 su0 κ : Int} {N : jSh} {F : jFl} {A : jAr} (h : lst S x s n nx0 su0 κ N F A) (hκ : 0 ≤ κ ∧ κ ≤ 63) (a1 : Int) (a2 : Int) : ∃ P, wqX0_best x a1 a2 N F A P ∧ ∀ z F' A', P z F' A' → (A' s = A s ∧ jln N s = n) ∧ ∃ P', wqX9_best (x + 142) a1 a2 N F' A' P' ∧ ∀ z' F'' A'', P' z' F'' A'' → z = z' ∧ lst S x s n nx0 su0 (κ + 1) N F'' A'' := by
  have h0 := h
  obtain ⟨⟨W, L, B, U, Q, hx, hm⟩, hsh, hs, hnx, hsu⟩ := h
  have hn := hx.sa.2.2.1
  have hx0 := hx
  obtain ⟨t, wA, sA, cA, lA, c0, h9, h19, hQ, hX⟩ := hx0
  refine ⟨_, sX0_best c0.2.1 c0.1.2.1, fun z F' A' p => ?_⟩
  have k : fr (x + 11) (x + 140) F A F' A' := fun a ha => p.2 a (by omega)
  obtain ⟨qx, q⟩ := hx.scr k (sarr_of c0.1.2.2 (p.2 _ (by omega)).2 (p.2 _ (by omega)).2 (p.2 _ (by omega)).2)
  replace hm := hm.kz hsh q.2.1
  refine ⟨h0.mid q, _, ⟨hsh, fX9_best (sX9_best hm.1.1)⟩, fun z' F'' A'' pp => ?_⟩
  obtain ⟨p', hmo⟩ := pp
  have hmm := hm.mfr p'.2
  exact ⟨(p.1).trans (p'.1).symm, h0.fin hκ q hsh hmo ⟨W, L, B, U, Q, qx.mono (by omega) (by omega) (by omega), hmm.mono (by omega)⟩⟩
theorem lp_mended {S : Nat → Nat} {x s n : Nat} {nx0 su0 κ : Int} {N : jSh} {F : jFl} {A : jAr} (h : lst S x s n nx0 su0 κ N F A) (hκ : 0 ≤ κ ∧ κ ≤ 63) (a1 : Int) (a2 : Int) : ∃ P, wqX0_mended x a1 a2 N F A P ∧ ∀ z F' A', P z F' A' → (A' s = A s ∧ jln N s = n) ∧ ∃ P', wqX9_mended (x + 142) a1 a2 N F' A' P' ∧ ∀ z' F'' A'', P' z' F'' A'' → z = z' ∧ lst S x s n nx0 su0 (κ + 1) N F'' A'' := by
  have h0 := h
  obtain ⟨⟨W, L, B, U, Q, hx, hm⟩, hsh, hs, hnx, hsu⟩ := h
  have hn := hx.sa.2.2.1
  have hx0 := hx
  obtain ⟨t, wA, sA, cA, lA, c0, h9, h19, hQ, hX⟩ := hx0
  refine ⟨_, sX0_mended c0.2.1 c0.1.2.1, fun z F' A' p => ?_⟩
  have k : fr (x + 11) (x + 140) F A F' A' := fun a ha => p.2 a (by omega)
  obtain ⟨qx, q⟩ := hx.scr k (sarr_of c0.1.2.2 (p.2 _ (by omega)).2 (p.2 _ (by omega)).2 (p.2 _ (by omega)).2)
  replace hm := hm.kz hsh q.2.1
  refine ⟨h0.mid q, _, ⟨hsh, fX9_mended (sX9_mended hm.1.1)⟩, fun z' F'' A'' pp => ?_⟩
  obtain ⟨p', hmo⟩ := pp
  have hmm := hm.mfr p'.2
  exact ⟨rMended.one p.1 p'.1, h0.fin hκ q hsh hmo ⟨W, L, B, U, Q, qx.mono (by omega) (by omega) (by omega), hmm.mono (by omega)⟩⟩
theorem lp_forty {S : Nat → Nat} {x s n : Nat} {nx0 su0 κ : Int} {N : jSh} {F : jFl} {A : jAr} (h : lst S x s n nx0 su0 κ N F A) (hκ : 0 ≤ κ ∧ κ ≤ 63) (a1 : Int) (a2 : Int) : ∃ P, wqX0_forty S x a1 a2 N F A P ∧ ∀ z F' A', P z F' A' → (A' s = A s ∧ jln N s = n) ∧ ∃ P', wqX9_forty (x + 142) a1 a2 N F' A' P' ∧ ∀ z' F'' A'', P' z' F'' A'' → z = z' ∧ lst S x s n nx0 su0 (κ + 1) N F'' A'' := by
  have h0 := h
  obtain ⟨⟨W, L, B, U, Q, hx, hm⟩, hsh, hs, hnx, hsu⟩ := h
  have hn := hx.sa.2.2.1
  have hx0 := hx
  obtain ⟨t, wA, sA, cA, lA, c0, h9, h19, hQ, hX⟩ := hx0
  refine ⟨_, sX0_forty c0.2.1 c0.1.2.1 c0.1.2.2, fun z F' A' p => ?_⟩
  have k : fr (x + 11) (x + 140) F A F' A' := fun a ha => p.2 a (by omega)
  obtain ⟨qx, q⟩ := hx.scr k (sarr_of c0.1.2.2 (p.2 _ (by omega)).2 (p.2 _ (by omega)).2 (p.2 _ (by omega)).2)
  replace hm := hm.kz hsh q.2.1
  refine ⟨h0.mid q, _, ⟨hsh, fX9_forty (sX9_forty hm.1.1)⟩, fun z' F'' A'' pp => ?_⟩
  obtain ⟨p', hmo⟩ := pp
  have hmm := hm.mfr p'.2
  exact ⟨(p.1).trans (p'.1).symm, h0.fin hκ q hsh hmo ⟨W, L, B, U, Q, qx.mono (by omega) (by omega) (by omega), hmm.mono (by omega)⟩⟩
theorem lp_sorted {S : Nat → Nat} {x s n : Nat} {nx0 su0 κ : Int} {N : jSh} {F : jFl} {A : jAr} (h : lst S x s n nx0 su0 κ N F A) (hκ : 0 ≤ κ ∧ κ ≤ 63) (a1 : Int) (a2 : Int) : ∃ P, wqX0_sorted x a1 a2 N F A P ∧ ∀ z F' A', P z F' A' → (A' s = A s ∧ jln N s = n) ∧ ∃ P', wqX9_sorted (x + 142) a1 a2 N F' A' P' ∧ ∀ z' F'' A'', P' z' F'' A'' → z = z' ∧ lst S x s n nx0 su0 (κ + 1) N F'' A'' := by
  have h0 := h
  obtain ⟨⟨W, L, B, U, Q, hx, hm⟩, hsh, hs, hnx, hsu⟩ := h
  have hn := hx.sa.2.2.1
  have hx0 := hx
  obtain ⟨t, wA, sA, cA, lA, c0, h9, h19, hQ, hX⟩ := hx0
  refine ⟨_, sX0_sorted c0.2.1 c0.1.2.1 h9 c0.1.2.2, fun z F' A' p => ?_⟩
  have k : fr (x + 11) (x + 140) F A F' A' := fun a ha => p.2 a (by omega)
  obtain ⟨qx, q⟩ := hx.scr k (sarr_of c0.1.2.2 (p.2 _ (by omega)).2 (p.2 _ (by omega)).2 (p.2 _ (by omega)).2)
  replace hm := hm.kz hsh q.2.1
  refine ⟨h0.mid q, _, ⟨hsh, fX9_sorted (sX9_sorted hm.1.1 hm.1.2)⟩, fun z' F'' A'' pp => ?_⟩
  obtain ⟨p', hmo⟩ := pp
  have hmm := hm.mfr p'.2
  exact ⟨rSorted.one p.1 p'.1, h0.fin hκ q hsh hmo ⟨W, L, B, U, Q, qx.mono (by omega) (by omega) (by omega), hmm.mono (by omega)⟩⟩
theorem lp_apart {S : Nat → Nat} {x s n : Nat} {nx0 su0 κ : Int} {N : jSh} {F : jFl} {A : jAr} (h : lst S x s n nx0 su0 κ N F A) (hκ : 0 ≤ κ ∧ κ ≤ 63) (a1 : Int) : ∃ P, wqX0_apart S x a1 N F A P ∧ ∀ z, P z → ∃ P', wqX9_apart (x + 142) a1 N F A P' ∧ ∀ z', P' z' → z = z' ∧ lst S x s n nx0 su0 (κ + 1) N F A := by
  have h0 := h
  obtain ⟨⟨W, L, B, U, Q, hx, hm⟩, hsh, hs, hnx, hsu⟩ := h
  have hn := hx.sa.2.2.1
  have hx0 := hx
  obtain ⟨t, wA, sA, cA, lA, c0, h9, h19, hQ, hX⟩ := hx0
  refine ⟨_, sX0_apart c0.2.1, fun z p => ?_⟩
  have qx := hx
  have q : xrs x N F A N F A := ⟨nex.refl _, kz.refl _ _ _ _, by omega, by omega⟩
  refine ⟨_, ⟨hsh, sX9_apart hm.1.1⟩, fun z' p' => ?_⟩
  have hmm := hm
  have hmo := mo.refl (x + 142) F A
  exact ⟨(p).trans (p').symm, h0.fin hκ q hsh hmo ⟨W, L, B, U, Q, qx.mono (by omega) (by omega) (by omega), hmm.mono (by omega)⟩⟩
theorem lp_against {S : Nat → Nat} {x s n : Nat} {nx0 su0 κ : Int} {N : jSh} {F : jFl} {A : jAr} (h : lst S x s n nx0 su0 κ N F A) (hκ : 0 ≤ κ ∧ κ ≤ 63) (a1 : Int) : ∃ P, wqX0_against S x a1 N F A P ∧ ∀ z, P z → ∃ P', wqX9_against (x + 142) a1 N F A P' ∧ ∀ z', P' z' → z = z' ∧ lst S x s n nx0 su0 (κ + 1) N F A := by
  have h0 := h
  obtain ⟨⟨W, L, B, U, Q, hx, hm⟩, hsh, hs, hnx, hsu⟩ := h
  have hn := hx.sa.2.2.1
  have hx0 := hx
  obtain ⟨t, wA, sA, cA, lA, c0, h9, h19, hQ, hX⟩ := hx0
  refine ⟨_, sX0_against c0.2.1, fun z p => ?_⟩
  have qx := hx
  have q : xrs x N F A N F A := ⟨nex.refl _, kz.refl _ _ _ _, by omega, by omega⟩
  refine ⟨_, ⟨hsh, sX9_against hm.1.1⟩, fun z' p' => ?_⟩
  have hmm := hm
  have hmo := mo.refl (x + 142) F A
  exact ⟨(p).trans (p').symm, h0.fin hκ q hsh hmo ⟨W, L, B, U, Q, qx.mono (by omega) (by omega) (by omega), hmm.mono (by omega)⟩⟩
theorem lp_once {S : Nat → Nat} {x s n : Nat} {nx0 su0 κ : Int} {N : jSh} {F : jFl} {A : jAr} (h : lst S x s n nx0 su0 κ N F A) (hκ : 0 ≤ κ ∧ κ ≤ 63) (a1 : Int) (a2 : Int) (a3 : Int) (a4 : Int) : ∃ P, wqX0_once x a1 a2 a3 a4 N F A P ∧ ∀ z F' A', P z F' A' → (A' s = A s ∧ jln N s = n) ∧ ∃ P', wqX9_once (x + 142) a1 a2 a3 a4 N F' A' P' ∧ ∀ z' F'' A'', P' z' F'' A'' → z = z' ∧ lst S x s n nx0 su0 (κ + 1) N F'' A'' := by
  have h0 := h
  obtain ⟨⟨W, L, B, U, Q, hx, hm⟩, hsh, hs, hnx, hsu⟩ := h
  have hn := hx.sa.2.2.1
  have hx0 := hx
  obtain ⟨t, wA, sA, cA, lA, c0, h9, h19, hQ, hX⟩ := hx0
  refine ⟨_, sX0_once c0.2.1 c0.1.2.1, fun z F' A' p => ?_⟩
  have k : fr (x + 11) (x + 140) F A F' A' := fun a ha => p.2 a (by omega)
  obtain ⟨qx, q⟩ := hx.scr k (sarr_of c0.1.2.2 (p.2 _ (by omega)).2 (p.2 _ (by omega)).2 (p.2 _ (by omega)).2)
  replace hm := hm.kz hsh q.2.1
  refine ⟨h0.mid q, _, ⟨hsh, fX9_once (sX9_once hm.1.1)⟩, fun z' F'' A'' pp => ?_⟩
  obtain ⟨p', hmo⟩ := pp
  have hmm := hm.mfr p'.2
  exact ⟨(p.1).trans (p'.1).symm, h0.fin hκ q hsh hmo ⟨W, L, B, U, Q, qx.mono (by omega) (by omega) (by omega), hmm.mono (by omega)⟩⟩
theorem lp_meaning {S : Nat → Nat} {x s n : Nat} {nx0 su0 κ : Int} {N : jSh} {F : jFl} {A : jAr} (h : lst S x s n nx0 su0 κ N F A) (hκ : 0 ≤ κ ∧ κ ≤ 63) (a1 : Int) : ∃ P, wqX0_meaning S x a1 N F A P ∧ ∀ z, P z → ∃ P', wqX9_meaning (x + 142) a1 N F A P' ∧ ∀ z' F'' A'', P' z' F'' A'' → z = z' ∧ lst S x s n nx0 su0 (κ + 1) N F'' A'' := by
  have h0 := h
  obtain ⟨⟨W, L, B, U, Q, hx, hm⟩, hsh, hs, hnx, hsu⟩ := h
  have hn := hx.sa.2.2.1
  have hx0 := hx
  obtain ⟨t, wA, sA, cA, lA, c0, h9, h19, hQ, hX⟩ := hx0
  refine ⟨_, sX0_meaning c0.2.1, fun z p => ?_⟩
  have qx := hx
  have q : xrs x N F A N F A := ⟨nex.refl _, kz.refl _ _ _ _, by omega, by omega⟩
  refine ⟨_, ⟨hsh, fX9_meaning (sX9_meaning hm.1.1)⟩, fun z' F'' A'' pp => ?_⟩
  obtain ⟨p', hmo⟩ := pp
  have hmm := hm.mfr p'.2
  exact ⟨(p).trans (p'.1).symm, h0.fin hκ q hsh hmo ⟨W, L, B, U, Q, qx.mono (by omega) (by omega) (by omega), hmm.mono (by omega)⟩⟩
theorem lp_harm {S : Nat → Nat} {x s n : Nat} {nx0 su0 κ : Int} {N : jSh} {F : jFl} {A : jAr} (h : lst S x s n nx0 su0 κ N F A) (hκ : 0 ≤ κ ∧ κ ≤ 63) (a1 : Int) : ∃ P, wqX0_harm x a1 N F A P ∧ ∀ z F' A', P z F' A' → (A' s = A s ∧ jln N s = n) ∧ ∃ P', wqX9_harm (x + 142) a1 N F' A' P' ∧ ∀ z' F'' A'', P' z' F'' A'' → z = z' ∧ lst S x s n nx0 su0 (κ + 1) N F'' A'' := by
  have h0 := h
  obtain ⟨⟨W, L, B, U, Q, hx, hm⟩, hsh, hs, hnx, hsu⟩ := h
  have hn := hx.sa.2.2.1
  have hx0 := hx
  obtain ⟨t, wA, sA, cA, lA, c0, h9, h19, hQ, hX⟩ := hx0
  refine ⟨_, sX0_harm c0.2.1 c0.1.2.1 c0.1.2.2 h9, fun z F' A' p => ?_⟩
  have k : fr (x + 11) (x + 140) F A F' A' := fun a ha => p.2.1 a (by omega)
  obtain ⟨qx, q⟩ := hx.scr k p.2.2
  replace hm := hm.kz hsh q.2.1
  refine ⟨h0.mid q, _, ⟨hsh, fX9_harm (sX9_harm hm.1.1 hm.1.2)⟩, fun z' F'' A'' pp => ?_⟩
  obtain ⟨p', hmo⟩ := pp
  have hmm := hm.mfr p'.2
  exact ⟨(p.1).trans (p'.1).symm, h0.fin hκ q hsh hmo ⟨W, L, B, U, Q, qx.mono (by omega) (by omega) (by omega), hmm.mono (by omega)⟩⟩
theorem lp_needs {S : Nat → Nat} {x s n : Nat} {nx0 su0 κ : Int} {N : jSh} {F : jFl} {A : jAr} (h : lst S x s n nx0 su0 κ N F A) (hκ : 0 ≤ κ ∧ κ ≤ 63) (a1 : Int) (a2 : Int) : ∃ P, wqX0_needs x a1 a2 N F A P ∧ ∀ z F' A', P z F' A' → (A' s = A s ∧ jln N s = n) ∧ ∃ P', wqX9_needs (x + 142) a1 a2 N F' A' P' ∧ ∀ z' F'' A'', P' z' F'' A'' → z = z' ∧ lst S x s n nx0 su0 (κ + 1) N F'' A'' := by
  have h0 := h
  obtain ⟨⟨W, L, B, U, Q, hx, hm⟩, hsh, hs, hnx, hsu⟩ := h
  have hn := hx.sa.2.2.1
  have hx0 := hx
  obtain ⟨t, wA, sA, cA, lA, c0, h9, h19, hQ, hX⟩ := hx0
  refine ⟨_, sX0_needs c0.2.1 c0.1.2.1, fun z F' A' p => ?_⟩
  have k : fr (x + 11) (x + 140) F A F' A' := fun a ha => p.2 a (by omega)
  obtain ⟨qx, q⟩ := hx.scr k (sarr_of c0.1.2.2 (p.2 _ (by omega)).2 (p.2 _ (by omega)).2 (p.2 _ (by omega)).2)
  replace hm := hm.kz hsh q.2.1
  refine ⟨h0.mid q, _, ⟨hsh, fX9_needs (sX9_needs hm.1.1)⟩, fun z' F'' A'' pp => ?_⟩
  obtain ⟨p', hmo⟩ := pp
  have hmm := hm.mfr p'.2
  exact ⟨(p.1).trans (p'.1).symm, h0.fin hκ q hsh hmo ⟨W, L, B, U, Q, qx.mono (by omega) (by omega) (by omega), hmm.mono (by omega)⟩⟩
theorem lp_runs {S : Nat → Nat} {x s n : Nat} {nx0 su0 κ : Int} {N : jSh} {F : jFl} {A : jAr} (h : lst S x s n nx0 su0 κ N F A) (hκ : 0 ≤ κ ∧ κ ≤ 63) (a1 : Int) (a2 : Int) (a3 : Int) : ∃ P, wqX0_runs S x a1 a2 a3 N F A P ∧ ∀ z N' F' A', P z N' F' A' → (A' s = A s ∧ jln N' s = n) ∧ ∃ P', wqX9_runs (x + 142) a1 a2 a3 N' F' A' P' ∧ ∀ z' F'' A'', P' z' F'' A'' → z = z' ∧ lst S x s n nx0 su0 (κ + 1) N' F'' A'' := by
  have h0 := h
  obtain ⟨⟨W, L, B, U, Q, hx, hm⟩, hsh, hs, hnx, hsu⟩ := h
  have hn := hx.sa.2.2.1
  refine ⟨_, sX0_runs hx (by omega), fun z N' F' A' pp => ?_⟩
  obtain ⟨p, qx, q⟩ := pp
  replace hm := hm.kz hsh q.2.1
  have hsh1 := hsh.ex hn q.1
  refine ⟨h0.mid q, _, ⟨hsh1, fX9_runs (sX9_runs hm)⟩, fun z' F'' A'' pp => ?_⟩
  obtain ⟨p', hmo⟩ := pp
  exact ⟨p.trans p'.1.symm, h0.fin hκ q hsh1 hmo ⟨_, _, _, _, _, qx.mono (by omega) (by omega) (by omega), p'.2.mono (by omega)⟩⟩
theorem lp_image {S : Nat → Nat} {x s n : Nat} {nx0 su0 κ : Int} {N : jSh} {F : jFl} {A : jAr} (h : lst S x s n nx0 su0 κ N F A) (hκ : 0 ≤ κ ∧ κ ≤ 63) : ∃ P, wqX0_image S x N F A P ∧ ∀ z N' F' A', P z N' F' A' → (A' s = A s ∧ jln N' s = n) ∧ ∃ P', wqX9_image (x + 142) N' F' A' P' ∧ ∀ z' F'' A'', P' z' F'' A'' → z = z' ∧ lst S x s n nx0 su0 (κ + 1) N' F'' A'' := by
  have h0 := h
  obtain ⟨⟨W, L, B, U, Q, hx, hm⟩, hsh, hs, hnx, hsu⟩ := h
  have hn := hx.sa.2.2.1
  refine ⟨_, sX0_image hx (by omega), fun z N' F' A' pp => ?_⟩
  obtain ⟨p, qx, q⟩ := pp
  replace hm := hm.kz hsh q.2.1
  have hsh1 := hsh.ex hn q.1
  refine ⟨h0.mid q, _, ⟨hsh1, fX9_image (sX9_image hm)⟩, fun z' F'' A'' pp => ?_⟩
  obtain ⟨p', hmo⟩ := pp
  exact ⟨p.trans p'.1.symm, h0.fin hκ q hsh1 hmo ⟨_, _, _, _, _, qx.mono (by omega) (by omega) (by omega), p'.2.mono (by omega)⟩⟩
theorem lp_octet {S : Nat → Nat} {x s n : Nat} {nx0 su0 κ : Int} {N : jSh} {F : jFl} {A : jAr} (h : lst S x s n nx0 su0 κ N F A) (hκ : 0 ≤ κ ∧ κ ≤ 63) (a1 : Int) : ∃ P, wqX0_octet S x a1 N F A P ∧ ∀ z, P z → ∃ P', wqX9_octet (x + 142) a1 N F A P' ∧ ∀ z', P' z' → z = z' ∧ lst S x s n nx0 su0 (κ + 1) N F A := by
  have h0 := h
  obtain ⟨⟨W, L, B, U, Q, hx, hm⟩, hsh, hs, hnx, hsu⟩ := h
  have hn := hx.sa.2.2.1
  have hx0 := hx
  obtain ⟨t, wA, sA, cA, lA, c0, h9, h19, hQ, hX⟩ := hx0
  refine ⟨_, sX0_octet c0.1.2.1 hX.2.2, fun z p => ?_⟩
  have qx := hx
  have q : xrs x N F A N F A := ⟨nex.refl _, kz.refl _ _ _ _, by omega, by omega⟩
  refine ⟨_, ⟨hsh, sX9_octet hm.2.2.2⟩, fun z' p' => ?_⟩
  have hmm := hm
  have hmo := mo.refl (x + 142) F A
  exact ⟨(p).trans (p').symm, h0.fin hκ q hsh hmo ⟨W, L, B, U, Q, qx.mono (by omega) (by omega) (by omega), hmm.mono (by omega)⟩⟩
theorem lp_on {S : Nat → Nat} {x s n : Nat} {nx0 su0 κ : Int} {N : jSh} {F : jFl} {A : jAr} (h : lst S x s n nx0 su0 κ N F A) (hκ : 0 ≤ κ ∧ κ ≤ 63) : ∃ P, wqX0_on S x N F A P ∧ ∀ z N' F' A', P z N' F' A' → (A' s = A s ∧ jln N' s = n) ∧ ∃ P', wqX9_on (x + 142) N' F' A' P' ∧ ∀ z' F'' A'', P' z' F'' A'' → z = z' ∧ lst S x s n nx0 su0 (κ + 1) N' F'' A'' := by
  have h0 := h
  obtain ⟨⟨W, L, B, U, Q, hx, hm⟩, hsh, hs, hnx, hsu⟩ := h
  have hn := hx.sa.2.2.1
  refine ⟨_, sX0_on hx (by omega) (by omega), fun z N' F' A' pp => ?_⟩
  obtain ⟨p, q⟩ := pp
  replace hm := hm.kz hsh q.2.1
  have hsh1 := hsh.ex hn q.1
  refine ⟨h0.mid q, _, ⟨hsh1, fX9_on (sX9_on hm (by omega))⟩, fun z' F'' A'' pp => ?_⟩
  obtain ⟨p', hmo⟩ := pp
  by_cases w : sIsImg W (Q 1) (Q 0 0)
  · exact ⟨(p.1 w).1.trans (p'.1 w).1.symm, h0.fin hκ q hsh1 hmo ⟨_, _, _, _, _, (p.1 w).2, (p'.1 w).2⟩⟩
  · exact ⟨(p.2 w).1.trans (p'.2 w).1.symm, h0.fin hκ q hsh1 hmo ⟨_, _, _, _, _, (p.2 w).2, (p'.2 w).2⟩⟩
theorem lp_status {S : Nat → Nat} {x s n : Nat} {nx0 su0 κ : Int} {N : jSh} {F : jFl} {A : jAr} (h : lst S x s n nx0 su0 κ N F A) (hκ : 0 ≤ κ ∧ κ ≤ 63) (a1 : Int) : ∃ P, wqX0_status S x a1 N F A P ∧ ∀ z, P z → ∃ P', wqX9_status (x + 142) a1 N F A P' ∧ ∀ z', P' z' → z = z' ∧ lst S x s n nx0 su0 (κ + 1) N F A := by
  have h0 := h
  obtain ⟨⟨W, L, B, U, Q, hx, hm⟩, hsh, hs, hnx, hsu⟩ := h
  have hn := hx.sa.2.2.1
  have hx0 := hx
  obtain ⟨t, wA, sA, cA, lA, c0, h9, h19, hQ, hX⟩ := hx0
  refine ⟨_, sX0_status c0.1.2.1 hQ, fun z p => ?_⟩
  have qx := hx
  have q : xrs x N F A N F A := ⟨nex.refl _, kz.refl _ _ _ _, by omega, by omega⟩
  refine ⟨_, ⟨hsh, sX9_status hm.2.2.2⟩, fun z' p' => ?_⟩
  have hmm := hm
  have hmo := mo.refl (x + 142) F A
  exact ⟨(p).trans (p').symm, h0.fin hκ q hsh hmo ⟨W, L, B, U, Q, qx.mono (by omega) (by omega) (by omega), hmm.mono (by omega)⟩⟩
