set_option maxRecDepth 100000
set_option linter.unusedVariables false
/-! the law answers yes -/
theorem kL_law {S : Nat → Nat} {s n : Nat} {u0 : Int} {N : jSh} {F : jFl} {A : jAr} (hn : nb N) (h20 : ∀ a, jtg N a ≠ 20) (h104 : ∀ b, jtg N b = 104 → b = S 19) (h19 : s19 S N) (hown : own S N A u0) (hs : jtg N s = 102 ∧ jln N s = n ∧ ∀ i : Int, jR (A s i)) (hle : n ≤ 384) : wqL_law S (s : Int) N F A (fun z N' F' A' => z = 1 ∧ (jnx N' : Int) ≤ (jnx N + 191 : Int) + 18000 * 64 ∧ (jsu N' : Int) ≤ (jsu N + 60000 : Int) + 80000 * 64) := by
  refine sL_law (nx0 := jnx N + 191) (su0 := jsu N + 60000) rfl hle (kX0_init hn) (fun N1 F1 A1 c => ?_) (fun N' F' A' κ k0 k1 h => ⟨rfl, ?_, ?_⟩)
  · have hx := kXst c rfl hn h20 h104 h19 hown
    have hl : kT.length = 142 := by decide +kernel
    have e1 : jnx N1 = jnx N + 142 := by rw [c.1.1, hl]
    have s1 : jsu N1 = _ := c.1.2
    have hn1 := c.2.1.1
    refine ⟨e1, _, by rw [← e1]; exact kX9_init hn1, fun N2 F2 A2 h2 => ?_⟩
    obtain ⟨A9, c9, e9⟩ := h2
    rw [e1] at c9 e9
    obtain ⟨hm, hsh⟩ := kMst c9 e9
    have hl9 : oT.length = 49 := by decide +kernel
    have e2 : jnx N2 = jnx N + 142 + 49 := by rw [c9.1.1, hl9]
    have s2 : jsu N2 = _ := c9.1.2
    have old := c9.2.1.2
    have nx : nex N1 N2 := ⟨by omega, fun a ha => (old a (by omega)).1⟩
    have sx : s < jnx N := hn s (by rw [hs.1]; decide)
    have oldc := c.2.1.2 s sx
    have olds := old s (by omega)
    have gi2 : ∀ M, gi S M N1 F1 → gi S M N2 F2 := fun M g => by
      have hn2 := c9.2.1.1
      have t2 : ∀ a, jtg N2 a = 20 ∨ jtg N2 a = 104 → a < jnx N1 ∧ jtg N1 a = jtg N2 a := fun a ha => by
        by_cases w : a < jnx N + 142
        · exact ⟨by omega, (old a w).1.1.symm⟩
        · have lx := hn2 a (by omega)
          have q := (c9.2.2.1 (a - (jnx N + 142)) (by omega)).1
          rw [show jnx N + 142 + (a - (jnx N + 142)) = a from by omega] at q
          have d : ∀ k : Fin 49, oT.getD k.val 0 ≠ 20 ∧ oT.getD k.val 0 ≠ 104 := by decide +kernel
          have d := d ⟨a - (jnx N + 142), by omega⟩
          rw [← q] at d
          omega
      obtain ⟨g1, g2, g3, g4, g5⟩ := g
      refine ⟨hn2, fun b hb hl => ?_, fun l hl => ?_, fun l l' h1 h2 hne he hp => ?_, g5⟩
      · obtain ⟨w1, w2⟩ := t2 b (Or.inr hb)
        exact g2 b (w2.trans hb) (((nx.2 b w1).2.1).symm.trans hl)
      · obtain ⟨w1, w2⟩ := t2 l (Or.inl hl)
        have q := g3 l (w2.trans hl)
        rw [(old l (by omega)).2.1, (old l (by omega)).2.1]
        exact ⟨by omega, q.2⟩
      · obtain ⟨w1, w2⟩ := t2 l (Or.inl h1)
        obtain ⟨w3, w4⟩ := t2 l' (Or.inl h2)
        rw [(old l (by omega)).2.1] at he hp ⊢
        rw [(old l' (by omega)).2.1] at he
        have q := g4 l l' (w2.trans h1) (w4.trans h2) hne he hp
        have lt := (g3 l (w2.trans h1)).1
        rw [(nx.2 _ (by omega)).2.1]
        exact q
    have hx2 := hx.gr (F' := F2) (A' := A2) ⟨nx, fun a ha f => (old a (by omega)).2.1 f, fun a ha => by
      rw [e9, upA_o (by omega), upA_o (by omega)]
      exact (old a (by omega)).2.2⟩ gi2
    refine ⟨⟨sW0, sL0, sB0, sU0, sQ0, hx2, hm⟩, hsh, ⟨sx, ?_, ?_, fun i => ?_⟩, ?_, ?_⟩
    · rw [olds.1.1, oldc.1.1]; exact hs.1
    · rw [olds.1.2.1, oldc.1.2.1]; exact hs.2.1
    · rw [e9, upA_o (by omega), upA_o (by omega), olds.2.2, oldc.2.2]; exact hs.2.2 i
    · omega
    · omega
  · have := h.2.2.2.1
    omega
  · have := h.2.2.2.2
    omega
