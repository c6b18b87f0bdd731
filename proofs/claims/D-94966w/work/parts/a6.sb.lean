set_option maxRecDepth 100000
set_option linter.unusedVariables false
/-! the builder of octets: append, setLength; printed by gen/prove.py out of spec/a6.sb.spec -/
def sb (N : jSh) (F : jFl) (A : jAr) (o : Nat) (p : sOc) : Prop := ∃ v : Nat, (F 7202 o = (v : Int) ∧ F 7203 o = 0 ∧ F 7209 o = p.1) ∧ (jtg N v = 108 ∧ jfn N 0 v = 1 ∧ 16 ≤ jln N v ∧ jln N v ≤ 1000) ∧ (0 ≤ p.1 ∧ p.1 ≤ (jln N v : Int)) ∧ (∀ k : Int, 0 ≤ k → k < p.1 → ((0 ≤ p.2 k ∧ p.2 k ≤ 255) ∧ A v k = (if p.2 k < 128 then p.2 k else p.2 k - 256))) ∧ ∀ k : Int, 0 ≤ k → k < (jln N v : Int) → -128 ≤ A v k ∧ A v k ≤ 127
def cpB (N : jSh) (F : jFl) (o : Nat) : Nat := jln N (F 7202 o).toNat
/-- grown: only the builder, its bytes are others -/
def gw (S : Nat → Nat) (o : Nat) (N : jSh) (F : jFl) (A : jAr) (N' : jSh) (F' : jFl) (A' : jAr) : Prop :=
  nex N N' ∧ (∀ a : Nat, a ≠ o → a < jnx N → ∀ f, F' f a = F f a) ∧ (∀ f, f ≠ 7202 → f ≠ 7206 → f ≠ 7209 → F' f o = F f o) ∧ (∀ a : Nat, a < jnx N → (a : Int) ≠ F 7202 o → A' a = A a) ∧ (F' 7202 o = F 7202 o ∨ (jnx N : Int) ≤ F' 7202 o) ∧ (∀ M, gi S M N F → gi S M N' F') ∧ ((jnx N' : Int) + cpB N F o ≤ jnx N + cpB N' F' o ∧ (jsu N' : Int) + 2 * cpB N F o ≤ jsu N + 2 * cpB N' F' o)
theorem gw.refl (S : Nat → Nat) (o : Nat) (N : jSh) (F : jFl) (A : jAr) : gw S o N F A N F A := ⟨nex.refl _, fun _ _ _ _ => rfl, fun _ _ _ _ => rfl, fun _ _ _ => rfl, Or.inl rfl, fun _ h => h, by omega⟩
theorem gw.trans {S : Nat → Nat} {o : Nat} {N N' N'' : jSh} {F F' F'' : jFl} {A A' A'' : jAr} (h : gw S o N F A N' F' A') (h2 : gw S o N' F' A' N'' F'' A'') : gw S o N F A N'' F'' A'' := by
  obtain ⟨a1, a2, a3, a4, a5, a6, a7⟩ := h
  obtain ⟨b1, b2, b3, b4, b5, b6, b7⟩ := h2
  have n1 := a1.1
  refine ⟨a1.trans b1, fun a ha hx f => (b2 a ha (by omega) f).trans (a2 a ha hx f), fun f f1 f2 f3 => (b3 f f1 f2 f3).trans (a3 f f1 f2 f3), fun a hx ha => (b4 a (by omega) (by omega)).trans (a4 a hx ha), by omega, fun M h => b6 M (a6 M h), by omega⟩
/-- only 7206, 7209 of the builder, cells of its bytes -/
theorem gw.st {S : Nat → Nat} {o : Nat} {N : jSh} {F F' : jFl} {A A' : jAr} (ho : jtg N o ≠ 20) (h1 : ∀ f a, (a = o → f ≠ 7206 ∧ f ≠ 7209) → F' f a = F f a) (h2 : ∀ a : Nat, (a : Int) ≠ F 7202 o → A' a = A a) : gw S o N F A N F' A' := by
  have e : F' 7202 o = F 7202 o := h1 _ _ (fun _ => by decide)
  refine ⟨nex.refl _, fun a ha _ f => h1 f a (fun w => absurd w ha), fun f _ f2 f3 => h1 f o (fun _ => ⟨f2, f3⟩), fun a _ ha => h2 a ha, Or.inl e, fun M g => g.of (fun l hl => ⟨h1 _ _ (fun w => absurd hl (by rw [w]; exact ho)), h1 _ _ (fun w => absurd hl (by rw [w]; exact ho))⟩), ?_⟩
  unfold cpB
  rw [e]
  omega
theorem gi.b108 {S : Nat → Nat} {M : Int} {N : jSh} {F : jFl} {o c : Nat} {z : Int} (g : gi S M N F) (ho : jtg N o ≠ 20) (hox : o < jnx N) : gi S M (jnew N 108 c c 1) (upF (nwF N F) 7202 o z) := by
  obtain ⟨g1, g2, g3, g4, g5⟩ := g
  have ht : ∀ {a t : Nat}, jtg (jnew N 108 c c 1) a = t → t ≠ 108 → t ≠ 0 → jtg N a = t ∧ a < jnx N := fun {a t} h h2 h3 => by
    by_cases w : a = jnx N
    · rw [w, jnew_tg, if_pos rfl] at h; exact absurd h.symm h2
    · rw [jnew_tgo w] at h; exact ⟨h, g1 a (by rw [h]; exact h3)⟩
  have hf : ∀ l, jtg N l = 20 → ∀ f, upF (nwF N F) 7202 o z f l = F f l := fun l hl f => by
    have := g1 l (by rw [hl]; decide)
    rw [upF_a (fun w => ho (by rw [← w]; exact hl)), nwF_o (by omega)]
  refine ⟨g1.new, fun b hb hz => ?_, fun l hl => ?_, fun l l' hl hl' hne he h0 => ?_, g5⟩
  · obtain ⟨q1, q2⟩ := ht hb (by decide) (by decide)
    rw [jnew_lno (by omega)] at hz
    exact g2 b q1 hz
  · obtain ⟨q1, q2⟩ := ht hl (by decide) (by decide)
    rw [hf l q1, hf l q1, jnewNx]
    have := g3 l q1
    omega
  · obtain ⟨q1, q2⟩ := ht hl (by decide) (by decide)
    obtain ⟨r1, r2⟩ := ht hl' (by decide) (by decide)
    rw [hf l q1] at he h0 ⊢
    rw [hf l' r1] at he
    have := g3 l q1
    rw [jnew_lno (by omega)]
    exact g4 l l' q1 r1 hne he h0
theorem jby_255 {x : Int} (h : 0 ≤ x ∧ x ≤ 255) : jby x = if x < 128 then x else x - 256 := by
  unfold jby
  split <;> omega
theorem sJ14_copyOf_3 {a1 : Int} {a2 : Int} {N : jSh} {F : jFl} {A : jAr} {b c : Nat} (h1 : a1 = (b : Int)) (h2 : a2 = (c : Int)) (hb : jtg N b = 108) (hbx : b < jnx N) (hc : jln N b < c ∧ c ≤ 1000) (he : ∀ k : Int, 0 ≤ k → k < (jln N b : Int) → -128 ≤ A b k ∧ A b k ≤ 127) : wqJ14_copyOf_3 a1 a2 N F A (fun z N' F' A' => z = (jnx N : Int) ∧ N' = jnew N 108 c c 1 ∧ F' = nwF N F ∧ (∀ a, a ≠ jnx N → A' a = A a) ∧ (∀ k : Int, 0 ≤ k → k < (jln N b : Int) → A' (jnx N) k = A b k) ∧ ∀ k : Int, (jln N b : Int) ≤ k → A' (jnx N) k = 0) := by
  unfold wqJ14_copyOf_3
  refine ⟨_, by exact h1, ?_⟩ -- d1: a1 = (b1 : Int)
  refine ⟨by exact hb, ?_⟩ -- s1: jtg N b1 = 108
  refine ⟨by omega, ?_⟩ -- s2: jR (jln N b1 : Int)
  refine ⟨fun hc => ?_, fun hc => ?_⟩ -- c1
  · -- case (¬ a2 = (jln N b1 : Int))
    refine ⟨_, by exact h2, ?_⟩ -- d14: a2 = (n14 : Int)
    refine ⟨by omega, ?_⟩ -- s3: n14 ≤ 1000000
    intro b6 N7 F8 A9 e6 e7 e8 e9
    subst e6 e7 e8 e9
    have hbl : (jln (jnew N 108 c c 1) b : Int) = jln N b := by rw [jnew_lno (by omega)]
    have hif : (if (jln N b : Int) ≤ a2 then (jln N b : Int) else a2) = jln N b := if_pos (by omega)
    rw [hbl, hif]
    refine ⟨by omega, ?_⟩ -- s4: jR (jln N7 b1 : Int)
    refine ⟨by (rw [jnewLn]; omega), ?_⟩ -- s5: ((0 : Int) ≤ 0 ∧ (0 : Int) ≤ 0 ∧ (0 : Int) ≤ (if (jln N7 b1 : Int) ≤ a2 then (jln N7 b1 : Int) else a2) ∧ 0 + (if (jln N7 b1 : Int) ≤ a2 then (jln N7 b1 : Int) 
    refine ⟨?_, ?_⟩ -- s6
    · intro k k0 k1
      rw [nwA_o (by omega)]
      exact he k k0 (by omega)
    intro A21 e21
    -- l1: Q (b6 : Int) N7 F8 A21
    refine ⟨rfl, rfl, rfl, fun a ha => ?_, fun k k0 k1 => ?_, fun k k0 => ?_⟩
    · rw [e21]; funext j; unfold cpA; rw [if_neg (fun w => ha w.1), nwA_o ha]
    · rw [e21]; unfold cpA; rw [if_pos ⟨rfl, k0, by omega⟩, nwA_o (by omega), show k - 0 + 0 = k by omega]
    · rw [e21]; unfold cpA; rw [if_neg (fun w => by omega), nwA_s]; rfl
  · -- case (a2 = (jln N b1 : Int))
    -- l2: False
    omega

theorem sJ3_isLatin1 {S : Nat → Nat} {o : Nat} {N : jSh} {F : jFl} {A : jAr} (h1 : F 7203 o = 0) : wqJ3_isLatin1 S o N F A (fun z => z = 1) := by
  unfold wqJ3_isLatin1
  refine ⟨fun hc => ?_, fun hc => ?_⟩ -- c1
  · -- case ((1 : Int) = 0)
    -- l1: Q 0
    omega
  · -- case (¬ ((1 : Int) = 0))
    intro z3 e3
    -- l2: Q z3
    rw [e3, if_neg (by omega)]

theorem sJ3_newCapacity {S : Nat → Nat} {o : Nat} {a1 : Int} {N : jSh} {F : jFl} {A : jAr} {v : Nat} (h1 : F 7202 o = (v : Int)) (h2 : F 7203 o = 0) (h3 : jtg N v = 108) (h4 : jln N v ≤ 211) (h5 : (jln N v : Int) < a1 ∧ a1 ≤ 211) : wqJ3_newCapacity S o a1 N F A (fun z => z = (jln N v : Int) + (if a1 - (jln N v : Int) ≤ (jln N v : Int) + 2 then (jln N v : Int) + 2 else a1 - (jln N v : Int))) := by
  unfold wqJ3_newCapacity
  have p0 : (2 : Int) ^ (0 : Int).toNat = 1 := rfl
  rw [h2, p0, Int.mul_one]
  refine ⟨_, by exact h1, ?_⟩ -- d1: F 7202 o = (b1 : Int)
  refine ⟨by exact h3, ?_⟩ -- s1: jtg N b1 = 108
  refine ⟨by omega, ?_⟩ -- s2: jR (jln N b1 : Int)
  intro v5 e5
  refine ⟨by omega, ?_⟩ -- s3: ((0 : Int) ≤ F 7203 o ∧ (F 7203 o : Int) < 32)
  refine ⟨by omega, ?_⟩ -- s4: jR (a1 * 2 ^ (F 7203 o).toNat)
  intro v8 e8
  refine ⟨by omega, ?_⟩ -- s5: jR (v8 - v5)
  intro v10 e10
  subst e5 e8 e10
  refine ⟨by omega, ?_⟩ -- s6: ((0 : Int) ≤ F 7203 o ∧ (F 7203 o : Int) < 32)
  refine ⟨by omega, ?_⟩ -- s7: jR (v5 + (2 * 2 ^ (F 7203 o).toNat))
  refine ⟨_, sJ12_newLength (by omega) (by omega) (by omega), ?_⟩ -- call wqJ12_newLength S v5 v10 (v5 + (2 * 2 ^ (F 7203 o).toNat)) N F A P13
  intro z15 p13
  refine ⟨fun hc => ?_, fun hc => ?_⟩ -- c1
  · -- case (¬ z15 = 2147483647)
    refine ⟨by omega, ?_⟩ -- s8: ((0 : Int) ≤ F 7203 o ∧ (F 7203 o : Int) < 32)
    -- l1: Q (z15 / 2 ^ (F 7203 o).toNat)
    rw [Int.ediv_one]; exact p13
  · -- case (z15 = 2147483647)
    -- l2: False
    split at p13 <;> omega

theorem sJ3_ensureCapacityInternal {S : Nat → Nat} {o : Nat} {a1 : Int} {N : jSh} {F : jFl} {A : jAr} {p : sOc} (h : sb N F A o p) (hn : nb N) (ho : jtg N o = 21 ∧ jfn N 0 o = 1) (h1 : 0 ≤ a1 ∧ a1 ≤ 211) : wqJ3_ensureCapacityInternal S o a1 N F A (fun N' F' A' => sb N' F' A' o p ∧ gw S o N F A N' F' A' ∧ a1 ≤ (cpB N' F' o : Int)) := by
  unfold wqJ3_ensureCapacityInternal
  have h0 := h
  obtain ⟨v, ⟨q1, q2, q3⟩, ⟨q4, q5, q6, q7⟩, q8, q9, q10⟩ := h
  have p0 : (2 : Int) ^ (0 : Int).toNat = 1 := rfl
  have hvx := hn v (by rw [q4]; decide)
  have hox := hn o (by rw [ho.1]; decide)
  have ec : (cpB N F o : Int) = jln N v := by unfold cpB; rw [q1]; rfl
  rw [q2, p0]
  refine ⟨_, by exact q1, ?_⟩ -- d1: F 7202 o = (b1 : Int)
  refine ⟨by exact q4, ?_⟩ -- s1: jtg N b1 = 108
  refine ⟨by omega, ?_⟩ -- s2: jR (jln N b1 : Int)
  refine ⟨by omega, ?_⟩ -- s3: ((0 : Int) ≤ F 7203 o ∧ (F 7203 o : Int) < 32)
  intro v6 e6
  rw [Int.ediv_one] at e6
  subst e6
  refine ⟨by omega, ?_⟩ -- s4: jR (a1 - v6)
  refine ⟨fun hc => ?_, fun hc => ?_⟩ -- c1
  · -- case ((a1 - v6) ≤ 0)
    -- l1: Q N F A
    exact ⟨h0, gw.refl _ _ _ _ _, by omega⟩
  · -- case (¬ ((a1 - v6) ≤ 0))
    refine ⟨_, sJ3_newCapacity q1 q2 q4 (by omega) (by omega), ?_⟩ -- call wqJ3_newCapacity S o a1 N F A P9
    intro z11 p9
    have zr : 2 * (jln N v : Int) + 2 ≤ z11 ∧ a1 ≤ z11 ∧ z11 ≤ 500 := by rw [p9]; split <;> omega
    rw [Int.mul_one]
    refine ⟨by omega, ?_⟩ -- s5: ((0 : Int) ≤ F 7203 o ∧ (F 7203 o : Int) < 32)
    refine ⟨by omega, ?_⟩ -- s6: jR (z11 * 2 ^ (F 7203 o).toNat)
    refine ⟨_, sJ14_copyOf_3 (b := v) (c := z11.toNat) q1 (by omega) q4 hvx (by omega) q10, ?_⟩ -- call wqJ14_copyOf_3 (F 7202 o) (z11 * 2 ^ (F 7203 o).toNat) N F A P18
    intro z20 N23 F21 A22 p18
    obtain ⟨r1, r2, r3, r4, r5, r6⟩ := p18
    refine ⟨by (rw [r2, jnew_fno (by omega)]; exact ho.2), ?_⟩ -- s7: jfn N23 0 o = 1
    intro F31 e31
    -- l2: Q N23 F31 A22
    have e1 : F31 = upF (nwF N F) 7202 o (jnx N : Int) := by rw [e31, r3, r1]
    have eo : F31 7202 o = (jnx N : Int) := by rw [e1, upF_s]
    have ex : ∀ f, f ≠ 7202 → F31 f o = F f o := fun f hf => by rw [e1, upF_f hf, nwF_o (by omega)]
    have el : jln N23 (jnx N) = z11.toNat := by rw [r2, jnewLn]
    have ec2 : cpB N23 F31 o = z11.toNat := by unfold cpB; rw [eo]; exact el
    refine ⟨⟨jnx N, ⟨eo, by rw [ex _ (by decide)]; exact q2, by rw [ex _ (by decide)]; exact q3⟩, ⟨by rw [r2, jnewTg], by rw [r2, jnew_f0], by rw [el]; omega, by rw [el]; omega⟩, by rw [el]; omega, fun k k0 k1 => ⟨(q9 k k0 k1).1, by rw [r5 k k0 (by omega)]; exact (q9 k k0 k1).2⟩, fun k k0 k1 => ?_⟩, ⟨by rw [r2]; exact nex.new _ _ _ _ _, fun a ha hx f => by rw [e1, upF_a ha, nwF_o (by omega)], fun f f1 f2 f3 => ex f f1, fun a hx _ => r4 a (by omega), Or.inr (by rw [eo]; exact Int.le_refl _), fun M g => by rw [r2, e1]; exact g.b108 (by rw [ho.1]; decide) hox, ?_⟩, by rw [ec2]; omega⟩
    · by_cases w : k < (jln N v : Int)
      · rw [r5 k k0 w]; exact q10 k k0 w
      · rw [r6 k (by omega)]; decide
    · rw [ec2, r2, jnewNx, jnewSu]; omega

theorem sJ10_canEncode {a1 : Int} {N : jSh} {F : jFl} {A : jAr} (h1 : a1 ≤ 255) : wqJ10_canEncode a1 N F A (fun z => z = 1) := by
  unfold wqJ10_canEncode
  intro z2 e2
  -- l1: Q z2
  rw [e2, if_neg (by omega)]

theorem sJ3_append {S : Nat → Nat} {o : Nat} {a1 : Int} {N : jSh} {F : jFl} {A : jAr} {p : sOc} (h : sb N F A o p) (hn : nb N) (ho : jtg N o = 21 ∧ jfn N 0 o = 1) (ha : 0 ≤ a1 ∧ a1 ≤ 255) (hp : p.1 ≤ 209) : wqJ3_append S o a1 N F A (fun z N' F' A' => sb N' F' A' o (sAp p a1) ∧ gw S o N F A N' F' A') := by
  unfold wqJ3_append
  have h79 : F 7209 o = p.1 := by obtain ⟨v, ⟨q1, q2, q3⟩, -⟩ := h; exact q3
  have hp0 : 0 ≤ p.1 := by obtain ⟨v, -, -, q8, -⟩ := h; exact q8.1
  have hox := hn o (by rw [ho.1]; decide)
  rw [h79]
  refine ⟨by omega, ?_⟩ -- s1: jR ((F 7209 o) + 1)
  refine ⟨_, sJ3_ensureCapacityInternal h hn ho (by omega), ?_⟩ -- call wqJ3_ensureCapacityInternal S o ((F 7209 o) + 1) N F A P2
  intro N7 F5 A6 p2
  obtain ⟨⟨v, ⟨q1, q2, q3⟩, ⟨q4, q5, q6, q7⟩, q8, q9, q10⟩, g, gc⟩ := p2
  have ec : (cpB N7 F5 o : Int) = jln N7 v := by unfold cpB; rw [q1]; rfl
  have o7 : jfn N7 0 o = 1 := by rw [(g.1.2 o hox).2.2]; exact ho.2
  have t7 : jtg N7 o = 21 := by rw [(g.1.2 o hox).1]; exact ho.1
  rw [q3]
  refine ⟨_, sJ3_isLatin1 q2, ?_⟩ -- call wqJ3_isLatin1 S o N7 F5 A6 P13
  intro z15 p13
  refine ⟨fun hc => ?_, fun hc => ?_⟩ -- c1
  · -- case (z15 = 0)
    exact absurd hc (by omega)
  · -- case (¬ (z15 = 0))
    refine ⟨_, sJ10_canEncode ha.2, ?_⟩ -- call wqJ10_canEncode a1 N7 F5 A6 P42
    intro z44 p42
    refine ⟨fun hc => ?_, fun hc => ?_⟩ -- c2
    · -- case (z44 = 0)
      exact absurd hc (by omega)
    · -- case (¬ (z44 = 0))
      refine ⟨by exact o7, ?_⟩ -- s2: jfn N7 0 o = 1
      refine ⟨by omega, ?_⟩ -- s3: jR ((F5 7209 o) + 1)
      intro F74 e74
      refine ⟨_, by exact q1, ?_⟩ -- d75: F5 7202 o = (b75 : Int)
      refine ⟨by exact q4, ?_⟩ -- s4: jtg N7 b75 = 108
      refine ⟨by exact q5, ?_⟩ -- s5: jfn N7 0 b75 = 1
      refine ⟨by omega, ?_⟩ -- s6: ((0 : Int) ≤ F5 7209 o ∧ (F5 7209 o : Int) < (jln N7 b75 : Int))
      intro A80 e80
      -- l1: Q (o : Int) N7 F74 A80
      have ef : ∀ f a, (a = o → f ≠ 7209) → F74 f a = F5 f a := fun f a hf => by
        rw [e74]
        by_cases w : a = o
        · rw [w, upF_f (hf w)]
        · rw [upF_a w]
      refine ⟨⟨v, ⟨by rw [ef _ _ (fun _ => by decide)]; exact q1, by rw [ef _ _ (fun _ => by decide)]; exact q2, by rw [e74, upF_s]; rfl⟩, ⟨q4, q5, q6, q7⟩, by show 0 ≤ p.1 + 1 ∧ p.1 + 1 ≤ (jln N7 v : Int); omega, fun k k0 k1 => ?_, fun k k0 k1 => ?_⟩, g.trans (gw.st (by rw [t7]; decide) (fun f a hf => ef f a (fun w => (hf w).2)) (fun a h => by rw [e80, upA_o (fun w => h (by rw [w]; exact q1.symm))]))⟩
      · have k1 : k < p.1 + 1 := k1
        show (0 ≤ upI p.2 p.1 a1 k ∧ upI p.2 p.1 a1 k ≤ 255) ∧ A80 v k = (if upI p.2 p.1 a1 k < 128 then upI p.2 p.1 a1 k else upI p.2 p.1 a1 k - 256)
        rw [e80]
        by_cases w : k = p.1
        · rw [w, upI_s, upA_same, jby_255 ha]; exact ⟨ha, rfl⟩
        · rw [upI_n w, upA_i w]; exact q9 k k0 (by omega)
      · rw [e80]
        by_cases w : k = p.1
        · rw [w, upA_same]; exact jby_R a1
        · rw [upA_i w]; exact q10 k k0 k1

theorem sJ4_append {S : Nat → Nat} {o : Nat} {a1 : Int} {N : jSh} {F : jFl} {A : jAr} {p : sOc} (h : sb N F A o p) (hn : nb N) (ho : jtg N o = 21 ∧ jfn N 0 o = 1) (ha : 0 ≤ a1 ∧ a1 ≤ 255) (hp : p.1 ≤ 209) : wqJ4_append S o a1 N F A (fun z N' F' A' => sb N' F' A' o (sAp p a1) ∧ gw S o N F A N' F' A') := by
  unfold wqJ4_append
  refine ⟨_, sJ3_append h hn ho ha hp, ?_⟩ -- call wqJ3_append S o a1 N F A P1
  intro z3 N6 F4 A5 p1
  -- l1: Q (o : Int) N6 F4 A5
  exact p1

theorem sX0_writes {S : Nat → Nat} {o : Nat} {a1 : Int} {N : jSh} {F : jFl} {A : jAr} {p : sOc} (hy : lay N o) (h : sb N F A (o + 140) p) (hn : nb N) (ha : 0 ≤ a1 ∧ a1 ≤ 255) (hp : p.1 ≤ 209) : wqX0_writes S o a1 N F A (fun N' F' A' => sb N' F' A' (o + 140) (sAp p a1) ∧ gw S (o + 140) N F A N' F' A') := by
  unfold wqX0_writes
  refine ⟨by omega, ?_⟩ -- s1: (0 ≤ a1 ∧ a1 ≤ 65535)
  refine ⟨_, by exact hy.p350, ?_⟩ -- d2: jfn N 350 o = (b2 : Int)
  refine ⟨by exact (hy.1 140 (by decide)).1, ?_⟩ -- s2: jtg N b2 = 21
  refine ⟨_, sJ4_append h hn (hy.1 140 (by decide)) ha hp, ?_⟩ -- call wqJ4_append S b2 a1 N F A P5
  intro z7 N10 F8 A9 p5
  -- l1: Q N10 F8 A9
  exact p5

theorem sJ3_setLength {S : Nat → Nat} {o : Nat} {a1 : Int} {N : jSh} {F : jFl} {A : jAr} {p : sOc} (h : sb N F A o p) (hn : nb N) (ho : jtg N o = 21 ∧ jfn N 0 o = 1) (h0 : a1 = 0) : wqJ3_setLength S o a1 N F A (fun N' F' A' => sb N' F' A' o (0, fun _ => 0) ∧ gw S o N F A N' F' A') := by
  unfold wqJ3_setLength
  have hox := hn o (by rw [ho.1]; decide)
  have fin : ∀ {N7 : jSh} {F5 F17 : jFl} {A6 : jAr}, sb N7 F5 A6 o p → gw S o N F A N7 F5 A6 → (∀ f a, (a = o → f ≠ 7206 ∧ f ≠ 7209) → F17 f a = F5 f a) → F17 7209 o = 0 → sb N7 F17 A6 o (0, fun _ => 0) ∧ gw S o N F A N7 F17 A6 := fun {N7 F5 F17 A6} q g ef e0 => by
    obtain ⟨v, ⟨q1, q2, q3⟩, ⟨q4, q5, q6, q7⟩, q8, q9, q10⟩ := q
    have t7 : jtg N7 o = 21 := by rw [(g.1.2 o hox).1]; exact ho.1
    exact ⟨⟨v, ⟨by rw [ef _ _ (fun _ => by decide)]; exact q1, by rw [ef _ _ (fun _ => by decide)]; exact q2, e0⟩, ⟨q4, q5, q6, q7⟩, by show (0 : Int) ≤ 0 ∧ (0 : Int) ≤ (jln N7 v : Int); omega, fun k k0 k1 => by have k1 : k < 0 := k1; omega, q10⟩, g.trans (gw.st (by rw [t7]; decide) ef (fun a _ => rfl))⟩
  refine ⟨fun hc => ?_, fun hc => ?_⟩ -- c1
  · -- case (0 ≤ a1)
    refine ⟨_, sJ3_ensureCapacityInternal h hn ho (by omega), ?_⟩ -- call wqJ3_ensureCapacityInternal S o a1 N F A P2
    intro N7 F5 A6 p2
    obtain ⟨q, g, gc⟩ := p2
    have o7 : jfn N7 0 o = 1 := by rw [(g.1.2 o hox).2.2]; exact ho.2
    have n7 : 0 ≤ F5 7209 o := by obtain ⟨v, ⟨-, -, q3⟩, -, q8, -⟩ := id q; rw [q3]; exact q8.1
    refine ⟨fun hc => ?_, fun hc => ?_⟩ -- c2
    · -- case (a1 ≤ (F5 7209 o))
      refine ⟨fun hc => ?_, fun hc => ?_⟩ -- c3
      · -- case ((F5 7209 o) ≤ a1)
        refine ⟨by exact o7, ?_⟩ -- s1: jfn N7 0 o = 1
        intro F17 e17
        -- l1: Q N7 F17 A6
        refine fin q g (fun f a hf => ?_) (by rw [e17, upF_s]; exact h0)
        rw [e17]
        by_cases w : a = o
        · rw [w, upF_f (hf w).2]
        · rw [upF_a w]
      · -- case (¬ ((F5 7209 o) ≤ a1))
        refine ⟨by exact o7, ?_⟩ -- s2: jfn N7 0 o = 1
        intro F20 e20
        intro F22 e22
        -- l2: Q N7 F22 A6
        refine fin q g (fun f a hf => ?_) (by rw [e22, upF_s]; exact h0)
        rw [e22, e20]
        by_cases w : a = o
        · rw [w, upF_f (hf w).2, upF_f (hf w).1]
        · rw [upF_a w, upF_a w]
    · -- case (¬ (a1 ≤ (F5 7209 o)))
      exact absurd (show a1 ≤ F5 7209 o by omega) hc
  · -- case (¬ (0 ≤ a1))
    -- l3: False
    exact absurd h0 (by omega)

theorem sJ4_setLength {S : Nat → Nat} {o : Nat} {a1 : Int} {N : jSh} {F : jFl} {A : jAr} {p : sOc} (h : sb N F A o p) (hn : nb N) (ho : jtg N o = 21 ∧ jfn N 0 o = 1) (h0 : a1 = 0) : wqJ4_setLength S o a1 N F A (fun N' F' A' => sb N' F' A' o (0, fun _ => 0) ∧ gw S o N F A N' F' A') := by
  unfold wqJ4_setLength
  refine ⟨_, sJ3_setLength h hn ho h0, ?_⟩ -- call wqJ3_setLength S o a1 N F A P1
  intro N6 F4 A5 p1
  -- l1: Q N6 F4 A5
  exact p1

theorem sX0_checked {S : Nat → Nat} {a1 : Int} {a2 : Int} {N : jSh} {F : jFl} {A : jAr} {b : Nat} {q : Int → Int} (hb : a1 = (b : Int)) (h2 : 0 ≤ a2 ∧ a2 ≤ 2000) (hq : ∀ i : Int, 0 ≤ i → i < a2 → 0 ≤ q i ∧ q i ≤ 255) (hc : ∀ i : Int, 0 ≤ i → i < a2 → (jtg N b = 21 ∧ wqJ4_charAt S b i N F A (fun z => z = q i)) ∨ (jtg N b = 22 ∧ wqJ5_charAt S b i N F A (fun z => z = q i))) : wqX0_checked S a1 a2 N F A (fun z => z = sSum q a2.toNat ∧ 0 ≤ z ∧ z ≤ 252) := by
  unfold wqX0_checked
  have hch := hc
  clear hc
  refine ⟨fun (v1 : Int) (v2 : Int) => (0 ≤ v2 ∧ v2 ≤ a2) ∧ v1 = sSum q v2.toNat, fun v1 v2 => (a2 - v2).toNat, ?_, ?_⟩ -- loop I4 I4 71 0
  ·
    -- l1: I4 71 0
    exact ⟨by omega, rfl⟩
  intro v1 v2 i4
  obtain ⟨i1, i2⟩ := i4
  have gr := sSum_range (q := q) (n := v2.toNat)
  rw [← i2] at gr
  refine ⟨fun hc => ?_, fun hc => ?_⟩ -- c1
  · -- case (a2 ≤ v2)
    -- l2: Q v1
    exact ⟨by rw [i2, show v2 = a2 by omega], by omega, by omega⟩
  · -- case (¬ (a2 ≤ v2))
    refine ⟨_, by exact hb, ?_⟩ -- d7: a1 = (b7 : Int)
    have hr := hq v2 i1.1 (by omega)
    refine ⟨_, hch v2 i1.1 (by omega), ?_⟩ -- call ((jtg N b7 = 21 ∧ wqJ4_charAt S b7 v2 N F A P9) ∨ (jtg N b7 = 22 ∧ wqJ5_charAt S b7 v2 N F A P9))
    intro z11 p9
    subst p9
    refine ⟨by omega, ?_⟩ -- s1: (((0 : Int) ≤ (3 * v1) + z11 ∧ ((3 * v1) + z11 : Int) ≤ 2147483647) ∧ ((0 : Int) < 253 ∧ (253 : Int) ≤ 2147483647))
    refine ⟨by omega, ?_⟩ -- s2: jR (((3 * v1) + z11) % 253)
    intro v16 e16
    refine ⟨by omega, ?_⟩ -- s3: jR (v2 + 1)
    refine ⟨?_, ?_⟩ -- l3: I4 v16 (v2 + 1)
    · refine ⟨by omega, ?_⟩
      rw [e16, i2]
      exact (it_succ (fun k c => (3 * c + q k) % 253) 71 i1.1).symm
    · dsimp only; omega

