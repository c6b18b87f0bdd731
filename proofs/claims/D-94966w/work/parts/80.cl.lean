set_option maxRecDepth 100000
set_option linter.unusedVariables false
/-! lists that grow and shrink; printed by gen/prove.py out of spec/80.cl.spec -/
/-- what a list's own act leaves of the rest -/
def lop (S : Nat → Nat) (M : Int) (N : jSh) (F : jFl) (A : jAr) (o : Nat) (N' : jSh) (F' : jFl) (A' : jAr) : Prop :=
  gi S M N' F' ∧ nex N N' ∧ (∀ a : Nat, a < jnx N → a ≠ o → ∀ f, F' f a = F f a) ∧ (∀ f : Nat, f ≠ 6900 → f ≠ 6002 → f ≠ 6003 → F' f o = F f o) ∧ (∀ a : Nat, a < jnx N → (a ≠ lar F o ∨ jln N a = 0) → A' a = A a) ∧
  (lcp N F o ≤ lcp N' F' o ∧ lcp N' F' o ≤ 160) ∧ jnx N' + lcp N F o ≤ jnx N + lcp N' F' o ∧ jsu N' + 4 * lcp N F o ≤ jsu N + 4 * lcp N' F' o ∧ (lar F' o = lar F o ∨ jnx N ≤ lar F' o)
theorem lop.other {S : Nat → Nat} {M M0 : Int} {N : jSh} {F : jFl} {A : jAr} {o l : Nat} {N' : jSh} {F' : jFl} {A' : jAr} {n : Int} {e : Int → Int} (h : lop S M N F A o N' F' A') (g : gi S M0 N F) (ho : jtg N o = 20) (ho2 : 0 ≤ F 6002 o) (hl : jli N F A l n e) (hne : l ≠ o) : jli N' F' A' l n e := by
  obtain ⟨h1, h2, h3, h4, h5, -⟩ := h
  have hl0 := g.1 l (by rw [hl.1.1]; decide)
  have hlt := hl.1.1
  refine hl.moved g.1 h2 (h3 l hl0 hne _) (h3 l hl0 hne _) (fun q => ?_)
  obtain ⟨-, -, y3, b, y4, y5, y6, -⟩ := hl
  have eb : lar F l = b := by show (F 6002 l).toNat = b; rw [y4]; rfl
  by_cases w : F 6002 l = F 6002 o
  · have := g.2.2.2.1 l o hlt ho hne w (by rw [y4]; omega)
    rw [show (F 6002 l).toNat = b from eb] at this
    rw [eb] at q
    omega
  · refine h5 _ (by rw [eb]; exact g.1 b (by rw [y5]; decide)) (Or.inl (fun w2 => ?_))
    rw [eb] at w2
    have w4 : (F 6002 o).toNat = b := w2.symm
    omega
theorem sJ12_newLength {S : Nat → Nat} {a1 : Int} {a2 : Int} {a3 : Int} {N : jSh} {F : jFl} {A : jAr} (h1 : 0 ≤ a1 ∧ a1 ≤ 1000) (h2 : 1 ≤ a2 ∧ a2 ≤ 1000) (h3 : 0 ≤ a3 ∧ a3 ≤ 1000) : wqJ12_newLength S a1 a2 a3 N F A (fun z => z = a1 + (if a2 ≤ a3 then a3 else a2)) := by
  unfold wqJ12_newLength
  refine ⟨by (split <;> omega), ?_⟩ -- s1: jR (a1 + (if a2 ≤ a3 then a3 else a2))
  intro v2 e2
  have e : 1 ≤ v2 ∧ v2 ≤ 2000 := by rw [e2]; split <;> omega
  refine ⟨fun hc => ?_, fun hc => ?_⟩ -- c1
  · -- case (v2 ≤ (0 : Int))
    omega
  · -- case (¬ (v2 ≤ (0 : Int)))
    refine ⟨fun hc => ?_, fun hc => ?_⟩ -- c2
    · -- case (2147483639 < v2)
      omega
    · -- case (¬ (2147483639 < v2))
      -- l1: Q v2
      exact e2

theorem sJ14_copyOf_2 {S : Nat → Nat} {a1 : Int} {a2 : Int} {a3 : Int} {N : jSh} {F : jFl} {A : jAr} {b c : Nat} {n : Int} {e : Int → Int} (h1 : a1 = (b : Int)) (h2 : a2 = (c : Int)) (h3 : a3 = (S 20 : Int)) (hb : jtg N b = 104) (hbx : b < jnx N) (hn : (jln N b : Int) = n) (hc : n ≤ (c : Int) ∧ c ≤ 1000) (he : ∀ k : Int, 0 ≤ k → k < n → A b k = e k ∧ jast N "java/lang/Object" (e k)) (hnb : nb N) : wqJ14_copyOf_2 S a1 a2 a3 N F A (fun z N' F' A' => z = (jnx N : Int) ∧ N' = jnew N 104 c c 1 ∧ F' = nwF N F ∧ (∀ a, a ≠ jnx N → A' a = A a) ∧ (∀ k : Int, 0 ≤ k → k < n → A' (jnx N) k = e k) ∧ ∀ k : Int, n ≤ k → A' (jnx N) k = -1) := by
  unfold wqJ14_copyOf_2
  refine ⟨fun hc => ?_, fun hc => ?_⟩ -- c1
  · -- case (¬ (a3 = (S 20 : Int) ∨ (a3 < 0 ∧ (S 20 : Int) < 0)))
    -- l1: False
    exact hc (Or.inl h3)
  · -- case ((a3 = (S 20 : Int) ∨ (a3 < 0 ∧ (S 20 : Int) < 0)))
    refine ⟨_, h2, ?_⟩ -- d10: a2 = (n10 : Int)
    refine ⟨by omega, ?_⟩ -- s1: n10 ≤ 1000000
    intro b2 N3 F4 A5 e2 e3 e4 e5
    subst e2 e3 e4 e5
    have hbb : jtg (jnew N 104 c c 1) b = 104 := by rw [jnew_tgo (by omega)]; exact hb
    have hbl : (jln (jnew N 104 c c 1) b : Int) = n := by rw [jnew_lno (by omega)]; exact hn
    have hif : (if n ≤ a2 then n else a2) = n := if_pos (by omega)
    refine ⟨_, h1, ?_⟩ -- d13: a1 = (b13 : Int)
    refine ⟨by exact hbb, ?_⟩ -- s2: jtg N3 b13 = 104
    rw [hbl, hif]
    refine ⟨by omega, ?_⟩ -- s3: jR (jln N3 b13 : Int)
    refine ⟨by (rw [jnewLn]; omega), ?_⟩ -- s4: ((0 : Int) ≤ 0 ∧ (0 : Int) ≤ 0 ∧ (0 : Int) ≤ (if (jln N3 b13 : Int) ≤ a2 then (jln N3 b13 : Int) else a2) ∧ 0 + (if (jln N3 b13 : Int) ≤ a2 then (jln N3 b13 : I
    refine ⟨?_, ?_⟩ -- s5
    · intro k k0 k1
      rw [nwA_o (by omega), (he k k0 (by omega)).1]
      exact (he k k0 (by omega)).2.ex hnb (nex.new _ _ _ _ _)
    intro A19 e19
    -- l2: Q (b2 : Int) N3 F4 A19
    refine ⟨rfl, rfl, rfl, fun a ha => ?_, fun k k0 k1 => ?_, fun k k0 => ?_⟩
    · rw [e19]; funext j; unfold cpA; rw [if_neg (fun w => ha w.1), nwA_o ha]
    · rw [e19]; unfold cpA; rw [if_pos ⟨rfl, k0, by omega⟩, nwA_o (by omega), show k - 0 + 0 = k by omega]; exact (he k k0 k1).1
    · rw [e19]; unfold cpA; rw [if_neg (fun w => by omega), nwA_s]; rfl

theorem sJ14_copyOf {S : Nat → Nat} {a1 : Int} {a2 : Int} {N : jSh} {F : jFl} {A : jAr} {b c : Nat} {n : Int} {e : Int → Int} (h1 : a1 = (b : Int)) (h2 : a2 = (c : Int)) (hb : jtg N b = 104) (hbo : jfn N 0 b = 1) (hbx : b < jnx N) (hn : (jln N b : Int) = n) (hc : n ≤ (c : Int) ∧ c ≤ 1000) (he : ∀ k : Int, 0 ≤ k → k < n → A b k = e k ∧ jast N "java/lang/Object" (e k)) (hnb : nb N) : wqJ14_copyOf S a1 a2 N F A (fun z N' F' A' => z = (jnx N : Int) ∧ N' = jnew N 104 c c 1 ∧ F' = nwF N F ∧ (∀ a, a ≠ jnx N → A' a = A a) ∧ (∀ k : Int, 0 ≤ k → k < n → A' (jnx N) k = e k) ∧ ∀ k : Int, n ≤ k → A' (jnx N) k = -1) := by
  unfold wqJ14_copyOf
  refine ⟨_, h1, ?_⟩ -- d1: a1 = (b1 : Int)
  refine ⟨by exact hb, ?_⟩ -- s1: jtg N b1 = 104
  refine ⟨by exact hbo, ?_⟩ -- s2: jfn N 0 b1 = 1
  refine ⟨_, sJ14_copyOf_2 h1 h2 rfl hb hbx hn hc he hnb, ?_⟩ -- call wqJ14_copyOf_2 S a1 a2 (S 20 : Int) N F A P5
  intro z7 N10 F8 A9 p5
  -- l1: Q z7 N10 F8 A9
  exact p5

theorem sJ2_grow_2 {S : Nat → Nat} {o : Nat} {a1 : Int} {N : jSh} {F : jFl} {A : jAr} {n M : Int} {e : Int → Int} (hl : jli N F A o n e) (g : gi S M N F) (hf : n = (lcp N F o : Int)) (h1 : a1 = n + 1) (hn : n ≤ 99) : wqJ2_grow_2 S o a1 N F A (fun z N' F' A' => z = (jnx N : Int) ∧ ∃ c : Nat, (n < (c : Int) ∧ c ≤ 160 ∧ 4 * n + c ≤ 4 * (c : Int)) ∧ N' = jnew N 104 c c 1 ∧ F' = upF (nwF N F) 6002 o (jnx N : Int) ∧ (∀ a, a ≠ jnx N → A' a = A a) ∧ (∀ k : Int, 0 ≤ k → k < n → A' (jnx N) k = e k) ∧ ∀ k : Int, n ≤ k → A' (jnx N) k = -1) := by
  unfold wqJ2_grow_2
  obtain ⟨y1, y2, y3, b, y4, y5, y6, y7, ⟨y8, y9, y10⟩, y11⟩ := hl
  have eb : lar F o = b := by show (F 6002 o).toNat = b; rw [y4]; rfl
  have hf2 : (jln N b : Int) = n := by rw [hf]; show _ = (jln N (lar F o) : Int); rw [eb]
  have hbx := g.1 b (by rw [y5]; decide)
  have hox := g.1 o (by rw [y1.1]; decide)
  have h0 : ∀ c : Nat, jfn (jnew N 104 c c 1) 0 o = 1 := fun c => by rw [jnew_fno (by omega)]; exact y1.2
  refine ⟨_, y4, ?_⟩ -- d1: F 6002 o = (b1 : Int)
  refine ⟨by exact y5, ?_⟩ -- s1: jtg N b1 = 104
  refine ⟨by omega, ?_⟩ -- s2: jR (jln N b1 : Int)
  intro v5 e5
  rw [hf2] at e5
  refine ⟨fun hc => ?_, fun hc => ?_⟩ -- c1
  · -- case (0 < v5)
    refine ⟨by omega, ?_⟩ -- s3: jR (a1 - v5)
    refine ⟨_, sJ12_newLength (by omega) (by omega) (by omega), ?_⟩ -- call wqJ12_newLength S v5 (a1 - v5) (v5 / 2 ^ 1) N F A P8
    intro z10 p8
    have hz : n < z10 ∧ z10 ≤ 160 ∧ 4 * n + z10 ≤ 4 * z10 := by rw [p8, e5]; split <;> omega
    have hz2 : z10 = ((z10.toNat : Nat) : Int) := by omega
    refine ⟨_, sJ14_copyOf (c := z10.toNat) (n := n) (e := e) y4 hz2 y5 (by omega) hbx hf2 (by omega) (fun k k0 k1 => ⟨y7 k k0 k1, y11 k k0 k1⟩) g.1, ?_⟩ -- call wqJ14_copyOf S (F 6002 o) z10 N F A P15
    intro z17 N20 F18 A19 p15
    obtain ⟨q1, q2, q3, q4, q5, q6⟩ := p15
    refine ⟨by (rw [q2]; exact h0 _), ?_⟩ -- s4: jfn N20 0 o = 1
    intro F28 e28
    -- l1: Q z17 N20 F28 A19
    exact ⟨q1, z10.toNat, by omega, q2, by rw [e28, q3, q1], q4, q5, q6⟩
  · -- case (¬ (0 < v5))
    refine ⟨fun hc => ?_, fun hc => ?_⟩ -- c2
    · -- case ((F 6002 o = (S 19 : Int) ∨ (F 6002 o < 0 ∧ (S 19 : Int) < 0)))
      refine ⟨_, (Int.toNat_of_nonneg (show 0 ≤ (if 10 ≤ a1 then a1 else 10) by split <;> omega)).symm, ?_⟩ -- d38: (if 10 ≤ a1 then a1 else 10) = (n38 : Int)
      refine ⟨by (split <;> omega), ?_⟩ -- s5: n38 ≤ 1000000
      intro b30 N31 F32 A33 e30 e31 e32 e33
      subst e30 e31 e32 e33
      have hn0 : n = 0 := by omega
      have hcc : ((if 10 ≤ a1 then a1 else 10).toNat : Int) = 10 := by rw [if_neg (by omega)]; rfl
      refine ⟨by exact h0 _, ?_⟩ -- s6: jfn N31 0 o = 1
      intro F44 e44
      -- l2: Q (b30 : Int) N31 F44 A33
      exact ⟨rfl, _, ⟨by omega, by omega, by omega⟩, rfl, by assumption, fun a ha => nwA_o ha, fun k k0 k1 => by omega, fun k k0 => nwA_s _ _ _ _⟩
    · -- case (¬ ((F 6002 o = (S 19 : Int) ∨ (F 6002 o < 0 ∧ (S 19 : Int) < 0))))
      exact absurd (Or.inl (by rw [y4, g.2.1 b y5 (by omega)])) hc

theorem sJ2_grow {S : Nat → Nat} {o : Nat} {N : jSh} {F : jFl} {A : jAr} {n M : Int} {e : Int → Int} (hl : jli N F A o n e) (g : gi S M N F) (hf : n = (lcp N F o : Int)) (hn : n ≤ 99) : wqJ2_grow S o N F A (fun z N' F' A' => z = (jnx N : Int) ∧ ∃ c : Nat, (n < (c : Int) ∧ c ≤ 160 ∧ 4 * n + c ≤ 4 * (c : Int)) ∧ N' = jnew N 104 c c 1 ∧ F' = upF (nwF N F) 6002 o (jnx N : Int) ∧ (∀ a, a ≠ jnx N → A' a = A a) ∧ (∀ k : Int, 0 ≤ k → k < n → A' (jnx N) k = e k) ∧ ∀ k : Int, n ≤ k → A' (jnx N) k = -1) := by
  unfold wqJ2_grow
  have y2 := hl.2.1
  have y3 := hl.2.2.1
  refine ⟨by omega, ?_⟩ -- s1: jR ((F 6003 o) + 1)
  refine ⟨_, sJ2_grow_2 hl g hf (by rw [y2]) hn, ?_⟩ -- call wqJ2_grow_2 S o ((F 6003 o) + 1) N F A P2
  intro z4 N7 F5 A6 p2
  -- l1: Q z4 N7 F5 A6
  exact p2

set_option maxHeartbeats 2000000 in
theorem sJ2_add_2 {S : Nat → Nat} {o : Nat} {a1 : Int} {a2 : Int} {a3 : Int} {N : jSh} {F : jFl} {A : jAr} {n M : Int} {e : Int → Int} (hl : jli N F A o n e) (g : gi S M N F) (h2 : a2 = F 6002 o) (h3 : a3 = n) (hn : n ≤ 99) (ha : jast N "java/lang/Object" a1) : wqJ2_add_2 S o a1 a2 a3 N F A (fun N' F' A' => jli N' F' A' o (n + 1) (upI e n a1) ∧ lop S M N F A o N' F' A') := by
  unfold wqJ2_add_2
  have hl0 := hl
  obtain ⟨y1, y2, y3, b, y4, y5, y6, y7, ⟨y8, y9, y10⟩, y11⟩ := hl
  have eb : lar F o = b := by show (F 6002 o).toNat = b; rw [y4]; rfl
  have hbx := g.1 b (by rw [y5]; decide)
  have hox := g.1 o (by rw [y1.1]; decide)
  have hbo : b ≠ o := fun w => by rw [w, y1.1] at y5; omega
  subst h3
  refine ⟨_, by (rw [h2]; exact y4), ?_⟩ -- d1: a2 = (b1 : Int)
  refine ⟨by exact y5, ?_⟩ -- s1: jtg N b1 = 104
  refine ⟨by omega, ?_⟩ -- s2: jR (jln N b1 : Int)
  refine ⟨fun (v6 : Int) (N7 : jSh) (F8 : jFl) (A9 : jAr) => ∃ b' : Nat, v6 = (b' : Int) ∧ F8 6002 o = (b' : Int) ∧ (b' = b ∨ b' = jnx N) ∧ (jtg N7 b' = 104 ∧ jfn N7 0 b' = 1 ∧ a3 < (jln N7 b' : Int) ∧ jln N7 b' ≤ 160) ∧ (∀ k : Int, 0 ≤ k → k < a3 → A9 b' k = e k) ∧ (∀ k : Int, a3 ≤ k → k < (jln N7 b' : Int) → A9 b' k = -1) ∧ gi S M N7 F8 ∧ nex N N7 ∧ (∀ a, a < jnx N → a ≠ o → ∀ f, F8 f a = F f a) ∧ (∀ f, f ≠ 6002 → F8 f o = F f o) ∧ (∀ a, a < jnx N → A9 a = A a) ∧ (jln N b ≤ jln N7 b' ∧ jnx N7 + jln N b ≤ jnx N + jln N7 b' ∧ jsu N7 + 4 * jln N b ≤ jsu N + 4 * jln N7 b'), ?_, ?_⟩ -- join K12
  · intro v6 N7 F8 A9 k12
    obtain ⟨b', k1, k2, k3, ⟨k4, k5, k6, k7⟩, k8, k9, k10, k11, k12, k13, k14, k15⟩ := k12
    have hob : b' ≠ o := by rcases k3 with w | w <;> omega
    have ho7 : jfn N7 0 o = 1 := by rw [k11.fn g.1 y1.1 (by decide)]; exact y1.2
    refine ⟨_, k1, ?_⟩ -- d15: v6 = (b15 : Int)
    refine ⟨by exact k4, ?_⟩ -- s3: jtg N7 b15 = 104
    refine ⟨by exact k5, ?_⟩ -- s4: jfn N7 0 b15 = 1
    refine ⟨by omega, ?_⟩ -- s5: ((0 : Int) ≤ a3 ∧ (a3 : Int) < (jln N7 b15 : Int))
    refine ⟨by exact ha.ex g.1 k11, ?_⟩ -- s6: jast N7 "java/lang/Object" a1
    intro A20 e20
    refine ⟨by exact ho7, ?_⟩ -- s7: jfn N7 0 o = 1
    refine ⟨by omega, ?_⟩ -- s8: jR (a3 + 1)
    intro F27 e27
    -- l1: Q N7 F27 A20
    have m1 : F27 6002 o = (b' : Int) := by rw [e27, upF_f (by decide)]; exact k2
    have m2 : lar F27 o = b' := by show (F27 6002 o).toNat = b'; rw [m1]; rfl
    have m3 : ∀ l : Nat, l ≠ o → ∀ f, F27 f l = F8 f l := fun l hl f => by rw [e27, upF_a hl]
    refine ⟨⟨⟨k11.tg g.1 y1.1 (by decide), ho7⟩, by rw [e27, upF_s], by omega, b', m1, k4, by omega, fun k kk0 kk1 => ?_, ⟨Or.inl k5, k7, fun k kk0 kk1 => ?_⟩, fun k kk0 kk1 => ?_⟩, ⟨k10.1, k10.2.1, fun l hl => ?_, fun l l' hl hl' hne w w0 => ?_, k10.2.2.2.2⟩, k11, fun a ha hao f => by rw [m3 a hao]; exact k12 a ha hao f, fun f f1 f2 f3 => by rw [e27, upF_f f3]; exact k13 f f2, fun a ha hao => ?_, ?_, ?_, ?_, by rw [m2, eb]; omega⟩
    · rw [e20]
      by_cases w : k = a3
      · rw [w, upA_s, upI_s]
      · rw [upA_i w, upI_n w]; exact k8 k kk0 (by omega)
    · rw [e20, upA_i (by omega)]; exact k9 k (by omega) kk1
    · by_cases w : k = a3
      · rw [w, upI_s]; exact ha.ex g.1 k11
      · rw [upI_n w]; exact (y11 k kk0 (by omega)).ex g.1 k11
    · by_cases w : l = o
      · rw [w]
        have q := k10.2.2.1 o (k11.tg g.1 y1.1 (by decide))
        rw [e27, upF_f (by decide), upF_f (by decide)]
        exact q
      · rw [m3 l w, m3 l w]; exact k10.2.2.1 l hl
    · have f6 : ∀ l : Nat, F27 6002 l = F8 6002 l := fun l => by rw [e27, upF_f (by decide)]
      rw [f6, f6] at w
      rw [f6] at w0 ⊢
      exact k10.2.2.2.1 l l' hl hl' hne w w0
    · rw [e20, upA_o (fun w => ?_)]
      · exact k14 a ha
      · rcases k3 with q | q
        · rcases hao with q2 | q2
          · rw [eb] at q2; omega
          · have q3 := k11.ln g.1 y5 (by decide)
            rw [w, q] at q2
            rw [q, q3] at k6
            omega
        · omega
    · show jln N (lar F o) ≤ jln N7 (lar F27 o) ∧ jln N7 (lar F27 o) ≤ 160
      rw [m2, eb]; omega
    · show jnx N7 + jln N (lar F o) ≤ jnx N + jln N7 (lar F27 o)
      rw [m2, eb]; omega
    · show jsu N7 + 4 * jln N (lar F o) ≤ jsu N + 4 * jln N7 (lar F27 o)
      rw [m2, eb]; omega
  refine ⟨fun hc => ?_, fun hc => ?_⟩ -- c1
  · -- case (¬ a3 = (jln N b1 : Int))
    -- l2: K12 a2 N F A
    refine ⟨b, by rw [h2]; exact y4, y4, Or.inl rfl, ⟨y5, ?_, by omega, y9⟩, y7, y10, g, nex.refl _, fun _ _ _ _ => rfl, fun _ _ => rfl, fun _ _ => rfl, by omega⟩
    rcases y8 with w | w
    · exact w
    · omega
  · -- case (a3 = (jln N b1 : Int))
    refine ⟨_, sJ2_grow hl0 g (by show a3 = (jln N (lar F o) : Int); rw [eb]; omega) hn, ?_⟩ -- call wqJ2_grow S o N F A P28
    intro z30 N33 F31 A32 p28
    obtain ⟨q0, c, ⟨q1, q2, q3⟩, q4, q5, q6, q7, q8⟩ := p28
    -- l3: K12 z30 N33 F31 A32
    subst q4
    refine ⟨jnx N, q0, by rw [q5, upF_s], Or.inr rfl, ⟨jnewTg _ _ _ _ _, jnew_f0 _ _ _ _ _, by rw [jnewLn]; exact q1, by rw [jnewLn]; exact q2⟩, q7, fun k kk0 _ => q8 k kk0, ⟨g.1.new, fun b2 hb2 hl2 => ?_, fun l hl => ?_, fun l l' hl hl' hne w w0 => ?_, g.2.2.2.2⟩, nex.new _ _ _ _ _, fun a ha hao f => by rw [q5, upF_a hao, nwF_o (by omega)], fun f hf => by rw [q5, upF_f hf, nwF_o (by omega)], fun a ha => q6 a (by omega), by rw [jnewLn, jnewNx, jnewSu]; omega⟩
    · by_cases w : b2 = jnx N
      · rw [w, jnewLn] at hl2; omega
      · rw [jnew_tgo w] at hb2; rw [jnew_lno w] at hl2; exact g.2.1 b2 hb2 hl2
    · by_cases w : l = jnx N
      · rw [w, jnewTg] at hl; omega
      · rw [jnew_tgo w] at hl
        have q := g.2.2.1 l hl
        rw [jnewNx]
        by_cases w2 : l = o
        · rw [w2] at q ⊢
          rw [q5, upF_s, upF_f (by decide), nwF_o (by omega)]; omega
        · rw [q5, upF_a w2, upF_a w2, nwF_o w, nwF_o w]; omega
    · have nl : ∀ l : Nat, jtg (jnew N 104 c c 1) l = 20 → l ≠ jnx N ∧ jtg N l = 20 := fun l hl => by
        by_cases w : l = jnx N
        · rw [w, jnewTg] at hl; omega
        · rw [jnew_tgo w] at hl; exact ⟨w, hl⟩
      obtain ⟨n1, n2⟩ := nl l hl
      obtain ⟨n3, n4⟩ := nl l' hl'
      have fl : ∀ l : Nat, l ≠ jnx N → l ≠ o → F31 6002 l = F 6002 l := fun l h1 h2 => by rw [q5, upF_a h2, nwF_o h1]
      have fo : F31 6002 o = (jnx N : Int) := by rw [q5, upF_s]
      by_cases wl : l = o
      · have wl' : l' ≠ o := fun w2 => hne (wl.trans w2.symm)
        rw [wl, fo, fl l' n3 wl'] at w
        have := (g.2.2.1 l' n4).1
        omega
      · by_cases wl' : l' = o
        · rw [wl', fo, fl l n1 wl] at w
          have := (g.2.2.1 l n2).1
          omega
        · rw [fl l n1 wl, fl l' n3 wl'] at w
          rw [fl l n1 wl] at w0 ⊢
          have h8 := (g.2.2.1 l n2).1
          rw [jnew_lno (by omega)]
          exact g.2.2.2.1 l l' n2 n4 hne w w0

theorem sJ2_add {S : Nat → Nat} {o : Nat} {a1 : Int} {N : jSh} {F : jFl} {A : jAr} {n M : Int} {e : Int → Int} (hl : jli N F A o n e) (g : gi S M N F) (hM : M < 1000000000) (hn : n ≤ 99) (ha : jast N "java/lang/Object" a1) : wqJ2_add S o a1 N F A (fun z N' F' A' => jli N' F' A' o (n + 1) (upI e n a1) ∧ lop S (M + 1) N F A o N' F' A') := by
  unfold wqJ2_add
  have hl0 := hl
  obtain ⟨y1, y2, y3, y4⟩ := hl
  have q := g.2.2.1 o y1.1
  refine ⟨by exact y1.2, ?_⟩ -- s1: jfn N 0 o = 1
  refine ⟨by omega, ?_⟩ -- s2: jR ((F 6900 o) + 1)
  intro F4 e4
  have f1 : ∀ f : Nat, f ≠ 6900 → ∀ l, F4 f l = F f l := fun f hf l => by rw [e4, upF_f hf]
  have f2 : ∀ l : Nat, l ≠ o → ∀ f, F4 f l = F f l := fun l hl f => by rw [e4, upF_a hl]
  have hl4 : jli N F4 A o n e := hl0.moved g.1 (nex.refl _) (f1 _ (by decide) _) (f1 _ (by decide) _) (fun _ => rfl)
  have g4 : gi S (M + 1) N F4 := by
    refine ⟨g.1, g.2.1, fun l hl => ?_, fun l l' hl hl' hne w w0 => ?_, by omega⟩
    · have := g.2.2.1 l hl
      rw [f1 6002 (by decide)]
      by_cases w : l = o
      · rw [w] at this ⊢; rw [e4, upF_s]; omega
      · rw [f2 l w]; omega
    · rw [f1 6002 (by decide), f1 6002 (by decide)] at w
      rw [f1 6002 (by decide)] at w0 ⊢
      exact g.2.2.2.1 l l' hl hl' hne w w0
  refine ⟨_, sJ2_add_2 hl4 g4 rfl hl4.2.1 hn ha, ?_⟩ -- call wqJ2_add_2 S o a1 (F4 6002 o) (F4 6003 o) N F4 A P5
  intro N10 F8 A9 p5
  obtain ⟨p1, p2, p3, p4, p5, p6, p7⟩ := p5
  have e6 : F4 6002 o = F 6002 o := f1 _ (by decide) _
  -- l1: Q 1 N10 F8 A9
  refine ⟨p1, p2, p3, fun a ha hao f => (p4 a ha hao f).trans (f2 a hao f), fun f h1 h2 h3 => (p5 f h1 h2 h3).trans (f1 f h1 o), ?_, ?_⟩
  · have := p6
    unfold lar at this ⊢
    rw [e6] at this
    exact this
  · have := p7
    unfold lcp lar at this ⊢
    rw [e6] at this
    exact this

theorem sJ2_set {o : Nat} {a1 : Int} {a2 : Int} {N : jSh} {F : jFl} {A : jAr} {n : Int} {e : Int → Int} (hl : jli N F A o n e) (h1 : 0 ≤ a1 ∧ a1 < n) (ha : jast N "java/lang/Object" a2) : wqJ2_set o a1 a2 N F A (fun z F' A' => z = e a1 ∧ jli N F' A' o n (upI e a1 a2) ∧ F' = F ∧ (∀ a, a ≠ lar F o → A' a = A a) ∧ lcp N F o ≠ 0) := by
  unfold wqJ2_set
  have hl0 := hl
  obtain ⟨y1, y2, y3, b, y4, y5, y6, y7, ⟨y8, y9, y10⟩, y11⟩ := hl
  have eb : lar F o = b := by show (F 6002 o).toNat = b; rw [y4]; rfl
  refine ⟨_, sJ11_checkIndex (by rw [y2]; exact h1), ?_⟩ -- call wqJ11_checkIndex a1 (F 6003 o) N F A P1
  intro z3 p1
  refine ⟨_, sJ2_elementData hl0 h1, ?_⟩ -- call wqJ2_elementData o a1 N F A P8
  intro z10 p8
  refine ⟨_, y4, ?_⟩ -- d15: F 6002 o = (b15 : Int)
  refine ⟨by exact y5, ?_⟩ -- s1: jtg N b15 = 104
  refine ⟨by (rcases y8 with w | w; exact w; omega), ?_⟩ -- s2: jfn N 0 b15 = 1
  refine ⟨by omega, ?_⟩ -- s3: ((0 : Int) ≤ a1 ∧ (a1 : Int) < (jln N b15 : Int))
  refine ⟨by exact ha, ?_⟩ -- s4: jast N "java/lang/Object" a2
  intro A20 e20
  -- l1: Q z10 F A20
  refine ⟨p8, ⟨y1, y2, y3, b, y4, y5, y6, fun k k0 k1 => ?_, ⟨y8, y9, fun k k0 k1 => ?_⟩, fun k k0 k1 => ?_⟩, rfl, fun a hab => by rw [e20, upA_o (by rw [eb] at hab; exact hab)], by show jln N (lar F o) ≠ 0; rw [eb]; omega⟩
  · rw [e20]
    by_cases w : k = a1
    · rw [w, upA_s, upI_s]
    · rw [upA_i w, upI_n w]; exact y7 k k0 k1
  · rw [e20, upA_i (by omega)]; exact y10 k k0 k1
  · by_cases w : k = a1
    · rw [w, upI_s]; exact ha
    · rw [upI_n w]; exact y11 k k0 k1

theorem sJ2_fastRemove {o : Nat} {a1 : Int} {a2 : Int} {N : jSh} {F : jFl} {A : jAr} {S : Nat → Nat} {n M : Int} {e : Int → Int} (hl : jli N F A o n e) (g : gi S M N F) (hM : M < 1000000000) (h1 : a1 = F 6002 o) (h2 : 0 ≤ a2 ∧ a2 < n) : wqJ2_fastRemove o a1 a2 N F A (fun F' A' => jli N F' A' o (n - 1) (fun k => if k < a2 then e k else e (k + 1)) ∧ gi S (M + 1) N F' ∧ F' = upF (upF F 6900 o (F 6900 o + 1)) 6003 o (n - 1) ∧ ∀ a, a ≠ lar F o → A' a = A a) := by
  unfold wqJ2_fastRemove
  obtain ⟨y1, y2, y3, b, y4, y5, y6, y7, ⟨y8, y9, y10⟩, y11⟩ := hl
  have eb : lar F o = b := by show (F 6002 o).toNat = b; rw [y4]; rfl
  have q := g.2.2.1 o y1.1
  have hbo : jfn N 0 b = 1 := by rcases y8 with w | w; exact w; omega
  refine ⟨by exact y1.2, ?_⟩ -- s1: jfn N 0 o = 1
  refine ⟨by omega, ?_⟩ -- s2: jR ((F 6900 o) + 1)
  intro F4 e4
  have f3 : F4 6003 o = n := by rw [e4, upF_f (by decide)]; exact y2
  rw [f3]
  refine ⟨by omega, ?_⟩ -- s3: jR ((F4 6003 o) - 1)
  intro v6 e6
  refine ⟨by omega, ?_⟩ -- s4: jR ((F4 6003 o) - 1)
  refine ⟨fun (A9 : jAr) => (∀ a, a ≠ b → A9 a = A a) ∧ (∀ k : Int, 0 ≤ k → k < n - 1 → A9 b k = (if k < a2 then e k else e (k + 1))) ∧ ∀ k : Int, n ≤ k → k < (jln N b : Int) → A9 b k = -1, ?_, ?_⟩ -- join K12
  · intro A9 k12
    obtain ⟨k1, k2, k3⟩ := k12
    intro F16 e16
    refine ⟨_, by (rw [h1]; exact y4), ?_⟩ -- d17: a1 = (b17 : Int)
    refine ⟨by exact y5, ?_⟩ -- s5: jtg N b17 = 104
    refine ⟨by exact hbo, ?_⟩ -- s6: jfn N 0 b17 = 1
    refine ⟨by omega, ?_⟩ -- s7: ((0 : Int) ≤ v6 ∧ (v6 : Int) < (jln N b17 : Int))
    refine ⟨by exact Or.inl rfl, ?_⟩ -- s8: jast N "java/lang/Object" (-1)
    intro A22 e22
    -- l1: Q F16 A22
    have f1 : ∀ l, F16 6002 l = F 6002 l := fun l => by rw [e16, upF_f (by decide), e4, upF_f (by decide)]
    refine ⟨⟨y1, by rw [e16, upF_s, e6], by omega, b, by rw [f1, y4], y5, by omega, fun k k0 k1' => by rw [e22, upA_i (by omega)]; exact k2 k k0 k1', ⟨y8, y9, fun k k0 k1' => ?_⟩, fun k k0 k1' => ?_⟩, ⟨g.1, g.2.1, fun l hl => ?_, fun l l' hl hl' hne w w0 => ?_, by omega⟩, by rw [e16, e6, e4], fun a hab => by rw [eb] at hab; rw [e22, upA_o hab]; exact k1 a hab⟩
    · by_cases w : k = n - 1
      · rw [e22, e6, w, upA_s]
      · rw [e22, upA_i (by omega)]; exact k3 k (by omega) k1'
    · dsimp only
      split
      · exact y11 k k0 (by omega)
      · exact y11 (k + 1) (by omega) (by omega)
    · have := g.2.2.1 l hl
      rw [f1]
      by_cases w : l = o
      · rw [w] at this ⊢; rw [e16, upF_f (by decide), e4, upF_s]; omega
      · rw [e16, upF_a w, e4, upF_a w]; omega
    · rw [f1, f1] at w
      rw [f1] at w0 ⊢
      exact g.2.2.2.1 l l' hl hl' hne w w0
  refine ⟨fun hc => ?_, fun hc => ?_⟩ -- c1
  · -- case (((F4 6003 o) - 1) ≤ a2)
    -- l2: K12 A
    refine ⟨fun _ _ => rfl, fun k k0 k1 => ?_, y10⟩
    rw [if_pos (by omega)]; exact y7 k k0 (by omega)
  · -- case (¬ (((F4 6003 o) - 1) ≤ a2))
    refine ⟨_, by (rw [h1]; exact y4), ?_⟩ -- d25: a1 = (b25 : Int)
    refine ⟨by exact y5, ?_⟩ -- s9: jtg N b25 = 104
    refine ⟨by exact hbo, ?_⟩ -- s10: jfn N 0 b25 = 1
    refine ⟨by omega, ?_⟩ -- s11: ((0 : Int) ≤ a2 + 1 ∧ (0 : Int) ≤ a2 ∧ (0 : Int) ≤ v6 - a2 ∧ a2 + 1 + (v6 - a2) ≤ (jln N b25 : Int) ∧ a2 + (v6 - a2) ≤ (jln N b25 : Int))
    refine ⟨?_, ?_⟩ -- s12
    · intro k k0 k1
      rw [y7 k (by omega) (by omega)]
      exact y11 k (by omega) (by omega)
    intro A31 e31
    -- l3: K12 A31
    refine ⟨fun a ha => ?_, fun k k0 k1 => ?_, fun k k0 k1 => ?_⟩
    · rw [e31]; funext j; unfold cpA; rw [if_neg (fun w => ha w.1)]
    · rw [e31]; unfold cpA
      by_cases w : k < a2
      · rw [if_neg (by omega), if_pos w]; exact y7 k k0 (by omega)
      · rw [if_pos (by omega), if_neg w, show k - a2 + (a2 + 1) = k + 1 by omega]; exact y7 (k + 1) (by omega) (by omega)
    · rw [e31]; unfold cpA; rw [if_neg (by omega)]; exact y10 k k0 k1

theorem sJ2_remove {o : Nat} {a1 : Int} {N : jSh} {F : jFl} {A : jAr} {S : Nat → Nat} {n M : Int} {e : Int → Int} (hl : jli N F A o n e) (g : gi S M N F) (hM : M < 1000000000) (h2 : 0 ≤ a1 ∧ a1 < n) : wqJ2_remove o a1 N F A (fun z F' A' => z = e a1 ∧ jli N F' A' o (n - 1) (fun k => if k < a1 then e k else e (k + 1)) ∧ gi S (M + 1) N F' ∧ F' = upF (upF F 6900 o (F 6900 o + 1)) 6003 o (n - 1) ∧ ∀ a, a ≠ lar F o → A' a = A a) := by
  unfold wqJ2_remove
  have hl0 := hl
  obtain ⟨y1, y2, y3, b, y4, y5, y6, y7, ⟨y8, y9, y10⟩, y11⟩ := hl
  refine ⟨_, sJ11_checkIndex (by rw [y2]; exact h2), ?_⟩ -- call wqJ11_checkIndex a1 (F 6003 o) N F A P1
  intro z3 p1
  intro v8 e8
  refine ⟨_, by (rw [e8]; exact y4), ?_⟩ -- d9: v8 = (b9 : Int)
  refine ⟨by exact y5, ?_⟩ -- s1: jtg N b9 = 104
  refine ⟨by omega, ?_⟩ -- s2: ((0 : Int) ≤ a1 ∧ (a1 : Int) < (jln N b9 : Int))
  intro v13 e13
  refine ⟨_, sJ2_fastRemove hl0 g hM e8 h2, ?_⟩ -- call wqJ2_fastRemove o v8 a1 N F A P14
  intro F17 A18 p14
  -- l1: Q v13 F17 A18
  exact ⟨by rw [e13]; exact y7 _ h2.1 h2.2, p14⟩

theorem sJ2_clear {o : Nat} {N : jSh} {F : jFl} {A : jAr} {S : Nat → Nat} {n M : Int} {e : Int → Int} (hl : jli N F A o n e) (g : gi S M N F) (hM : M < 1000000000) : wqJ2_clear o N F A (fun F' A' => (∀ e', jli N F' A' o 0 e') ∧ gi S (M + 1) N F' ∧ F' = upF (upF F 6900 o (F 6900 o + 1)) 6003 o 0 ∧ ∀ a, (a ≠ lar F o ∨ n = 0) → A' a = A a) := by
  unfold wqJ2_clear
  obtain ⟨y1, y2, y3, b, y4, y5, y6, y7, ⟨y8, y9, y10⟩, y11⟩ := hl
  have eb : lar F o = b := by show (F 6002 o).toNat = b; rw [y4]; rfl
  have q := g.2.2.1 o y1.1
  refine ⟨by exact y1.2, ?_⟩ -- s1: jfn N 0 o = 1
  refine ⟨by omega, ?_⟩ -- s2: jR ((F 6900 o) + 1)
  intro F4 e4
  intro v5 e5
  intro v6 e6
  intro F8 e8
  have f1 : ∀ l, F8 6002 l = F 6002 l := fun l => by rw [e8, upF_f (by decide), e4, upF_f (by decide)]
  have ev5 : v5 = (b : Int) := by rw [e5, e4, upF_f (by decide)]; exact y4
  have ev6 : v6 = n := by rw [e6, e4, upF_f (by decide)]; exact y2
  refine ⟨fun (v9 : Int) (A10 : jAr) => (0 ≤ v9 ∧ v9 ≤ n) ∧ (∀ a, (a ≠ b ∨ n = 0) → A10 a = A a) ∧ (∀ k : Int, 0 ≤ k → k < v9 → A10 b k = -1) ∧ ∀ k : Int, n ≤ k → k < (jln N b : Int) → A10 b k = -1, fun v9 A10 => (n - v9).toNat, ?_, ?_⟩ -- loop I13 I13 0 A
  ·
    -- l1: I13 0 A
    exact ⟨by omega, fun _ _ => rfl, fun k k0 k1 => by omega, y10⟩
  intro v9 A10 i13
  obtain ⟨i1, i2, i3, i4⟩ := i13
  refine ⟨fun hc => ?_, fun hc => ?_⟩ -- c1
  · -- case (v6 ≤ v9)
    -- l2: Q F8 A10
    refine ⟨fun e' => ⟨y1, by rw [e8, upF_s], by omega, b, by rw [f1, y4], y5, by omega, fun k k0 k1 => by omega, ⟨y8, y9, fun k k0 k1 => ?_⟩, fun k k0 k1 => by omega⟩, ⟨g.1, g.2.1, fun l hl => ?_, fun l l' hl hl' hne w w0 => ?_, by omega⟩, by rw [e8, e4], fun a ha => i2 a (by rw [eb] at ha; exact ha)⟩
    · by_cases w : k < n
      · exact i3 k k0 (by omega)
      · exact i4 k (by omega) k1
    · have := g.2.2.1 l hl
      rw [f1]
      by_cases w : l = o
      · rw [w] at this ⊢; rw [e8, upF_f (by decide), e4, upF_s]; omega
      · rw [e8, upF_a w, e4, upF_a w]; omega
    · rw [f1, f1] at w
      rw [f1] at w0 ⊢
      exact g.2.2.2.1 l l' hl hl' hne w w0
  · -- case (¬ (v6 ≤ v9))
    refine ⟨_, ev5, ?_⟩ -- d16: v5 = (b16 : Int)
    refine ⟨by exact y5, ?_⟩ -- s3: jtg N b16 = 104
    refine ⟨by (rcases y8 with w | w; exact w; omega), ?_⟩ -- s4: jfn N 0 b16 = 1
    refine ⟨by omega, ?_⟩ -- s5: ((0 : Int) ≤ v9 ∧ (v9 : Int) < (jln N b16 : Int))
    refine ⟨by exact Or.inl rfl, ?_⟩ -- s6: jast N "java/lang/Object" (-1)
    intro A21 e21
    refine ⟨by omega, ?_⟩ -- s7: jR (v9 + 1)
    refine ⟨?_, ?_⟩ -- l3: I13 (v9 + 1) A21
    · refine ⟨by omega, fun a ha => ?_, fun k k0 k1 => ?_, fun k k0 k1 => by rw [e21, upA_i (by omega)]; exact i4 k k0 k1⟩
      · rw [e21, upA_o (by rcases ha with w | w; exact w; omega)]; exact i2 a ha
      · rw [e21]
        by_cases w : k = v9
        · rw [w, upA_s]
        · rw [upA_i w]; exact i3 k k0 (by omega)
    · dsimp only; omega

