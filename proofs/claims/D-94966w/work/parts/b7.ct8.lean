set_option maxRecDepth 100000
set_option linter.unusedVariables false
/-! the component's town; printed by gen/prove.py out of spec/b7.ct8.spec -/
/-- a town that is made: k lists of it lie there -/
def nlk (S : Nat → Nat) (M : Int) (N0 : jSh) (F0 : jFl) (o k : Nat) (N : jSh) (F : jFl) : Prop := (jnx N = o + 1 + k ∧ jsu N = jsu N0 + 3 * k) ∧ gi S M N F ∧ s19 S N ∧ (jtg N o = 2 ∧ jfn N 0 o = 1) ∧ (∀ a : Nat, a < o → (jtg N a = jtg N0 a ∧ jln N a = jln N0 a ∧ ∀ f, jfn N f a = jfn N0 f a) ∧ ∀ f, F f a = F0 f a) ∧ (∀ f, F f o = F0 f o) ∧ ∀ j : Nat, j < k → (jtg N (o + 1 + j) = 20 ∧ jfn N 0 (o + 1 + j) = 1 ∧ F 6002 (o + 1 + j) = (S 19 : Int) ∧ F 6003 (o + 1 + j) = 0) ∧ jfn N (617 + 3 * j) o = ((o + 1 + j : Nat) : Int)
theorem nlk.go {S : Nat → Nat} {M : Int} {N0 N N7 N25 : jSh} {F0 F F8 F16 : jFl} {o k b : Nat} (h : nlk S M N0 F0 o k N F) (hb : b = jnx N) (e7 : N7 = jnew N 20 0 3 1) (e8 : F8 = nwF N F) (p : F16 = upF (upF F8 6900 b 0) 6002 b (S 19 : Int)) (e25 : N25 = jpF N7 (617 + 3 * k) o (b : Int)) : nlk S M N0 F0 o (k + 1) N25 F16 := by
  obtain ⟨⟨h1, h2⟩, g, ⟨h3, h4⟩, ⟨h5, h6⟩, h7, h8, h9⟩ := h
  have s19x := g.1 (S 19) (by rw [h3]; decide)
  have t25 : ∀ a, a ≠ b → jtg N25 a = jtg N a := fun a ha => by rw [e25, jpF_tg, e7, jnew_tgo (by omega)]
  have l25 : ∀ a, a ≠ b → jln N25 a = jln N a := fun a ha => by rw [e25, jpF_ln, e7, jnew_lno (by omega)]
  have j25 : ∀ a f, a ≠ b → a ≠ o → jfn N25 f a = jfn N f a := fun a f ha hao => by rw [e25, jpF_a hao, e7, jnew_fno (by omega)]
  have jo : ∀ f, f ≠ 617 + 3 * k → jfn N25 f o = jfn N f o := fun f hf => by rw [e25, jpF_f hf, e7, jnew_fno (by omega)]
  have f16 : ∀ a, a ≠ b → ∀ f, F16 f a = F f a := fun a ha f => by rw [p, upF_a ha, upF_a ha, e8, nwF_o (by omega)]
  have tb : jtg N25 b = 20 := by rw [e25, jpF_tg, e7, hb, jnewTg]
  have b0 : F16 6002 b = (S 19 : Int) := by rw [p, upF_s]
  have b9 : F16 6900 b = 0 := by rw [p, upF_f (by decide), upF_s]
  have b3 : F16 6003 b = 0 := by rw [p, upF_f (by decide), upF_f (by decide), e8, hb]; exact nwF_s _ _ _
  have x25 : jnx N25 = jnx N + 1 := by rw [e25, jpF_nx, e7, jnewNx]
  have z25 : jln N25 (S 19) = 0 := by rw [l25 _ (by omega)]; exact h4
  refine ⟨⟨by omega, by rw [e25, jpF_su, e7, jnewSu]; omega⟩, ⟨fun a ha => ?_, fun a ha hz => ?_, fun l hl => ?_, fun l l' hl hl' hne w w0 => ?_, g.2.2.2.2⟩, ⟨by rw [t25 _ (by omega)]; exact h3, z25⟩, ⟨by rw [t25 _ (by omega)]; exact h5, by rw [jo _ (by omega)]; exact h6⟩, fun a ha => ⟨⟨by rw [t25 _ (by omega)]; exact (h7 a ha).1.1, by rw [l25 _ (by omega)]; exact (h7 a ha).1.2.1, fun f => by rw [j25 _ _ (by omega) (by omega)]; exact (h7 a ha).1.2.2 f⟩, fun f => by rw [f16 a (by omega)]; exact (h7 a ha).2 f⟩, fun f => by rw [f16 o (by omega)]; exact h8 f, fun j hj => ?_⟩
  · by_cases w : a = b
    · omega
    · rw [t25 a w] at ha
      have := g.1 a ha
      omega
  · by_cases w : a = b
    · rw [w, tb] at ha; omega
    · rw [t25 a w] at ha
      rw [l25 a w] at hz
      exact g.2.1 a ha hz
  · by_cases w : l = b
    · rw [w, b0, b9]
      have := g.2.2.2.2
      omega
    · rw [t25 l w] at hl
      have := g.2.2.1 l hl
      rw [f16 l w, f16 l w]
      omega
  · by_cases y : l = b
    · rw [y, b0]
      show jln N25 (S 19) = 0
      exact z25
    · by_cases y' : l' = b
      · rw [w, y', b0]
        show jln N25 (S 19) = 0
        exact z25
      · rw [t25 l y] at hl
        rw [t25 l' y'] at hl'
        rw [f16 l y, f16 l' y'] at w
        rw [f16 l y] at w0 ⊢
        have := (g.2.2.1 l hl).1
        rw [l25 _ (by omega)]
        exact g.2.2.2.1 l l' hl hl' hne w w0
  · by_cases w : j = k
    · have e : o + 1 + j = b := by omega
      rw [e, w]
      exact ⟨⟨tb, by rw [e25, jpF_a (by omega), e7, hb, jnew_f0], b0, b3⟩, by rw [e25, jpF_s]⟩
    · obtain ⟨⟨y1, y2, y3, y4⟩, y5⟩ := h9 j (by omega)
      exact ⟨⟨by rw [t25 _ (by omega)]; exact y1, by rw [j25 _ _ (by omega) (by omega)]; exact y2, by rw [f16 _ (by omega)]; exact y3, by rw [f16 _ (by omega)]; exact y4⟩, by rw [jo _ (by omega)]; exact y5⟩
set_option maxHeartbeats 2000000 in
theorem sX1_init {S : Nat → Nat} {o : Nat} {N : jSh} {F : jFl} {A : jAr} {M : Int} (hx : jnx N = o + 1) (ht : jtg N o = 2 ∧ jfn N 0 o = 1) (g : gi S M N F) (h19 : s19 S N) : wqX1_init S o N F A (fun N' F' A' => A' = A ∧ nlk S M N (upF (upF F 603 o 12) 606 o 2) o 6 N' F') := by
  unfold wqX1_init
  refine ⟨by exact ht.2, ?_⟩ -- s1: jfn N 0 o = 1
  intro F3 e3
  intro F5 e5
  have k0 : nlk S M N F5 o 0 N F5 := by
    rw [e5, e3]
    exact ⟨⟨hx, rfl⟩, g.of (fun l hl => by
      have : l ≠ o := fun w => by rw [w, ht.1] at hl; omega
      exact ⟨by rw [upF_a this, upF_a this], by rw [upF_a this, upF_a this]⟩), h19, ht, fun a ha => ⟨⟨rfl, rfl, fun _ => rfl⟩, fun _ => rfl⟩, fun _ => rfl, fun j hj => absurd hj (by omega)⟩
  intro b6 N7 F8 e6 e7 e8
  refine ⟨_, sJ2_init (by rw [e7, e6, jnew_f0]), ?_⟩ -- call wqJ2_init S b6 N7 F8 A P13
  intro F16 A17 p13
  intro N25 e25
  have k1 := k0.go e6 e7 e8 p13.1 e25
  intro b27 N28 F29 e27 e28 e29
  refine ⟨_, sJ2_init (by rw [e28, e27, jnew_f0]), ?_⟩ -- call wqJ2_init S b27 N28 F29 A17 P34
  intro F37 A38 p34
  intro N46 e46
  have k2 := k1.go e27 e28 e29 p34.1 e46
  intro b48 N49 F50 e48 e49 e50
  refine ⟨_, sJ2_init (by rw [e49, e48, jnew_f0]), ?_⟩ -- call wqJ2_init S b48 N49 F50 A38 P55
  intro F58 A59 p55
  intro N67 e67
  have k3 := k2.go e48 e49 e50 p55.1 e67
  intro b69 N70 F71 e69 e70 e71
  refine ⟨_, sJ2_init (by rw [e70, e69, jnew_f0]), ?_⟩ -- call wqJ2_init S b69 N70 F71 A59 P76
  intro F79 A80 p76
  intro N88 e88
  have k4 := k3.go e69 e70 e71 p76.1 e88
  intro b90 N91 F92 e90 e91 e92
  refine ⟨_, sJ2_init (by rw [e91, e90, jnew_f0]), ?_⟩ -- call wqJ2_init S b90 N91 F92 A80 P97
  intro F100 A101 p97
  intro N109 e109
  have k5 := k4.go e90 e91 e92 p97.1 e109
  intro b111 N112 F113 e111 e112 e113
  refine ⟨_, sJ2_init (by rw [e112, e111, jnew_f0]), ?_⟩ -- call wqJ2_init S b111 N112 F113 A101 P118
  intro F121 A122 p118
  intro N130 e130
  have k6 := k5.go e111 e112 e113 p118.1 e130
  -- l1: Q N130 F121 A122
  exact ⟨p118.2.trans (p97.2.trans (p76.2.trans (p55.2.trans (p34.2.trans p13.2)))), by rw [← e3, ← e5]; exact k6⟩

/-- the town as it is made -/
theorem nlk.tRd {S : Nat → Nat} {M u : Int} {N0 N : jSh} {F0 F : jFl} {A : jAr} {o lo : Nat} (h : nlk S M N0 F0 o 6 N F) (h0 : F0 603 o = 12 ∧ F0 606 o = 2 ∧ F0 609 o = 0 ∧ F0 612 o = 0 ∧ F0 600 o = 0) (hu : ∃ v : Nat, u = (v : Int) ∧ jtg N v = 108 ∧ 16 ≤ jln N v) : tRd u N F A o sW0 sL0 (fun _ => 0) (fun _ => 0) (fun _ => 0) (fun _ => 0) 0 ∧ lLo lo N F o := by
  obtain ⟨⟨h1, h2⟩, g, ⟨h3, h4⟩, ⟨h5, h6⟩, h7, h8, h9⟩ := h
  have li : ∀ j : Nat, j < 6 → ∀ e : Int → Int, jli N F A (o + 1 + j) 0 e := fun j hj e => by
    obtain ⟨⟨y1, y2, y3, y4⟩, y5⟩ := h9 j hj
    exact ⟨⟨y1, y2⟩, y4, by omega, S 19, y3, h3, by omega, fun k k0 k1 => by omega, ⟨Or.inr h4, by rw [h4]; omega, fun k k0 k1 => by rw [h4] at k1; omega⟩, fun k k0 k1 => by omega⟩
  refine ⟨⟨⟨⟨h5, h6⟩, (h9 0 (by decide)).2, (h9 1 (by decide)).2, (h9 2 (by decide)).2, (h9 3 (by decide)).2, (h9 4 (by decide)).2, (h9 5 (by decide)).2⟩, ?_, ⟨li 0 (by decide) _, li 1 (by decide) _, li 2 (by decide) _, li 3 (by decide) _, li 4 (by decide) _, li 5 (by decide) _⟩, ?_⟩, fun j j0 j1 => Or.inr ?_⟩
  · unfold tFl
    rw [h8, h8, h8, h8, h8]
    exact h0
  · exact ⟨fun i i0 i1 => by have i1 : i < 0 := i1; omega, fun i i0 i1 => by have i1 : i < 0 := i1; omega, fun i i0 i1 => by have i1 : i < 0 := i1; omega, fun i i0 i1 => by have i1 : i < 0 := i1; omega, ⟨fun i i0 i1 => by have i1 : i < 0 := i1; omega, fun i i0 i1 => by have i1 : i < 0 := i1; omega, fun i i0 i1 => by have i1 : i < 0 := i1; omega, fun i i0 i1 => by have i1 : i < 0 := i1; omega⟩, hu⟩
  · have y := (h9 (j - 1) (by omega)).1.2.2.1
    rw [show o + 1 + (j - 1) = o + j by omega] at y
    show jln N (F 6002 (o + j)).toNat = 0
    rw [y]
    exact h4
theorem twn.ofF {N : jSh} {F F' : jFl} {A : jAr} {h : Nat} {W L : sTb} {wA sA cA lA : Int → Int} (t : twn N F A h W L wA sA cA lA) (hF : ∀ b : Nat, jtg N b ≠ 1 → ∀ f, F' f b = F f b) : twn N F' A h W L wA sA cA lA := by
  obtain ⟨t1, t2, ⟨l1, l2, l3, l4, l5⟩, h4, h5, h6, h7⟩ := t
  have hj : ∀ {l : Nat} {n : Int} {e : Int → Int}, jli N F A l n e → jli N F' A l n e := fun {l n e} q => by
    obtain ⟨q1, q2, q3, c, q4, q5⟩ := q
    have ne : jtg N l ≠ 1 := by rw [q1.1]; decide
    exact ⟨q1, by rw [hF l ne, q2], q3, c, by rw [hF l ne, q4], q5⟩
  have ft := hF h (by rw [t1.1]; decide)
  refine ⟨t1, by rw [ft, ft, ft, ft]; exact t2, ⟨hj l1, hj l2, hj l3, hj l4, hj l5⟩, h4.of (fun f b _ hb => hF b (by rw [hb]; decide) f), h5, fun c c0 c1 => ?_, fun l l0 l1 => ?_⟩
  · obtain ⟨b, y1, y2⟩ := h6 c c0 c1
    exact ⟨b, y1, y2.of (fun f _ => hF b (by rw [y2.1.1]; decide) f) rfl rfl⟩
  · obtain ⟨b, y1, y2, y3, y4⟩ := h7 l l0 l1
    exact ⟨b, y1, y2, by rw [hF b (by rw [y2.1]; decide)]; exact y3, y4.of (hF _ (by rw [y4.1.1]; decide) _) (hF _ (by rw [y4.1.1]; decide) _) rfl⟩
theorem xst.mi2 {S : Nat → Nat} {M M' R R' : Int} {N : jSh} {F F' : jFl} {A A' : jAr} {x : Nat} {W L : sTb} {B : sBk} {U : sUn} {Q Q' : sMi} (h : xst S M R N F A x W L B U Q) (hM : M ≤ M' ∧ M' ≤ 1000000000) (q1 : cMi R' x F' A' Q') (q2 : ∀ f b, (b = x → f ≠ 303 ∧ f ≠ 312 ∧ f ≠ 315 ∧ f ≠ 319) → F' f b = F f b) (q3 : ∀ b, b ≠ x + 1 → b ≠ x + 2 → A' b = A b) (h6 : Q' 6 = Q 6) (h7 : Q' 7 = Q 7) : xst S M' R' N F' A' x W L B U Q' ∧ xrs x N F A N F' A' := by
  obtain ⟨t, wA, sA, cA, lA, c0, h9, h19, hQ, hX⟩ := h
  have hy := c0.1.2.1
  have t0 : jtg N x = 1 := (hy.1 0 (by decide)).1
  have t1 : jtg N (x + 1) = 111 := (hy.1 1 (by decide)).1
  have t2 : jtg N (x + 2) = 102 := (hy.1 2 (by decide)).1
  have c1 := (c0.mono (M' := M') hM.1 hM.2).ar (A' := A') (fun b hb1 hb2 => q3 b (fun w => hb1 (by rw [w]; exact t1)) (fun w => hb2 (by rw [w]; exact t2)))
  refine ⟨⟨t, wA, sA, cA, lA, c1.fx q2, h9, h19, q1, (hX.kw c0.1.1.1 (nex.refl _) (fun a hb => ⟨fun f => q2 f a (fun w => by rw [w, t0] at hb; omega), q3 a (fun w => ?_) (fun w => ?_)⟩)).q h6 h7⟩, nex.refl _, fun a ha hb => ⟨fun f => q2 f a (fun w => by omega), q3 a (by omega) (by omega)⟩, by omega, by omega⟩
  · rw [w, t1] at hb; omega
  · rw [w, t2] at hb; omega
set_option maxHeartbeats 8000000 in
theorem sX0_town {S : Nat → Nat} {o : Nat} {N : jSh} {F : jFl} {A : jAr} {M R : Int} {W L : sTb} {B : sBk} {U : sUn} {Q : sMi} (h : xst S M R N F A o W L B U Q) (hM : M ≤ 700000000) (hR : R < 1000000000) {RR : smR} (hRR : RR = sTn (Q 1) (Q 0 0)) : wqX0_town S o N F A (fun z N' F' A' => ((RR.1.1 ≠ 0 → z = -1 ∧ xst S (M + 1000000) (R + 1) N' F' A' o W L B U (qRef (qFlt (qLen Q 0) RR.1) 1)) ∧ (RR.1.1 = 0 → z = RR.2.1 ∧ xst S (M + 1000000) (R + 1) N' F' A' o RR.2.2.1 RR.2.2.2 (0, B.2) (0, U.2) (qFlt (qLen Q 0) (0, -1)))) ∧ xrs o N F A N' F' A') := by
  unfold wqX0_town
  obtain ⟨t, wA, sA, cA, lA, c0, h9, h19, hQ, hX⟩ := h
  have hn := c0.1.1.1
  have hy := c0.1.2.1
  have hhx := c0.hx
  have hx := c0.2.1
  have tx : jtg N o = 1 := hx.tx
  obtain ⟨q1, q2, q3⟩ := hQ.1
  intro v1 e1
  refine ⟨by exact hx.1.2.1, ?_⟩ -- s1: jfn N 0 o = 1
  intro F4 e4
  have f4 : ∀ (f a : Nat), (a = o → f ≠ 303) → F4 f a = F f a := fun f a ha => by
    rw [e4]
    by_cases w : a = o
    · rw [w]; exact upF_f (ha w)
    · exact upF_a w
  have Q4 : cMi R o F4 A (qLen Q 0) := by rw [e4]; exact hQ.len ⟨Int.le_refl 0, q2⟩
  have c4 : cst S M N F4 A o t W L B U wA sA cA lA := by rw [e4]; exact c0.seed (by decide)
  have X4 : xtr S o N F4 A W (qLen Q 0) wA sA cA lA := (hX.kw hn (nex.refl _) (fun a ha => ⟨fun f => f4 f a (fun w => by rw [w, tx] at ha; omega), rfl⟩)).q rfl rfl
  have kz4 : kz o N F A F4 A := fun a ha hb => ⟨fun f => f4 f a (by omega), rfl⟩
  intro b5 N6 F7 e5 e6 e7
  intro b12 N13 F14 e12 e13 e14
  subst e5
  have x6 : jnx N6 = jnx N + 1 := by rw [e6, jnewNx]
  subst e12
  have x13 : jnx N13 = jnx N + 2 := by rw [e13, jnewNx]; omega
  have y13 : jsu N13 = jsu N + 22 := by rw [e13, jnewSu, e6, jnewSu]
  have gr13 : gr N F4 A N13 F14 A := by rw [e14, e13, e7, e6]; exact (gr.add N F4 11 0 11 1 (fun _ _ => rfl)).trans (gr.add _ _ 2 0 11 1 (fun _ _ => rfl))
  have g13 : gi S M N13 F14 := by rw [e14, e13, e7, e6]; exact (c4.1.1.add (by decide) (by decide)).add (by decide) (by decide)
  have t13 : jtg N13 (jnx N6) = 2 ∧ jfn N13 0 (jnx N6) = 1 := by rw [e13]; exact ⟨jnewTg _ _ _ _ _, jnew_f0 _ _ _ _ _⟩
  have r13 : jtg N13 (jnx N) = 11 ∧ jfn N13 0 (jnx N) = 1 := by
    rw [e13, jnew_tgo (by omega), jnew_fno (by omega), e6]
    exact ⟨jnewTg _ _ _ _ _, jnew_f0 _ _ _ _ _⟩
  have z13 : ∀ f, F14 f (jnx N6) = jdf f := fun f => by rw [e14]; exact nwF_s _ _ _
  have z13r : ∀ f, F14 f (jnx N) = jdf f := fun f => by rw [e14, nwF_o (by omega), e7]; exact nwF_s _ _ _
  refine ⟨_, sX1_init (by omega) t13 g13 (h19.ex hn gr13.1), ?_⟩ -- call wqX1_init S b12 N13 F14 A P19
  intro N24 F22 A23 p19
  obtain ⟨a23, k24⟩ := p19
  subst a23
  obtain ⟨⟨k1, k2⟩, k3, k4, k5, k6, k7, k8⟩ := id k24
  have gr24 : gr N F4 A23 N24 F22 A23 := by
    refine ⟨⟨by omega, fun a ha => ?_⟩, fun a ha f => ?_, fun _ _ => rfl⟩
    · obtain ⟨⟨y1, y2, y3⟩, y4⟩ := k6 a (by omega)
      obtain ⟨z1, z2, z3⟩ := gr13.1.2 a ha
      exact ⟨y1.trans z1, y2.trans z2, fun f => (y3 f).trans (z3 f)⟩
    · rw [(k6 a (by omega)).2, upF_a (by omega), upF_a (by omega)]
      exact gr13.2.1 a ha f
  have r24 : jtg N24 (jnx N) = 11 ∧ jfn N24 0 (jnx N) = 1 := by
    obtain ⟨⟨y1, y2, y3⟩, y4⟩ := k6 (jnx N) (by omega)
    exact ⟨y1.trans r13.1, (y3 0).trans r13.2⟩
  have z24r : ∀ f, F22 f (jnx N) = jdf f := fun f => by
    rw [(k6 (jnx N) (by omega)).2, upF_a (by omega), upF_a (by omega)]
    exact z13r f
  refine ⟨_, sX10_init r24.2, ?_⟩ -- call wqX10_init b5 (o : Int) v1 (b12 : Int) N24 F22 A23 P30
  intro N35 F33 A34 p30
  obtain ⟨d1, d2, d3⟩ := p30
  subst d1
  have x35 : jnx N35 = jnx N + 8 := by rw [d2]; show jnx N24 = _; omega
  have y35 : jsu N35 = jsu N + 40 := by rw [d2]; show jsu N24 = _; omega
  have gr35 : gr N F4 A34 N35 F33 A34 := by
    have g := ((gr24.put (f := 3332) (z := (o : Int)) (Nat.le_refl (jnx N))).put (f := 3300) (z := v1) (Nat.le_refl (jnx N))).put (f := 3305) (z := ((jnx N6 : Nat) : Int)) (Nat.le_refl (jnx N))
    rw [← d2] at g
    exact ⟨g.1, fun a ha f => by rw [d3, upF_a (by omega)]; exact g.2.1 a ha f, g.2.2⟩
  have k35 : nlk S M N13 (upF (upF F14 603 (jnx N6) 12) 606 (jnx N6) 2) (jnx N6) 6 N24 F22 := k24
  have hn24 := k3.1
  have hn35 : nb N35 := by rw [d2]; exact hn24
  have g35 : gi S M N35 F33 := by
    have : gi S M N35 F22 := by rw [d2]; exact k3
    exact this.of (fun l hl => by
      have : l ≠ jnx N := fun w => by rw [w, d2, jpF_tg, jpF_tg, jpF_tg, r24.1] at hl; omega
      exact ⟨by rw [d3, upF_a this], by rw [d3, upF_a this]⟩)
  obtain ⟨vb, ⟨ob1, ob2, ob3⟩, ⟨ob4, ob5, ob6, ob7⟩, -⟩ := hX.2.2
  have hvb := hn vb (by rw [ob4]; decide)
  have tr := k24.tRd (u := F 7202 (o + 140)) (A := A34) (lo := jnx N) ⟨by rw [upF_f (by decide), upF_s], by rw [upF_s], by rw [upF_f (by decide), upF_f (by decide), z13]; rfl, by rw [upF_f (by decide), upF_f (by decide), z13]; rfl, by rw [upF_f (by decide), upF_f (by decide), z13]; rfl⟩ ⟨vb, ob1, by rw [(gr24.1.2 vb hvb).1]; exact ob4, by rw [(gr24.1.2 vb hvb).2.1]; exact ob6⟩
  have ex35 : ∀ a : Nat, a ≠ jnx N → jtg N35 a = jtg N24 a ∧ jln N35 a = jln N24 a ∧ ∀ f, jfn N35 f a = jfn N24 f a := fun a ha => ⟨by rw [d2]; rfl, by rw [d2]; rfl, fun f => by rw [d2, jpF_a ha, jpF_a ha, jpF_a ha]⟩
  have fx35 : ∀ a : Nat, a ≠ jnx N → ∀ f, F33 f a = F22 f a := fun a ha f => by rw [d3, upF_a ha]
  have t35 : nlk S M N13 (upF (upF F14 603 (jnx N6) 12) 606 (jnx N6) 2) (jnx N6) 6 N35 F33 → True := fun _ => trivial
  have n6 : jnx N6 ≠ jnx N := by omega
  have tr35 : tRd (F 7202 (o + 140)) N35 F33 A34 (jnx N6) sW0 sL0 (fun _ => 0) (fun _ => 0) (fun _ => 0) (fun _ => 0) 0 ∧ lLo (jnx N) N35 F33 (jnx N6) := by
    obtain ⟨⟨th, tf, ⟨l1, l2, l3, l4, l5, l6⟩, to⟩, ll⟩ := tr
    have hj : ∀ {l : Nat} {n : Int} {e : Int → Int}, jli N24 F22 A34 l n e → jli N35 F33 A34 l n e := fun {l n e} q => by
      obtain ⟨q1, q2, q3, c, q4, q5, q6, q7, ⟨q8, q9, q10⟩, q11⟩ := q
      have nl : l ≠ jnx N := fun w => by rw [w, r24.1] at q1; exact absurd q1.1 (by decide)
      have nc : c ≠ jnx N := fun w => by rw [w, r24.1] at q5; exact absurd q5 (by decide)
      obtain ⟨x1, x2, x3⟩ := ex35 l nl
      obtain ⟨w1, w2, w3⟩ := ex35 c nc
      exact ⟨⟨by rw [x1]; exact q1.1, by rw [x3]; exact q1.2⟩, by rw [fx35 l nl]; exact q2, q3, c, by rw [fx35 l nl]; exact q4, by rw [w1]; exact q5, by rw [w2]; exact q6, q7, ⟨by rw [w2, w3]; exact q8, by rw [w2]; exact q9, by rw [w2]; exact q10⟩, fun k k0 k1 => by
        rcases q11 k k0 k1 with w | ⟨bb, cl, y1, y2, y3⟩
        · exact Or.inl w
        · exact Or.inr ⟨bb, cl, y1, by rw [show jtg N35 bb = jtg N24 bb by rw [d2]; rfl]; exact y2, y3⟩⟩
    obtain ⟨x1, x2, x3⟩ := ex35 _ n6
    refine ⟨⟨⟨⟨by rw [x1]; exact th.1.1, by rw [x3]; exact th.1.2⟩, by rw [x3, x3, x3, x3, x3, x3]; exact th.2⟩, by unfold tFl at *; rw [fx35 _ n6, fx35 _ n6, fx35 _ n6, fx35 _ n6, fx35 _ n6]; exact tf, ⟨hj l1, hj l2, hj l3, hj l4, hj l5, hj l6⟩, ?_⟩, fun j j0 j1 => Or.inr ?_⟩
    · exact ⟨fun i i0 i1 => by have i1 : i < 0 := i1; omega, fun i i0 i1 => by have i1 : i < 0 := i1; omega, fun i i0 i1 => by have i1 : i < 0 := i1; omega, fun i i0 i1 => by have i1 : i < 0 := i1; omega, ⟨fun i i0 i1 => by have i1 : i < 0 := i1; omega, fun i i0 i1 => by have i1 : i < 0 := i1; omega, fun i i0 i1 => by have i1 : i < 0 := i1; omega, fun i i0 i1 => by have i1 : i < 0 := i1; omega⟩, ⟨vb, ob1, by rw [(gr35.1.2 vb hvb).1]; exact ob4, by rw [(gr35.1.2 vb hvb).2.1]; exact ob6⟩⟩
    · have y := (k8 (j - 1) (by omega)).1.2.2.1
      rw [show jnx N6 + 1 + (j - 1) = jnx N6 + j by omega] at y
      show jln N35 (F33 6002 (jnx N6 + j)).toNat = 0
      rw [fx35 _ (by omega), y]
      have e : jln N35 (S 19) = jln N24 (S 19) := by rw [d2]; rfl
      show jln N35 (S 19) = 0
      rw [e]
      exact k4.2
  have rd : rdO S (F 7202 (o + 140)) N35 A34 (jnx N) o (jnx N6) (Q 0 0) (Q 1) := by
    refine ⟨⟨?_, ?_, ?_, ?_, ?_⟩, ⟨hn35, hX.2.1.kv hn gr35.1 (fun a ha => gr35.2.2 a (hn a (by omega))) (Or.inl rfl), hy.ex hn gr35.1 hhx⟩, ⟨q2, q3⟩, fun i i0 i1 => ?_⟩
    · rw [d2, jpF_tg, jpF_tg, jpF_tg]; exact r24.1
    · rw [d2, jpF_f (by decide), jpF_f (by decide), jpF_f (by decide)]; exact r24.2
    · rw [d2, jpF_f (by decide), jpF_s, e1]; exact q1
    · rw [d2, jpF_f (by decide), jpF_f (by decide), jpF_s]
    · rw [d2, jpF_s]
    · exact hQ.2.1 i i0 i1
  have U0 : rU F33 (jnx N) (Q 1) (Q 0 0) 0 := by
    refine ⟨by rw [d3, upF_f (by decide), z24r]; rfl, by rw [d3, upF_f (by decide), z24r]; rfl, ⟨Int.le_refl 0, q2⟩, by rw [d3, upF_s]; decide, ?_⟩
    rw [d3, upF_s]
    exact ⟨fun w => absurd w (by decide), fun w => by have := w.1; omega⟩
  have lfg : ∀ {N' : jSh} {F' : jFl} {A' : jAr}, lf (jnx N) N35 F33 A34 N' F' A' → gr N F4 A34 N' F' A' := fun {N' F' A'} l => ⟨gr35.1.trans l.1, fun a ha f => ((l.2 a ha).1 f).trans (gr35.2.1 a ha f), fun a ha => ((l.2 a ha).2).trans (gr35.2.2 a ha)⟩
  refine ⟨_, _, sX10_town (RR := RR) (X := fun b N' F' A' => RR.1.1 ≠ 0 ∧ flt N' b RR.1 ∧ lf (jnx N) N35 F33 A34 N' F' A' ∧ gi S (M + 200) N' F' ∧ (jnx N' ≤ jnx N35 + 16000 ∧ jsu N' ≤ jsu N35 + 78000)) rd U0 tr35.1 g35 hM ⟨Nat.le_refl _, by omega, by omega⟩ tr35.2 hRR (fun w b N' F' A' z1 z2 z3 z4 => ⟨w, z1, z2, z3, z4⟩), ?_, ?_⟩ -- call wqX10_town S b5 N35 F33 A34 P41 X44
  · intro q51 N52 F53 A54 x44
    obtain ⟨w1, w2, w3, w4, w5⟩ := x44
    have gr52 := lfg w3
    have c52 := c4.gr gr52 w4
    have Q52 : cMi R o F53 A54 (qLen Q 0) := Q4.of (fun f _ => gr52.2.1 o (by omega) f) (gr52.2.2 _ (by omega)) (gr52.2.2 _ (by omega))
    have h52 : xst S (M + 200) R N52 F53 A54 o W L B U (qLen Q 0) := ⟨t, wA, sA, cA, lA, c52, h9, h19.ex hn gr52.1, Q52, X4.kw hn gr52.1 (fun a ha => by
      have : a < jnx N := by
        rcases ha with w | w | w
        · exact hn a (by omega)
        · exact hn a (by omega)
        · omega
      exact ⟨gr52.2.1 a this, gr52.2.2 a this⟩)⟩
    refine ⟨_, sX0_wrong c52.1.2.1 c52.2.1.1.2.1 Q52 hR rfl w2 (by decide), ?_⟩ -- call wqX0_wrong o (q51 : Int) 1 N52 F53 A54 P60
    intro z62 F63 A64 p60
    -- l1: Q z62 N52 F63 A64
    obtain ⟨y1, y2, y3, y4⟩ := p60
    have g := h52.mi2 (M' := M + 1000000) (by omega) y2 (fun f b hb => by
      rw [y3]
      by_cases w : b = o
      · have := hb w
        rw [w, upF_f (by omega), upF_f (by omega)]
      · rw [upF_a w, upF_a w]) (fun b _ hb => y4 b hb) (by rw [qRef_6 (by decide), qFlt_o (by decide) (by decide)]) (by rw [qRef_6 (by decide), qFlt_o (by decide) (by decide)])
    exact ⟨⟨fun _ => ⟨y1, g.1⟩, fun w => absurd w w1⟩, gr52.1, (kz4.trans (gr52.kz hn) hn (nex.refl _)).trans g.2.2.1 hn gr52.1, by omega, by omega⟩
  intro z43 N47 F45 A46 p41
  intro F74 e74
  obtain ⟨s1, s2, s3, s4, ⟨wB, sB, cB, lB, s5, s6⟩, s7, s8, s9, s10⟩ := p41
  have gr47 := lfg s9
  have c47 := c4.gr gr47 s8
  have hn47 := s8.1
  have tx47 := c47.2.1.tx
  have Q47 : cMi R o F45 A46 (qLen Q 0) := Q4.of (fun f _ => gr47.2.1 o (by omega) f) (gr47.2.2 _ (by omega)) (gr47.2.2 _ (by omega))
  have th47 := s5.1.1
  have nho : jnx N6 ≠ o := by omega
  have Q74 : cMi R o F74 A46 (qLen Q 0) := Q47.of (fun f hf => by rw [e74, upF_f (by omega)]) rfl rfl
  refine ⟨_, sX0_isRight c47.2.1.1.2.1, ?_⟩ -- call wqX0_isRight o N47 F74 A46 P75
  intro F78 A79 p75
  obtain ⟨d4, d5⟩ := p75
  subst d4
  have Q78 : cMi R o F78 A79 (qFlt (qLen Q 0) (0, -1)) := by rw [d5]; exact Q74.flt (0, -1)
  have f78 : ∀ a : Nat, a ≠ o → ∀ f, F78 f a = F45 f a := fun a ha f => by rw [d5, upF_a ha, upF_a ha, e74, upF_a ha]
  have f78t : ∀ b : Nat, jtg N47 b ≠ 1 → ∀ f, F78 f b = F45 f b := fun b hb => f78 b (fun w => hb (by rw [w]; exact tx47))
  have g78 : gi S (M + 200) N47 F78 := s8.of (fun l hl => ⟨f78t l (by rw [hl]; decide) _, f78t l (by rw [hl]; decide) _⟩)
  obtain ⟨⟨u0, u20⟩, ea, al, -⟩ := c47.2.2.2
  have al78 : jli N47 F78 A79 (o + 10) U.1 ea := by
    obtain ⟨z1, z2, z3, b, z4, z5⟩ := al
    have ne : jtg N47 (o + 10) ≠ 1 := by rw [z1.1]; decide
    exact ⟨z1, by rw [f78t _ ne, z2], z3, b, by rw [f78t _ ne, z4], z5⟩
  have hy47 := c47.1.2.1
  refine ⟨_, by exact (show jfn N47 323 o = ((o + 10 : Nat) : Int) from hy47.2.1 (323, 0, 10) (by decide)), ?_⟩ -- d84: jfn N47 323 o = (b84 : Int)
  refine ⟨by exact al78.1.1, ?_⟩ -- s2: jtg N47 b84 = 20
  refine ⟨_, sJ2_clear al78 g78 (by omega), ?_⟩ -- call wqJ2_clear b84 N47 F78 A79 P87
  intro F90 A91 p87
  obtain ⟨c1, c2, c3, c4'⟩ := p87
  have iL := al78.isL
  have kp90 : kp N47 F78 A79 (o + 10) N47 F90 A91 := ⟨nex.refl _, fun a _ ha f => by rw [c3, upF_a ha, upF_a ha], fun a _ ha => c4' a (Or.inl ha)⟩
  have o90 : ∀ f, F90 f o = F78 f o := fun f => kp90.f g78 iL tx47 (by decide) (by decide) f
  have h78 : F78 311 o = ((jnx N6 : Nat) : Int) := by rw [d5, upF_f (by decide), upF_f (by decide), e74, upF_s]; exact s2
  refine ⟨_, by (rw [o90]; exact h78), ?_⟩ -- d96: F90 311 o = (b96 : Int)
  refine ⟨by exact th47, ?_⟩ -- s3: jtg N47 b96 = 2
  -- l2: Q (F90 600 b96) N47 F90 A91
  have tw90 := kp90.twn g78 iL (s5.ofF f78t) (Or.inl (by omega))
  have bk78 : jli N47 F78 A79 (jnx N6 + 6) 0 (fun _ => 0) := by
    obtain ⟨z1, z2, z3, b, z4, z5⟩ := s7
    have ne : jtg N47 (jnx N6 + 6) ≠ 1 := by rw [z1.1]; decide
    exact ⟨z1, by rw [f78t _ ne, z2], z3, b, by rw [f78t _ ne, z4], z5⟩
  have bk90 := kp90.jli g78 iL bk78 (by omega)
  have hf90 : F90 600 (jnx N6) = RR.2.1 := by rw [kp90.f g78 iL th47 (by decide) (by decide), f78 _ nho]; exact s3
  have hx47 := c47.hx
  have tg : ∀ k : Nat, k < 141 → jtg N47 (o + k) = tagT.getD k 0 := fun k hk => (hy47.1 k hk).1
  have sa90 : sarr A91 o := sarr_of c47.1.2.2 (kp90.a g78 iL (tg 15 (by decide)) (by decide) (by decide)) (kp90.a g78 iL (tg 99 (by decide)) (by decide) (by decide)) (kp90.a g78 iL (tg 54 (by decide)) (by decide) (by decide))
  have kq90 := kp90.kq g78 iL hy47 hx47
  have kw47 : kw o N F4 A34 F45 A79 := fun a ha => by
    have : a < jnx N := by
      rcases ha with w | w | w
      · exact hn a (by omega)
      · exact hn a (by omega)
      · omega
    exact ⟨gr47.2.1 a this, gr47.2.2 a this⟩
  have X47 := X4.kw hn gr47.1 kw47
  have u47 : F45 7202 (o + 140) = F 7202 (o + 140) := by rw [gr47.2.1 _ (by omega), f4 _ _ (fun w => by omega)]
  have X47' : xtr S o N47 F45 A79 RR.2.2.1 (qLen Q 0) wB sB cB lB := ⟨by rw [u47]; exact s6, X47.2.1, X47.2.2⟩
  have X78 : xtr S o N47 F78 A79 RR.2.2.1 (qFlt (qLen Q 0) (0, -1)) wB sB cB lB := (X47'.kw hn47 (nex.refl _) (fun a ha => ⟨fun f => f78 a (fun w => by rw [w, tx47] at ha; omega) f, rfl⟩)).q (by rw [qFlt_o (by decide) (by decide)]) (by rw [qFlt_o (by decide) (by decide)])
  have Q90 := (Q78.kq hy47 kq90).mono (R' := R + 1) (by omega)
  have X90 := X78.kw hn47 (nex.refl _) kq90.kw
  have kz78 : kz o N47 F45 A79 F78 A79 := fun a ha hb => ⟨fun f => f78 a (by omega) f, rfl⟩
  have z9 : RR.2.2.2 9 0 0 = 0 := s4.2.2.2.2.2.2.2.2.2.2.2.1.2.1
  refine ⟨⟨fun w => absurd s1 w, fun _ => ⟨hf90, jnx N6, wB, sB, cB, lB, ⟨⟨c2.mono (by omega) (by omega), hy47, sa90⟩, ⟨⟨tx47, c47.2.1.1.2.1, by rw [o90]; exact h78⟩, ⟨s4.W, s4.L⟩, tw90⟩, ⟨_, bk90, fun k k0 k1 => by have k1 : k < 0 := k1; omega⟩, ⟨by show (0 : Int) ≤ 0 ∧ (0 : Int) ≤ 20; omega, ea, c1 _, fun k k0 k1 => by have k1 : k < 0 := k1; omega⟩⟩, z9, h19.ex hn gr47.1, Q90, X90⟩⟩, gr47.1, ((kz4.trans (gr47.kz hn) hn (nex.refl _)).trans kz78 hn gr47.1).trans kq90.kz hn gr47.1, by omega, by omega⟩

