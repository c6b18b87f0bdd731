set_option maxRecDepth 100000
set_option linter.unusedVariables false
/-! a text out of chars; printed by gen/prove.py out of spec/ac.on.spec (needs the parts 39.. as printed at the end of session 3) -/
theorem sJ6_coderFromArrayLen {a1 : Int} {a2 : Int} {N : jSh} {F : jFl} {A : jAr} {v : Nat} (h1 : a1 = (v : Int)) (ht : jtg N v = 108) (h2 : a2 = (jln N v : Int)) (h3 : jln N v ≤ 2000) : wqJ6_coderFromArrayLen a1 a2 N F A (fun z => z = 0) := by
  unfold wqJ6_coderFromArrayLen
  refine ⟨_, by exact h1, ?_⟩ -- d1: a1 = (b1 : Int)
  refine ⟨by exact ht, ?_⟩ -- s1: jtg N b1 = 108
  refine ⟨by omega, ?_⟩ -- s2: jR (a2 - (jln N b1 : Int))
  -- l1: Q (jby (if a2 - (jln N b1 : Int) < 0 then (1 : Int) else 0))
  rw [if_neg (by omega)]; rfl

theorem sJ5_init_2 {S : Nat → Nat} {o : Nat} {a1 : Int} {a2 : Int} {a3 : Int} {a4 : Int} {N : jSh} {F : jFl} {A : jAr} {c n : Nat} {q : Int → Int} (h1 : a1 = (c : Int)) (ht : jtg N c = 111) (hcx : c < jnx N) (hn : a3 = (n : Int)) (hl : 0 ≤ a2 ∧ a2 + a3 ≤ (jln N c : Int) ∧ jln N c ≤ 2000) (hq : ∀ i : Int, 0 ≤ i → i < n → A c (a2 + i) = q i ∧ 0 ≤ q i ∧ q i ≤ 255) (ho : jfn N 0 o = 1 ∧ o < jnx N) (h18 : jtg N (S 18) = 22 ∧ jfn N 6603 (S 18) = 0 ∧ S 18 ≠ o) : wqJ5_init_2 S o a1 a2 a3 a4 N F A (fun N' F' A' => (n = 0 ∧ N' = jpF (jpF N 6602 o (jfn N 6602 (S 18))) 6603 o 0 ∧ F' = F ∧ A' = A) ∨ (0 < n ∧ N' = jpF (jpF (jnew N 108 n n 1) 6603 o 0) 6602 o (jnx N : Int) ∧ F' = nwF N F ∧ (∀ b, b ≠ jnx N → A' b = A b) ∧ ∀ i : Int, 0 ≤ i → i < n → A' (jnx N) i = jby (q i))) := by
  unfold wqJ5_init_2
  refine ⟨fun hc => ?_, fun hc => ?_⟩ -- c1
  · -- case (¬ a3 = 0)
    refine ⟨fun hc => ?_, fun hc => ?_⟩ -- c2
    · -- case ((1 : Int) = 0)
      omega
    · -- case (¬ ((1 : Int) = 0))
      refine ⟨_, sJ6_compress (c := c) (n := n) (q := q) h1 ht hcx hn hl hq, ?_⟩ -- call wqJ6_compress S a1 a2 a3 N F A P22
      intro z24 N27 F25 A26 p22
      obtain ⟨q1, q2, q3, q4, q5⟩ := p22
      refine ⟨_, sJ6_coderFromArrayLen (v := jnx N) q1 (by rw [q2, jnewTg]) (by rw [q2, jnewLn]; exact hn) (by rw [q2, jnewLn]; omega), ?_⟩ -- call wqJ6_coderFromArrayLen z24 a3 N27 F25 A26 P32
      intro z34 p32
      refine ⟨by (rw [q2, jnew_fno (by omega)]; exact ho.1), ?_⟩ -- s2: jfn N27 0 o = 1
      intro N42 e42
      intro N47 e47
      -- l1: Q N47 F25 A26
      exact Or.inr ⟨by omega, by rw [e47, e42, p32, q1, q2], q3, q4, q5⟩
  · -- case (a3 = 0)
    refine ⟨by exact h18.1, ?_⟩ -- s3: jtg N (S 18) = 22
    refine ⟨by exact ho.1, ?_⟩ -- s4: jfn N 0 o = 1
    intro N52 e52
    have e18 : jfn N52 6603 (S 18) = 0 := by rw [e52, jpF_f (by decide)]; exact h18.2.1
    refine ⟨by omega, ?_⟩ -- s5: (-128 ≤ jfn N52 6603 (S 18) ∧ jfn N52 6603 (S 18) ≤ 127)
    intro N59 e59
    -- l2: Q N59 F A
    exact Or.inl ⟨by omega, by rw [e59, e18, e52], rfl, rfl⟩

theorem sJ5_init {S : Nat → Nat} {o : Nat} {a1 : Int} {a2 : Int} {a3 : Int} {N : jSh} {F : jFl} {A : jAr} {c n : Nat} {q : Int → Int} (h1 : a1 = (c : Int)) (ht : jtg N c = 111) (hcx : c < jnx N) (hn : a3 = (n : Int)) (hl : 0 ≤ a2 ∧ a2 + a3 ≤ (jln N c : Int) ∧ jln N c ≤ 2000) (hq : ∀ i : Int, 0 ≤ i → i < n → A c (a2 + i) = q i ∧ 0 ≤ q i ∧ q i ≤ 255) (ho : jfn N 0 o = 1 ∧ o < jnx N) (h18 : jtg N (S 18) = 22 ∧ jfn N 6603 (S 18) = 0 ∧ S 18 ≠ o) : wqJ5_init S o a1 a2 a3 N F A (fun N' F' A' => (n = 0 ∧ N' = jpF (jpF N 6602 o (jfn N 6602 (S 18))) 6603 o 0 ∧ F' = F ∧ A' = A) ∨ (0 < n ∧ N' = jpF (jpF (jnew N 108 n n 1) 6603 o 0) 6602 o (jnx N : Int) ∧ F' = nwF N F ∧ (∀ b, b ≠ jnx N → A' b = A b) ∧ ∀ i : Int, 0 ≤ i → i < n → A' (jnx N) i = jby (q i))) := by
  unfold wqJ5_init
  refine ⟨_, sJ5_rangeCheck (c := c) h1 ht hl.1 (by omega) (by omega), ?_⟩ -- call wqJ5_rangeCheck S a1 a2 a3 N F A P1
  intro z3 p1
  refine ⟨_, sJ5_init_2 h1 ht hcx hn hl hq ho h18, ?_⟩ -- call wqJ5_init_2 S o a1 a2 a3 z3 N F A P8
  intro N13 F11 A12 p8
  -- l1: Q N13 F11 A12
  exact p8

theorem gi.add {S : Nat → Nat} {M : Int} {N : jSh} {F : jFl} (g : gi S M N F) {t n sl : Nat} {ow : Int} (h20 : t ≠ 20) (h104 : t ≠ 104) : gi S M (jnew N t n sl ow) (nwF N F) := by
  obtain ⟨g1, g2, g3, g4, g5⟩ := g
  have ht : ∀ {a k : Nat}, jtg (jnew N t n sl ow) a = k → k ≠ t → k ≠ 0 → jtg N a = k ∧ a < jnx N := fun {a k} h h2 h3 => by
    by_cases w : a = jnx N
    · rw [w, jnew_tg, if_pos rfl] at h; exact absurd h.symm h2
    · rw [jnew_tgo w] at h; exact ⟨h, g1 a (by rw [h]; exact h3)⟩
  have hf : ∀ l, jtg N l = 20 → ∀ f, nwF N F f l = F f l := fun l hl f => by
    have := g1 l (by rw [hl]; decide)
    rw [nwF_o (by omega)]
  refine ⟨g1.new, fun b hb hz => ?_, fun l hl => ?_, fun l l' hl hl' hne he h0 => ?_, g5⟩
  · obtain ⟨q1, q2⟩ := ht hb (by omega) (by decide)
    rw [jnew_lno (by omega)] at hz
    exact g2 b q1 hz
  · obtain ⟨q1, q2⟩ := ht hl (by omega) (by decide)
    rw [hf l q1, hf l q1, jnewNx]
    have := g3 l q1
    omega
  · obtain ⟨q1, q2⟩ := ht hl (by omega) (by decide)
    obtain ⟨r1, r2⟩ := ht hl' (by omega) (by decide)
    rw [hf l q1] at he h0 ⊢
    rw [hf l' r1] at he
    have := g3 l q1
    rw [jnew_lno (by omega)]
    exact g4 l l' q1 r1 hne he h0
theorem gi.put {S : Nat → Nat} {M : Int} {N : jSh} {F : jFl} (g : gi S M N F) (f a : Nat) (z : Int) : gi S M (jpF N f a z) F := g
theorem gr.refl (N : jSh) (F : jFl) (A : jAr) : gr N F A N F A := ⟨nex.refl _, fun _ _ _ => rfl, fun _ _ => rfl⟩
/-- a new cell, its own array at most written -/
theorem gr.add (N : jSh) (F : jFl) {A A' : jAr} (t n sl : Nat) (ow : Int) (hA : ∀ b, b ≠ jnx N → A' b = A b) : gr N F A (jnew N t n sl ow) (nwF N F) A' := ⟨nex.new _ _ _ _ _, fun a ha f => nwF_o (by omega), fun a ha => hA a (by omega)⟩
theorem gr.put {N N' : jSh} {F F' : jFl} {A A' : jAr} (h : gr N F A N' F' A') {f a : Nat} {z : Int} (ha : jnx N ≤ a) : gr N F A (jpF N' f a z) F' A' := ⟨⟨h.1.1, fun b hb => ⟨(h.1.2 b hb).1, (h.1.2 b hb).2.1, fun g => by rw [jpF_a (by omega)]; exact (h.1.2 b hb).2.2 g⟩⟩, h.2.1, h.2.2⟩
theorem sX3_sizeR {o : Nat} {N : jSh} {F : jFl} {A : jAr} {a b : Int} (h1 : F 1203 o = a) (h2 : F 1206 o = b) (ha : 0 ≤ a ∧ a ≤ 255) (hb : 0 ≤ b ∧ b ≤ 255) : wqX3_size o N F A (fun z => z = a + b) := by
  unfold wqX3_size
  rw [h1, h2]
  exact ⟨by omega, rfl⟩
/-- the text of octets that the init leaves -/
theorem on_str {S : Nat → Nat} {N N2 N' : jSh} {F F2 F' : jFl} {A A' : jAr} {u : Int} {n : Nat} {q : Int → Int} (hnb : nb N) (hw : own S N A u) (e2 : N2 = jnew N 22 0 4 1) (e3 : F2 = nwF N F) (hn : n ≤ 2000) (hq : ∀ i : Int, 0 ≤ i → i < n → 0 ≤ q i ∧ q i ≤ 255)
    (h : (n = 0 ∧ N' = jpF (jpF N2 6602 (jnx N) (jfn N2 6602 (S 18))) 6603 (jnx N) 0 ∧ F' = F2 ∧ A' = A) ∨ (0 < n ∧ N' = jpF (jpF (jnew N2 108 n n 1) 6603 (jnx N) 0) 6602 (jnx N) (jnx N2 : Int) ∧ F' = nwF N2 F2 ∧ (∀ b, b ≠ jnx N2 → A' b = A b) ∧ ∀ i : Int, 0 ≤ i → i < n → A' (jnx N2) i = jby (q i))) :
    (∃ v : Nat, strT N' A' (jnx N) v q n ∧ ∀ i : Int, 0 ≤ i → i < n → A' v i = jby (q i)) ∧ gr N F A N' F' A' ∧ (∀ M, gi S M N F → gi S M N' F') ∧ nb N' ∧ jnx N' ≤ jnx N + 2 ∧ jsu N' ≤ jsu N + 4 + n := by
  have x2 : jnx N2 = jnx N + 1 := by rw [e2, jnewNx]
  have s2 : jsu N2 = jsu N + 4 := by rw [e2, jnewSu]
  have gr2 : gr N F A N2 F2 A := by rw [e2, e3]; exact gr.add N F 22 0 4 1 (fun _ _ => rfl)
  have gi2 : ∀ M, gi S M N F → gi S M N2 F2 := fun M g => by rw [e2, e3]; exact g.add (by decide) (by decide)
  have tb : jtg N2 (jnx N) = 22 := by rw [e2, jnewTg]
  have nb2 : nb N2 := by rw [e2]; exact hnb.new
  rcases h with ⟨h0, h1, h2, h3⟩ | ⟨h0, h1, h2, h3, h4⟩
  · subst h1 h2 h3 h0
    obtain ⟨-, -, v, v1, v2, v3, v4, v5⟩ := hw
    have x18 := hnb (S 18) (by rw [v1]; decide)
    have xv := hnb v (by rw [v4]; decide)
    refine ⟨⟨v, ⟨⟨tb, ?_, jpF_s _ _ _ _⟩, ⟨?_, ?_, by omega⟩, fun i i0 i1 => by omega⟩, fun i i0 i1 => by omega⟩, (gr2.put (Nat.le_refl _)).put (Nat.le_refl _), gi2, nb2, by show jnx N2 ≤ _; omega, by show jsu N2 ≤ _; omega⟩
    · rw [jpF_f (by decide), jpF_s, e2, jnew_fno (by omega)]; exact v2
    · show jtg N2 v = 108
      rw [e2, jnew_tgo (by omega)]; exact v4
    · show jln N2 v = 0
      rw [e2, jnew_lno (by omega)]; exact v5
  · subst h1 h2
    have gr3 : gr N2 F2 A (jnew N2 108 n n 1) (nwF N2 F2) A' := gr.add N2 F2 108 n n 1 h3
    refine ⟨⟨jnx N2, ⟨⟨?_, jpF_s _ _ _ _, ?_⟩, ⟨?_, ?_, hn⟩, fun i i0 i1 => ?_⟩, h4⟩, ((gr2.trans gr3).put (Nat.le_refl _)).put (Nat.le_refl _), fun M g => (gi2 M g).add (n := n) (sl := n) (ow := 1) (by decide) (by decide), (nb2.new : nb (jnew N2 108 n n 1)), by show jnx N2 + 1 ≤ _; omega, by show jsu N2 + n ≤ _; omega⟩
    · show jtg (jnew N2 108 n n 1) (jnx N) = 22
      rw [jnew_tgo (by omega)]; exact tb
    · rw [jpF_f (by decide), jpF_s]
    · show jtg (jnew N2 108 n n 1) (jnx N2) = 108
      rw [jnewTg]
    · show jln (jnew N2 108 n n 1) (jnx N2) = n
      rw [jnewLn]
    · rw [h4 i i0 i1, jby_255 (hq i i0 i1)]
      have := hq i i0 i1
      split <;> omega
theorem strT.of {N : jSh} {A A' : jAr} {b v n : Nat} {q : Int → Int} (h : strT N A b v q n) (hA : A' v = A v) : strT N A' b v q n := ⟨h.1, h.2.1, by rw [hA]; exact h.2.2⟩
set_option maxHeartbeats 4000000 in
theorem sX0_on {S : Nat → Nat} {o : Nat} {N : jSh} {F : jFl} {A : jAr} {M R : Int} {W L : sTb} {B : sBk} {U : sUn} {Q : sMi} (h : xst S M R N F A o W L B U Q) (hM : M ≤ 700000000) (hR : R < 1000000000) : wqX0_on S o N F A (fun z N' F' A' => ((sIsImg W (Q 1) (Q 0 0) → z = 1 ∧ xst S (M + 1000000) (R + 1) N' F' A' o W (sOnL W L (Q 1) (Q 0 0)) (0, B.2) (0, U.2) (qLen Q 0)) ∧ (¬ sIsImg W (Q 1) (Q 0 0) → z = 0 ∧ xst S (M + 1000000) (R + 1) N' F' A' o W L B U (qRef (qLen Q 0) 5))) ∧ xrs o N F A N' F' A') := by
  unfold wqX0_on
  obtain ⟨t, wA, sA, cA, lA, c0, h9, h19, hQ, hX⟩ := h
  have hn := c0.1.1.1
  have hy := c0.1.2.1
  have hhx := c0.hx
  have w3 := c0.2.1.oW.2.2.2.1
  obtain ⟨q01, q02, q03⟩ := hQ.1
  obtain ⟨n, en⟩ : ∃ n : Nat, Q 0 0 = (n : Int) := ⟨(Q 0 0).toNat, by omega⟩
  have hq : ∀ i : Int, 0 ≤ i → i < n → A (o + 1) i = Q 1 i ∧ 0 ≤ Q 1 i ∧ Q 1 i ≤ 255 := fun i i0 i1 => hQ.2.1 i i0 (by omega)
  have hqr : ∀ i : Int, 0 ≤ i → i < n → 0 ≤ Q 1 i ∧ Q 1 i ≤ 255 := fun i i0 i1 => (hq i i0 i1).2
  rw [en]
  intro b1 N2 F3 e1 e2 e3
  subst e1
  have t1 : jtg N2 (o + 1) = 111 := by rw [e2, jnew_tgo (by omega)]; exact (hy.1 1 (by decide)).1
  have l1 : jln N2 (o + 1) = 1600 := by rw [e2, jnew_lno (by omega)]; exact hy.2.2 (1, 1600) (by decide)
  have f3 : F3 303 o = (n : Int) := by rw [e3, nwF_o (by omega), q01, en]
  have p3 : jfn N2 302 o = ((o + 1 : Nat) : Int) := by rw [e2, jnew_fno (by omega)]; exact hy.p302
  obtain ⟨-, -, v18, w18, -, w5, -⟩ := id hX.2.1
  have x18 := hn (S 18) (by rw [w18]; decide)
  refine ⟨_, sJ5_init (c := o + 1) (n := n) (q := Q 1) p3 t1 (by rw [e2, jnewNx]; omega) f3 ⟨by omega, by rw [f3, l1]; omega, by rw [l1]; decide⟩ (fun i i0 i1 => by rw [show (0 : Int) + i = i by omega]; exact hq i i0 i1) ⟨by rw [e2, jnew_f0], by rw [e2, jnewNx]; omega⟩ ⟨by rw [e2, jnew_tgo (by omega)]; exact w18, by rw [e2, jnew_fno (by omega)]; exact w5, by omega⟩, ?_⟩ -- call wqJ5_init S b1 (jfn N2 302 o) 0 (F3 303 o) N2 F3 A P9
  intro N14 F12 A13 p9
  obtain ⟨⟨v, hs, -⟩, k14, g14, -, b14, b14s⟩ := on_str hn hX.2.1 e2 e3 (by omega) hqr p9
  have c1 := c0.gr k14 (g14 M c0.1.1)
  have e14 := k14.1
  have kq1 := k14.kq hn hhx
  refine ⟨by exact c1.2.1.1.2.1, ?_⟩ -- s1: jfn N14 0 o = 1
  intro F22 e22
  have c2 : cst S M N14 F22 A13 o t W L B U wA sA cA lA := by rw [e22]; exact c1.seed (by decide)
  have f22 : ∀ (f a : Nat), (a = o → f ≠ 303) → F22 f a = F12 f a := fun f a ha => by
    rw [e22]
    by_cases w : a = o
    · rw [w]; exact upF_f (ha w)
    · exact upF_a w
  have tx1 := c1.2.1.tx
  have hX1 := hX.kw hn e14 kq1.kw
  have kw2 : kw o N14 F12 A13 F22 A13 := fun a ha => ⟨fun f => f22 f a (fun w => by rw [w, tx1] at ha; omega), rfl⟩
  have hX2 : xtr S o N14 F22 A13 W (qLen Q 0) wA sA cA lA := (hX1.kw c1.1.1.1 (nex.refl _) kw2).q rfl rfl
  have hQ1 : cMi R o F12 A13 Q := hQ.kq hy kq1
  have hQ2 : cMi R o F22 A13 (qLen Q 0) := ⟨⟨by rw [e22]; exact upF_s, Int.le_refl 0, (by decide : (0 : Int) ≤ 1600)⟩, fun i i0 i1 => by have i1 : i < 0 := i1; omega, hQ1.2.2.1, by rw [f22 312 o (fun _ => by decide), f22 315 o (fun _ => by decide)]; exact hQ1.2.2.2.1, by rw [f22 319 o (fun _ => by decide)]; exact hQ1.2.2.2.2.1, by rw [f22 330 o (fun _ => by decide)]; exact hQ1.2.2.2.2.2⟩
  have h2 : xst S M R N14 F22 A13 o W L B U (qLen Q 0) := ⟨t, wA, sA, cA, lA, c2, h9, h19.ex hn e14, hQ2, hX2⟩
  have kz2 : kz o N F A F22 A13 := fun a ha hb => ⟨fun f => (f22 f a (by omega)).trans (k14.2.1 a (hn a (by omega)) f), k14.2.2 a (hn a (by omega))⟩
  have g2 := c2.1.1
  have hy2 := c2.1.2.1
  have hhx2 := c2.hx
  refine ⟨_, sX0_isTold c2.2.1 hs rfl hqr, ?_⟩ -- call wqX0_isTold S o (b1 : Int) N14 F22 A13 P23
  intro z25 p23
  refine ⟨fun hc => ?_, fun hc => ?_⟩ -- c1
  · -- case (¬ z25 = 0)
    have yI : sIsImg W (Q 1) n := by
      by_cases w : sIsImg W (Q 1) n
      · exact w
      · rw [cif_neg w] at p23; exact absurd p23 hc
    have y4 := yI.1
    have y44 := yI.2.2.2.1
    have tv : jtg N14 v = 108 := hs.2.1.1
    have hsk : ∀ {F' : jFl} {A' : jAr}, kq o N14 F22 A13 F' A' → strT N14 A' (jnx N) v (Q 1) n := fun k => hs.of (k v (Or.inl (by rw [tv]; decide))).2
    refine ⟨_, by exact c2.2.1.ft, ?_⟩ -- d31: F22 311 o = (b31 : Int)
    refine ⟨by exact c2.2.1.tt, ?_⟩ -- s2: jtg N14 b31 = 2
    refine ⟨_, by exact c2.2.1.nL, ?_⟩ -- d34: jfn N14 626 b31 = (b34 : Int)
    refine ⟨by exact c2.2.1.lL.1.1, ?_⟩ -- s3: jtg N14 b34 = 20
    refine ⟨_, sJ2_size c2.2.1.lL, ?_⟩ -- call wqJ2_size b34 N14 F22 A13 P37
    intro z39 p37
    refine ⟨by omega, ?_⟩ -- s4: jR (3 + z39)
    intro v45 e45
    refine ⟨_, hs.charAt (by omega), ?_⟩ -- call wqJ5_charAt S b1 0 N14 F22 A13 P47
    intro z49 p47
    refine ⟨_, hs.charAt (by omega), ?_⟩ -- call wqJ5_charAt S b1 1 N14 F22 A13 P54
    intro z56 p54
    refine ⟨by exact c2.2.1.2.2.1.2.1, ?_⟩ -- s5: jfn N14 0 b31 = 1
    have r0 := hqr 0 (by omega) (by omega)
    have r1 := hqr 1 (by omega) (by omega)
    refine ⟨by omega, ?_⟩ -- s6: jR ((256 * z49) + z56)
    intro F64 e64
    obtain ⟨LL, hLL⟩ : ∃ LL : sTb, LL = sOnL W L (Q 1) n := ⟨_, rfl⟩
    have oLL : sLok W LL := by rw [hLL]; exact sOnL_ok w3.1 hqr yI
    have L0 : 256 * z49 + z56 = LL 0 0 0 := by rw [hLL, p47, p54]; rfl
    rw [L0] at e64
    have tt := c2.2.1.tt
    have c3 : cst S M N14 F64 A13 o t W (sFl (sYr L (LL 0 0 0)) 1) B U wA sA cA lA := by rw [e64]; exact (c2.yr oLL.1).flag
    have kq3 : kq o N14 F22 A13 F64 A13 := fun a ha => ⟨fun f => by
      rw [e64]
      refine upF_a (fun w => ?_)
      rcases ha with q | q
      · rw [w, tt] at q; omega
      · have := (hy2.scr.1 a q.1 q.2).2.1; rw [w, tt] at this; omega, rfl⟩
    refine ⟨fun (v65 : Int) (F66 : jFl) (A67 : jAr) => (0 ≤ v65 ∧ v65 ≤ W 3 0 0) ∧ kq o N14 F22 A13 F66 A67 ∧ ∃ Lk : sTb, cst S M N14 F66 A67 o t W Lk B U wA sA cA lA ∧ Lk 0 0 0 = LL 0 0 0 ∧ Lk 9 0 0 = 1 ∧ ∀ p : Int, 0 ≤ p → p < v65 → Lk 1 p 0 = LL 1 p 0, fun v65 F66 A67 => (W 3 0 0 - v65).toNat, ?_, ?_⟩ -- loop I70 I70 0 F64 A13
    ·
      -- l1: I70 0 F64 A13
      exact ⟨by omega, kq3, _, c3, rfl, rfl, fun p p0 p1 => by omega⟩
    intro v65 F66 A67 i70
    obtain ⟨i1, i2, Lk, i5, i6, i7, i8⟩ := i70
    refine ⟨fun hc => ?_, fun hc => ?_⟩ -- c2
    · -- case (z39 ≤ v65)
      refine ⟨fun (v73 : Int) (v74 : Int) (F75 : jFl) (A76 : jAr) => (0 ≤ v74 ∧ v74 ≤ W 3 0 0) ∧ v73 = sAtL W (Q 1) ((n : Int) - 1) v74.toNat ∧ kq o N14 F22 A13 F75 A76 ∧ ∃ Lk : sTb, cst S M N14 F75 A76 o t W Lk B U wA sA cA lA ∧ Lk 0 0 0 = LL 0 0 0 ∧ Lk 9 0 0 = 1 ∧ (∀ p : Int, 0 ≤ p → p < W 3 0 0 → Lk 1 p 0 = LL 1 p 0) ∧ ∀ l : Int, 0 ≤ l → l < v74 → Lk 2 l 0 = LL 2 l 0 ∧ Lk 3 l 0 = LL 3 l 0 ∧ Lk 4 l 0 = LL 4 l 0 ∧ ∀ k : Int, 0 ≤ k → k < LL 2 l 0 + LL 3 l 0 → Lk 5 l k = LL 5 l k, fun v73 v74 F75 A76 => (W 3 0 0 - v74).toNat, ?_, ?_⟩ -- loop I79 I79 v45 0 F66 A67
      ·
        -- l2: I79 v45 0 F66 A67
        exact ⟨by omega, by rw [e45, p37]; rfl, i2, Lk, i5, i6, i7, fun p p0 p1 => i8 p p0 (by omega), fun l l0 l1 => by omega⟩
      intro v73 v74 F75 A76 i79
      obtain ⟨j1, j2, j3, Lj, j5, j6, j7, j8, j9⟩ := i79
      refine ⟨fun hc => ?_, fun hc => ?_⟩ -- c3
      · -- case (z39 ≤ v74)
        refine ⟨_, by exact j5.2.1.ft, ?_⟩ -- d82: F75 311 o = (b82 : Int)
        refine ⟨by exact tt, ?_⟩ -- s7: jtg N14 b82 = 2
        refine ⟨_, by exact j5.2.1.nB, ?_⟩ -- d85: jfn N14 632 b82 = (b85 : Int)
        refine ⟨by (obtain ⟨e, q, -⟩ := j5.2.2.1; exact q.1.1), ?_⟩ -- s8: jtg N14 b85 = 20
        have hnl : v74 = W 3 0 0 := by omega
        have hcL : cst S M N14 F75 A76 o t W LL B U wA sA cA lA := j5.leq oLL ⟨j6, fun p p0 p1 => j8 p p0 p1, fun l l0 l1 => by
          obtain ⟨r1, r2, r3, r4⟩ := j9 l l0 (by omega)
          exact ⟨r1, r2, r3, fun k k0 k1 => r4 k k0 (by rw [← r1, ← r2]; exact k1)⟩⟩
        obtain ⟨be, bl, bln⟩ := id hcL.2.2.1
        refine ⟨_, sJ2_clear bl hcL.1.1 (by omega), ?_⟩ -- call wqJ2_clear b85 N14 F75 A76 P88
        intro F91 A92 p88
        obtain ⟨u1, u2, u3, u4⟩ := p88
        have hkp : kp N14 F75 A76 (t + 6) N14 F91 A92 := ⟨nex.refl _, fun a _ hao f => by rw [u3, upF_a hao, upF_a hao], fun a _ hao => u4 a (Or.inl hao)⟩
        have hc8 : cst S (M + 1) N14 F91 A92 o t W LL (0, B.2) U wA sA cA lA := hcL.book hkp u2 ⟨be, u1 be, fun k k0 k1 => by dsimp only at k1; omega⟩
        have kq8 := j3.trans (hkp.kq hcL.1.1 bl.isL hy2 hhx2) g2.1 (nex.refl _)
        obtain ⟨ab, ae, al, aln⟩ := id hc8.2.2.2
        refine ⟨_, by exact hy2.p323, ?_⟩ -- d97: jfn N14 323 o = (b97 : Int)
        refine ⟨by exact al.1.1, ?_⟩ -- s9: jtg N14 b97 = 20
        refine ⟨_, sJ2_clear al hc8.1.1 (by omega), ?_⟩ -- call wqJ2_clear b97 N14 F91 A92 P100
        intro F103 A104 p100
        obtain ⟨x1, x2, x3, x4⟩ := p100
        have hkp2 : kp N14 F91 A92 (o + 10) N14 F103 A104 := ⟨nex.refl _, fun a _ hao f => by rw [x3, upF_a hao, upF_a hao], fun a _ hao => x4 a (Or.inl hao)⟩
        have hc9 : cst S (M + 1 + 1) N14 F103 A104 o t W LL (0, B.2) (0, U.2) wA sA cA lA := hc8.acts hkp2 x2 ⟨⟨Int.le_refl 0, (by decide : (0 : Int) ≤ 20)⟩, ae, x1 ae, fun i i0 i1 => by dsimp only at i1; omega⟩
        have kq9 := kq8.trans (hkp2.kq hc8.1.1 al.isL hy2 hhx2) g2.1 (nex.refl _)
        -- l3: Q 1 N14 F103 A104
        refine ⟨⟨fun _ => ⟨rfl, ?_⟩, fun w => absurd yI w⟩, e14, kz2.trans kq9.kz hn e14, by omega, by omega⟩
        rw [← hLL]
        exact ⟨t, wA, sA, cA, lA, hc9.mono (by omega) (by omega), by rw [hLL]; exact h9, h19.ex hn e14, (hQ2.kq hy2 kq9).mono (by omega), hX2.kw g2.1 (nex.refl _) kq9.kw⟩
      · -- case (¬ (z39 ≤ v74))
        refine ⟨_, by exact j5.2.1.ft, ?_⟩ -- d109: F75 311 o = (b109 : Int)
        refine ⟨by exact tt, ?_⟩ -- s10: jtg N14 b109 = 2
        refine ⟨_, by exact j5.2.1.nL, ?_⟩ -- d112: jfn N14 626 b109 = (b112 : Int)
        refine ⟨by exact j5.2.1.lL.1.1, ?_⟩ -- s11: jtg N14 b112 = 20
        refine ⟨_, sJ2_get j5.2.1.lL (by omega), ?_⟩ -- call wqJ2_get b112 v74 N14 F75 A76 P115
        intro z117 p115
        have hv : 0 ≤ v74 ∧ v74 < W 3 0 0 := by omega
        obtain ⟨b, u1, u2, u3, u4⟩ := j5.2.1.lw hv
        have tb := u2.1
        have rk := u2.2.2.2.2
        have t1 := rk.1
        have t2 := rk.2.2.2.1
        obtain ⟨bb, be⟩ := sAtL_ok w3.1 hqr yI hv.1 hv.2
        have rg := sAtL_range w3.1 hqr yI v74.toNat (by omega)
        rw [← j2] at bb be rg
        have b1 := bb.1
        have q0 := hqr v73 (by omega) (by omega)
        have q1 := hqr (v73 + 1) (by omega) (by omega)
        have q2 := hqr (v73 + 2) (by omega) (by omega)
        have L2 : LL 2 v74 0 = Q 1 (v73 + 1) := by rw [hLL, j2]; rfl
        have L3 : LL 3 v74 0 = Q 1 (v73 + 2) := by rw [hLL, j2]; rfl
        have L4 : LL 4 v74 0 = Q 1 v73 := by rw [hLL, j2]; rfl
        have L5 : ∀ k : Int, LL 5 v74 k = Q 1 (v73 + 3 + k) := fun k => by rw [hLL, j2]; rfl
        obtain ⟨d1, d2, d3, d4, d5, d6, d7⟩ := bb
        refine ⟨by exact jcst_law (p115.trans u1) u2.1, ?_⟩ -- s12: jcst N14 "ChildSays$Law" z117
        refine ⟨_, (hsk j3).charAt (by omega), ?_⟩ -- call wqJ5_charAt S b1 v73 N14 F75 A76 P123
        intro z125 p123
        intro z131 e131
        have e131b : z131 = LL 4 v74 0 := by rw [e131, L4, p123]; split <;> omega
        refine ⟨_, by exact p115.trans u1, ?_⟩ -- d133: z117 = (b133 : Int)
        refine ⟨by exact tb, ?_⟩ -- s13: jtg N14 b133 = 17
        refine ⟨by exact u2.2.1, ?_⟩ -- s14: jfn N14 0 b133 = 1
        intro F138 e138
        have c138 : cst S M N14 F138 A76 o t W (sSset Lj v74 z131) B U wA sA cA lA := by rw [e138]; exact j5.sng hv u1 (by rw [e131b]; exact (oLL.2.2.2.1 v74 hv.1 hv.2).2.2.2)
        have out : b + 4 < o + 11 ∨ o + 141 ≤ b := hy2.scr.out3 (by omega)
        have kq138 : kq o N14 F75 A76 F138 A76 := fun a ha => ⟨fun f => by
          rw [e138]
          refine upF_a (fun w => ?_)
          rcases ha with q | q
          · rw [w, tb] at q; omega
          · omega, rfl⟩
        have kq4 := j3.trans kq138 g2.1 (nex.refl _)
        refine ⟨by omega, ?_⟩ -- s15: jR (v73 + 1)
        refine ⟨_, (hsk kq4).charAt (by omega), ?_⟩ -- call wqJ5_charAt S b1 (v73 + 1) N14 F138 A76 P140
        intro z142 p140
        refine ⟨_, by exact u2.2.2.2.1, ?_⟩ -- d147: jfn N14 5102 b133 = (b147 : Int)
        refine ⟨by exact t1, ?_⟩ -- s16: jtg N14 b147 = 4
        refine ⟨by exact rk.2.1, ?_⟩ -- s17: jfn N14 0 b147 = 1
        intro F152 e152
        refine ⟨by omega, ?_⟩ -- s18: jR (v73 + 2)
        refine ⟨_, (hsk kq4).charAt (by omega), ?_⟩ -- call wqJ5_charAt S b1 (v73 + 2) N14 F152 A76 P154
        intro z156 p154
        intro F162 e162
        have f162 : ∀ (f a : Nat), a ≠ b + 3 → F162 f a = F138 f a := fun f a ha => by rw [e162, upF_a ha, e152, upF_a ha]
        have r1 : F162 1203 (b + 3) = LL 2 v74 0 := by rw [e162, upF_f (by decide), e152, upF_s, p140, L2]
        have r2 : F162 1206 (b + 3) = LL 3 v74 0 := by rw [e162, upF_s, p154, L3]
        have hRk := sRw_ok oLL hv
        have hR1 := sRw_o1 oLL hv
        have hl := c138.2.1
        have lw : ∀ {A' : jAr}, (∀ a, a ≠ b + 4 → A' a = A76 a) → jli N14 F162 A' (t + 1) (W 0 0 0) wA := fun {A'} hA => by
          have q := hl.lW
          obtain ⟨-, -, -, c, q4, q5, -⟩ := id q
          refine q.moved g2.1 (nex.refl _) (f162 _ _ (fun w => ?_)) (f162 _ _ (fun w => ?_)) (fun _ => hA _ (fun w => ?_))
          · have := q.1.1; rw [w, t1] at this; omega
          · have := q.1.1; rw [w, t1] at this; omega
          · have w : (F138 6002 (t + 1)).toNat = b + 4 := w
            rw [q4] at w
            have w : c = b + 3 + 1 := by omega
            rw [w, t2] at q5; omega
        refine ⟨fun (v163 : Int) (A164 : jAr) => (0 ≤ v163 ∧ v163 ≤ LL 2 v74 0 + LL 3 v74 0) ∧ (∀ k : Int, 0 ≤ k → k < v163 → A164 (b + 4) k = wA (LL 5 v74 k)) ∧ ∀ a, a ≠ b + 4 → A164 a = A76 a, fun v163 A164 => (LL 2 v74 0 + LL 3 v74 0 - v163).toNat, ?_, ?_⟩ -- loop I167 I167 0 A76
        ·
          -- l4: I167 0 A76
          exact ⟨by omega, fun k k0 k1 => by omega, fun _ _ => rfl⟩
        intro v163 A164 i167
        obtain ⟨n1, n2, n3⟩ := i167
        refine ⟨_, sX3_sizeR r1 r2 (by omega) (by omega), ?_⟩ -- call wqX3_size b147 N14 F162 A164 P169
        intro z171 p169
        refine ⟨fun hc => ?_, fun hc => ?_⟩ -- c4
        · -- case (z171 ≤ v163)
          refine ⟨_, sX3_sizeR r1 r2 (by omega) (by omega), ?_⟩ -- call wqX3_size b147 N14 F162 A164 P177
          intro z179 p177
          refine ⟨by omega, ?_⟩ -- s19: jR (v73 + (3 + z179))
          intro v185 e185
          refine ⟨by omega, ?_⟩ -- s20: jR (v74 + 1)
          refine ⟨?_, ?_⟩ -- l5: I79 v185 (v74 + 1) F162 A164
          · have hfr : fr (b + 3) (b + 5) F138 A76 F162 A164 := fun a ha => ⟨fun f => f162 f a (by omega), n3 a (by omega)⟩
            have hRw : rowIs N14 F162 A164 wA (b + 3) (sRw LL v74) := ⟨rk, r1, r2, fun k k0 k1 => n2 k k0 (by have k1 : k < LL 2 v74 0 + LL 3 v74 0 := k1; omega)⟩
            have c5 := c138.law hv u1 hfr hRw hRk hR1
            have kq5 : kq o N14 F138 A76 F162 A164 := fun a ha => hfr a (by
              rcases ha with w | w
              · by_cases w1 : a = b + 3
                · rw [w1, t1] at w; omega
                · by_cases w2 : a = b + 3 + 1
                  · rw [w2, t2] at w; omega
                  · omega
              · omega)
            refine ⟨by omega, by rw [e185, be]; omega, kq4.trans kq5 g2.1 (nex.refl _), sLset (sSset Lj v74 z131) v74 (sRw LL v74), c5, ?_, ?_, fun p p0 p1 => ?_, fun l l0 l1 => ?_⟩
            · simp [sSset, sLset]; exact j6
            · simp [sSset, sLset]; exact j7
            · simp [sSset, sLset]; exact j8 p p0 p1
            · by_cases w : l = v74
              · rw [w]
                simp [sSset, sLset, sRw, e131b]
              · simp [sSset, sLset, w]
                obtain ⟨r1, r2, r3, r4⟩ := j9 l l0 (by omega)
                exact ⟨r1, r2, r3, r4⟩
          · dsimp only; omega
        · -- case (¬ (z171 ≤ v163))
          refine ⟨_, by (rw [f162 _ _ (fun w => by have := c2.2.1.tx; rw [w, t1] at this; omega)]; exact hl.ft), ?_⟩ -- d187: F162 311 o = (b187 : Int)
          refine ⟨by exact tt, ?_⟩ -- s21: jtg N14 b187 = 2
          refine ⟨by omega, ?_⟩ -- s22: jR ((v73 + 3) + v163)
          refine ⟨_, ((hsk kq4).of (n3 v (fun w => by rw [w, show b + 4 = b + 3 + 1 from rfl, t2] at tv; omega))).charAt (by omega), ?_⟩ -- call wqJ5_charAt S b1 ((v73 + 3) + v163) N14 F162 A164 P191
          intro z193 p191
          have zr := d7 (v73 + 3 + v163) (by omega) (by omega)
          refine ⟨_, by exact hl.nW, ?_⟩ -- d198: jfn N14 617 b187 = (b198 : Int)
          refine ⟨by exact hl.lW.1.1, ?_⟩ -- s23: jtg N14 b198 = 20
          refine ⟨_, sJ2_get (lw n3) (by omega), ?_⟩ -- call wqJ2_get b198 z193 N14 F162 A164 P201
          intro z203 p201
          obtain ⟨wb, wb1, wb2, -⟩ := hl.wd z193 (by omega) (by omega)
          refine ⟨by exact jcst_at (p201.trans wb1) wb2 rfl rfl, ?_⟩ -- s24: jcst N14 "ChildSays$Word" z203
          refine ⟨_, by exact rk.2.2.1, ?_⟩ -- d209: jfn N14 1202 b147 = (b209 : Int)
          refine ⟨by exact t2, ?_⟩ -- s25: jtg N14 b209 = 107
          refine ⟨by exact rk.2.2.2.2.1, ?_⟩ -- s26: jfn N14 0 b209 = 1
          refine ⟨by (rw [rk.2.2.2.2.2]; omega), ?_⟩ -- s27: ((0 : Int) ≤ v163 ∧ (v163 : Int) < (jln N14 b209 : Int))
          refine ⟨by exact jast_word (p201.trans wb1) wb2, ?_⟩ -- s28: jast N14 "ChildSays$Word" z203
          intro A214 e214
          refine ⟨by omega, ?_⟩ -- s29: jR (v163 + 1)
          refine ⟨?_, ?_⟩ -- l6: I167 (v163 + 1) A214
          · refine ⟨by omega, fun k k0 k1 => ?_, fun a ha => by rw [e214, upA_o ha]; exact n3 a ha⟩
            by_cases w : k = v163
            · rw [w, e214]
              show upA A164 (b + 3 + 1) v163 z203 (b + 3 + 1) v163 = _
              rw [upA_s, p201, p191, L5]
            · rw [e214, upA_i w]; exact n2 k k0 (by omega)
          · dsimp only; omega
    · -- case (¬ (z39 ≤ v65))
      refine ⟨_, by exact i5.2.1.ft, ?_⟩ -- d218: F66 311 o = (b218 : Int)
      refine ⟨by exact tt, ?_⟩ -- s30: jtg N14 b218 = 2
      refine ⟨by omega, ?_⟩ -- s31: jR (3 + v65)
      refine ⟨_, (hsk i2).charAt (by omega), ?_⟩ -- call wqJ5_charAt S b1 (3 + v65) N14 F66 A67 P222
      intro z224 p222
      have zr := yI.2.2.2.2.2.1 v65 (by omega) (by omega)
      rw [← p222] at zr
      obtain ⟨bo, o1, o2, -⟩ := i5.2.1.lw zr
      refine ⟨_, by exact i5.2.1.nL, ?_⟩ -- d229: jfn N14 626 b218 = (b229 : Int)
      refine ⟨by exact i5.2.1.lL.1.1, ?_⟩ -- s32: jtg N14 b229 = 20
      refine ⟨_, sJ2_get i5.2.1.lL zr, ?_⟩ -- call wqJ2_get b229 z224 N14 F66 A67 P232
      intro z234 p232
      refine ⟨by exact jcst_law (p232.trans o1) o2.1, ?_⟩ -- s33: jcst N14 "ChildSays$Law" z234
      refine ⟨_, by exact i5.2.1.nO, ?_⟩ -- d240: jfn N14 629 b218 = (b240 : Int)
      refine ⟨by exact i5.2.1.lO.1.1, ?_⟩ -- s34: jtg N14 b240 = 20
      refine ⟨_, sJ2_set i5.2.1.lO (by omega) (by rw [p232]; exact jast_obj o1 o2.1 rfl (List.elem_iff.mp (by decide +kernel))), ?_⟩ -- call wqJ2_set b240 v65 z234 N14 F66 A67 P243
      intro z245 F246 A247 p243
      obtain ⟨-, r1, r2, r3, r4⟩ := p243
      rw [p232] at r1
      have hc6 := i5.ord (by rw [i7]; decide) (by omega) zr r1 r2 r3 r4
      subst r2
      have hkp6 : kp N14 F246 A67 (t + 5) N14 F246 A247 := ⟨nex.refl _, fun _ _ _ _ => rfl, fun a _ q => r3 a q⟩
      refine ⟨by omega, ?_⟩ -- s35: jR (v65 + 1)
      refine ⟨?_, ?_⟩ -- l7: I70 (v65 + 1) F246 A247
      · refine ⟨by omega, i2.trans (hkp6.kq i5.1.1 i5.2.1.lO.isL hy2 hhx2) g2.1 (nex.refl _), _, hc6, ?_, ?_, fun p p0 p1 => ?_⟩
        · simp [sOset]; exact i6
        · simp [sOset]; exact i7
        · by_cases w : p = v65
          · rw [w, hLL]
            simp [sOset, sOnL]; exact p222
          · simp [sOset, w]; exact i8 p p0 (by omega)
      · dsimp only; omega
  · -- case (z25 = 0)
    have nI : ¬ sIsImg W (Q 1) n := fun w => by rw [cif_pos w] at p23; omega
    refine ⟨_, sX0_refuses hy2 hQ2 hR (by decide), ?_⟩ -- call wqX0_refuses o 5 N14 F22 A13 P253
    intro z255 F256 A257 p253
    -- l8: Q z255 N14 F256 A257
    obtain ⟨y1, y2, y3, y4⟩ := p253
    have g := h2.ref (by omega) y2 y3 y4
    exact ⟨⟨fun w => absurd w nI, fun _ => ⟨y1, g.1⟩⟩, e14, kz2.trans g.2.2.1 hn e14, by omega, by omega⟩

