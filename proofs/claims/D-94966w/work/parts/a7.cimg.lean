set_option maxRecDepth 100000
set_option linter.unusedVariables false
/-! the component's image; printed by gen/prove.py out of spec/a7.cimg.spec -/
theorem sb.charAt {S : Nat → Nat} {N : jSh} {F : jFl} {A : jAr} {o : Nat} {p : sOc} (h : sb N F A o p) {i : Int} (hi : 0 ≤ i ∧ i < p.1) : wqJ4_charAt S o i N F A (fun z => z = p.2 i) := by
  obtain ⟨v, ⟨q1, q2, q3⟩, ⟨q4, q5, q6, q7⟩, q8, q9, q10⟩ := h
  have e := sJ4_charAt (S := S) (A := A) q1 q2 q3 q4 q8.2 q7 hi
  have r := q9 i hi.1 hi.2
  rw [show A v i % 256 = p.2 i by have := r.2; split at this <;> omega] at e
  exact e
theorem cst.a108 {S : Nat → Nat} {M : Int} {N : jSh} {F : jFl} {A A' : jAr} {x t : Nat} {W L : sTb} {B : sBk} {U : sUn} {wA sA cA lA : Int → Int} (h : cst S M N F A x t W L B U wA sA cA lA) (hA : ∀ b : Nat, jtg N b ≠ 108 → A' b = A b) : cst S M N F A' x t W L B U wA sA cA lA := by
  have ht : ∀ (b k : Nat), jtg N b = k → k ≠ 108 → A' b = A b := fun b k hb hk => hA b (by rw [hb]; exact hk)
  have hj : ∀ {l : Nat} {n : Int} {e : Int → Int}, jli N F A l n e → jli N F A' l n e := fun {l n e} q => by
    obtain ⟨q1, q2, q3, c, q4, q5, q6⟩ := q
    exact ⟨q1, q2, q3, c, q4, q5, by rw [ht c 104 q5 (by decide)]; exact q6⟩
  have hb : ∀ {l : Nat} {B : sBk}, bkIs N F A l B → bkIs N F A' l B := fun {l B} q => by
    obtain ⟨e, q1, q2⟩ := q
    exact ⟨e, hj q1, q2⟩
  have hr : ∀ {r : Nat} {R : sRow}, rowIs N F A wA r R → rowIs N F A' wA r R := fun {r R} q => q.of rfl rfl (ht _ 107 q.1.2.2.2.1 (by decide))
  obtain ⟨⟨g, ly, sa⟩, ⟨⟨x1, x2, x3⟩, ⟨hW, hL⟩, t1, t2, ⟨l1, l2, l3, l4, l5⟩, h4, h5, h6, h7⟩, hbk, ha1, e, ha2, ha3⟩ := h
  refine ⟨⟨g, ly, sarr_of sa (ht _ 110 (ly.1 15 (by decide)).1 (by decide)) (ht _ 110 (ly.1 99 (by decide)).1 (by decide)) (ht _ 110 (ly.1 54 (by decide)).1 (by decide))⟩, ⟨⟨x1, x2, x3⟩, ⟨hW, hL⟩, t1, t2, ⟨hj l1, hj l2, hj l3, hj l4, hj l5⟩, h4, fun s s0 s1 => ?_, fun c c0 c1 => ?_, fun m m0 m1 => ?_⟩, hb hbk, ha1, e, hj ha2, fun i i0 i1 => ?_⟩
  · obtain ⟨d, d1, d2⟩ := h5 s s0 s1
    exact ⟨d, d1, d2.1, by rw [ht _ 107 d2.1.2.2.2.2.1 (by decide)]; exact d2.2⟩
  · obtain ⟨d, d1, d2⟩ := h6 c c0 c1
    exact ⟨d, d1, d2.of (fun f _ => rfl) (ht _ 105 d2.1.2.2.2.2.1 (by decide)) (ht _ 107 d2.1.2.2.2.2.2.2.2.2.1 (by decide))⟩
  · obtain ⟨d, d1, d2, d3, d4⟩ := h7 m m0 m1
    exact ⟨d, d1, d2, d3, hr d4⟩
  · obtain ⟨w, w1, w2, w3, w4, w5⟩ := ha3 i i0 i1
    refine ⟨w, w1, w2, w3, fun k hk => ?_, hb w5⟩
    obtain ⟨y1, y2, y3, y4⟩ := w4 k hk
    exact ⟨by rw [ht _ 116 w2.2.1.2.1 (by decide)]; exact y1, hr y2, by rw [ht _ 113 w2.2.2.1.2.1 (by decide)]; exact y3, by rw [ht _ 105 w2.2.2.2.1.2.1 (by decide)]; exact y4⟩
theorem cst_gb {S : Nat → Nat} {M : Int} {N N' : jSh} {F F' : jFl} {A A' : jAr} {x t : Nat} {W L : sTb} {B : sBk} {U : sUn} {wA sA cA lA : Int → Int} (c : cst S M N F A x t W L B U wA sA cA lA) {v : Nat} (hv : F 7202 (x + 140) = (v : Int)) (hv2 : jtg N v = 108) (g : gw S (x + 140) N F A N' F' A') : cst S M N' F' A' x t W L B U wA sA cA lA := by
  obtain ⟨g1, g2, g3, g4, g5, g6, -⟩ := g
  have hn := c.1.1.1
  have hy := c.1.2.1
  have t140 : jtg N (x + 140) = 21 := (hy.1 140 (by decide)).1
  have t140' : jtg N' (x + 140) = 21 := g1.tg hn t140 (by decide)
  have k : gr N F A N' (fun f a => if a = x + 140 then F f a else F' f a) (fun a => if a < jnx N then A a else A' a) := ⟨g1, fun a ha f => by
    by_cases w : a = x + 140
    · exact if_pos w
    · exact (if_neg w).trans (g2 a w ha f), fun a ha => if_pos ha⟩
  have gi' : gi S M N' (fun f a => if a = x + 140 then F f a else F' f a) := (g6 M c.1.1).of (fun l hl => by
    have w : l ≠ x + 140 := fun w => by rw [w, t140'] at hl; exact absurd hl (by decide)
    exact ⟨if_neg w, if_neg w⟩)
  have c1 := c.gr k gi'
  have c2 := c1.scr (F' := F') (A' := fun a => if a < jnx N then A a else A' a) (lo := x + 140) (hi := x + 141) (by omega) (by omega) (fun a ha => ⟨fun f => (if_neg (by omega)).symm, rfl⟩) c1.1.2.2
  refine c2.a108 (fun b hb => ?_)
  by_cases w : b < jnx N
  · have nv : (b : Int) ≠ F 7202 (x + 140) := fun e => hb (by
      have : b = v := by omega
      rw [this]; exact g1.tg hn hv2 (by decide))
    exact (g4 b w nv).trans (if_pos w).symm
  · exact (if_neg w).symm
theorem xst.gb {S : Nat → Nat} {M R : Int} {N N' : jSh} {F F' : jFl} {A A' : jAr} {x t : Nat} {W L : sTb} {B : sBk} {U : sUn} {Q : sMi} {wA sA cA lA : Int → Int} (c : cst S M N F A x t W L B U wA sA cA lA) (h9 : L 9 0 0 = 0) (h19 : s19 S N) (hQ : cMi R x F A Q) (hX : xtr S x N F A W Q wA sA cA lA) (hM : M ≤ 900000000) (g : gw S (x + 140) N F A N' F' A') {p : sOc} (hs : sb N' F' A' (x + 140) p) : xst S (M + 1000000) R N' F' A' x W L B U (qImg Q p) ∧ xrs x N F A N' F' A' := by
  obtain ⟨v, ⟨q1, q2, q3⟩, ⟨q4, q5, q6, q7⟩, q8, q9⟩ := id hX.2.2
  have c1 := cst_gb c q1 q4 g
  have hn := c.1.1.1
  have hy := c.1.2.1
  have hvx := hn v (by rw [q4]; decide)
  have hhx := c.hx
  have tx : jtg N x = 1 := (hy.1 0 (by decide)).1
  have t1 : jtg N (x + 1) = 111 := (hy.1 1 (by decide)).1
  have t2 : jtg N (x + 2) = 102 := (hy.1 2 (by decide)).1
  have nv : ∀ a : Nat, jtg N a ≠ 108 → (a : Int) ≠ F 7202 (x + 140) := fun a ha e => ha (by
    have : a = v := by omega
    rw [this]; exact q4)
  obtain ⟨g1, g2, g3, g4, g5, g6, g7⟩ := g
  have kk : kv (F 7202 (x + 140)) N A A' := fun a ha => g4 a (hn a (by omega)) (by
    rcases ha with w | w
    · exact w.2
    · exact nv a (by omega))
  have cm := hQ.of (F' := F') (A' := A') (fun f _ => g2 x (by omega) (by omega) f) (g4 _ (by omega) (nv _ (by omega))) (g4 _ (by omega) (nv _ (by omega)))
  have cap := hs
  obtain ⟨v', ⟨r1, -, -⟩, ⟨r4, -, -, r7⟩, -⟩ := cap
  have e1 : cpB N' F' (x + 140) = jln N' v' := by unfold cpB; rw [r1]; rfl
  refine ⟨⟨t, wA, sA, cA, lA, c1.mono (by omega) (by omega), h9, h19.ex hn g1, cm, hX.1.kv hn g1 kk g5, hX.2.1.kv hn g1 kk g5, hs⟩, g1, fun a ha hb => ⟨fun f => g2 a (by omega) (hn a (by omega)) f, g4 a (hn a (by omega)) (nv a (by omega))⟩, by omega, by omega⟩
set_option maxHeartbeats 2000000 in
theorem sX0_image {S : Nat → Nat} {o : Nat} {N : jSh} {F : jFl} {A : jAr} {M R : Int} {W L : sTb} {B : sBk} {U : sUn} {Q : sMi} (h : xst S M R N F A o W L B U Q) (hM : M ≤ 700000000) : wqX0_image S o N F A (fun z N' F' A' => z = (sImg W L).1 ∧ xst S (M + 1000000) R N' F' A' o W L B U (qImg Q (sImg W L)) ∧ xrs o N F A N' F' A') := by
  unfold wqX0_image
  obtain ⟨t, wA, sA, cA, lA, c0, h9, h19, hQ, hX⟩ := h
  have hk := c0.2.1.oW
  have hLk := c0.2.1.oL
  have w0 := hk.1
  have w3 := hk.2.2.2.1
  have ky := hLk.1
  have hy := c0.1.2.1
  have hn := c0.1.1.1
  obtain ⟨v, ⟨q1, q2, q3⟩, ⟨q4, q5, q6, q7⟩, q8, q9⟩ := id hX.2.2
  have cg : ∀ {N' : jSh} {F' : jFl} {A' : jAr}, gw S (o + 140) N F A N' F' A' → cst S M N' F' A' o t W L B U wA sA cA lA := fun g => cst_gb c0 q1 q4 g
  have k0 : sOck ((0 : Int), fun _ => (0 : Int)) 0 := ⟨by decide, fun k k0 k1 => by have k1 : k < 0 := k1; omega⟩
  have s0 : sb N F A (o + 140) (Q 6 0, Q 7) := hX.2.2
  refine ⟨_, by exact hy.p350, ?_⟩ -- d1: jfn N 350 o = (b1 : Int)
  refine ⟨by exact (hy.1 140 (by decide)).1, ?_⟩ -- s1: jtg N b1 = 21
  refine ⟨_, sJ4_setLength s0 hn (hy.1 140 (by decide)) rfl, ?_⟩ -- call wqJ4_setLength S b1 0 N F A P4
  intro N9 F7 A8 p4
  obtain ⟨b1, g1⟩ := p4
  have c1 := cg g1
  refine ⟨_, by exact c1.2.1.ft, ?_⟩ -- d15: F7 311 o = (b15 : Int)
  refine ⟨by exact c1.2.1.tt, ?_⟩ -- s2: jtg N9 b15 = 2
  rw [c1.2.1.fy]
  refine ⟨by omega, ?_⟩ -- s3: (((0 : Int) ≤ F7 612 b15 ∧ (F7 612 b15 : Int) ≤ 2147483647) ∧ ((0 : Int) < 256 ∧ (256 : Int) ≤ 2147483647))
  refine ⟨by omega, ?_⟩ -- s4: jR ((F7 612 b15) / 256)
  refine ⟨_, sX0_writes c1.1.2.1 b1 c1.1.1.1 (by omega) (by decide), ?_⟩ -- call wqX0_writes S o ((F7 612 b15) / 256) N9 F7 A8 P20
  intro N25 F23 A24 p20
  obtain ⟨b2, g2⟩ := p20
  have g2 := g1.trans g2
  have c2 := cg g2
  refine ⟨_, by exact c2.2.1.ft, ?_⟩ -- d31: F23 311 o = (b31 : Int)
  refine ⟨by exact c2.2.1.tt, ?_⟩ -- s5: jtg N25 b31 = 2
  rw [c2.2.1.fy]
  refine ⟨by omega, ?_⟩ -- s6: (((0 : Int) ≤ F23 612 b31 ∧ (F23 612 b31 : Int) ≤ 2147483647) ∧ ((0 : Int) < 256 ∧ (256 : Int) ≤ 2147483647))
  refine ⟨by omega, ?_⟩ -- s7: jR ((F23 612 b31) % 256)
  refine ⟨_, sX0_writes c2.1.2.1 b2 c2.1.1.1 (by omega) (by show (0 : Int) + 1 ≤ 209; decide), ?_⟩ -- call wqX0_writes S o ((F23 612 b31) % 256) N25 F23 A24 P36
  intro N41 F39 A40 p36
  obtain ⟨b3, g3⟩ := p36
  have g3 := g2.trans g3
  have c3 := cg g3
  refine ⟨_, by exact c3.2.1.ft, ?_⟩ -- d47: F39 311 o = (b47 : Int)
  refine ⟨by exact c3.2.1.tt, ?_⟩ -- s8: jtg N41 b47 = 2
  refine ⟨_, by exact c3.2.1.nL, ?_⟩ -- d50: jfn N41 626 b47 = (b50 : Int)
  refine ⟨by exact c3.2.1.lL.1.1, ?_⟩ -- s9: jtg N41 b50 = 20
  refine ⟨_, sJ2_size c3.2.1.lL, ?_⟩ -- call wqJ2_size b50 N41 F39 A40 P53
  intro z55 p53
  subst p53
  refine ⟨_, sX0_writes c3.1.2.1 b3 c3.1.1.1 (by omega) (by show (0 : Int) + 1 + 1 ≤ 209; decide), ?_⟩ -- call wqX0_writes S o z55 N41 F39 A40 P60
  intro N65 F63 A64 p60
  obtain ⟨b4, g4⟩ := p60
  have g4 := g3.trans g4
  have k1 : sOck (sIm1 W L) 3 := sAp_ok (sAp_ok (sAp_ok k0 (by omega)) (by omega)) (by omega)
  refine ⟨fun (v70 : Int) (N71 : jSh) (F72 : jFl) (A73 : jAr) => (0 ≤ v70 ∧ v70 ≤ W 3 0 0) ∧ sb N71 F72 A73 (o + 140) (sIm2 W L v70.toNat) ∧ sOck (sIm2 W L v70.toNat) (3 + v70) ∧ gw S (o + 140) N F A N71 F72 A73, fun v70 N71 F72 A73 => (W 3 0 0 - v70).toNat, ?_, ?_⟩ -- loop I76 I76 0 N65 F63 A64
  ·
    -- l1: I76 0 N65 F63 A64
    exact ⟨by omega, b4, k1.mono (by omega), g4⟩
  intro v70 N71 F72 A73 i76
  obtain ⟨i1, i2, i3, i4⟩ := i76
  have ci := cg i4
  refine ⟨_, by exact ci.2.1.ft, ?_⟩ -- d79: F72 311 o = (b79 : Int)
  refine ⟨by exact ci.2.1.tt, ?_⟩ -- s10: jtg N71 b79 = 2
  refine ⟨_, by exact ci.2.1.nO, ?_⟩ -- d82: jfn N71 629 b79 = (b82 : Int)
  refine ⟨by exact ci.2.1.lO.1.1, ?_⟩ -- s11: jtg N71 b82 = 20
  refine ⟨_, sJ2_size ci.2.1.lO, ?_⟩ -- call wqJ2_size b82 N71 F72 A73 P85
  intro z87 p85
  subst p85
  refine ⟨fun hc => ?_, fun hc => ?_⟩ -- c1
  · -- case (z87 ≤ v70)
    have ev : v70 = W 3 0 0 := by omega
    rw [ev] at i2 i3
    refine ⟨fun (v93 : Int) (N94 : jSh) (F95 : jFl) (A96 : jAr) => (0 ≤ v93 ∧ v93 ≤ W 3 0 0) ∧ sb N94 F95 A96 (o + 140) (sIm3 W L v93.toNat) ∧ sOck (sIm3 W L v93.toNat) (15 + 15 * v93) ∧ gw S (o + 140) N F A N94 F95 A96, fun v93 N94 F95 A96 => (W 3 0 0 - v93).toNat, ?_, ?_⟩ -- loop I99 I99 0 N71 F72 A73
    ·
      -- l2: I99 0 N71 F72 A73
      exact ⟨by omega, i2, i3.mono (by omega), i4⟩
    intro v93 N94 F95 A96 i99
    obtain ⟨j1, j2, j3, j4⟩ := i99
    have cj := cg j4
    have jn := j3.1
    refine ⟨_, by exact cj.2.1.ft, ?_⟩ -- d102: F95 311 o = (b102 : Int)
    refine ⟨by exact cj.2.1.tt, ?_⟩ -- s12: jtg N94 b102 = 2
    refine ⟨_, by exact cj.2.1.nL, ?_⟩ -- d105: jfn N94 626 b102 = (b105 : Int)
    refine ⟨by exact cj.2.1.lL.1.1, ?_⟩ -- s13: jtg N94 b105 = 20
    refine ⟨_, sJ2_size cj.2.1.lL, ?_⟩ -- call wqJ2_size b105 N94 F95 A96 P108
    intro z110 p108
    subst p108
    refine ⟨fun hc => ?_, fun hc => ?_⟩ -- c2
    · -- case (z110 ≤ v93)
      refine ⟨_, by exact cj.1.2.1.p350, ?_⟩ -- d116: jfn N94 350 o = (b116 : Int)
      refine ⟨by exact (cj.1.2.1.1 140 (by decide)).1, ?_⟩ -- s14: jtg N94 b116 = 21
      have ew : v93 = W 3 0 0 := by omega
      rw [ew] at j2 j3
      have jn := j3.1
      obtain ⟨vj, ⟨-, -, f79⟩, -⟩ := id j2
      refine ⟨_, sJ4_length f79, ?_⟩ -- call wqJ4_length b116 N94 F95 A96 P119
      intro z121 p119
      subst p119
      refine ⟨_, sX0_checked (b := o + 140) (q := (sIm3 W L (W 3 0 0).toNat).2) cj.1.2.1.p350 (by omega) (fun i i0 i1 => j3.2 i i0 i1) (fun i i0 i1 => Or.inl ⟨(cj.1.2.1.1 140 (by decide)).1, j2.charAt ⟨i0, i1⟩⟩), ?_⟩ -- call wqX0_checked S (jfn N94 350 o) z121 N94 F95 A96 P126
      intro z128 p126
      refine ⟨_, sX0_writes cj.1.2.1 j2 cj.1.1.1 (by omega) (by omega), ?_⟩ -- call wqX0_writes S o z128 N94 F95 A96 P133
      intro N138 F136 A137 p133
      obtain ⟨b5, g5⟩ := p133
      rw [p126.1] at b5
      have g5 := j4.trans g5
      have c5 := cg g5
      have b5 : sb N138 F136 A137 (o + 140) (sImg W L) := b5
      obtain ⟨vk, ⟨-, -, f79k⟩, -⟩ := id b5
      refine ⟨_, by exact c5.1.2.1.p350, ?_⟩ -- d144: jfn N138 350 o = (b144 : Int)
      refine ⟨by exact (c5.1.2.1.1 140 (by decide)).1, ?_⟩ -- s15: jtg N138 b144 = 21
      refine ⟨_, sJ4_length f79k, ?_⟩ -- call wqJ4_length b144 N138 F136 A137 P147
      intro z149 p147
      -- l3: Q z149 N138 F136 A137
      exact ⟨p147, xst.gb c0 h9 h19 hQ hX (by omega) g5 b5⟩
    · -- case (¬ (z110 ≤ v93))
      have hv : 0 ≤ v93 ∧ v93 < W 3 0 0 := by omega
      obtain ⟨bl, l1, l2, l3, l4⟩ := cj.2.1.lw hv
      have rr := hLk.2.2.2.1 v93 hv.1 hv.2
      have rk := sRw_ok hLk hv
      refine ⟨_, sJ2_get cj.2.1.lL hv, ?_⟩ -- call wqJ2_get b105 v93 N94 F95 A96 P154
      intro z156 p154
      refine ⟨by exact jcst_law (p154.trans l1) l2.1, ?_⟩ -- s16: jcst N94 "ChildSays$Law" z156
      refine ⟨_, by exact p154.trans l1, ?_⟩ -- d162: z156 = (b162 : Int)
      refine ⟨by exact l2.1, ?_⟩ -- s17: jtg N94 b162 = 17
      intro z166 e166
      have ez : z166 = L 4 v93 0 := by
        rw [e166, l3]
        by_cases w : L 4 v93 0 = 0
        · rw [if_pos w, w]
        · rw [if_neg w]; omega
      refine ⟨_, sX0_writes cj.1.2.1 j2 cj.1.1.1 (by omega) (by omega), ?_⟩ -- call wqX0_writes S o z166 N94 F95 A96 P168
      intro N173 F171 A172 p168
      obtain ⟨b5, g5⟩ := p168
      rw [ez] at b5
      have g5 := j4.trans g5
      have c5 := cg g5
      obtain ⟨bl1, l11, l12, l13, l14⟩ := c5.2.1.lw hv
      have eb : bl1 = bl := by omega
      subst eb
      refine ⟨_, by exact l12.2.2.2.1, ?_⟩ -- d179: jfn N173 5102 b162 = (b179 : Int)
      refine ⟨by exact l12.2.2.2.2.1, ?_⟩ -- s18: jtg N173 b179 = 4
      have f12 : F171 1203 (bl1 + 3) = L 2 v93 0 := l14.2.1
      refine ⟨_, sX0_writes c5.1.2.1 b5 c5.1.1.1 (by rw [f12]; omega) (by show (sIm3 W L v93.toNat).1 + 1 ≤ 209; omega), ?_⟩ -- call wqX0_writes S o (F171 1203 b179) N173 F171 A172 P183
      intro N188 F186 A187 p183
      obtain ⟨b6, g6⟩ := p183
      rw [f12] at b6
      have g6 := g5.trans g6
      have c6 := cg g6
      obtain ⟨bl2, m11, m12, m13, m14⟩ := c6.2.1.lw hv
      have eb : bl2 = bl1 := by omega
      subst eb
      refine ⟨_, by exact m12.2.2.2.1, ?_⟩ -- d194: jfn N188 5102 b162 = (b194 : Int)
      refine ⟨by exact m12.2.2.2.2.1, ?_⟩ -- s19: jtg N188 b194 = 4
      have f126 : F186 1206 (bl2 + 3) = L 3 v93 0 := m14.2.2.1
      refine ⟨_, sX0_writes c6.1.2.1 b6 c6.1.1.1 (by rw [f126]; omega) (by show (sIm3 W L v93.toNat).1 + 1 + 1 ≤ 209; omega), ?_⟩ -- call wqX0_writes S o (F186 1206 b194) N188 F186 A187 P198
      intro N203 F201 A202 p198
      obtain ⟨b7, g7⟩ := p198
      rw [f126] at b7
      have g7 := g6.trans g7
      refine ⟨fun (v208 : Int) (N209 : jSh) (F210 : jFl) (A211 : jAr) => (0 ≤ v208 ∧ v208 ≤ L 2 v93 0 + L 3 v93 0) ∧ sb N209 F210 A211 (o + 140) (sImR L v93 (sIm3 W L v93.toNat) v208.toNat) ∧ sOck (sImR L v93 (sIm3 W L v93.toNat) v208.toNat) (15 + 15 * v93 + 3 + v208) ∧ gw S (o + 140) N F A N209 F210 A211, fun v208 N209 F210 A211 => (L 2 v93 0 + L 3 v93 0 - v208).toNat, ?_, ?_⟩ -- loop I214 I214 0 N203 F201 A202
      ·
        -- l4: I214 0 N203 F201 A202
        exact ⟨by omega, b7, (sAp_ok (sAp_ok (sAp_ok j3 (by omega)) (by omega)) (by omega)).mono (by omega), g7⟩
      intro v208 N209 F210 A211 i214
      obtain ⟨n1, n2, n3, n4⟩ := i214
      have cn := cg n4
      have nn := n3.1
      obtain ⟨bl3, n11, n12, n13, n14⟩ := cn.2.1.lw hv
      have eb : bl3 = bl2 := by omega
      subst eb
      refine ⟨_, by exact n12.2.2.2.1, ?_⟩ -- d217: jfn N209 5102 b162 = (b217 : Int)
      refine ⟨by exact n12.2.2.2.2.1, ?_⟩ -- s20: jtg N209 b217 = 4
      refine ⟨_, sX3_size n14 rk, ?_⟩ -- call wqX3_size b217 N209 F210 A211 P220
      intro z222 p220
      have p220 : z222 = L 2 v93 0 + L 3 v93 0 := p220
      refine ⟨fun hc => ?_, fun hc => ?_⟩ -- c3
      · -- case (z222 ≤ v208)
        refine ⟨by omega, ?_⟩ -- s21: jR (v93 + 1)
        refine ⟨?_, ?_⟩ -- l5: I99 (v93 + 1) N209 F210 A211
        · have es : sIm3 W L (v93 + 1).toNat = sImR L v93 (sIm3 W L v93.toNat) v208.toNat := by
            have := it_succ (fun l p => sImR L l p (L 2 l 0 + L 3 l 0).toNat) (sIm2 W L (W 3 0 0).toNat) j1.1
            rw [show v208 = L 2 v93 0 + L 3 v93 0 by omega]
            exact this
          exact ⟨by omega, by rw [es]; exact n2, by rw [es]; exact n3.mono (by omega), n4⟩
        · dsimp only; omega
      · -- case (¬ (z222 ≤ v208))
        refine ⟨_, by exact n12.2.2.2.2.2.2.1, ?_⟩ -- d229: jfn N209 1202 b217 = (b229 : Int)
        refine ⟨by exact n12.2.2.2.2.2.2.2.1, ?_⟩ -- s22: jtg N209 b229 = 107
        refine ⟨by (have := n12.2.2.2.2.2.2.2.2.2; omega), ?_⟩ -- s23: ((0 : Int) ≤ v208 ∧ (v208 : Int) < (jln N209 b229 : Int))
        have ru : 0 ≤ L 5 v93 v208 ∧ L 5 v93 v208 < W 0 0 0 := rk.2.2 v208 n1.1 (by show v208 < L 2 v93 0 + L 3 v93 0; omega)
        obtain ⟨bw, wd1, wd2, -, wd4, -⟩ := cn.2.1.wd _ ru.1 ru.2
        have ec := n14.2.2.2 v208 n1.1 (by show v208 < L 2 v93 0 + L 3 v93 0; omega)
        refine ⟨_, by exact ec.trans wd1, ?_⟩ -- d233: A211 b229 v208 = (b233 : Int)
        refine ⟨by exact wd2, ?_⟩ -- s24: jtg N209 b233 = 14
        refine ⟨_, sX0_writes cn.1.2.1 n2 cn.1.1.1 (by rw [wd4]; omega) (by omega), ?_⟩ -- call wqX0_writes S o (jfn N209 3903 b233) N209 F210 A211 P237
        intro N242 F240 A241 p237
        obtain ⟨b8, g8⟩ := p237
        rw [wd4] at b8
        refine ⟨by omega, ?_⟩ -- s25: jR (v208 + 1)
        refine ⟨?_, ?_⟩ -- l6: I214 (v208 + 1) N242 F240 A241
        · have es : sImR L v93 (sIm3 W L v93.toNat) (v208 + 1).toNat = sAp (sImR L v93 (sIm3 W L v93.toNat) v208.toNat) (L 5 v93 v208) := it_succ _ _ n1.1
          exact ⟨by omega, by rw [es]; exact b8, by rw [es]; exact (sAp_ok n3 (by omega)).mono (by omega), n4.trans g8⟩
        · dsimp only; omega
  · -- case (¬ (z87 ≤ v70))
    have hv : 0 ≤ v70 ∧ v70 < W 3 0 0 := by omega
    have hp := hLk.2.1 v70 hv.1 hv.2
    obtain ⟨bl, l1, l2, l3, l4⟩ := ci.2.1.lw hp
    have gn := i3.1
    refine ⟨_, sJ2_get ci.2.1.lO hv, ?_⟩ -- call wqJ2_get b82 v70 N71 F72 A73 P248
    intro z250 p248
    refine ⟨by exact jcst_law (p248.trans l1) l2.1, ?_⟩ -- s26: jcst N71 "ChildSays$Law" z250
    refine ⟨_, by exact p248.trans l1, ?_⟩ -- d256: z250 = (b256 : Int)
    refine ⟨by exact l2.1, ?_⟩ -- s27: jtg N71 b256 = 17
    refine ⟨_, sX0_writes ci.1.2.1 i2 ci.1.1.1 (by rw [l2.2.2.1]; omega) (by omega), ?_⟩ -- call wqX0_writes S o (jfn N71 3903 b256) N71 F72 A73 P259
    intro N264 F262 A263 p259
    obtain ⟨b8, g8⟩ := p259
    rw [l2.2.2.1] at b8
    refine ⟨by omega, ?_⟩ -- s28: jR (v70 + 1)
    refine ⟨?_, ?_⟩ -- l7: I76 (v70 + 1) N264 F262 A263
    · have es : sIm2 W L (v70 + 1).toNat = sAp (sIm2 W L v70.toNat) (L 1 v70 0) := it_succ _ _ i1.1
      exact ⟨by omega, by rw [es]; exact b8, by rw [es]; exact (sAp_ok i3 (by omega)).mono (by omega), i4.trans g8⟩
    · dsimp only; omega

