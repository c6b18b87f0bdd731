set_option maxRecDepth 100000
set_option linter.unusedVariables false
/-! acts are undone; printed by gen/prove.py out of spec/88.cs8.spec -/
set_option maxHeartbeats 8000000 in
theorem sX17_comesBack {S : Nat → Nat} {o : Nat} {N : jSh} {F : jFl} {A : jAr} {M : Int} {x t : Nat} {W L L1 : sTb} {B B1 : sBk} {U : sUn} {wA sA cA lA : Int → Int} (h : cst S M N F A x t W L B U wA sA cA lA) (hw : wasIs N F A x W wA lA o L1 B1) (hM : M ≤ 800000000) : wqX17_comesBack S o N F A (fun N' F' A' => cst S (M + 110) N' F' A' x t W L1 B1 U wA sA cA lA ∧ wasIs N' F' A' x W wA lA o L1 B1 ∧ nex N N' ∧ kq x N F A F' A' ∧ rmB (t + 6) 0 0 N F N' F' ∧ kx x W wA lA N F A N' F' A') := by
  unfold wqX17_comesBack
  have hcx := h.2.1
  have hW := hcx.oW
  have g := h.1.1
  have w3 := hW.2.2.2.1
  have wok := hw.1
  have hL1 := hw.2.1.1
  have tx := hcx.tx
  have tt := hcx.tt
  obtain ⟨be0, bl0, -⟩ := id h.2.2.1
  have cap0 := bl0.cap
  have hy := h.1.2.1
  refine ⟨_, wok.1.2.2.1, ?_⟩ -- d1: jfn N 5420 o = (b1 : Int)
  refine ⟨by exact tx, ?_⟩ -- s1: jtg N b1 = 1
  refine ⟨_, hcx.ft, ?_⟩ -- d4: F 311 b1 = (b4 : Int)
  refine ⟨by exact tt, ?_⟩ -- s2: jtg N b4 = 2
  refine ⟨by exact hcx.2.2.1.2.1, ?_⟩ -- s3: jfn N 0 b4 = 1
  intro F9 e9
  rw [wok.1.2.2.2.1] at e9
  have hc9 : cst S M N F9 A x t W (sFl (sYr L (L1 0 0 0)) 1) B U wA sA cA lA := by rw [e9]; exact (h.yr hL1.1).flag
  have hw9 : wasIs N F9 A x W wA lA o L1 B1 := hw.ofF (fun a ha f => by rw [e9]; exact upF_a (fun w => by rw [w, tt] at ha; omega))
  have kq9 : kq x N F A F9 A := fun a ha => ⟨fun f => by
    rw [e9]
    refine upF_a (fun w => ?_)
    rcases ha with q | q
    · rw [w, tt] at q; omega
    · have := (hy.scr.1 a q.1 q.2).2.1; rw [w, tt] at this; omega, rfl⟩
  have kx9 : kx x W wA lA N F A N F9 A := kx_F (fun a ha f => by rw [e9]; exact upF_a (fun w => by rw [w, tt] at ha; omega))
  have cp9 : F9 6002 (t + 6) = F 6002 (t + 6) := by rw [e9]; exact upF_f (by decide)
  refine ⟨fun (v10 : Int) (F11 : jFl) (A12 : jAr) => (0 ≤ v10 ∧ v10 ≤ W 3 0 0) ∧ wasIs N F11 A12 x W wA lA o L1 B1 ∧ kq x N F A F11 A12 ∧ kx x W wA lA N F A N F11 A12 ∧ F11 6002 (t + 6) = F 6002 (t + 6) ∧ ∃ Lk : sTb, cst S M N F11 A12 x t W Lk B U wA sA cA lA ∧ Lk 0 0 0 = L1 0 0 0 ∧ Lk 9 0 0 = 1 ∧ (∀ p : Int, 0 ≤ p → p < v10 → Lk 1 p 0 = L1 1 p 0) ∧ ∀ l : Int, 0 ≤ l → l < v10 → Lk 2 l 0 = L1 2 l 0 ∧ Lk 3 l 0 = L1 3 l 0 ∧ Lk 4 l 0 = L1 4 l 0 ∧ ∀ k : Int, 0 ≤ k → k < L1 2 l 0 + L1 3 l 0 → Lk 5 l k = L1 5 l k, fun v10 F11 A12 => (W 3 0 0 - v10).toNat, ?_, ?_⟩ -- loop I15 I15 0 F9 A
  ·
    -- l1: I15 0 F9 A
    exact ⟨by omega, hw9, kq9, kx9, cp9, _, hc9, rfl, rfl, fun p p0 p1 => by omega, fun l l0 l1 => by omega⟩
  intro v10 F11 A12 i15
  obtain ⟨i1, i2, i3, i3x, i4, Lk, i5, i6, i7, i8, i9⟩ := i15
  rw [wok.1.2.2.2.2]
  refine ⟨fun hc => ?_, fun hc => ?_⟩ -- c1
  · -- case ((jfn N 5403 o) ≤ v10)
    refine ⟨_, i5.2.1.ft, ?_⟩ -- d18: F11 311 b1 = (b18 : Int)
    refine ⟨by exact tt, ?_⟩ -- s4: jtg N b18 = 2
    refine ⟨_, i5.2.1.nB, ?_⟩ -- d21: jfn N 632 b18 = (b21 : Int)
    refine ⟨by (obtain ⟨e, q, -⟩ := i5.2.2.1; exact q.1.1), ?_⟩ -- s5: jtg N b21 = 20
    have hn : v10 = W 3 0 0 := by omega
    have hcL : cst S M N F11 A12 x t W L1 B U wA sA cA lA := i5.leq hL1 ⟨i6, fun p p0 p1 => i8 p p0 (by omega), fun l l0 l1 => by
      obtain ⟨r1, r2, r3, r4⟩ := i9 l l0 (by omega)
      exact ⟨r1, r2, r3, fun k k0 k1 => r4 k k0 (by omega)⟩⟩
    obtain ⟨be, bl, bln⟩ := id hcL.2.2.1
    refine ⟨_, sJ2_clear bl hcL.1.1 (by omega), ?_⟩ -- call wqJ2_clear b21 N F11 A12 P24
    intro F27 A28 p24
    obtain ⟨c1, c2, c3, c4⟩ := p24
    have hkp : kp N F11 A12 (t + 6) N F27 A28 := ⟨nex.refl _, fun a _ hao f => by rw [c3, upF_a hao, upF_a hao], fun a _ hao => c4 a (Or.inl hao)⟩
    have hc27 : cst S (M + 1) N F27 A28 x t W L1 (0, B1.2) U wA sA cA lA := hcL.book hkp c2 ⟨be, c1 be, fun k k0 k1 => by dsimp only at k1; omega⟩
    have hw27 : wasIs N F27 A28 x W wA lA o L1 B1 := hkp.was hcL.1.1 bl.isL i2 (hcL.w6 _ wok.1.2.1)
    obtain ⟨bw, blw, blwn⟩ := id hw.2.2.2
    refine ⟨fun (v33 : Int) (N34 : jSh) (F35 : jFl) (A36 : jAr) => (0 ≤ v33 ∧ v33 ≤ B1.1) ∧ cst S (M + 1 + v33) N34 F35 A36 x t W L1 (v33, B1.2) U wA sA cA lA ∧ wasIs N34 F35 A36 x W wA lA o L1 B1 ∧ nex N N34 ∧ kq x N F A F35 A36 ∧ kx x W wA lA N F A N34 F35 A36 ∧ rmB (t + 6) 0 0 N F N34 F35, fun v33 N34 F35 A36 => (B1.1 - v33).toNat, ?_, ?_⟩ -- loop I39 I39 0 N F27 A28
    ·
      -- l2: I39 0 N F27 A28
      refine ⟨by have := blw.2.2.1; omega, by rw [show M + 1 + 0 = M + 1 by omega]; exact hc27, hw27, nex.refl _, i3.trans (hkp.kq hcL.1.1 bl.isL hy h.hx) g.1 (nex.refl _), i3x.trans (hkp.kx hcL.1.1 bl.isL hcL.w6) g.1 (nex.refl _), ?_⟩
      have cp : lcp N F27 (t + 6) = lcp N F (t + 6) := by
        show jln N (F27 6002 (t + 6)).toNat = jln N (F 6002 (t + 6)).toNat
        rw [c3, upF_f (by decide), upF_f (by decide), i4]
      unfold rmB
      rw [cp]; omega
    intro v33 N34 F35 A36 i39
    obtain ⟨j1, j2, j3, j4, j5, j5x, j6⟩ := i39
    obtain ⟨bj, blj, bljn⟩ := id j3.2.2.2
    have wokj := j3.1
    refine ⟨_, wokj.2.2.2.2, ?_⟩ -- d42: jfn N34 5417 o = (b42 : Int)
    refine ⟨by exact blj.1.1, ?_⟩ -- s6: jtg N34 b42 = 20
    refine ⟨_, sJ2_size blj, ?_⟩ -- call wqJ2_size b42 N34 F35 A36 P45
    intro z47 p45
    refine ⟨fun hc => ?_, fun hc => ?_⟩ -- c2
    · -- case (z47 ≤ v33)
      -- l3: Q N34 F35 A36
      have e : v33 = B1.1 := by omega
      subst e
      exact ⟨⟨⟨j2.1.1.mono (by have := blw.2.2.1; omega) (by omega), j2.1.2⟩, j2.2⟩, j3, j4, j5, j6, j5x⟩
    · -- case (¬ (z47 ≤ v33))
      refine ⟨_, wokj.1.2.2.1, ?_⟩ -- d53: jfn N34 5420 o = (b53 : Int)
      refine ⟨by exact j2.2.1.tx, ?_⟩ -- s7: jtg N34 b53 = 1
      refine ⟨_, j2.2.1.ft, ?_⟩ -- d56: F35 311 b53 = (b56 : Int)
      refine ⟨by exact j2.2.1.tt, ?_⟩ -- s8: jtg N34 b56 = 2
      refine ⟨_, sJ2_get blj (by omega), ?_⟩ -- call wqJ2_get b42 v33 N34 F35 A36 P59
      intro z61 p59
      obtain ⟨z, z1, z2, z3, z4, z5, z6⟩ := bljn v33 j1.1 (by omega)
      obtain ⟨bb, blb, blbn⟩ := id j2.2.2.1
      refine ⟨by exact jcst_line (p59.trans z1) z2, ?_⟩ -- s9: jcst N34 "ChildSays$Line" z61
      refine ⟨_, j2.2.1.nB, ?_⟩ -- d67: jfn N34 632 b56 = (b67 : Int)
      refine ⟨by exact blb.1.1, ?_⟩ -- s10: jtg N34 b67 = 20
      refine ⟨_, sJ2_add blb j2.1.1 (by have := blw.2.2.1; omega) (by have := blw.2.2.1; dsimp only; omega) (jast_line (p59.trans z1) z2), ?_⟩ -- call wqJ2_add S b67 z61 N34 F35 A36 P70
      intro z72 N75 F73 A74 p70
      obtain ⟨r1, r2⟩ := p70
      have hB5 : bkIs N75 F73 A74 (t + 6) (v33 + 1, B1.2) := by
        refine ⟨_, r1, fun k kk0 kk1 => ?_⟩
        dsimp only at kk1 ⊢
        by_cases w : k = v33
        · have ef := fun f => r2.2.1.fn j2.1.1.1 z2 (by decide) f
          exact ⟨z, by rw [w, upI_s]; exact p59.trans z1, r2.2.1.tg j2.1.1.1 z2 (by decide), by rw [ef, z3, w], by rw [ef, z4, w], by rw [ef, z5, w], by rw [ef, z6, w]⟩
        · obtain ⟨y, y1, y2, y3, y4, y5, y6⟩ := blbn k kk0 (by dsimp only; omega)
          have ef := fun f => r2.2.1.fn j2.1.1.1 y2 (by decide) f
          exact ⟨y, by rw [upI_n w]; exact y1, r2.2.1.tg j2.1.1.1 y2 (by decide), by rw [ef, y3], by rw [ef, y4], by rw [ef, y5], by rw [ef, y6]⟩
      refine ⟨by (have := blw.2.2.1; omega), ?_⟩ -- s11: jR (v33 + 1)
      refine ⟨?_, ?_⟩ -- l4: I39 (v33 + 1) N75 F73 A74
      · refine ⟨by omega, by rw [show M + 1 + (v33 + 1) = M + 1 + v33 + 1 by omega]; exact j2.book r2.kp r2.1 hB5, r2.kp.was j2.1.1 blb.isL j3 (j2.w6 _ wokj.1.2.1), j4.trans r2.2.1, j5.trans (r2.kp.kq j2.1.1 blb.isL j2.1.2.1 j2.hx) g.1 j4, j5x.trans (r2.kp.kx j2.1.1 blb.isL j2.w6) g.1 j4, ?_⟩
        obtain ⟨-, -, -, -, -, x1, x2, x3, -⟩ := r2
        unfold rmB at j6 ⊢
        omega
      · dsimp only; omega
  · -- case (¬ ((jfn N 5403 o) ≤ v10))
    refine ⟨_, i5.2.1.ft, ?_⟩ -- d81: F11 311 b1 = (b81 : Int)
    refine ⟨by exact tt, ?_⟩ -- s12: jtg N b81 = 2
    refine ⟨_, i5.2.1.nL, ?_⟩ -- d84: jfn N 626 b81 = (b84 : Int)
    refine ⟨by exact i5.2.1.lL.1.1, ?_⟩ -- s13: jtg N b84 = 20
    refine ⟨_, sJ2_get i5.2.1.lL (by omega), ?_⟩ -- call wqJ2_get b84 v10 N F11 A12 P87
    intro z89 p87
    have hv : 0 ≤ v10 ∧ v10 < W 3 0 0 := by omega
    have vn : ((v10.toNat : Nat) : Int) = v10 := by omega
    obtain ⟨b, u1, u2, u3, u4⟩ := i5.2.1.lw hv
    obtain ⟨m1, m2, m3, m4⟩ := i2.2.2.1 v10.toNat (by omega)
    rw [vn] at m1 m2 m3 m4
    have tb := u2.1
    have t1 := u2.2.2.2.2.1
    have t2 := u2.2.2.2.2.2.2.2.1
    have nb1 : o + 5 + 2 * v10.toNat ≠ b + 3 := fun q => by
      by_cases k0 : v10.toNat = 0
      · have := wok.2.2.1.2.1
        rw [show o + 2 = b by omega, tb] at this; omega
      · by_cases k1 : v10.toNat = 1
        · obtain ⟨e, q2, -⟩ := i2.2.2.2
          have := q2.1.1
          rw [show o + 4 = b by omega, tb] at this; omega
        · obtain ⟨-, g5, -⟩ := i2.2.2.1 (v10.toNat - 2) (by omega)
          have := g5.1.2.2.2.1
          rw [show o + 5 + 2 * (v10.toNat - 2) + 1 = b by omega, tb] at this; omega
    have nb2 : o + 5 + 2 * v10.toNat ≠ b + 4 := fun q => by have := m2.1.1; rw [q, t2] at this; omega
    have nb3 : o + 5 + 2 * v10.toNat + 1 ≠ b + 3 := fun q => by have := m2.1.2.2.2.1; rw [q, t1] at this; omega
    have hRk := sRw_ok hL1 hv
    have hR1 := sRw_o1 hL1 hv
    refine ⟨by exact jcst_law (p87.trans u1) u2.1, ?_⟩ -- s14: jcst N "ChildSays$Law" z89
    refine ⟨_, by exact p87.trans u1, ?_⟩ -- d95: z89 = (b95 : Int)
    refine ⟨by exact tb, ?_⟩ -- s15: jtg N b95 = 17
    refine ⟨_, wok.2.1.1, ?_⟩ -- d98: jfn N 5408 o = (b98 : Int)
    refine ⟨by exact wok.2.1.2.1, ?_⟩ -- s16: jtg N b98 = 116
    refine ⟨by (rw [wok.2.1.2.2]; omega), ?_⟩ -- s17: ((0 : Int) ≤ v10 ∧ (v10 : Int) < (jln N b98 : Int))
    refine ⟨_, u2.2.2.2.1, ?_⟩ -- d102: jfn N 5102 b95 = (b102 : Int)
    refine ⟨by exact t1, ?_⟩ -- s18: jtg N b102 = 4
    refine ⟨_, sX3_like m1 u2.2.2.2.2 m2 hRk i5.2.1.wd nb1 (by omega) nb3, ?_⟩ -- call wqX3_like b102 (A12 b98 v10) N F11 A12 P105
    intro z107 F108 A109 p105
    obtain ⟨q1, q2, q3⟩ := p105
    have hc5 : cst S M N F108 A109 x t W (sLset Lk v10 (sRw L1 v10)) B U wA sA cA lA := i5.law hv u1 q3 q2 hRk hR1
    have hw5 : wasIs N F108 A109 x W wA lA o L1 B1 := i2.row tb t1 t2 q3
    have nf : ∀ a k : Nat, jtg N a = k → k ≠ 4 → k ≠ 107 → (∀ f, F108 f a = F11 f a) ∧ A109 a = A12 a := fun a k ht h4 h107 => q3 a (by
      by_cases w : a = b + 3
      · rw [w, t1] at ht; omega
      · by_cases w2 : a = b + 3 + 1
        · rw [w2, t2] at ht; omega
        · omega)
    have out : b + 4 < x + 11 ∨ x + 141 ≤ b := hy.scr.out3 (by omega)
    have kq5 : kq x N F11 A12 F108 A109 := fun a ha => q3 a (by
      rcases ha with w | w
      · by_cases w1 : a = b + 3
        · rw [w1, t1] at w; omega
        · by_cases w2 : a = b + 3 + 1
          · rw [w2, t2] at w; omega
          · omega
      · omega)
    obtain ⟨n1, n2, n3, n4⟩ := hw5.2.2.1 v10.toNat (by omega)
    rw [vn] at n1 n2 n3 n4
    have hov := hL1.2.1 v10 hv.1 hv.2
    obtain ⟨bo, o1, o2, -⟩ := hc5.2.1.lw hov
    refine ⟨_, hc5.2.1.ft, ?_⟩ -- d114: F108 311 b1 = (b114 : Int)
    refine ⟨by exact tt, ?_⟩ -- s19: jtg N b114 = 2
    refine ⟨_, wok.2.2.1.1, ?_⟩ -- d117: jfn N 5411 o = (b117 : Int)
    refine ⟨by exact wok.2.2.1.2.1, ?_⟩ -- s20: jtg N b117 = 113
    refine ⟨by (rw [wok.2.2.1.2.2]; omega), ?_⟩ -- s21: ((0 : Int) ≤ v10 ∧ (v10 : Int) < (jln N b117 : Int))
    refine ⟨_, hc5.2.1.nO, ?_⟩ -- d121: jfn N 629 b114 = (b121 : Int)
    refine ⟨by exact hc5.2.1.lO.1.1, ?_⟩ -- s22: jtg N b121 = 20
    refine ⟨_, sJ2_set hc5.2.1.lO hv (by rw [n3]; exact jast_obj o1 o2.1 rfl (List.elem_iff.mp (by decide +kernel))), ?_⟩ -- call wqJ2_set b121 v10 (A109 b117 v10) N F108 A109 P124
    intro z126 F127 A128 p124
    obtain ⟨-, r1, r2, r3, r4⟩ := p124
    rw [n3] at r1
    have h95 : sLset Lk v10 (sRw L1 v10) 9 0 0 ≠ 0 := by rw [sLset_k (by decide) (by decide) (by decide), i7]; decide
    have hc6 := hc5.ord h95 hv hov r1 r2 r3 r4
    subst r2
    have hkp6 : kp N F127 A109 (t + 5) N F127 A128 := ⟨nex.refl _, fun _ _ _ _ => rfl, fun a _ q => r3 a q⟩
    have w5ne : o + 4 ≠ t + 5 := fun e => by
      have q := hc5.2.1.lW.1.1
      rw [show t + 1 = o by omega, wok.1.2.1] at q
      omega
    have hw6 : wasIs N F127 A128 x W wA lA o L1 B1 := hkp6.was hc5.1.1 hc5.2.1.lO.isL hw5 w5ne
    obtain ⟨p1, p2, p3, p4⟩ := hw6.2.2.1 v10.toNat (by omega)
    rw [vn] at p1 p2 p3 p4
    refine ⟨_, hc6.2.1.ft, ?_⟩ -- d133: F127 311 b1 = (b133 : Int)
    refine ⟨by exact tt, ?_⟩ -- s23: jtg N b133 = 2
    refine ⟨_, hc6.2.1.nL, ?_⟩ -- d136: jfn N 626 b133 = (b136 : Int)
    refine ⟨by exact hc6.2.1.lL.1.1, ?_⟩ -- s24: jtg N b136 = 20
    refine ⟨_, sJ2_get hc6.2.1.lL hv, ?_⟩ -- call wqJ2_get b136 v10 N F127 A128 P139
    intro z141 p139
    obtain ⟨b9, y1, y2, -⟩ := hc6.2.1.lw hv
    have eb9 : b9 = b := by omega
    subst eb9
    refine ⟨by exact jcst_law (p139.trans y1) y2.1, ?_⟩ -- s25: jcst N "ChildSays$Law" z141
    refine ⟨_, wok.2.2.2.1.1, ?_⟩ -- d147: jfn N 5414 o = (b147 : Int)
    refine ⟨by exact wok.2.2.2.1.2.1, ?_⟩ -- s26: jtg N b147 = 105
    refine ⟨by (rw [wok.2.2.2.1.2.2]; omega), ?_⟩ -- s27: ((0 : Int) ≤ v10 ∧ (v10 : Int) < (jln N b147 : Int))
    refine ⟨_, by exact p139.trans y1, ?_⟩ -- d151: z141 = (b151 : Int)
    refine ⟨by exact y2.1, ?_⟩ -- s28: jtg N b151 = 17
    refine ⟨by exact y2.2.1, ?_⟩ -- s29: jfn N 0 b151 = 1
    rw [p4]
    have hs4 := (hL1.2.2.2.1 v10 hv.1 hv.2).2.2.2
    refine ⟨by exact hs4, ?_⟩ -- s30: (A128 b147 v10 = 0 ∨ A128 b147 v10 = 1)
    intro F157 e157
    refine ⟨by omega, ?_⟩ -- s31: jR (v10 + 1)
    refine ⟨?_, ?_⟩ -- l5: I15 (v10 + 1) F157 A128
    · refine ⟨by omega, hw6.ofF (fun a ha f => by rw [e157]; exact upF_a (fun w => by rw [w, tb] at ha; omega)), ((i3.trans kq5 g.1 (nex.refl _)).trans (hkp6.kq hc5.1.1 hc5.2.1.lO.isL hy h.hx) g.1 (nex.refl _)).trans (fun a ha => ⟨fun f => by
        rw [e157]
        refine upF_a (fun w => ?_)
        rcases ha with q | q
        · rw [w, tb] at q; omega
        · omega, rfl⟩) g.1 (nex.refl _), ((i3x.trans (law_kx hv u1 tb t1 t2 q3) g.1 (nex.refl _)).trans (hkp6.kx hc5.1.1 hc5.2.1.lO.isL (fun w hw e => by
        have q := hcx.lW.1.1
        rw [show t + 1 = w by omega, hw] at q
        omega)) g.1 (nex.refl _)).trans (kx_F (fun a ha f => by rw [e157]; exact upF_a (fun w => by rw [w, tb] at ha; omega))) g.1 (nex.refl _), ?_, sSset (sOset (sLset Lk v10 (sRw L1 v10)) v10 (L1 1 v10 0)) v10 (L1 4 v10 0), by rw [e157]; exact hc6.sng hv y1 hs4, ?_, ?_, fun p p0 p1 => ?_, fun l l0 l1 => ?_⟩
      · rw [e157, upF_f (by decide), (nf (t + 6) 20 bl0.1.1 (by decide) (by decide)).1]; exact i4
      · simp [sSset, sOset, sLset]; exact i6
      · simp [sSset, sOset, sLset]; exact i7
      · by_cases w : p = v10
        · simp [sSset, sOset, w]
        · simp [sSset, sOset, sLset, w]; exact i8 p p0 (by omega)
      · by_cases w : l = v10
        · rw [w]
          simp [sSset, sOset, sLset, sRw]
        · simp [sSset, sOset, sLset, w]
          obtain ⟨r1, r2, r3, r4⟩ := i9 l l0 (by omega)
          exact ⟨r1, r2, r3, r4⟩
    · dsimp only; omega

