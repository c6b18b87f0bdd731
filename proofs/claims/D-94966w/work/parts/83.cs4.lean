set_option maxRecDepth 100000
set_option linter.unusedVariables false
/-! the component's acts; printed by gen/prove.py out of spec/83.cs4.spec -/
theorem jast_obj {N : jSh} {b t : Nat} {z : Int} {cl : jC} (h : z = (b : Int)) (ht : jtg N b = t) (hc : jcls t = some cl) (hC : Cond.castable cl.1 "java/lang/Object" ∈ jnw) : jast N "java/lang/Object" z := Or.inr ⟨b, cl, h, (by rw [ht]; exact hc), Or.inr hC⟩
theorem jcob_19 : Cond.castable RX18 "java/lang/Object" ∈ jnw := List.elem_iff.mp (by decide +kernel)
theorem jast_line {N : jSh} {b : Nat} {z : Int} (h : z = (b : Int)) (ht : jtg N b = 19) : jast N "java/lang/Object" z := jast_obj h ht rfl jcob_19
/-- how much a list's act may make: so many cells and slots beside the list's own -/
def rmB (o c s : Nat) (N : jSh) (F : jFl) (N' : jSh) (F' : jFl) : Prop := (lcp N F o ≤ lcp N' F' o ∧ lcp N' F' o ≤ 160) ∧ jnx N' + lcp N F o ≤ jnx N + c + lcp N' F' o ∧ jsu N' + 4 * lcp N F o ≤ jsu N + s + 4 * lcp N' F' o
theorem jli.cap {N : jSh} {F : jFl} {A : jAr} {l : Nat} {n : Int} {e : Int → Int} (h : jli N F A l n e) : lcp N F l ≤ 160 := by
  obtain ⟨y1, y2, y3, b, y4, y5, y6, y7, y8, -⟩ := h
  have eb : lar F l = b := by show (F 6002 l).toNat = b; rw [y4]; rfl
  show jln N (lar F l) ≤ 160
  rw [eb]; exact y8.2.1
theorem sX18_init {o : Nat} {a1 : Int} {a2 : Int} {a3 : Int} {a4 : Int} {N : jSh} {F : jFl} {A : jAr} (h : jfn N 0 o = 1) : wqX18_init o a1 a2 a3 a4 N F A (fun N' F' A' => N' = jpF (jpF (jpF (jpF N 5700 o a1) 5703 o a2) 5706 o a3) 5709 o a4 ∧ F' = F ∧ A' = A) := by
  unfold wqX18_init
  refine ⟨by exact h, ?_⟩ -- s1: jfn N 0 o = 1
  intro N3 e3
  intro N8 e8
  intro N13 e13
  intro N18 e18
  -- l1: Q N18 F A
  subst e18 e13 e8 e3; exact ⟨rfl, rfl, rfl⟩

set_option maxHeartbeats 4000000 in
theorem sX0_becomes {S : Nat → Nat} {o : Nat} {a1 : Int} {a2 : Int} {a3 : Int} {N : jSh} {F : jFl} {A : jAr} {M : Int} {t s : Nat} {W L : sTb} {B : sBk} {U : sUn} {wA sA cA lA : Int → Int} {l c kind d : Int} {R : sRow} (h : cst S M N F A o t W L B U wA sA cA lA) (hM : M ≤ 900000000) (hs1 : sayOk N o s) (hs2 : sayIs N F A wA s kind R) (hsr : o + 11 ≤ s ∧ s + 3 ≤ o + 141) (hR : sRok (W 0 0 0) R) (hR1 : sRo1 R) (hl : 0 ≤ l ∧ l < W 3 0 0) (hc1 : 0 ≤ c ∧ c < W 2 0 0) (ha1 : a1 = lA l) (ha2 : a2 = (s : Int)) (ha3 : a3 = cA c) (hd : F 330 o = d) : wqX0_becomes S o a1 a2 a3 N F A (fun N' F' A' => cst S (M + 2) N' F' A' o t W (sBecome c l kind R (L, B)).1 (dB d (sBecome c l kind R (L, B)).2 B) U wA sA cA lA ∧ nex N N' ∧ kq o N F A F' A' ∧ rmB (t + 6) 1 4 N F N' F' ∧ kx o W wA lA N F A N' F' A') := by
  unfold wqX0_becomes
  have hcx := h.2.1
  have hW := hcx.oW
  have hL := hcx.oL
  have g := h.1.1
  have hy := h.1.2.1
  have hx := h.hx
  obtain ⟨b, u1, u2, u3, u4⟩ := hcx.lw hl
  obtain ⟨ch, v1, v2⟩ := hcx.ch hc1
  obtain ⟨be, bl, -⟩ := id h.2.2.1
  have cap0 := bl.cap
  have tb := u2.1
  have t1 := u2.2.2.2.2.1
  have t2 := u2.2.2.2.2.2.2.2.1
  have out : b + 4 < o + 11 ∨ o + 141 ≤ b := hy.scr.out3 (by omega)
  refine ⟨_, by exact ha1.trans u1, ?_⟩ -- d1: a1 = (b1 : Int)
  refine ⟨by exact tb, ?_⟩ -- s1: jtg N b1 = 17
  refine ⟨_, ha2, ?_⟩ -- d4: a2 = (b4 : Int)
  refine ⟨by exact hs1.1, ?_⟩ -- s2: jtg N b4 = 3
  refine ⟨_, by exact u2.2.2.2.1, ?_⟩ -- d7: jfn N 5102 b1 = (b7 : Int)
  refine ⟨by exact t1, ?_⟩ -- s3: jtg N b7 = 4
  refine ⟨_, sX3_isLike hs1.2.2.1 u4 (sRw_ok hL hl) hs2.2 hR hcx.wd, ?_⟩ -- call wqX3_isLike b7 (jfn N 902 b4) N F A P10
  intro z12 p10
  refine ⟨fun hc => ?_, fun hc => ?_⟩ -- c1
  · -- case (z12 = 0)
    have nal : ¬ sAlike (sRw L l) R := fun w => by rw [cif_pos w] at p10; omega
    have hp : sBecome c l kind R (L, B) = (sLset L l R, sPush B (sLine (L 0 0 0) l c kind)) := cif_neg nal
    refine ⟨_, sX3_like hs1.2.2.1 u2.2.2.2.2 hs2.2 hR hcx.wd (by omega) (by omega) (by omega), ?_⟩ -- call wqX3_like b7 (jfn N 902 b4) N F A P18
    intro z20 F21 A22 p18
    obtain ⟨q1, q2, q3⟩ := p18
    have nf : ∀ a k : Nat, jtg N a = k → k ≠ 4 → k ≠ 107 → (∀ f, F21 f a = F f a) ∧ A22 a = A a := fun a k ht h4 h107 => q3 a (by
      by_cases w : a = b + 3
      · rw [w, t1] at ht; omega
      · by_cases w2 : a = b + 3 + 1
        · rw [w2, t2] at ht; omega
        · omega)
    have hc2 : cst S M N F21 A22 o t W (sLset L l R) B U wA sA cA lA := h.law hl u1 q3 q2 hR hR1
    have kq1 : kq o N F A F21 A22 := fun a ha => q3 a (by
      rcases ha with w | w
      · by_cases w1 : a = b + 3
        · rw [w1, t1] at w; omega
        · by_cases w2 : a = b + 3 + 1
          · rw [w2, t2] at w; omega
          · omega
      · omega)
    have kx1 : kx o W wA lA N F A N F21 A22 := law_kx hl u1 tb t1 t2 q3
    have hd2 : F21 330 o = d := by rw [(nf o 1 hcx.tx (by decide) (by decide)).1]; exact hd
    have cap1 : lcp N F21 (t + 6) = lcp N F (t + 6) := by
      show jln N (F21 6002 (t + 6)).toNat = jln N (F 6002 (t + 6)).toNat
      rw [(nf (t + 6) 20 bl.1.1 (by decide) (by decide)).1]
    have hcx2 := hc2.2.1
    have ft := hcx2.ft
    have tt := hcx2.tt
    have hnB := hcx2.nB
    obtain ⟨be2, bl2, bln⟩ := id hc2.2.2.1
    refine ⟨fun hc => ?_, fun hc => ?_⟩ -- c2
    · -- case ((F21 330 o) = 0)
      refine ⟨_, ft, ?_⟩ -- d28: F21 311 o = (b28 : Int)
      refine ⟨by exact tt, ?_⟩ -- s4: jtg N b28 = 2
      refine ⟨_, hnB, ?_⟩ -- d31: jfn N 632 b28 = (b31 : Int)
      refine ⟨by exact bl2.1.1, ?_⟩ -- s5: jtg N b31 = 20
      refine ⟨_, sJ2_size bl2, ?_⟩ -- call wqJ2_size b31 N F21 A22 P34
      intro z36 p34
      refine ⟨fun (F42 : jFl) (A43 : jAr) => ∃ B1 : sBk, cst S (M + 1) N F42 A43 o t W (sLset L l R) B1 U wA sA cA lA ∧ B1.1 ≤ 99 ∧ sPush B (sLine (L 0 0 0) l c kind) = (B1.1 + 1, upI B1.2 B1.1 (sLine (L 0 0 0) l c kind)) ∧ kq o N F21 A22 F42 A43 ∧ lcp N F42 (t + 6) = lcp N F (t + 6) ∧ kx o W wA lA N F21 A22 N F42 A43, ?_, ?_⟩ -- join K46
      · intro F42 A43 k46
        obtain ⟨B1, k1, k2, k3, k4, k5, k6⟩ := k46
        have ft2 := k1.2.1.ft
        have fy2 := k1.2.1.fy
        obtain ⟨be3, bl3, bln3⟩ := id k1.2.2.1
        have g2 := k1.1.1
        have hx2 := k1.hx
        refine ⟨_, ft2, ?_⟩ -- d49: F42 311 o = (b49 : Int)
        refine ⟨by exact tt, ?_⟩ -- s6: jtg N b49 = 2
        intro b52 N53 F54 e52 e53 e54
        subst e52 e53 e54
        have gg : gr N F42 A43 (jnew N 19 0 4 1) (nwF N F42) A43 := ⟨nex.new _ _ _ _ _, fun a ha f => nwF_o (by omega), fun _ _ => rfl⟩
        have ht : t < jnx N := g2.1 t (by rw [tt]; decide)
        have ho : o < jnx N := by omega
        have hb0 : b < jnx N := g2.1 b (by rw [tb]; decide)
        have hch : ch < jnx N := g2.1 ch (by rw [v2.1.1]; decide)
        have hss : s < jnx N := by omega
        refine ⟨_, by (rw [nwF_o (by omega)]; exact ft2), ?_⟩ -- d60: F54 311 o = (b60 : Int)
        refine ⟨by (rw [jnew_tgo (by omega)]; exact tt), ?_⟩ -- s7: jtg N53 b60 = 2
        refine ⟨_, by exact ha3.trans v1, ?_⟩ -- d64: a3 = (b64 : Int)
        refine ⟨by (rw [jnew_tgo (by omega)]; exact v2.1.1), ?_⟩ -- s8: jtg N53 b64 = 16
        refine ⟨_, sX18_init (jnew_f0 _ _ _ _ _), ?_⟩ -- call wqX18_init b52 (F54 612 b60) (jfn N53 3903 b1) (jfn N53 3903 b64) (F54 903 b4) N53 F54 A43 P68
        intro N73 F71 A72 p68
        obtain ⟨p1, p2, p3⟩ := p68
        subst p2 p3
        have e612 : nwF N F42 612 t = L 0 0 0 := by rw [nwF_o (by omega), fy2, sLset_k (by decide) (by decide) (by decide)]
        have e39b : jfn (jnew N 19 0 4 1) 3903 b = l := by rw [jnew_fno (by omega)]; exact u2.2.2.1
        have e39c : jfn (jnew N 19 0 4 1) 3903 ch = c := by rw [jnew_fno (by omega)]; exact v2.1.2.2.1
        have e903 : nwF N F42 903 s = kind := by rw [nwF_o (by omega), (k4 s (Or.inr (by omega))).1, (kq1 s (Or.inr (by omega))).1]; exact hs2.1
        rw [e612, e39b, e39c, e903] at p1
        have ne1 : nex N N73 := by
          rw [p1]
          exact ⟨by rw [jpF_nx, jpF_nx, jpF_nx, jpF_nx, jnewNx]; omega, fun a ha => ⟨by rw [jpF_tg, jpF_tg, jpF_tg, jpF_tg, jnew_tgo (by omega)], by rw [jpF_ln, jpF_ln, jpF_ln, jpF_ln, jnew_lno (by omega)], fun f => by rw [jpF_a (by omega), jpF_a (by omega), jpF_a (by omega), jpF_a (by omega), jnew_fno (by omega)]⟩⟩
        have gg1 : gr N F42 A72 N73 (nwF N F42) A72 := ⟨ne1, gg.2.1, gg.2.2⟩
        have tg : ∀ a, jtg N73 a = jtg (jnew N 19 0 4 1) a := fun a => by rw [p1, jpF_tg, jpF_tg, jpF_tg, jpF_tg]
        have lg : ∀ a, jln N73 a = jln (jnew N 19 0 4 1) a := fun a => by rw [p1, jpF_ln, jpF_ln, jpF_ln, jpF_ln]
        have nx73 : jnx N73 = jnx N + 1 := by rw [p1]; rfl
        have su73 : jsu N73 = jsu N + 4 := by rw [p1]; rfl
        have tgo : ∀ a, jtg N73 a ≠ 0 → jtg N73 a ≠ 19 → a ≠ jnx N ∧ jtg N a = jtg N73 a := fun a h0 h19 => by
          rw [tg] at h0 h19 ⊢
          by_cases w : a = jnx N
          · rw [w, jnewTg] at h19; exact absurd rfl h19
          · exact ⟨w, (jnew_tgo w).symm⟩
        have g3 : gi S (M + 1) N73 (nwF N F42) := by
          refine ⟨fun a ha => ?_, fun b2 hb2 hl2 => ?_, fun m hm => ?_, fun m m' hm hm' hne w w0 => ?_, g2.2.2.2.2⟩
          · rw [nx73]
            by_cases w : a = jnx N
            · omega
            · rw [tg, jnew_tgo w] at ha; have := g2.1 a ha; omega
          · obtain ⟨w, w2⟩ := tgo b2 (by omega) (by omega)
            rw [lg, jnew_lno w] at hl2
            exact g2.2.1 b2 (by omega) hl2
          · obtain ⟨w, w2⟩ := tgo m (by omega) (by omega)
            rw [nwF_o w, nwF_o w, nx73]
            have := g2.2.2.1 m (by omega)
            omega
          · obtain ⟨w1, w2⟩ := tgo m (by omega) (by omega)
            obtain ⟨w3, w4⟩ := tgo m' (by omega) (by omega)
            rw [nwF_o w1, nwF_o w3] at w
            rw [nwF_o w1] at w0 ⊢
            have q := g2.2.2.2.1 m m' (by omega) (by omega) hne w w0
            have q2 := (g2.2.2.1 m (by omega)).1
            rw [lg, jnew_lno (by omega)]
            exact q
        have hc3 : cst S (M + 1) N73 (nwF N F42) A72 o t W (sLset L l R) B1 U wA sA cA lA := k1.gr gg1 g3
        obtain ⟨be4, bl4, bln4⟩ := id hc3.2.2.1
        have ml : ∀ f, jfn N73 f (jnx N) = (if f = 5709 then kind else if f = 5706 then c else if f = 5703 then l else if f = 5700 then L 0 0 0 else jfn N73 f (jnx N)) := fun f => by
          by_cases w : f = 5709
          · rw [if_pos w, w, p1, jpF_s]
          · rw [if_neg w]
            by_cases w : f = 5706
            · rw [if_pos w, w, p1, jpF_f (by decide), jpF_s]
            · rw [if_neg w]
              by_cases w : f = 5703
              · rw [if_pos w, w, p1, jpF_f (by decide), jpF_f (by decide), jpF_s]
              · rw [if_neg w]
                by_cases w : f = 5700
                · rw [if_pos w, w, p1, jpF_f (by decide), jpF_f (by decide), jpF_f (by decide), jpF_s]
                · rw [if_neg w]
        have tl : jtg N73 (jnx N) = 19 := by rw [tg, jnewTg]
        refine ⟨_, hnB, ?_⟩ -- d78: jfn N 632 b49 = (b78 : Int)
        refine ⟨by exact bl4.1.1, ?_⟩ -- s9: jtg N73 b78 = 20
        refine ⟨_, sJ2_add bl4 g3 (by omega) k2 (jast_line rfl tl), ?_⟩ -- call wqJ2_add S b78 (b52 : Int) N73 F71 A72 P81
        intro z83 N86 F84 A85 p81
        obtain ⟨r1, r2⟩ := p81
        have hB5 : bkIs N86 F84 A85 (t + 6) (sPush B (sLine (L 0 0 0) l c kind)) := by
          rw [k3]
          refine ⟨_, r1, fun k kk0 kk1 => ?_⟩
          by_cases w : k = B1.1
          · refine ⟨jnx N, by rw [w, upI_s], r2.2.1.tg g3.1 tl (by decide), ?_, ?_, ?_, ?_⟩
            · rw [r2.2.1.fn g3.1 tl (by decide), ml]; dsimp only; rw [w, upI_s]; rfl
            · rw [r2.2.1.fn g3.1 tl (by decide), ml]; dsimp only; rw [w, upI_s]; rfl
            · rw [r2.2.1.fn g3.1 tl (by decide), ml]; dsimp only; rw [w, upI_s]; rfl
            · rw [r2.2.1.fn g3.1 tl (by decide), ml]; dsimp only; rw [w, upI_s]; rfl
          · obtain ⟨z, z1, z2, z3, z4, z5, z6⟩ := bln4 k kk0 (by dsimp only at kk1; omega)
            have ef := fun f => r2.2.1.fn g3.1 z2 (by decide) f
            exact ⟨z, by rw [upI_n w]; exact z1, r2.2.1.tg g3.1 z2 (by decide), by rw [ef, z3]; dsimp only; rw [upI_n w], by rw [ef, z4]; dsimp only; rw [upI_n w], by rw [ef, z5]; dsimp only; rw [upI_n w], by rw [ef, z6]; dsimp only; rw [upI_n w]⟩
        have hc4 := hc3.book r2.kp r2.1 hB5
        have cap2 : lcp N73 (nwF N F42) (t + 6) = lcp N F (t + 6) := by
          rw [← k5]
          show jln N73 (nwF N F42 6002 (t + 6)).toNat = jln N (F42 6002 (t + 6)).toNat
          rw [nwF_o (by have := g2.1 (t + 6) (by rw [bl3.1.1]; decide); omega), lg, jnew_lno (by have := (g2.2.2.1 (t + 6) bl3.1.1).1; have := bl3.isL.2.1; omega)]
        -- l1: Q N86 F84 A85
        rw [hp]
        have hd0 : d = 0 := by rw [← hd2]; exact hc
        dsimp only
        unfold dB
        rw [if_pos hd0]
        refine ⟨by rw [show M + 2 = M + 1 + 1 by omega]; exact hc4, ne1.trans r2.2.1, ((kq1.trans k4 g.1 (nex.refl _)).trans (gg1.kq g2.1 hx2) g.1 (nex.refl _)).trans (r2.kp.kq g3 bl4.isL hc3.1.2.1 hc3.hx) g.1 ne1, ?_, ((kx1.trans k6 g.1 (nex.refl _)).trans (gg1.kx g2 bl3.isL k1.w6) g.1 (nex.refl _)).trans (r2.kp.kx g3 bl4.isL hc3.w6) g.1 ne1⟩
        obtain ⟨-, -, -, -, -, x1, x2, x3⟩ := r2
        unfold rmB
        rw [cap2] at x1 x2 x3
        rw [nx73] at x2
        rw [su73] at x3
        omega
      refine ⟨fun hc => ?_, fun hc => ?_⟩ -- c3
      · -- case (¬ z36 = 100)
        -- l2: K46 F21 A22
        refine ⟨B, ⟨⟨hc2.1.1.mono (by omega) (by omega), hc2.1.2⟩, hc2.2⟩, ?_, ?_, kq.refl _ _ _ _, cap1, kx.refl _ _ _ _ _ _ _⟩
        · have := bl2.2.2.1; omega
        · unfold sPush; rw [if_neg (by omega)]
      · -- case (z36 = 100)
        refine ⟨_, sJ2_remove bl2 hc2.1.1 (by omega) (by omega), ?_⟩ -- call wqJ2_remove b31 0 N F21 A22 P91
        intro z93 F94 A95 p91
        obtain ⟨r0, r1, r2, r3, r4⟩ := p91
        have hkp : kp N F21 A22 (t + 6) N F94 A95 := ⟨nex.refl _, fun a _ hao f => by rw [r3, upF_a hao, upF_a hao], fun a _ hao => r4 a hao⟩
        have hB5 : bkIs N F94 A95 (t + 6) (99, fun k => B.2 (k + 1)) := by
          have e99 : B.1 - 1 = 99 := by omega
          rw [e99] at r1
          refine ⟨_, r1, fun k kk0 kk1 => ?_⟩
          dsimp only
          rw [if_neg (by omega)]
          exact bln (k + 1) (by omega) (by dsimp only at kk1; omega)
        -- l3: K46 F94 A95
        refine ⟨(99, fun k => B.2 (k + 1)), hc2.book hkp r2 hB5, by dsimp only; omega, ?_, hkp.kq hc2.1.1 bl2.isL hy hx, ?_, hkp.kx hc2.1.1 bl2.isL hc2.w6⟩
        · unfold sPush; rw [if_pos (by omega)]; rfl
        · rw [← cap1]
          show jln N (F94 6002 (t + 6)).toNat = jln N (F21 6002 (t + 6)).toNat
          rw [r3, upF_f (by decide), upF_f (by decide)]
    · -- case (¬ ((F21 330 o) = 0))
      -- l4: Q N F21 A22
      rw [hp]
      have hd0 : ¬ d = 0 := by rw [← hd2]; exact hc
      dsimp only
      unfold dB
      rw [if_neg hd0]
      refine ⟨⟨⟨hc2.1.1.mono (by omega) (by omega), hc2.1.2⟩, hc2.2⟩, nex.refl _, kq1, ?_, kx1⟩
      unfold rmB
      rw [cap1]
      omega
  · -- case (¬ (z12 = 0))
    -- l5: Q N F A
    have al : sAlike (sRw L l) R := by
      by_cases w : sAlike (sRw L l) R
      · exact w
      · rw [cif_neg w] at p10; exact absurd p10 hc
    have hp : sBecome c l kind R (L, B) = (L, B) := cif_pos al
    rw [hp]
    have hdB : dB d (L, B).2 B = B := by unfold dB; split <;> rfl
    rw [hdB]
    refine ⟨⟨⟨g.mono (by omega) (by omega), h.1.2⟩, h.2⟩, nex.refl _, kq.refl _ _ _ _, ?_, kx.refl _ _ _ _ _ _ _⟩
    unfold rmB
    omega

