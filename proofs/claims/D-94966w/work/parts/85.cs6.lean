set_option maxRecDepth 100000
set_option linter.unusedVariables false
/-! what is kept for an undoing; printed by gen/prove.py out of spec/85.cs6.spec -/
theorem sJ2_init {S : Nat → Nat} {o : Nat} {N : jSh} {F : jFl} {A : jAr} (h : jfn N 0 o = 1) : wqJ2_init S o N F A (fun F' A' => F' = upF (upF F 6900 o 0) 6002 o (S 19 : Int) ∧ A' = A) := by
  unfold wqJ2_init wqJ1_init wqJ0_init
  refine ⟨fun F' A' => F' = upF F 6900 o 0 ∧ A' = A, ⟨True, trivial, fun _ => ⟨h, fun F10 e10 => ⟨e10, rfl⟩⟩⟩, ?_⟩
  intro F4 A5 p1
  refine ⟨h, fun F12 e12 => ⟨by rw [e12, p1.1], p1.2⟩⟩
theorem sX3_init {o : Nat} {N : jSh} {F : jFl} {A : jAr} (ht : jtg N o = 4) (h0 : jfn N 0 o = 1) (hx : jnx N = o + 1) : wqX3_init o N F A (fun N' F' A' => rowOk N' o ∧ jnx N' = o + 2 ∧ jsu N' = jsu N + 12 ∧ (∀ a, a ≠ o → a ≠ o + 1 → jtg N' a = jtg N a ∧ jln N' a = jln N a ∧ ∀ f, jfn N' f a = jfn N f a) ∧ (∀ a, a ≠ o + 1 → ∀ f, F' f a = F f a) ∧ ∀ a, a ≠ o + 1 → A' a = A a) := by
  unfold wqX3_init
  intro b1 N2 F3 A4 e1 e2 e3 e4
  subst e1 e2 e3 e4
  refine ⟨by (rw [jnew_fno (by omega)]; exact h0), ?_⟩ -- s1: jfn N2 0 o = 1
  intro N12 e12
  -- l1: Q N12 F3 A4
  subst e12
  refine ⟨⟨by rw [jpF_tg, jnew_tgo (by omega)]; exact ht, by rw [jpF_f (by decide), jnew_fno (by omega)]; exact h0, by rw [jpF_s, hx], ?_, ?_, ?_⟩, by rw [jpF_nx, jnewNx, hx], rfl, fun a h1 h2 => ⟨by rw [jpF_tg, jnew_tgo (by omega)], by rw [jpF_ln, jnew_lno (by omega)], fun f => by rw [jpF_a h1, jnew_fno (by omega)]⟩, fun a ha f => nwF_o (by omega), fun a ha => nwA_o (by omega)⟩
  · rw [← hx, jpF_tg, jnewTg]
  · rw [← hx, jpF_f (by decide), jnew_f0]
  · rw [← hx, jpF_ln, jnewLn]

theorem jast_row {N : jSh} {b : Nat} {z : Int} (h : z = (b : Int)) (ht : jtg N b = 4) : jast N "ChildSays$Row" z := jast_at h ht rfl rfl
theorem jcst_line {N : jSh} {b : Nat} {z : Int} (h : z = (b : Int)) (ht : jtg N b = 19) : jcst N "ChildSays$Line" z := jcst_at h ht rfl rfl
theorem sJ2_szr {o : Nat} {N : jSh} {F : jFl} {A : jAr} : wqJ2_size o N F A (fun z => z = F 6003 o) := rfl
theorem row_made {S : Nat → Nat} {M : Int} {N98 N156 N167 : jSh} {F99 F157 F165 : jFl} {A100 A166 : jAr} {b155 : Nat} (i5 : gi S M N98 F99) (e155 : b155 = jnx N98) (e156 : N156 = jnew N98 4 0 3 1) (e157 : F157 = nwF N98 F99) (p162 : rowOk N167 b155 ∧ jnx N167 = b155 + 2 ∧ jsu N167 = jsu N156 + 12 ∧ (∀ a, a ≠ b155 → a ≠ b155 + 1 → jtg N167 a = jtg N156 a ∧ jln N167 a = jln N156 a ∧ ∀ f, jfn N167 f a = jfn N156 f a) ∧ (∀ a, a ≠ b155 + 1 → ∀ f, F165 f a = F157 f a) ∧ ∀ a, a ≠ b155 + 1 → A166 a = A100 a) :
    gr N98 F99 A100 N167 F165 A166 ∧ gi S M N167 F165 ∧ rowOk N167 b155 ∧ (jnx N167 = jnx N98 + 2 ∧ jsu N167 = jsu N98 + 15) ∧ (∀ a, jtg N167 a = 20 → a < jnx N98) := by
  obtain ⟨q1, q2, q3, q4, q5, q6⟩ := p162
  have n98 : ∀ a, a < jnx N98 → jtg N167 a = jtg N98 a ∧ jln N167 a = jln N98 a ∧ ∀ f, jfn N167 f a = jfn N98 f a := fun a ha => by
    obtain ⟨w1, w2, w3⟩ := q4 a (by omega) (by omega)
    exact ⟨by rw [w1, e156, jnew_tgo (by omega)], by rw [w2, e156, jnew_lno (by omega)], fun f => by rw [w3, e156, jnew_fno (by omega)]⟩
  have nxx : nex N98 N167 := ⟨by omega, n98⟩
  have su167 : jsu N167 = jsu N98 + 15 := by rw [q3, e156, jnewSu]
  have f98 : ∀ a, a < jnx N98 → ∀ f, F165 f a = F99 f a := fun a ha f => by rw [q5 a (by omega), e157, nwF_o (by omega)]
  have a98 : ∀ a, a < jnx N98 → A166 a = A100 a := fun a ha => q6 a (by omega)
  have g98 : gr N98 F99 A100 N167 F165 A166 := ⟨nxx, f98, a98⟩
  have t167 : ∀ a, jtg N167 a ≠ 0 → jtg N167 a ≠ 4 → jtg N167 a ≠ 107 → a < jnx N98 := fun a h0 h4 h107 => by
    by_cases w1 : a = b155
    · rw [w1, q1.1] at h4; exact absurd rfl h4
    · by_cases w2 : a = b155 + 1
      · rw [w2, q1.2.2.2.1] at h107; exact absurd rfl h107
      · rw [(q4 a w1 w2).1, e156, jnew_tgo (by omega)] at h0; exact i5.1 a h0
  have gi167 : gi S M N167 F165 := by
    refine ⟨fun a ha => ?_, fun b2 hb2 hl2 => ?_, fun m hm => ?_, fun m m' hm hm' hne w w0 => ?_, i5.2.2.2.2⟩
    · by_cases w1 : a = b155
      · omega
      · by_cases w2 : a = b155 + 1
        · omega
        · rw [(q4 a w1 w2).1, e156, jnew_tgo (by omega)] at ha; have := i5.1 a ha; omega
    · have lt := t167 b2 (by rw [hb2]; decide) (by rw [hb2]; decide) (by rw [hb2]; decide)
      exact i5.2.1 b2 (by rw [← (n98 b2 lt).1]; exact hb2) (by rw [← (n98 b2 lt).2.1]; exact hl2)
    · have lt := t167 m (by rw [hm]; decide) (by rw [hm]; decide) (by rw [hm]; decide)
      rw [f98 m lt, f98 m lt]
      have := i5.2.2.1 m (by rw [← (n98 m lt).1]; exact hm)
      omega
    · have lt := t167 m (by rw [hm]; decide) (by rw [hm]; decide) (by rw [hm]; decide)
      have lt' := t167 m' (by rw [hm']; decide) (by rw [hm']; decide) (by rw [hm']; decide)
      rw [f98 m lt, f98 m' lt'] at w
      rw [f98 m lt] at w0 ⊢
      have hm0 : jtg N98 m = 20 := by rw [← (n98 m lt).1]; exact hm
      have := (i5.2.2.1 m hm0).1
      rw [(n98 _ (by omega)).2.1]
      exact i5.2.2.2.1 m m' hm0 (by rw [← (n98 m' lt').1]; exact hm') hne w w0
  exact ⟨g98, gi167, q1, ⟨by omega, su167⟩, fun a ha => t167 a (by rw [ha]; decide) (by rw [ha]; decide) (by rw [ha]; decide)⟩
set_option maxHeartbeats 8000000 in
theorem sX17_init {S : Nat → Nat} {o : Nat} {a1 : Int} {N : jSh} {F : jFl} {A : jAr} {M : Int} {x t : Nat} {N0 : jSh} {F0 : jFl} {W L : sTb} {B : sBk} {U : sUn} {wA sA cA lA : Int → Int} (h : cst S M N0 F0 A x t W L B U wA sA cA lA) (hs19 : s19 S N0) (h9 : L 9 0 0 = 0) (hM : M ≤ 900000000) (ha1 : a1 = (x : Int)) (ho : o = jnx N0) (hN : N = jnew N0 18 0 7 1) (hF : F = nwF N0 F0) : wqX17_init S o a1 N F A (fun N' F' A' => wasIs N' F' A' x W wA lA o L B ∧ gr N0 F0 A N' F' A' ∧ gi S (M + 100) N' F' ∧ jtg N' o = 18 ∧ jnx N' ≤ jnx N0 + 200 ∧ jsu N' ≤ jsu N0 + 1000) := by
  unfold wqX17_init
  have hcx := h.2.1
  have hW := hcx.oW
  have hL := hcx.oL
  have g := h.1.1
  have w3 := hW.2.2.2.1
  have hx := h.hx
  have tx := hcx.tx
  have ft := hcx.ft
  have tt := hcx.tt
  have fy := hcx.fy
  have hxb : x < jnx N0 := by omega
  have htb : t < jnx N0 := g.1 t (by rw [tt]; decide)
  have tgN : ∀ a, jtg N a = if a = o then 18 else jtg N0 a := fun a => by rw [hN, jnew_tg, ho]
  have fgN : ∀ a f, a ≠ o → jfn N f a = jfn N0 f a := fun a f ha => by rw [hN, jnew_fno (by omega)]
  have f0o : jfn N 0 o = 1 := by rw [hN, ho, jnew_f0]
  have fF : ∀ a f, a ≠ o → F f a = F0 f a := fun a f ha => by rw [hF, nwF_o (by omega)]
  refine ⟨by exact f0o, ?_⟩ -- s1: jfn N 0 o = 1
  intro N3 e3
  refine ⟨_, by (rw [e3, jpF_s]; exact ha1), ?_⟩ -- d6: jfn N3 5420 o = (b6 : Int)
  refine ⟨by (rw [e3, jpF_tg, tgN, if_neg (by omega)]; exact tx), ?_⟩ -- s2: jtg N3 b6 = 1
  refine ⟨_, by (rw [fF _ _ (by omega)]; exact ft), ?_⟩ -- d9: F 311 b6 = (b9 : Int)
  refine ⟨by (rw [e3, jpF_tg, tgN, if_neg (by omega)]; exact tt), ?_⟩ -- s3: jtg N3 b9 = 2
  intro N14 e14
  rw [fF _ _ (by omega), fy] at e14
  refine ⟨_, by (rw [e14, jpF_f (by decide), e3, jpF_s]; exact ha1), ?_⟩ -- d17: jfn N14 5420 o = (b17 : Int)
  refine ⟨by (rw [e14, jpF_tg, e3, jpF_tg, tgN, if_neg (by omega)]; exact tx), ?_⟩ -- s4: jtg N14 b17 = 1
  refine ⟨_, by (rw [fF _ _ (by omega)]; exact ft), ?_⟩ -- d20: F 311 b17 = (b20 : Int)
  refine ⟨by (rw [e14, jpF_tg, e3, jpF_tg, tgN, if_neg (by omega)]; exact tt), ?_⟩ -- s5: jtg N14 b20 = 2
  refine ⟨_, by (rw [e14, jpF_a (by omega), e3, jpF_a (by omega), fgN _ _ (by omega)]; exact hcx.nL), ?_⟩ -- d23: jfn N14 626 b20 = (b23 : Int)
  have sz : F 6003 (t + 4) = W 3 0 0 := by rw [fF _ _ (by have := g.1 (t + 4) (by rw [hcx.lL.1.1]; decide); omega)]; exact hcx.lL.2.1
  refine ⟨by (rw [e14, jpF_tg, e3, jpF_tg, tgN, if_neg (by have := g.1 (t + 4) (by rw [hcx.lL.1.1]; decide); omega)]; exact hcx.lL.1.1), ?_⟩ -- s6: jtg N14 b23 = 20
  refine ⟨_, sJ2_szr, ?_⟩ -- call wqJ2_size b23 N14 F A P26
  intro z28 p26
  have p26' : z28 = W 3 0 0 := p26.trans sz
  intro N35 e35
  rw [p26'] at e35
  intro b37 N38 F39 A40 e37 e38 e39 e40
  intro N48 e48
  intro b50 N51 F52 A53 e50 e51 e52 e53
  intro N61 e61
  intro b63 N64 F65 A66 e63 e64 e65 e66
  intro N74 e74
  intro b76 N77 F78 e76 e77 e78
  refine ⟨_, sJ2_init (by rw [e76, e77, jnew_f0]), ?_⟩ -- call wqJ2_init S b76 N77 F78 A66 P83
  intro F86 A87 p83
  obtain ⟨p1, p2⟩ := p83
  subst p2
  intro N95 e95
  obtain ⟨x95, su95, grN, gN95, wok, hfacts⟩ := was_start h hs19 ha1 ho hN hF e3 e14 e35 e37 e38 e39 e40 e48 e50 e51 e52 e53 e61 e63 e64 e65 e66 e74 e76 e77 e78 p1 e95
  clear e3 e14 e35 e37 e38 e39 e40 e48 e50 e51 e52 e53 e61 e63 e64 e65 e66 e74 e76 e77 e78 p1 e95 tgN fgN fF f0o
  refine ⟨fun (v97 : Int) (N98 : jSh) (F99 : jFl) (A100 : jAr) => (0 ≤ v97 ∧ v97 ≤ W 3 0 0) ∧ (jnx N98 = o + 5 + 2 * v97.toNat ∧ jsu N98 = jsu N0 + 46 + 15 * v97.toNat) ∧ gr N0 F0 A N98 F99 A100 ∧ gi S M N98 F99 ∧ wasOk N98 x (W 3 0 0) (L 0 0 0) o ∧ ((jtg N98 (o + 4) = 20 ∧ jfn N98 0 (o + 4) = 1 ∧ F99 6002 (o + 4) = (S 19 : Int) ∧ F99 6003 (o + 4) = 0) ∧ jfn N98 0 (o + 1) = 1 ∧ jfn N98 0 (o + 2) = 1 ∧ jfn N98 0 (o + 3) = 1) ∧ ∀ k : Nat, (k : Int) < v97 → A100 (o + 1) k = ((o + 5 + 2 * k : Nat) : Int) ∧ rowIs N98 F99 A100 wA (o + 5 + 2 * k) (sRw L k) ∧ A100 (o + 2) k = lA (L 1 k 0) ∧ A100 (o + 3) k = L 4 k 0, fun v97 N98 F99 A100 => (W 3 0 0 - v97).toNat, ?_, ?_⟩ -- loop I103 I103 0 N95 F86 A87
  ·
    -- l1: I103 0 N95 F86 A87
    exact ⟨by omega, ⟨by rw [x95]; rfl, by rw [su95]; rfl⟩, grN, gN95, wok, hfacts, fun k hk => by omega⟩
  intro v97 N98 F99 A100 i103
  obtain ⟨i1, ⟨i2, i3⟩, i4, i5, i6, ⟨⟨i7, i8, i9, i10⟩, i11, i12, i13⟩, i14⟩ := i103
  have hcst := h.gr i4 i5
  obtain ⟨be, bl, bln⟩ := id h.2.2.1
  have e54 : jfn N98 5403 o = W 3 0 0 := i6.1.2.2.2.2
  rw [e54]
  refine ⟨fun hc => ?_, fun hc => ?_⟩ -- c1
  · -- case ((jfn N98 5403 o) ≤ v97)
    refine ⟨fun (v107 : Int) (N108 : jSh) (F109 : jFl) (A110 : jAr) => (0 ≤ v107 ∧ v107 ≤ B.1) ∧ gr N0 F0 A N108 F109 A110 ∧ gi S (M + v107) N108 F109 ∧ nex N98 N108 ∧ jli N108 F109 A110 (o + 4) v107 be ∧ (∀ k : Nat, (k : Int) < W 3 0 0 → A110 (o + 1) k = ((o + 5 + 2 * k : Nat) : Int) ∧ rowIs N108 F109 A110 wA (o + 5 + 2 * k) (sRw L k) ∧ A110 (o + 2) k = lA (L 1 k 0) ∧ A110 (o + 3) k = L 4 k 0) ∧ (jnx N108 ≤ jnx N98 + lcp N108 F109 (o + 4) ∧ jsu N108 ≤ jsu N98 + 4 * lcp N108 F109 (o + 4)) ∧ (jnx N0 ≤ lar F109 (o + 4) ∨ jln N108 (lar F109 (o + 4)) = 0), fun v107 N108 F109 A110 => (B.1 - v107).toNat, ?_, ?_⟩ -- loop I113 I113 0 N98 F99 A100
    ·
      -- l2: I113 0 N98 F99 A100
      have hnl : v97 = W 3 0 0 := by omega
      have s98 := hs19.ex g.1 i4.1
      refine ⟨by have := bl.2.2.1; omega, i4, by rw [show M + 0 = M by omega]; exact i5, nex.refl _, ⟨⟨i7, i8⟩, i10, by omega, S 19, i9, s98.1, by omega, fun k k0 k1 => by omega, ⟨Or.inr s98.2, by rw [s98.2]; omega, fun k k0 k1 => by rw [s98.2] at k1; omega⟩, fun k k0 k1 => by omega⟩, fun k hk => i14 k (by omega), by omega, Or.inr (by show jln N98 (F99 6002 (o + 4)).toNat = 0; rw [i9]; exact s98.2)⟩
    intro v107 N108 F109 A110 i113
    obtain ⟨j1, j2, j3, j4, j5, j6, j7, j8⟩ := i113
    have hcj := h.gr j2 j3
    obtain ⟨be2, bl2, bln2⟩ := id hcj.2.2.1
    have szj : F109 6003 (t + 6) = B.1 := bl2.2.1
    have i6j := i6.ex i5.1 j4
    refine ⟨_, ha1, ?_⟩ -- d115: a1 = (b115 : Int)
    refine ⟨by exact hcj.2.1.tx, ?_⟩ -- s7: jtg N108 b115 = 1
    refine ⟨_, by exact hcj.2.1.ft, ?_⟩ -- d118: F109 311 b115 = (b118 : Int)
    refine ⟨by exact hcj.2.1.tt, ?_⟩ -- s8: jtg N108 b118 = 2
    refine ⟨_, by exact hcj.2.1.nB, ?_⟩ -- d121: jfn N108 632 b118 = (b121 : Int)
    refine ⟨by exact bl2.1.1, ?_⟩ -- s9: jtg N108 b121 = 20
    refine ⟨_, sJ2_szr, ?_⟩ -- call wqJ2_size b121 N108 F109 A110 P124
    intro z126 p124
    have p124' : z126 = B.1 := p124.trans szj
    refine ⟨fun hc => ?_, fun hc => ?_⟩ -- c2
    · -- case (z126 ≤ v107)
      -- l3: Q N108 F109 A110
      have e : v107 = B.1 := by omega
      subst e
      refine ⟨⟨i6j, ⟨hL, h9⟩, j6, be, j5, fun k k0 k1 => ?_⟩, j2, j3.mono (by have := bl.2.2.1; omega) (by omega), i6j.1.2.1, ?_, ?_⟩
      · obtain ⟨z, z1, z2, z3, z4, z5, z6⟩ := bln k k0 k1
        have ef := fun f => j2.1.fn g.1 z2 (by decide) f
        exact ⟨z, z1, j2.1.tg g.1 z2 (by decide), by rw [ef, z3], by rw [ef, z4], by rw [ef, z5], by rw [ef, z6]⟩
      · have := j5.cap; omega
      · have := j5.cap; omega
    · -- case (¬ (z126 ≤ v107))
      refine ⟨_, sJ2_get (e := be) (⟨bl2.1, bl2.2.1, bl2.2.2.1, by
        obtain ⟨b0, c1, c2, c3, c4, c5, c6⟩ := bl2.2.2.2
        obtain ⟨b9, d1, d2, d3, d4, d5, d6⟩ := bl.2.2.2
        have hb9 : b9 < jnx N0 := g.1 b9 (by rw [d2]; decide)
        have hl6 : t + 6 < jnx N0 := g.1 (t + 6) (by rw [bl.1.1]; decide)
        have e6 : F109 6002 (t + 6) = F0 6002 (t + 6) := j2.2.1 _ hl6 _
        have e9 : b0 = b9 := by rw [e6, d1] at c1; omega
        refine ⟨b0, c1, c2, c3, fun k k0 k1 => ?_, c5, fun k k0 k1 => ?_⟩
        · rw [e9, j2.2.2 b9 hb9]; exact d4 k k0 k1
        · exact (d6 k k0 k1).ex g.1 j2.1⟩) (by omega), ?_⟩ -- call wqJ2_get b121 v107 N108 F109 A110 P133
      intro z135 p133
      obtain ⟨z, z1, z2, z3, z4, z5, z6⟩ := bln v107 j1.1 (by omega)
      have tz : jtg N108 z = 19 := j2.1.tg g.1 z2 (by decide)
      refine ⟨by exact jcst_line (p133.trans z1) tz, ?_⟩ -- s10: jcst N108 "ChildSays$Line" z135
      refine ⟨_, by exact i6j.2.2.2.2, ?_⟩ -- d141: jfn N108 5417 o = (b141 : Int)
      refine ⟨by exact j5.1.1, ?_⟩ -- s11: jtg N108 b141 = 20
      refine ⟨_, sJ2_add j5 j3 (by have := bl.2.2.1; omega) (by have := bl.2.2.1; omega) (jast_line (p133.trans z1) tz), ?_⟩ -- call wqJ2_add S b141 z135 N108 F109 A110 P144
      intro z146 N149 F147 A148 p144
      obtain ⟨r1, r2⟩ := p144
      refine ⟨by (have := bl.2.2.1; omega), ?_⟩ -- s12: jR (v107 + 1)
      refine ⟨?_, ?_⟩ -- l4: I113 (v107 + 1) N149 F147 A148
      · have hup : jli N149 F147 A148 (o + 4) (v107 + 1) be := by
          obtain ⟨c1, c2, c3, b0, c4, c5, c6, c7, c8, c9⟩ := r1
          refine ⟨c1, c2, c3, b0, c4, c5, c6, fun k k0 k1 => ?_, c8, fun k k0 k1 => ?_⟩
          · rw [c7 k k0 k1]
            by_cases w : k = v107
            · rw [w, upI_s, p133]
            · rw [upI_n w]
          · have := c9 k k0 k1
            by_cases w : k = v107
            · rw [w, upI_s, p133] at this; rw [w]; exact this
            · rw [upI_n w] at this; exact this
        have isl := j5.isL
        have ej : lar F109 (o + 4) < jnx N0 → jln N108 (lar F109 (o + 4)) = 0 := fun hlt => by omega
        refine ⟨by omega, ⟨j2.1.trans r2.2.1, fun a ha f => by rw [r2.2.2.1 a (by have := j2.1.1; omega) (by omega) f]; exact j2.2.1 a ha f, fun a ha => by
          rw [r2.2.2.2.2.1 a (by have := j2.1.1; omega) (by
            by_cases w : a = lar F109 (o + 4)
            · exact Or.inr (by rw [w]; exact ej (by rw [← w]; exact ha))
            · exact Or.inl w)]
          exact j2.2.2 a ha⟩, by rw [show M + (v107 + 1) = M + v107 + 1 by omega]; exact r2.1, j4.trans r2.2.1, hup, fun k hk => ?_, ?_, ?_⟩
        · obtain ⟨y1, y2, y3, y4⟩ := j6 k hk
          have kk := r2.kp
          exact ⟨by rw [kk.a j3 isl i6j.2.1.2.1 (by decide) (by decide)]; exact y1, kk.row j3 isl y2, by rw [kk.a j3 isl i6j.2.2.1.2.1 (by decide) (by decide)]; exact y3, by rw [kk.a j3 isl i6j.2.2.2.1.2.1 (by decide) (by decide)]; exact y4⟩
        · obtain ⟨-, -, -, -, -, q1, q2, q3, -⟩ := r2
          omega
        · obtain ⟨-, n2, -, -, -, q1, q2, q3, q4⟩ := r2
          have n1 := j2.1.1
          obtain ⟨-, -, -, b0, c4, c5, c6, -⟩ := r1
          have eb : lar F147 (o + 4) = b0 := by show (F147 6002 (o + 4)).toNat = b0; rw [c4]; rfl
          rcases q4 with q | q
          · left
            rw [q]
            rcases j8 with w | w
            · exact w
            · have e := n2.ln j3.1 isl.2.2 (by decide)
              rw [w, ← q, eb] at e
              omega
          · left; omega
      · dsimp only; omega
  · -- case (¬ ((jfn N98 5403 o) ≤ v97))
    intro b155 N156 F157 e155 e156 e157
    have b155e : b155 = o + 5 + 2 * v97.toNat := by rw [e155, i2]
    have v97e : ((v97.toNat : Nat) : Int) = v97 := by omega
    refine ⟨_, sX3_init (by rw [e155, e156, jnewTg]) (by rw [e155, e156, jnew_f0]) (by rw [e155, e156, jnewNx]), ?_⟩ -- call wqX3_init b155 N156 F157 A100 P162
    intro N167 F165 A166 p162
    obtain ⟨g98, gi167, q1, ⟨q2, su167⟩, t167⟩ := row_made i5 e155 e156 e157 p162
    clear p162 e156 e157
    have nxx := g98.1
    have f98 := g98.2.1
    have a98 := g98.2.2
    have hc167 := hcst.gr g98 gi167
    have j98 := i4.1.1
    refine ⟨_, ha1, ?_⟩ -- d172: a1 = (b172 : Int)
    refine ⟨by exact hc167.2.1.tx, ?_⟩ -- s13: jtg N167 b172 = 1
    refine ⟨_, by exact hc167.2.1.ft, ?_⟩ -- d175: F165 311 b172 = (b175 : Int)
    refine ⟨by exact hc167.2.1.tt, ?_⟩ -- s14: jtg N167 b175 = 2
    refine ⟨_, by exact hc167.2.1.nL, ?_⟩ -- d178: jfn N167 626 b175 = (b178 : Int)
    refine ⟨by exact hc167.2.1.lL.1.1, ?_⟩ -- s15: jtg N167 b178 = 20
    refine ⟨_, sJ2_get hc167.2.1.lL (by omega), ?_⟩ -- call wqJ2_get b178 v97 N167 F165 A166 P181
    intro z183 p181
    obtain ⟨bl9, u1, u2, u3, u4⟩ := hc167.2.1.lw (l := v97) (by omega)
    have hbl9 : bl9 < jnx N0 ∧ bl9 + 3 < jnx N0 := by
      obtain ⟨b8, s1, s2, -⟩ := hcx.lw (l := v97) (by omega)
      have : b8 = bl9 := by omega
      rw [← this]
      exact ⟨g.1 b8 (by rw [s2.1]; decide), g.1 (b8 + 3) (by rw [s2.2.2.2.2.1]; decide)⟩
    refine ⟨by exact jcst_law (p181.trans u1) u2.1, ?_⟩ -- s16: jcst N167 "ChildSays$Law" z183
    refine ⟨_, by exact p181.trans u1, ?_⟩ -- d189: z183 = (b189 : Int)
    refine ⟨by exact u2.1, ?_⟩ -- s17: jtg N167 b189 = 17
    refine ⟨_, sX3_like u2.2.2.2.1 q1 u4 (sRw_ok hL (by omega)) hc167.2.1.wd (by omega) (by omega) (by omega), ?_⟩ -- call wqX3_like b155 (jfn N167 5102 b189) N167 F165 A166 P193
    intro z195 F196 A197 p193
    obtain ⟨r1, r2, r3⟩ := p193
    have i6k := i6.ex i5.1 nxx
    refine ⟨_, by exact i6.2.1.1, ?_⟩ -- d202: jfn N98 5408 o = (b202 : Int)
    refine ⟨by exact i6k.2.1.2.1, ?_⟩ -- s18: jtg N167 b202 = 116
    refine ⟨by (rw [nxx.fn i5.1 i6.2.1.2.1 (by decide)]; exact i11), ?_⟩ -- s19: jfn N167 0 b202 = 1
    refine ⟨by (rw [i6k.2.1.2.2]; omega), ?_⟩ -- s20: ((0 : Int) ≤ v97 ∧ (v97 : Int) < (jln N167 b202 : Int))
    refine ⟨by exact jast_row r1 q1.1, ?_⟩ -- s21: jast N167 "ChildSays$Row" z195
    intro A207 e207
    have gA : ∀ (A9 : jAr), (∀ a, a < jnx N0 → A9 a = A a) → cst S M N167 F196 A9 x t W L B U wA sA cA lA := fun A9 hA9 => h.gr ⟨i4.1.trans nxx, fun a ha f => by rw [(r3 a (by omega)).1, f98 a (by omega)]; exact i4.2.1 a ha f, hA9⟩ (gi167.of (fun m hm => by
      have lt := t167 m hm
      have q := r3 m (by omega)
      exact ⟨q.1 _, q.1 _⟩))
    have hA197 : ∀ a, a < jnx N0 → A197 a = A a := fun a ha => by rw [(r3 a (by omega)).2, a98 a (by omega)]; exact i4.2.2 a ha
    have hA207 : ∀ a, a < jnx N0 → A207 a = A a := fun a ha => by rw [e207, upA_o (by omega)]; exact hA197 a ha
    have c207 := gA A207 hA207
    refine ⟨_, by exact c207.2.1.ft, ?_⟩ -- d211: F196 311 b172 = (b211 : Int)
    refine ⟨by exact c207.2.1.tt, ?_⟩ -- s22: jtg N167 b211 = 2
    refine ⟨_, by exact c207.2.1.nO, ?_⟩ -- d214: jfn N167 629 b211 = (b214 : Int)
    refine ⟨by exact c207.2.1.lO.1.1, ?_⟩ -- s23: jtg N167 b214 = 20
    refine ⟨_, sJ2_get c207.2.1.lO (by omega), ?_⟩ -- call wqJ2_get b214 v97 N167 F196 A207 P217
    intro z219 p217
    obtain ⟨bo, o1, o2, -⟩ := c207.2.1.lw (hL.2.1 v97 (by omega) (by omega))
    refine ⟨by exact jcst_law (p217.trans o1) o2.1, ?_⟩ -- s24: jcst N167 "ChildSays$Law" z219
    refine ⟨_, by exact i6k.2.2.1.1, ?_⟩ -- d225: jfn N167 5411 o = (b225 : Int)
    refine ⟨by exact i6k.2.2.1.2.1, ?_⟩ -- s25: jtg N167 b225 = 113
    refine ⟨by (rw [nxx.fn i5.1 i6.2.2.1.2.1 (by decide)]; exact i12), ?_⟩ -- s26: jfn N167 0 b225 = 1
    refine ⟨by (rw [i6k.2.2.1.2.2]; omega), ?_⟩ -- s27: ((0 : Int) ≤ v97 ∧ (v97 : Int) < (jln N167 b225 : Int))
    refine ⟨by exact jast_law (p217.trans o1) o2.1, ?_⟩ -- s28: jast N167 "ChildSays$Law" z219
    intro A230 e230
    have hA230 : ∀ a, a < jnx N0 → A230 a = A a := fun a ha => by rw [e230, upA_o (by omega)]; exact hA207 a ha
    have c230 := gA A230 hA230
    refine ⟨_, by exact c230.2.1.nL, ?_⟩ -- d233: jfn N167 626 b211 = (b233 : Int)
    refine ⟨by exact c230.2.1.lL.1.1, ?_⟩ -- s29: jtg N167 b233 = 20
    refine ⟨_, sJ2_get c230.2.1.lL (by omega), ?_⟩ -- call wqJ2_get b233 v97 N167 F196 A230 P236
    intro z238 p236
    obtain ⟨bm, m1, m2, m3, -⟩ := c230.2.1.lw (l := v97) (by omega)
    refine ⟨by exact jcst_law (p236.trans m1) m2.1, ?_⟩ -- s30: jcst N167 "ChildSays$Law" z238
    refine ⟨_, by exact p236.trans m1, ?_⟩ -- d244: z238 = (b244 : Int)
    refine ⟨by exact m2.1, ?_⟩ -- s31: jtg N167 b244 = 17
    refine ⟨_, by exact i6k.2.2.2.1.1, ?_⟩ -- d247: jfn N167 5414 o = (b247 : Int)
    refine ⟨by exact i6k.2.2.2.1.2.1, ?_⟩ -- s32: jtg N167 b247 = 105
    refine ⟨by (rw [nxx.fn i5.1 i6.2.2.2.1.2.1 (by decide)]; exact i13), ?_⟩ -- s33: jfn N167 0 b247 = 1
    refine ⟨by (rw [i6k.2.2.2.1.2.2]; omega), ?_⟩ -- s34: ((0 : Int) ≤ v97 ∧ (v97 : Int) < (jln N167 b247 : Int))
    refine ⟨by (rw [m3]; exact (hL.2.2.2.1 v97 (by omega) (by omega)).2.2.2), ?_⟩ -- s35: (F196 5103 b244 = 0 ∨ F196 5103 b244 = 1)
    intro A252 e252
    have hA252 : ∀ a, a < jnx N0 → A252 a = A a := fun a ha => by rw [e252, upA_o (by omega)]; exact hA230 a ha
    refine ⟨by omega, ?_⟩ -- s36: jR (v97 + 1)
    refine ⟨?_, ?_⟩ -- l5: I103 (v97 + 1) N167 F196 A252
    · refine ⟨by omega, ⟨by rw [q2]; omega, by rw [su167]; omega⟩, ⟨i4.1.trans nxx, fun a ha f => by rw [(r3 a (by omega)).1, f98 a (by omega)]; exact i4.2.1 a ha f, hA252⟩, (gA A252 hA252).1.1, i6k, ⟨⟨by rw [nxx.tg i5.1 i7 (by decide)], by rw [nxx.fn i5.1 i7 (by decide)]; exact i8, by rw [(r3 _ (by omega)).1, f98 _ (by omega)]; exact i9, by rw [(r3 _ (by omega)).1, f98 _ (by omega)]; exact i10⟩, by rw [nxx.fn i5.1 i6.2.1.2.1 (by decide)]; exact i11, by rw [nxx.fn i5.1 i6.2.2.1.2.1 (by decide)]; exact i12, by rw [nxx.fn i5.1 i6.2.2.2.1.2.1 (by decide)]; exact i13⟩, fun k hk => ?_⟩
      have x1 : A252 (o + 1) = upA A197 (o + 1) v97 z195 (o + 1) := by rw [e252, upA_o (by omega), e230, upA_o (by omega), e207]
      have x2 : A252 (o + 2) = upA A207 (o + 2) v97 z219 (o + 2) := by rw [e252, upA_o (by omega), e230]
      have x3 : ∀ a, a ≠ o + 1 → a ≠ o + 2 → a ≠ o + 3 → A252 a = A197 a := fun a h1 h2 h3 => by rw [e252, upA_o h3, e230, upA_o h2, e207, upA_o h1]
      by_cases w : (k : Int) = v97
      · have wk : k = v97.toNat := by omega
        refine ⟨by rw [x1, w, upA_s, r1, b155e, wk], ?_, by rw [x2, w, upA_s, p217], by rw [e252, w, upA_s, m3]⟩
        rw [show o + 5 + 2 * k = b155 by omega, w]
        exact r2.of rfl rfl (x3 _ (by omega) (by omega) (by omega))
      · obtain ⟨y1, y2, y3, y4⟩ := i14 k (by omega)
        have lt1 : o + 5 + 2 * k + 1 < jnx N98 := by omega
        refine ⟨by rw [x1, upA_i w, (r3 _ (by omega)).2, a98 _ (by omega)]; exact y1, y2.ex i5.1 nxx (by rw [(r3 _ (by omega)).1, f98 _ (by omega)]) (by rw [(r3 _ (by omega)).1, f98 _ (by omega)]) (by rw [x3 _ (by omega) (by omega) (by omega), (r3 _ (by omega)).2, a98 _ (by omega)]), by rw [x2, upA_i w, e207, upA_o (by omega), (r3 _ (by omega)).2, a98 _ (by omega)]; exact y3, by rw [e252, upA_i w, e230, upA_o (by omega), e207, upA_o (by omega), (r3 _ (by omega)).2, a98 _ (by omega)]; exact y4⟩
    · dsimp only; omega

