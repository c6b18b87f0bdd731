set_option maxRecDepth 100000
set_option linter.unusedVariables false
/-! the component: all laws anew, a year; printed by gen/prove.py out of spec/84.cs5.spec -/
/-- cells of other kinds stay, but scratch and x's seed -/
def ky (x : Nat) (N : jSh) (F : jFl) (A : jAr) (F' : jFl) (A' : jAr) : Prop := ∀ a : Nat, (jtg N a ≠ 0 ∧ jtg N a ≠ 2 ∧ jtg N a ≠ 4 ∧ jtg N a ≠ 17 ∧ jtg N a ≠ 20 ∧ jtg N a ≠ 104 ∧ jtg N a ≠ 107) → (a < x + 11 ∨ x + 140 ≤ a) → (∀ f, (f ≠ 319 ∨ a ≠ x) → F' f a = F f a) ∧ A' a = A a
theorem ky.refl (x : Nat) (N : jSh) (F : jFl) (A : jAr) : ky x N F A F A := fun _ _ _ => ⟨fun _ _ => rfl, rfl⟩
theorem ky.trans {x : Nat} {N N' : jSh} {F F' F'' : jFl} {A A' A'' : jAr} (h : ky x N F A F' A') (h2 : ky x N' F' A' F'' A'') (hn : nb N) (e : nex N N') : ky x N F A F'' A'' := fun a ha hb => by
  have q := h a ha hb
  have q2 := h2 a (by rw [(e.2 a (hn a ha.1)).1]; exact ha) hb
  exact ⟨fun f hf => (q2.1 f hf).trans (q.1 f hf), q2.2.trans q.2⟩
theorem kq.ky {x : Nat} {N : jSh} {F F' : jFl} {A A' : jAr} (h : kq x N F A F' A') : ky x N F A F' A' := fun a ha _ => ⟨fun f _ => (h a (Or.inl ha)).1 f, (h a (Or.inl ha)).2⟩
theorem fr.ky {x lo hi : Nat} {N : jSh} {F F' : jFl} {A A' : jAr} (h : fr lo hi F A F' A') (h1 : x + 11 ≤ lo) (h2 : hi ≤ x + 140) : ky x N F A F' A' := fun a _ hb => ⟨fun f _ => (h a (by omega)).1 f, (h a (by omega)).2⟩
theorem rmB.trans {o c s c2 s2 : Nat} {N N' N'' : jSh} {F F' F'' : jFl} (h : rmB o c s N F N' F') (h2 : rmB o c2 s2 N' F' N'' F'') : rmB o (c + c2) (s + s2) N F N'' F'' := by
  unfold rmB at *
  omega
theorem rmB.mono {o c s c2 s2 : Nat} {N N' : jSh} {F F' : jFl} (h : rmB o c s N F N' F') (h1 : c ≤ c2) (h2 : s ≤ s2) : rmB o c2 s2 N F N' F' := by
  unfold rmB at *
  omega
theorem dB_dB {d c l k : Int} {R : sRow} {p : sTb × sBk} {B : sBk} : dB d (sBecome c l k R (p.1, dB d p.2 B)).2 (dB d p.2 B) = dB d (sBecome c l k R p).2 B := by
  unfold dB
  by_cases q : d = 0
  · rw [if_pos q, if_pos q, if_pos q]
  · rw [if_neg q, if_neg q, if_neg q]
theorem cst.year {S : Nat → Nat} {M : Int} {N : jSh} {F : jFl} {A : jAr} {x t : Nat} {W L : sTb} {B : sBk} {U : sUn} {wA sA cA lA : Int → Int} (h : cst S M N F A x t W L B U wA sA cA lA) (hy : L 0 0 0 < 9999) : cst S M N (upF F 612 t (L 0 0 0 + 1)) A x t W (sYear1 L) B U wA sA cA lA := by
  have f0 : ∀ a : Nat, jtg N a ≠ 2 → ∀ f, upF F 612 t (L 0 0 0 + 1) f a = F f a := fun a ha f => upF_a (fun w => ha (by rw [w]; exact h.2.1.tt))
  have hj : ∀ {l : Nat} {n : Int} {e : Int → Int}, jli N F A l n e → jli N (upF F 612 t (L 0 0 0 + 1)) A l n e := fun {l n e} q => by
    obtain ⟨q1, q2, q3, c, q4, q5⟩ := q
    exact ⟨q1, by rw [f0 l (by rw [q1.1]; decide), q2], q3, c, by rw [f0 l (by rw [q1.1]; decide), q4], q5⟩
  have hb : ∀ {l : Nat} {B : sBk}, bkIs N F A l B → bkIs N (upF F 612 t (L 0 0 0 + 1)) A l B := fun {l B} q => by
    obtain ⟨e, q1, q2⟩ := q
    exact ⟨e, hj q1, q2⟩
  have hr : ∀ {r : Nat} {R : sRow}, rowIs N F A wA r R → rowIs N (upF F 612 t (L 0 0 0 + 1)) A wA r R := fun {r R} q => q.of (f0 _ (by rw [q.1.1]; decide) _) (f0 _ (by rw [q.1.1]; decide) _) rfl
  obtain ⟨⟨g, ly, sa⟩, ⟨⟨x1, x2, x3⟩, ⟨hW, hL⟩, t1, t2, ⟨l1, l2, l3, l4, l5⟩, h4, h5, h6, h7⟩, hbk, ha1, e, ha2, ha3⟩ := h
  refine ⟨⟨g.of (fun l hl => ⟨f0 l (by rw [hl]; decide) _, f0 l (by rw [hl]; decide) _⟩), ly, sa⟩, ⟨⟨x1, x2, by rw [f0 x (by rw [x1]; decide)]; exact x3⟩, ⟨hW, sYear1_ok hL hy⟩, t1, ⟨by rw [upF_f (by decide)]; exact t2.1, by rw [upF_f (by decide)]; exact t2.2.1, by rw [upF_f (by decide)]; exact t2.2.2.1, upF_s⟩, ⟨hj l1, hj l2, hj l3, hj l4, hj l5⟩, h4.of (fun f a _ ha => f0 a (by rw [ha]; decide) f), h5, fun c c0 c1 => ?_, fun m m0 m1 => ?_⟩, hb hbk, ha1, e, hj ha2, fun i i0 i1 => ?_⟩
  · obtain ⟨d, d1, d2⟩ := h6 c c0 c1
    exact ⟨d, d1, d2.of (fun f _ => f0 d (by rw [d2.1.1]; decide) f) rfl rfl⟩
  · obtain ⟨d, d1, d2, d3, d4⟩ := h7 m m0 m1
    exact ⟨d, d1, d2, by rw [f0 d (by rw [d2.1]; decide)]; exact d3, hr d4⟩
  · obtain ⟨w, w1, w2, w3, w4, w5⟩ := ha3 i i0 i1
    refine ⟨w, w1, w2, w3, fun k hk => ?_, hb w5⟩
    obtain ⟨g1, g2, g3⟩ := w4 k hk
    exact ⟨g1, hr g2, g3⟩
set_option maxHeartbeats 2000000 in
theorem sX0_allAnew {S : Nat → Nat} {o : Nat} {a1 : Int} {N : jSh} {F : jFl} {A : jAr} {M : Int} {t : Nat} {W L : sTb} {B : sBk} {U : sUn} {wA sA cA lA : Int → Int} {c d : Int} (h : cst S M N F A o t W L B U wA sA cA lA) (h9 : L 9 0 0 = 0) (hM : M ≤ 800000000) (hc1 : 0 ≤ c ∧ c < W 2 0 0) (ha1 : a1 = cA c) (hd : F 330 o = d) : wqX0_allAnew S o a1 N F A (fun N' F' A' => cst S (M + 24) N' F' A' o t W (sRenew W L c B).1 (dB d (sRenew W L c B).2 B) U wA sA cA lA ∧ nex N N' ∧ ky o N F A F' A' ∧ F' 319 o = F 319 o ∧ rmB (t + 6) 12 48 N F N' F' ∧ kx o W wA lA N F A N' F' A') := by
  unfold wqX0_allAnew
  have hcx := h.2.1
  have hW := hcx.oW
  have hL := hcx.oL
  have g := h.1.1
  have hy := h.1.2.1
  have hx := h.hx
  have w3 := hW.2.2.2.1
  have ok := sSeats_ok hW hL (n := W 3 0 0) (by omega)
  have inj := sSeats_inj hL h9 (n := W 3 0 0) (by omega)
  have sk : sitOk N A o (o + 14) := hy.sit h.1.2.2.1
  have sc14 : scr N (o + 14) (o + 53) := hy.scr.mono (by omega) (by omega)
  obtain ⟨be, bl, -⟩ := id h.2.2.1
  have cap0 := bl.cap
  refine ⟨_, by exact hy.p329, ?_⟩ -- d1: jfn N 329 o = (b1 : Int)
  refine ⟨by exact sk.1.1, ?_⟩ -- s1: jtg N b1 = 5
  refine ⟨_, sX4_inOrder hcx sk (sc14.mono (by omega) (by omega)), ?_⟩ -- call wqX4_inOrder b1 N F A P4
  intro z6 F7 A8 p4
  obtain ⟨q1, ⟨q2, q3⟩, q4, q5⟩ := p4
  have qf : fr (o + 14) (o + 17) F A F7 A8 := fun a ha => ⟨fun f => q4 f a (by omega), q5 a (by omega)⟩
  have hc2 : cst S M N F7 A8 o t W L B U wA sA cA lA := h.scr (by omega) (by omega) qf ⟨by rw [q5 (o + 15) (by omega)]; exact h.1.2.2.1, by rw [q5 (o + 99) (by omega)]; exact h.1.2.2.2.1, by rw [q5 (o + 54) (by omega)]; exact h.1.2.2.2.2⟩
  have sk2 : sitOk N A8 o (o + 14) := hy.sit hc2.1.2.2.1
  refine ⟨_, q1, ?_⟩ -- d13: z6 = (b13 : Int)
  refine ⟨by exact sk.1.1, ?_⟩ -- s2: jtg N b13 = 5
  refine ⟨_, sX4_saidBy (n := (sSeats L (W 3 0 0)).1) (seat := (sSeats L (W 3 0 0)).2) hc2.2.1 sk2 (sc14.mono (by omega) (by omega)) ha1 hc1 ⟨q2, ok.1.1, by omega⟩ (fun i i0 i1 => ⟨(ok.2 i i0 i1).1, q3 i i0 i1⟩) inj, ?_⟩ -- call wqX4_saidBy b13 a1 N F7 A8 P16
  intro z18 F19 A20 p16
  obtain ⟨r1, r2, r3⟩ := p16
  have hc3 : cst S M N F19 A20 o t W L B U wA sA cA lA := hc2.scr (by omega) (by omega) r3 ⟨by rw [(r3 (o + 15) (by omega)).2]; exact hc2.1.2.2.1, by rw [(r3 (o + 99) (by omega)).2]; exact hc2.1.2.2.2.1, by rw [(r3 (o + 54) (by omega)).2]; exact hc2.1.2.2.2.2⟩
  have y1 : ky o N F A F19 A20 := (qf.ky (by omega) (by omega)).trans (r3.ky (by omega) (by omega)) g.1 (nex.refl _)
  have n1 : F19 1506 (o + 14) = (sSeats L (W 3 0 0)).1 := by rw [(r3 (o + 14) (by omega)).1]; exact q2
  have n2 : ∀ i : Int, 0 ≤ i → i < (sSeats L (W 3 0 0)).1 → A20 (o + 16) i = lA ((sSeats L (W 3 0 0)).2 i) := fun i i0 i1 => by rw [(r3 (o + 16) (by omega)).2]; exact q3 i i0 i1
  have hd2 : F19 330 o = d := by rw [(r3 o (by omega)).1, (qf o (by omega)).1]; exact hd
  have cap1 : lcp N F19 (t + 6) = lcp N F (t + 6) := by
    have q := hy.scr.out (a := t + 6) (by have := bl.1.1; omega)
    show jln N (F19 6002 (t + 6)).toNat = jln N (F 6002 (t + 6)).toNat
    rw [(r3 (t + 6) (by omega)).1, (qf (t + 6) (by omega)).1]
  have hRn : sRenew W L c B = it (sRenewF c (sSits W L c (sSeats L (W 3 0 0)).2 (sSeats L (W 3 0 0)).1.toNat) (sSeats L (W 3 0 0)).2) (L, B) (sSeats L (W 3 0 0)).1.toNat := rfl
  have sok := sSits_ok (n := (sSeats L (W 3 0 0)).1.toNat) (seat := (sSeats L (W 3 0 0)).2) hW hL hc1 (fun i i0 i1 => (ok.2 i i0 (by omega)).1)
  have so1 := sSits_o1 (W := W) (c := c) (n := (sSeats L (W 3 0 0)).1.toNat) (seat := (sSeats L (W 3 0 0)).2) hL (fun i i0 i1 => (ok.2 i i0 (by omega)).1)
  rw [hRn]
  have hn12 : (sSeats L (W 3 0 0)).1 ≤ 12 := by omega
  generalize sSits W L c (sSeats L (W 3 0 0)).2 (sSeats L (W 3 0 0)).1.toNat = SS at r2 sok so1 ⊢
  clear q2 q3
  generalize (sSeats L (W 3 0 0)).2 = seat at *
  generalize (sSeats L (W 3 0 0)).1 = n at *
  refine ⟨fun (v25 : Int) (N26 : jSh) (F27 : jFl) (A28 : jAr) => (0 ≤ v25 ∧ v25 ≤ n) ∧ cst S (M + 2 * v25) N26 F27 A28 o t W (it (sRenewF c SS seat) (L, B) v25.toNat).1 (dB d (it (sRenewF c SS seat) (L, B) v25.toNat).2 B) U wA sA cA lA ∧ nex N N26 ∧ kq o N F19 A20 F27 A28 ∧ rmB (t + 6) v25.toNat (4 * v25.toNat) N F19 N26 F27 ∧ kx o W wA lA N F A N26 F27 A28, fun v25 N26 F27 A28 => (n - v25).toNat, ?_, ?_⟩ -- loop I31 I31 0 N F19 A20
  ·
    -- l1: I31 0 N F19 A20
    refine ⟨by omega, ?_, nex.refl _, kq.refl _ _ _ _, ?_, (qf.kx (hy.scr.mono (by omega) (by omega)) (by omega)).trans (r3.kx (hy.scr.mono (by omega) (by omega)) (by omega)) g.1 (nex.refl _)⟩
    · rw [show M + 2 * 0 = M by omega]
      have e : dB d (it (sRenewF c SS seat) (L, B) (0 : Int).toNat).2 B = B := by show (if d = 0 then B else B) = B; split <;> rfl
      rw [e]; exact hc3
    · unfold rmB; rw [cap1]; omega
  intro v25 N26 F27 A28 i31
  obtain ⟨i1, i2, i3, i4, i5, i6⟩ := i31
  have sk3 : sitOk N26 A28 o (o + 14) := i2.1.2.1.sit i2.1.2.2.1
  have e1 : F27 1506 (o + 14) = n := by rw [(i4 (o + 14) (Or.inr (by omega))).1]; exact n1
  have st : it (sRenewF c SS seat) (L, B) (v25 + 1).toNat = sRenewF c SS seat v25 (it (sRenewF c SS seat) (L, B) v25.toNat) := it_succ _ _ i1.1
  refine ⟨_, by exact i2.1.2.1.p329, ?_⟩ -- d34: jfn N26 329 o = (b34 : Int)
  refine ⟨by exact sk3.1.1, ?_⟩ -- s3: jtg N26 b34 = 5
  refine ⟨fun hc => ?_, fun hc => ?_⟩ -- c1
  · -- case ((F27 1506 b34) ≤ v25)
    -- l2: Q N26 F27 A28
    have e : v25 = n := by omega
    subst e
    refine ⟨⟨⟨i2.1.1.mono (by omega) (by omega), i2.1.2⟩, i2.2⟩, i3, y1.trans i4.ky g.1 (nex.refl _), by rw [(i4 o (Or.inl (by rw [hcx.tx]; decide))).1, (r3 o (by omega)).1, (qf o (by omega)).1], ?_, i6⟩
    have q := i5.mono (c2 := 12) (s2 := 48) (by omega) (by omega)
    unfold rmB at q ⊢
    rw [cap1] at q
    exact q
  · -- case (¬ ((F27 1506 b34) ≤ v25))
    refine ⟨_, by exact sk3.2.1.1, ?_⟩ -- d38: jfn N26 1505 b34 = (b38 : Int)
    refine ⟨by exact sk3.2.1.2.1, ?_⟩ -- s4: jtg N26 b38 = 113
    refine ⟨by (rw [sk3.2.1.2.2.2]; omega), ?_⟩ -- s5: ((0 : Int) ≤ v25 ∧ (v25 : Int) < (jln N26 b38 : Int))
    refine ⟨by (rw [sk3.2.1.2.2.2]; omega), ?_⟩ -- s6: ((0 : Int) ≤ v25 ∧ (v25 : Int) < (jln N26 b38 : Int))
    have y2 := ok.2 v25 i1.1 (by omega)
    have y3 : A28 (o + 14 + 2) v25 = lA (seat v25) := by
      show A28 (o + 16) v25 = _
      rw [(i4 (o + 16) (Or.inr (by omega))).2]
      exact n2 v25 i1.1 (by omega)
    refine ⟨_, sX4_of i2.2.1 sk3 y3 y2.1, ?_⟩ -- call wqX4_of b34 (A28 b38 v25) N26 F27 A28 P43
    intro z45 p43
    have hl0 := y2.1
    have hsy : o + 17 ≤ sy (o + 14) (seat v25) ∧ sy (o + 14) (seat v25) + 3 ≤ o + 53 := ⟨by simp only [sy]; omega, by simp only [sy]; omega⟩
    have hso : sayOk N26 o (sy (o + 14) (seat v25)) := (sk3.2.2.2 (seat v25).toNat (by omega)).2
    have ry := r2 v25 i1.1 (by omega)
    have hsi : sayIs N26 F27 A28 wA (sy (o + 14) (seat v25)) (SS.2.1 (seat v25)) (SS.2.2 (seat v25)) := by
      have e0 := i4 (sy (o + 14) (seat v25)) (Or.inr (by omega))
      have e2 := i4 (sy (o + 14) (seat v25) + 1) (Or.inr (by omega))
      have e3 := i4 (sy (o + 14) (seat v25) + 1 + 1) (Or.inr (by omega))
      exact ⟨by rw [e0.1]; exact ry.1, ry.2.ex g.1 i3 (e2.1 _) (e2.1 _) e3.2⟩
    have hd3 : F27 330 o = d := by rw [(i4 o (Or.inl (by rw [hcx.tx]; decide))).1]; exact hd2
    refine ⟨_, sX0_becomes (c := c) (l := seat v25) (kind := SS.2.1 (seat v25)) (R := SS.2.2 (seat v25)) (s := sy (o + 14) (seat v25)) (d := d) i2 (by omega) hso hsi (by omega) (sok.2 _).2 (so1 _) hl0 hc1 y3 p43 ha1 hd3, ?_⟩ -- call wqX0_becomes S o (A28 b38 v25) z45 a1 N26 F27 A28 P50
    intro N55 F53 A54 p50
    obtain ⟨t1, t2, t3, t4, t5⟩ := p50
    rw [dB_dB, sBecome_1 (B' := (it (sRenewF c SS seat) (L, B) v25.toNat).2)] at t1
    have st2 : sBecome c (seat v25) (SS.2.1 (seat v25)) (SS.2.2 (seat v25)) (it (sRenewF c SS seat) (L, B) v25.toNat) = it (sRenewF c SS seat) (L, B) (v25 + 1).toNat := st.symm
    have st3 : sBecome c (seat v25) (SS.2.1 (seat v25)) (SS.2.2 (seat v25)) ((it (sRenewF c SS seat) (L, B) v25.toNat).1, (it (sRenewF c SS seat) (L, B) v25.toNat).2) = it (sRenewF c SS seat) (L, B) (v25 + 1).toNat := st.symm
    rw [st2] at t1
    refine ⟨by omega, ?_⟩ -- s7: jR (v25 + 1)
    refine ⟨?_, ?_⟩ -- l3: I31 (v25 + 1) N55 F53 A54
    · refine ⟨by omega, ?_, i3.trans t2, i4.trans t3 g.1 i3, ?_, i6.trans t5 g.1 i3⟩
      · rw [show M + 2 * (v25 + 1) = M + 2 * v25 + 2 by omega]; exact t1
      · exact (i5.trans t4).mono (by omega) (by omega)
    · dsimp only; omega

theorem jand31 {y : Int} (h : 0 ≤ y) : jand y 2147483647 = y % 2147483648 := by
  unfold jand
  have e : (2147483647 : Int).toNat = 2 ^ 31 - 1 := by decide
  rw [e, Nat.and_two_pow_sub_one_eq_mod]
  omega
theorem sX0_drawn {S : Nat → Nat} {o : Nat} {a1 : Int} {N : jSh} {F : jFl} {A : jAr} {s : Int} (hs : F 319 o = s) (h0 : 0 ≤ s ∧ s < 2147483648) (h1 : 0 < a1 ∧ a1 ≤ 10) (ho : jfn N 0 o = 1) : wqX0_drawn S o a1 N F A (fun z F' A' => z = sSeedF s / 64 % a1 ∧ F' = upF F 319 o (sSeedF s) ∧ A' = A) := by
  unfold wqX0_drawn
  rw [hs, jand31 (by omega)]
  refine ⟨by omega, ?_⟩ -- s1: (((0 : Int) ≤ (1103515245 * (F 319 o)) + 12345 ∧ ((1103515245 * (F 319 o)) + 12345 : Int) ≤ 9223372036854775807) ∧ ((0 : Int) ≤ 2147483647 ∧ (2147483647 : Int) 
  refine ⟨by exact ho, ?_⟩ -- s2: jfn N 0 o = 1
  refine ⟨by (show jRL (sSeedF s); unfold sSeedF; omega), ?_⟩ -- s3: jRL (jand ((1103515245 * (F 319 o)) + 12345) 2147483647)
  intro F5 e5
  have e : F5 319 o = sSeedF s := by rw [e5, upF_s]; rfl
  have r : 0 ≤ sSeedF s ∧ sSeedF s < 2147483648 := by unfold sSeedF; omega
  rw [e]
  refine ⟨by omega, ?_⟩ -- s4: (((0 : Int) ≤ F5 319 o ∧ (F5 319 o : Int) ≤ 9223372036854775807) ∧ ((0 : Int) < 64 ∧ (64 : Int) ≤ 9223372036854775807))
  refine ⟨by omega, ?_⟩ -- s5: (((0 : Int) ≤ (F5 319 o) / 64 ∧ ((F5 319 o) / 64 : Int) ≤ 9223372036854775807) ∧ ((0 : Int) < a1 ∧ (a1 : Int) ≤ 9223372036854775807))
  refine ⟨by (have : 0 ≤ sSeedF s / 64 % a1 ∧ sSeedF s / 64 % a1 < a1 := ⟨Int.emod_nonneg _ (by omega), Int.emod_lt_of_pos _ (by omega)⟩; omega), ?_⟩ -- s6: jR (((F5 319 o) / 64) % a1)
  -- l1: Q (((F5 319 o) / 64) % a1) F5 A
  exact ⟨rfl, e5, rfl⟩

theorem cst.seed {S : Nat → Nat} {M z : Int} {N : jSh} {F : jFl} {A : jAr} {x t : Nat} {W L : sTb} {B : sBk} {U : sUn} {wA sA cA lA : Int → Int} (h : cst S M N F A x t W L B U wA sA cA lA) {f : Nat} (hf : f = 319 ∨ f = 330 ∨ f = 303 ∨ f = 312 ∨ f = 315) : cst S M N (upF F f x z) A x t W L B U wA sA cA lA := by
  have f0 : ∀ a : Nat, jtg N a ≠ 1 → ∀ g, upF F f x z g a = F g a := fun a ha g => upF_a (fun w => ha (by rw [w]; exact h.2.1.tx))
  have hj : ∀ {l : Nat} {n : Int} {e : Int → Int}, jli N F A l n e → jli N (upF F f x z) A l n e := fun {l n e} q => by
    obtain ⟨q1, q2, q3, c, q4, q5⟩ := q
    exact ⟨q1, by rw [f0 l (by rw [q1.1]; decide), q2], q3, c, by rw [f0 l (by rw [q1.1]; decide), q4], q5⟩
  have hb : ∀ {l : Nat} {B : sBk}, bkIs N F A l B → bkIs N (upF F f x z) A l B := fun {l B} q => by
    obtain ⟨e, q1, q2⟩ := q
    exact ⟨e, hj q1, q2⟩
  have hr : ∀ {r : Nat} {R : sRow}, rowIs N F A wA r R → rowIs N (upF F f x z) A wA r R := fun {r R} q => q.of (f0 _ (by rw [q.1.1]; decide) _) (f0 _ (by rw [q.1.1]; decide) _) rfl
  have f1 : ∀ g, g ≠ f → ∀ a, upF F f x z g a = F g a := fun g hg a => upF_f hg
  obtain ⟨⟨g, ly, sa⟩, ⟨⟨x1, x2, x3⟩, ⟨hW, hL⟩, t1, t2, ⟨l1, l2, l3, l4, l5⟩, h4, h5, h6, h7⟩, hbk, ha1, e, ha2, ha3⟩ := h
  have ft : ∀ g, upF F f x z g t = F g t := f0 t (by rw [t1.1]; decide)
  refine ⟨⟨g.of (fun l hl => ⟨f0 l (by rw [hl]; decide) _, f0 l (by rw [hl]; decide) _⟩), ly, sa⟩, ⟨⟨x1, x2, by rw [f1 311 (by omega)]; exact x3⟩, ⟨hW, hL⟩, t1, by rw [ft, ft, ft, ft]; exact t2, ⟨hj l1, hj l2, hj l3, hj l4, hj l5⟩, h4.of (fun f a _ ha => f0 a (by rw [ha]; decide) f), h5, fun c c0 c1 => ?_, fun m m0 m1 => ?_⟩, hb hbk, ha1, e, hj ha2, fun i i0 i1 => ?_⟩
  · obtain ⟨d, d1, d2⟩ := h6 c c0 c1
    exact ⟨d, d1, d2.of (fun f _ => f0 d (by rw [d2.1.1]; decide) f) rfl rfl⟩
  · obtain ⟨d, d1, d2, d3, d4⟩ := h7 m m0 m1
    exact ⟨d, d1, d2, by rw [f0 d (by rw [d2.1]; decide)]; exact d3, hr d4⟩
  · obtain ⟨w, w1, w2, w3, w4, w5⟩ := ha3 i i0 i1
    refine ⟨w, w1, w2, w3, fun k hk => ?_, hb w5⟩
    obtain ⟨g1, g2, g3⟩ := w4 k hk
    exact ⟨g1, hr g2, g3⟩
set_option maxHeartbeats 2000000 in
theorem sX0_year {S : Nat → Nat} {o : Nat} {N : jSh} {F : jFl} {A : jAr} {M : Int} {t : Nat} {W L : sTb} {B : sBk} {U : sUn} {wA sA cA lA : Int → Int} {s d : Int} (h : cst S M N F A o t W L B U wA sA cA lA) (h9 : L 9 0 0 = 0) (hM : M ≤ 800000000) (hs : F 319 o = s) (h0 : 0 ≤ s ∧ s < 2147483648) (hd : F 330 o = d) (hyr : L 0 0 0 < 9999) : wqX0_year S o N F A (fun N' F' A' => cst S (M + 24) N' F' A' o t W (sYear W (L, B, s)).1 (dB d (sYear W (L, B, s)).2.1 B) U wA sA cA lA ∧ (F' 319 o = (sYear W (L, B, s)).2.2 ∧ (0 ≤ (sYear W (L, B, s)).2.2 ∧ (sYear W (L, B, s)).2.2 < 2147483648)) ∧ nex N N' ∧ ky o N F A F' A' ∧ rmB (t + 6) 12 48 N F N' F' ∧ kx o W wA lA N F A N' F' A') := by
  unfold wqX0_year
  have hcx := h.2.1
  have hW := hcx.oW
  have hL := hcx.oL
  have g := h.1.1
  have w2 := hW.2.2.1
  have k0 := hL.1
  have ft := hcx.ft
  have tt := hcx.tt
  have fy := hcx.fy
  obtain ⟨be, bl, -⟩ := id h.2.2.1
  have cap0 := bl.cap
  have hot : o ≠ t := fun w => by have := hcx.tx; rw [w, tt] at this; omega
  have es : sYear W (L, B, s) = (if (L 0 0 0 + 1) % 9 = 0 ∧ 0 < W 2 0 0 then ((sRenew W (sYear1 L) (sSeedF s / 64 % W 2 0 0) B).1, (sRenew W (sYear1 L) (sSeedF s / 64 % W 2 0 0) B).2, sSeedF s) else (sYear1 L, B, s)) := rfl
  have dBB : dB d B B = B := by unfold dB; split <;> rfl
  rw [es]
  refine ⟨_, ft, ?_⟩ -- d1: F 311 o = (b1 : Int)
  refine ⟨by exact tt, ?_⟩ -- s1: jtg N b1 = 2
  refine ⟨by exact hcx.2.2.1.2.1, ?_⟩ -- s2: jfn N 0 b1 = 1
  refine ⟨by (rw [fy]; omega), ?_⟩ -- s3: jR ((F 612 b1) + 1)
  intro F7 e7
  rw [fy] at e7
  have hc2 : cst S M N F7 A o t W (sYear1 L) B U wA sA cA lA := by rw [e7]; exact h.year hyr
  have f612 : F7 612 t = L 0 0 0 + 1 := by rw [e7, upF_s]
  have fo : ∀ f a, a ≠ t → F7 f a = F f a := fun f a ha => by rw [e7, upF_a ha]
  have y1 : ky o N F A F7 A := fun a ha _ => ⟨fun f _ => fo f a (fun w => by rw [w, tt] at ha; omega), rfl⟩
  have x1 : kx o W wA lA N F A N F7 A := kx_F (fun a ha f => fo f a (fun w => by rw [w, tt] at ha; omega))
  have cap1 : lcp N F7 (t + 6) = lcp N F (t + 6) := by
    show jln N (F7 6002 (t + 6)).toNat = jln N (F 6002 (t + 6)).toNat
    rw [fo _ _ (by omega)]
  have hc2' : cst S (M + 24) N F7 A o t W (sYear1 L) B U wA sA cA lA := ⟨⟨hc2.1.1.mono (by omega) (by omega), hc2.1.2⟩, hc2.2⟩
  have rm0 : rmB (t + 6) 12 48 N F N F7 := by unfold rmB; rw [cap1]; omega
  have hs7 : F7 319 o = s := by rw [fo _ _ hot]; exact hs
  refine ⟨_, by (rw [fo _ _ hot]; exact ft), ?_⟩ -- d8: F7 311 o = (b8 : Int)
  refine ⟨by exact tt, ?_⟩ -- s4: jtg N b8 = 2
  rw [f612]
  refine ⟨by omega, ?_⟩ -- s5: (((0 : Int) ≤ F7 612 b8 ∧ (F7 612 b8 : Int) ≤ 2147483647) ∧ ((0 : Int) < 9 ∧ (9 : Int) ≤ 2147483647))
  refine ⟨by omega, ?_⟩ -- s6: jR ((F7 612 b8) % 9)
  refine ⟨fun hc => ?_, fun hc => ?_⟩ -- c1
  · -- case (¬ ((F7 612 b8) % 9) = 0)
    -- l1: Q N F7 A
    rw [if_neg (fun w => hc w.1)]
    dsimp only
    rw [dBB]
    exact ⟨hc2', ⟨hs7, h0⟩, nex.refl _, y1, rm0, x1⟩
  · -- case (((F7 612 b8) % 9) = 0)
    refine ⟨_, by exact hcx.nC, ?_⟩ -- d14: jfn N 623 b8 = (b14 : Int)
    refine ⟨by exact hcx.lC.1.1, ?_⟩ -- s7: jtg N b14 = 20
    refine ⟨_, sJ2_isEmpty hc2.2.1.lC, ?_⟩ -- call wqJ2_isEmpty b14 N F7 A P17
    intro z19 p17
    refine ⟨fun hc => ?_, fun hc => ?_⟩ -- c2
    · -- case (¬ z19 = 0)
      -- l2: Q N F7 A
      rw [if_neg (fun w => by rw [if_neg (by omega)] at p17; omega)]
      dsimp only
      rw [dBB]
      exact ⟨hc2', ⟨hs7, h0⟩, nex.refl _, y1, rm0, x1⟩
    · -- case (z19 = 0)
      refine ⟨_, sJ2_size hc2.2.1.lC, ?_⟩ -- call wqJ2_size b14 N F7 A P25
      intro z27 p25
      have wp : 0 < W 2 0 0 := by
        by_cases w : W 2 0 0 = 0
        · rw [if_pos w] at p17; omega
        · omega
      subst p25
      refine ⟨_, sX0_drawn hs7 h0 (by omega) hcx.1.2.1, ?_⟩ -- call wqX0_drawn S o z27 N F7 A P32
      intro z34 F35 A36 p32
      obtain ⟨p1, p2, p3⟩ := p32
      subst p3
      have r : 0 ≤ sSeedF s ∧ sSeedF s < 2147483648 := by unfold sSeedF; omega
      have rz : 0 ≤ z34 ∧ z34 < W 2 0 0 := by rw [p1]; exact ⟨Int.emod_nonneg _ (by omega), Int.emod_lt_of_pos _ (by omega)⟩
      have hc5 : cst S M N F35 A36 o t W (sYear1 L) B U wA sA cA lA := by rw [p2]; exact hc2.seed (Or.inl rfl)
      refine ⟨_, sJ2_get hc5.2.1.lC rz, ?_⟩ -- call wqJ2_get b14 z34 N F35 A36 P41
      intro z43 p41
      obtain ⟨ch, u1, u2⟩ := hc5.2.1.ch rz
      refine ⟨by exact jcst_child (p41.trans u1) u2.1.1, ?_⟩ -- s8: jcst N "ChildSays$Child" z43
      refine ⟨_, sX0_allAnew (d := d) hc5 h9 (by omega) rz p41 (by rw [p2, upF_f (by decide), fo _ _ hot]; exact hd), ?_⟩ -- call wqX0_allAnew S o z43 N F35 A36 P49
      intro N54 F52 A53 p49
      obtain ⟨q1, q2, q3, sdk, q4, q5⟩ := p49
      have cap2 : lcp N F35 (t + 6) = lcp N F7 (t + 6) := by
        show jln N (F35 6002 (t + 6)).toNat = jln N (F7 6002 (t + 6)).toNat
        rw [p2, upF_f (by decide)]
      -- l3: Q N54 F52 A53
      rw [if_pos ⟨by omega, wp⟩, ← p1]
      refine ⟨q1, ⟨by rw [sdk, p2, upF_s], r⟩, q2, (y1.trans ?_ g.1 (nex.refl _)).trans q3 g.1 (nex.refl _), ?_, (x1.trans (kx_F (fun a ha f => by rw [p2]; exact upF_a (fun w => by rw [w, hcx.tx] at ha; omega))) g.1 (nex.refl _)).trans q5 g.1 (nex.refl _)⟩
      · exact fun a ha _ => ⟨fun f hf => by
          rw [p2]
          by_cases w : a = o
          · rw [upF_f (by omega)]
          · rw [upF_a w], rfl⟩
      · unfold rmB at q4 ⊢
        rw [cap2, cap1] at q4
        exact q4

