set_option maxRecDepth 100000
set_option linter.unusedVariables false
/-! the component: round; printed by gen/prove.py out of spec/9s.crnd.spec -/
/-- the scratch of a round -/
def frR (x : Nat) (F : jFl) (A : jAr) (F' : jFl) (A' : jAr) : Prop := ∀ a : Nat, (a < x + 11 ∨ (x + 14 ≤ a ∧ a < x + 87) ∨ x + 92 ≤ a) → (∀ f, F' f a = F f a) ∧ A' a = A a
theorem frR.refl (x : Nat) (F : jFl) (A : jAr) : frR x F A F A := fun _ _ => ⟨fun _ => rfl, rfl⟩
theorem frR.trans {x : Nat} {F F' F'' : jFl} {A A' A'' : jAr} (h : frR x F A F' A') (h2 : frR x F' A' F'' A'') : frR x F A F'' A'' := fun a ha => ⟨fun f => ((h2 a ha).1 f).trans ((h a ha).1 f), (h2 a ha).2.trans (h a ha).2⟩
theorem frR.fr {x : Nat} {F F' : jFl} {A A' : jAr} (h : frR x F A F' A') : fr (x + 11) (x + 92) F A F' A' := fun a ha => h a (by omega)
theorem fr.R {x lo hi : Nat} {F F' : jFl} {A A' : jAr} (h : fr lo hi F A F' A') (h1 : (x + 87 ≤ lo ∧ hi ≤ x + 92) ∨ (x + 11 ≤ lo ∧ hi ≤ x + 14)) : frR x F A F' A' := fun a ha => h a (by omega)
theorem frR.upF {x f : Nat} {F F' : jFl} {A A' : jAr} {z : Int} (h : frR x F A F' A') : frR x F A (upF F' f (x + 87) z) A' := fun a ha => ⟨fun g => by rw [upF_a (by omega)]; exact (h a ha).1 g, (h a ha).2⟩
theorem lay.slow {N : jSh} {x : Nat} (h : lay N x) : rowOk N (x + 88) := h.row (k := 88) (by decide) (by decide) (by decide) (by decide) (by decide)
theorem lay.fast {N : jSh} {x : Nat} (h : lay N x) : rowOk N (x + 90) := h.row (k := 90) (by decide) (by decide) (by decide) (by decide) (by decide)
theorem sX6_next {o : Nat} {a1 : Int} {a2 : Int} {a3 : Int} {N : jSh} {F : jFl} {A : jAr} {W L : sTb} {x t b : Nat} {wA sA cA lA : Int → Int} {c l : Int} {R : sRow} (hx : ctx N F A x t W L wA sA cA lA) (hy : lay N x) (ho : o = x + 87) (ha1 : a1 = (b : Int)) (hb : b = x + 88 ∨ b = x + 90) (hr : rowIs N F A wA b R) (hk : sRok (W 0 0 0) R) (ha2 : a2 = cA c) (hc1 : 0 ≤ c ∧ c < W 2 0 0) (ha3 : a3 = lA l) (hl : 0 ≤ l ∧ l < W 3 0 0) : wqX6_next o a1 a2 a3 N F A (fun z F' A' => z = (if 0 < (sSayR W c R (sHolds W L c l)).1 then 1 else 0) ∧ rowIs N F' A' wA b (sSayR W c R (sHolds W L c l)) ∧ ∀ a : Nat, (a < x + 11 ∨ x + 14 ≤ a) → (a < b ∨ b + 2 ≤ a) → (∀ f, F' f a = F f a) ∧ A' a = A a) := by
  unfold wqX6_next
  subst ho
  obtain ⟨bl, l1, l2, l3, l4⟩ := hx.lw hl
  obtain ⟨bc, k1, k2⟩ := hx.ch hc1
  have k4 := (hx.oL.2.2.2.1 l hl.1 hl.2).2.2.2
  have k9 := (hx.oW.2.2.2.2.2.2.2.2.2.1 c hc1.1 hc1.2).2
  have k2' := k2
  obtain ⟨c1, c2, c3, c4⟩ := k2
  refine ⟨_, by exact hy.2.1 (2117, 87, 0) (by decide), ?_⟩ -- d1: jfn N 2117 o = (b1 : Int)
  refine ⟨by exact hx.tx, ?_⟩ -- s1: jtg N b1 = 1
  refine ⟨_, by exact ha3.trans l1, ?_⟩ -- d4: a3 = (b4 : Int)
  refine ⟨by exact l2.1, ?_⟩ -- s2: jtg N b4 = 17
  refine ⟨_, by exact ha2.trans k1, ?_⟩ -- d7: a2 = (b7 : Int)
  refine ⟨by exact c1.1, ?_⟩ -- s3: jtg N b7 = 16
  refine ⟨_, by exact hy.p326, ?_⟩ -- d10: jfn N 326 b1 = (b10 : Int)
  refine ⟨by exact hy.alone.1, ?_⟩ -- s4: jtg N b10 = 3
  refine ⟨by (rw [l3]; exact k4), ?_⟩ -- s5: (F 5103 b4 = 0 ∨ F 5103 b4 = 1)
  refine ⟨_, sX2_of_2 (left := sHolds W L c l) hy.alone hx.tx hx.ft hx.tt hx.f6 (ha2.trans k1) k2' hc1 ha1 hr hk hx.wd hx.oW (by omega) (by rw [l3, c3]; rfl) (by rw [c3]; omega), ?_⟩ -- call wqX2_of_2 b10 a2 a1 (F 5103 b4) (F 4803 b7) N F A P14
  intro z16 F17 A18 p14
  obtain ⟨q1, q2, q3⟩ := p14
  refine ⟨_, by exact q1, ?_⟩ -- d23: z16 = (b23 : Int)
  refine ⟨by exact hy.alone.1, ?_⟩ -- s6: jtg N b23 = 3
  refine ⟨_, by exact ha1, ?_⟩ -- d26: a1 = (b26 : Int)
  refine ⟨by exact hr.1.1, ?_⟩ -- s7: jtg N b26 = 4
  refine ⟨_, sX3_like (b := x + 11 + 1) (R := sSayR W c R (sHolds W L c l)) hy.alone.2.2.1 hr.1 q2.2 (sSayR_ok hx.oW hc1 hk) ((hx.fr (hy.scr.mono (by omega) (by omega)) q3).wd) (by omega) (by omega) (by omega), ?_⟩ -- call wqX3_like b26 (jfn N 902 b23) N F17 A18 P29
  intro z31 F32 A33 p29
  obtain ⟨r1, r2, r3⟩ := p29
  refine ⟨_, sX3_isOne r2, ?_⟩ -- call wqX3_isOne b26 N F32 A33 P38
  intro z40 p38
  -- l1: Q z40 F32 A33
  exact ⟨p38, r2, fun a ha hb2 => ⟨fun f => ((r3 a hb2).1 f).trans ((q3 a ha).1 f), (r3 a hb2).2.trans (q3 a ha).2⟩⟩

theorem sX6_lost {o : Nat} {N : jSh} {F : jFl} {A : jAr} (h0 : jfn N 0 o = 1) : wqX6_lost o N F A (fun z F' A' => z = (o : Int) ∧ F' = upF (upF F 2109 o (-1)) 2112 o 0 ∧ A' = A) := by
  unfold wqX6_lost
  refine ⟨by exact h0, ?_⟩ -- s1: jfn N 0 o = 1
  intro F3 e3
  intro F5 e5
  -- l1: Q (o : Int) F5 A
  exact ⟨rfl, by rw [e5, e3], rfl⟩

set_option maxHeartbeats 1000000 in
theorem sX6_meets {o : Nat} {a1 : Int} {a2 : Int} {N : jSh} {F : jFl} {A : jAr} {W L : sTb} {x t : Nat} {wA sA cA lA : Int → Int} {c l : Int} {T k : Nat} (hx : ctx N F A x t W L wA sA cA lA) (hy : lay N x) (ho : o = x + 87) (ha1 : a1 = cA c) (hc1 : 0 ≤ c ∧ c < W 2 0 0) (ha2 : a2 = lA l) (hl : 0 ≤ l ∧ l < W 3 0 0) (hT : T ≤ 1704) (hf : wfst (sToE W c (sHolds W L c l) (sRw L l)) (sToD W c (sHolds W L c l) (sRw L l)) T) (hk : k < T) (hE : sToE W c (sHolds W L c l) (sRw L l) k T) (h12 : F 2112 o = ((T - k : Nat) : Int)) : wqX6_meets o a1 a2 N F A (fun z F' A' => z = (o : Int) ∧ F' 2106 o = (T : Int) ∧ F' 2109 o = (k : Int) ∧ F' 2112 o = ((T - k : Nat) : Int) ∧ frR x F A F' A') := by
  unfold wqX6_meets
  subst ho
  obtain ⟨bl, l1, l2, l3, l4⟩ := hx.lw hl
  have out : bl + 4 < x + 11 ∨ x + 141 ≤ bl := hy.scr.out3 (by have := l2.1; omega)
  have hRk := sRw_ok hx.oL hl
  have hW := hx.oW
  have hwk := sTo_wlk (H := sHolds W L c l) hW hc1 hRk
  have hxk := sTo_ok (H := sHolds W L c l) hW hc1 hRk
  have sc := hy.scr.mono (lo2 := x + 11) (hi2 := x + 92) (by omega) (by omega)
  have p02 : jfn N 2102 (x + 87) = ((x + 88 : Nat) : Int) := hy.2.1 (2102, 87, 88) (by decide)
  have p05 : jfn N 2105 (x + 87) = ((x + 90 : Nat) : Int) := hy.2.1 (2105, 87, 90) (by decide)
  refine ⟨_, by exact ha2.trans l1, ?_⟩ -- d1: a2 = (b1 : Int)
  refine ⟨by exact l2.1, ?_⟩ -- s1: jtg N b1 = 17
  refine ⟨_, by exact p02, ?_⟩ -- d4: jfn N 2102 o = (b4 : Int)
  refine ⟨by exact hy.slow.1, ?_⟩ -- s2: jtg N b4 = 4
  refine ⟨_, sX3_like (b := bl + 3) l2.2.2.2.1 hy.slow l4 hRk hx.wd (by omega) (by omega) (by omega), ?_⟩ -- call wqX3_like b4 (jfn N 5102 b1) N F A P7
  intro z9 F10 A11 p7
  obtain ⟨q1, q2, q3⟩ := p7
  have l4' : rowIs N F10 A11 wA (bl + 3) (sRw L l) := l4.fr q3 (by omega) (by omega)
  refine ⟨_, by exact p05, ?_⟩ -- d16: jfn N 2105 o = (b16 : Int)
  refine ⟨by exact hy.fast.1, ?_⟩ -- s3: jtg N b16 = 4
  refine ⟨_, sX3_like (b := bl + 3) l2.2.2.2.1 hy.fast l4' hRk (hx.fr sc (q3.mono (by omega) (by omega))).wd (by omega) (by omega) (by omega), ?_⟩ -- call wqX3_like b16 (jfn N 5102 b1) N F10 A11 P19
  intro z21 F22 A23 p19
  obtain ⟨r1, r2, r3⟩ := p19
  refine ⟨by exact (hy.1 87 (by decide)).2, ?_⟩ -- s4: jfn N 0 o = 1
  intro F30 e30
  refine ⟨fun (v31 : Int) (F32 : jFl) (A33 : jAr) => ∃ n : Nat, v31 = (n : Int) ∧ n ≤ T - k ∧ rowIs N F32 A33 wA (x + 88) (sTo W c (sHolds W L c l) (sRw L l) 0) ∧ rowIs N F32 A33 wA (x + 90) (sTo W c (sHolds W L c l) (sRw L l) n) ∧ F32 2109 (x + 87) = 0 ∧ F32 2112 (x + 87) = ((T - k : Nat) : Int) ∧ frR x F A F32 A33, fun v31 F32 A33 => (T - k - v31.toNat), ?_, ?_⟩ -- loop I36 I36 0 F30 A23
  ·
    -- l1: I36 0 F30 A23
    refine ⟨0, rfl, by omega, ?_, ?_, by rw [e30, upF_s], ?_, ?_⟩
    · exact (q2.fr r3 (by omega) (by omega)).of (by rw [e30, upF_f (by decide)]) (by rw [e30, upF_f (by decide)]) rfl
    · exact r2.of (by rw [e30, upF_f (by decide)]) (by rw [e30, upF_f (by decide)]) rfl
    · rw [e30, upF_f (by decide), (r3 _ (by omega)).1, (q3 _ (by omega)).1]; exact h12
    · rw [e30]; exact ((q3.R (by omega)).trans (r3.R (by omega))).upF
  intro v31 F32 A33 i36
  obtain ⟨n, i1, i2, i3, i4, i5, i6, i7⟩ := i36
  have hx1 := hx.fr sc i7.fr
  refine ⟨fun hc => ?_, fun hc => ?_⟩ -- c1
  · -- case ((F32 2112 o) ≤ v31)
    refine ⟨fun (F39 : jFl) (A40 : jAr) => ∃ m : Nat, m ≤ k ∧ rowIs N F39 A40 wA (x + 88) (sTo W c (sHolds W L c l) (sRw L l) m) ∧ rowIs N F39 A40 wA (x + 90) (sTo W c (sHolds W L c l) (sRw L l) (m + (T - k))) ∧ F39 2109 (x + 87) = (m : Int) ∧ F39 2112 (x + 87) = ((T - k : Nat) : Int) ∧ frR x F A F39 A40, fun F39 A40 => (k - (F39 2109 (x + 87)).toNat), ?_, ?_⟩ -- loop I43 I43 F32 A33
    ·
      -- l2: I43 F32 A33
      refine ⟨0, by omega, i3, ?_, i5, i6, i7⟩
      rw [show 0 + (T - k) = n by omega]; exact i4
    intro F39 A40 i43
    obtain ⟨m, j1, j2, j3, j4, j5, j6⟩ := i43
    have hx2 := hx.fr sc j6.fr
    have hmu := hwk.mu hf hk hE m
    refine ⟨_, sX3_isLike p05 j2 (hxk m) j3 (hxk _) hx2.wd, ?_⟩ -- call wqX3_isLike b4 (jfn N 2105 o) N F39 A40 P45
    intro z47 p45
    refine ⟨fun hc => ?_, fun hc => ?_⟩ -- c2
    · -- case (¬ z47 = 0)
      refine ⟨by rw [j4, j5]; omega, ?_⟩ -- s5: jR ((F39 2109 o) + (F39 2112 o))
      intro F55 e55
      -- l3: Q (o : Int) F55 A40
      have hkm : k ≤ m := hmu.mp (by
        by_cases a : sAlike (sTo W c (sHolds W L c l) (sRw L l) m) (sTo W c (sHolds W L c l) (sRw L l) (m + (T - k)))
        · exact a
        · rw [cif_neg a] at p45; exact absurd p45 hc)
      refine ⟨rfl, by rw [e55, upF_s, j4, j5]; omega, by rw [e55, upF_f (by decide), j4]; omega, by rw [e55, upF_f (by decide)]; exact j5, by rw [e55]; exact j6.upF⟩
    · -- case (z47 = 0)
      refine ⟨_, sX6_next (l := l) hx2 hy rfl p02 (Or.inl rfl) j2 (hxk m) ha1 hc1 ha2 hl, ?_⟩ -- call wqX6_next o (jfn N 2102 o) a1 a2 N F39 A40 P56
      intro z58 F59 A60 p56
      obtain ⟨s1, s2, s3⟩ := p56
      have fr1 : frR x F39 A40 F59 A60 := fun a ha => s3 a (by omega) (by omega)
      have hx3 := hx.fr sc (j6.trans fr1).fr
      refine ⟨_, sX6_next (l := l) hx3 hy rfl p05 (Or.inr rfl) (j3.of ((s3 _ (by omega) (by omega)).1 _) ((s3 _ (by omega) (by omega)).1 _) (s3 _ (by omega) (by omega)).2) (hxk _) ha1 hc1 ha2 hl, ?_⟩ -- call wqX6_next o (jfn N 2105 o) a1 a2 N F59 A60 P65
      intro z67 F68 A69 p65
      obtain ⟨u1, u2, u3⟩ := p65
      have fr2 : frR x F59 A60 F68 A69 := fun a ha => u3 a (by omega) (by omega)
      have f9 : F68 2109 (x + 87) = (m : Int) := by rw [(u3 _ (by omega) (by omega)).1, (s3 _ (by omega) (by omega)).1, j4]
      refine ⟨by rw [f9]; omega, ?_⟩ -- s6: jR ((F68 2109 o) + 1)
      intro F76 e76
      refine ⟨?_, ?_⟩ -- l4: I43 F76 A69
      · have hkm : m < k := by
          apply Classical.byContradiction
          intro w
          have this : sAlike (sTo W c (sHolds W L c l) (sRw L l) m) (sTo W c (sHolds W L c l) (sRw L l) (m + (T - k))) := hmu.mpr (by omega)
          rw [cif_pos this] at p45; omega
        refine ⟨m + 1, by omega, ?_, ?_, by rw [e76, upF_s, f9]; omega, ?_, by rw [e76]; exact ((j6.trans fr1).trans fr2).upF⟩
        · exact (s2.of (F' := F68) (A' := A69) ((u3 _ (by omega) (by omega)).1 _) ((u3 _ (by omega) (by omega)).1 _) (u3 _ (by omega) (by omega)).2).of (by rw [e76, upF_f (by decide)]) (by rw [e76, upF_f (by decide)]) rfl
        · rw [show m + 1 + (T - k) = m + (T - k) + 1 by omega]
          exact u2.of (by rw [e76, upF_f (by decide)]) (by rw [e76, upF_f (by decide)]) rfl
        · rw [e76, upF_f (by decide), (u3 _ (by omega) (by omega)).1, (s3 _ (by omega) (by omega)).1, j5]
      · have hkm : m < k := by
          apply Classical.byContradiction
          intro w
          have this : sAlike (sTo W c (sHolds W L c l) (sRw L l) m) (sTo W c (sHolds W L c l) (sRw L l) (m + (T - k))) := hmu.mpr (by omega)
          rw [cif_pos this] at p45; omega
        dsimp only; rw [e76, upF_s, f9, j4]; omega
  · -- case (¬ ((F32 2112 o) ≤ v31))
    refine ⟨_, sX6_next (l := l) hx1 hy rfl p05 (Or.inr rfl) i4 (hxk n) ha1 hc1 ha2 hl, ?_⟩ -- call wqX6_next o (jfn N 2105 o) a1 a2 N F32 A33 P77
    intro z79 F80 A81 p77
    obtain ⟨u1, u2, u3⟩ := p77
    have fr2 : frR x F32 A33 F80 A81 := fun a ha => u3 a (by omega) (by omega)
    refine ⟨by omega, ?_⟩ -- s7: jR (v31 + 1)
    refine ⟨?_, ?_⟩ -- l5: I36 (v31 + 1) F80 A81
    · refine ⟨n + 1, by omega, by omega, i3.of ((u3 _ (by omega) (by omega)).1 _) ((u3 _ (by omega) (by omega)).1 _) (u3 _ (by omega) (by omega)).2, u2, by rw [(u3 _ (by omega) (by omega)).1]; exact i5, by rw [(u3 _ (by omega) (by omega)).1]; exact i6, i7.trans fr2⟩
    · dsimp only; omega

/-- two rows go round: the slow one at s, the fast one r ahead -/
def bPv (E : Nat → Nat → Prop) (D : Nat → Prop) (T s r : Nat) : Prop := r ≤ s + 1 ∧ (∀ j, 0 < j → j < r → ¬ E s (s + j)) ∧ (∀ m, m ≤ s + r → ¬ D m) ∧ s + 1 ≤ 2 * T
def bIv (N : jSh) (F : jFl) (A : jAr) (x : Nat) (wA : Int → Int) (X : Nat → sRow) (s r : Nat) : Prop := rowIs N F A wA (x + 88) (X s) ∧ rowIs N F A wA (x + 90) (X (s + r)) ∧ F 2112 (x + 87) = (r : Int) ∧ F 2106 (x + 87) = ((s + r : Nat) : Int)
theorem bPv.last {E : Nat → Nat → Prop} {D : Nat → Prop} {T s r : Nat} (hw : wlk E D) (hf : wfst E D T) (h : bPv E D T s r) (hd : D (s + r + 1)) : s + r + 1 = T ∧ D T := by
  obtain ⟨h1, h2, h3, h4⟩ := h
  have dT : D T := by
    rcases hf.1 with q | ⟨k, k1, k2⟩
    · exact q
    · exact absurd hd (hw.noD hf k1 k2 _)
  refine ⟨?_, dT⟩
  rcases Nat.lt_trichotomy (s + r + 1) T with w | w | w
  · exact absurd hd (hf.2 _ w).1
  · exact w
  · exact absurd dT (h3 _ (by omega))
theorem bPv.found {E : Nat → Nat → Prop} {D : Nat → Prop} {T s r : Nat} (hw : wlk E D) (hf : wfst E D T) (h : bPv E D T s r) (h0 : 0 < r) (he : E s (s + r)) : ∃ k, k < T ∧ E k T ∧ r = T - k := by
  obtain ⟨h1, h2, h3, h4⟩ := h
  rcases hf.1 with q | ⟨k, k1, k2⟩
  · have : s + r < T := by
      apply Classical.byContradiction
      intro w
      exact h3 T (by omega) q
    exact absurd he (hf.ne (by omega) this)
  · exact ⟨k, k1, k2, (hw.lam hf k1 k2 h0 he h2).2⟩
theorem bPv.dbl {E : Nat → Nat → Prop} {D : Nat → Prop} {T s : Nat} (hw : wlk E D) (hf : wfst E D T) (h : bPv E D T s (s + 1)) (he : ¬ E s (s + (s + 1))) : bPv E D T (s + (s + 1)) 0 := by
  obtain ⟨h1, h2, h3, h4⟩ := h
  have hs : s + 1 ≤ T := by
    rcases hf.1 with q | ⟨k, k1, k2⟩
    · apply Classical.byContradiction
      intro w
      exact h3 T (by omega) q
    · have := hw.few hf k1 k2 (s := s) (p := s + 1) (fun i i0 i1 => by
        by_cases w : i = s + 1
        · rw [w]; exact he
        · exact h2 i i0 (by omega))
      omega
  exact ⟨by omega, fun j j0 j1 => by omega, fun m hm => h3 m (by omega), by omega⟩
theorem bPv.next {E : Nat → Nat → Prop} {D : Nat → Prop} {T s r : Nat} (h : bPv E D T s r) (hr : r ≤ s) (he : 0 < r → ¬ E s (s + r)) (hd : ¬ D (s + r + 1)) : bPv E D T s (r + 1) := by
  obtain ⟨h1, h2, h3, h4⟩ := h
  refine ⟨by omega, fun j j0 j1 => ?_, fun m hm => ?_, h4⟩
  · by_cases w : j = r
    · rw [w]; exact he (by omega)
    · exact h2 j j0 (by omega)
  · by_cases w : m = s + r + 1
    · rw [w]; exact hd
    · exact h3 m (by omega)
set_option maxHeartbeats 2000000 in
theorem sX6_of {o : Nat} {a1 : Int} {a2 : Int} {N : jSh} {F : jFl} {A : jAr} {W L : sTb} {x t : Nat} {wA sA cA lA : Int → Int} {c l : Int} (hx : ctx N F A x t W L wA sA cA lA) (hy : lay N x) (ho : o = x + 87) (ha1 : a1 = cA c) (hc1 : 0 ≤ c ∧ c < W 2 0 0) (ha2 : a2 = lA l) (hl : 0 ≤ l ∧ l < W 3 0 0) (hst : 0 < L 2 l 0) : wqX6_of o a1 a2 N F A (fun z F' A' => z = (o : Int) ∧ sRnd W c (sHolds W L c l) (sRw L l) (F' 2106 o) (F' 2109 o) (F' 2112 o) ∧ frR x F A F' A') := by
  unfold wqX6_of
  subst ho
  obtain ⟨bl, l1, l2, l3, l4⟩ := hx.lw hl
  have out : bl + 4 < x + 11 ∨ x + 141 ≤ bl := hy.scr.out3 (by have := l2.1; omega)
  have hRk := sRw_ok hx.oL hl
  have hW := hx.oW
  have hwk := sTo_wlk (H := sHolds W L c l) hW hc1 hRk
  have hxk := sTo_ok (H := sHolds W L c l) hW hc1 hRk
  obtain ⟨T, hT, hf⟩ := sTo_fst (H := sHolds W L c l) hW hc1 hRk
  have sc := hy.scr.mono (lo2 := x + 11) (hi2 := x + 92) (by omega) (by omega)
  have p02 : jfn N 2102 (x + 87) = ((x + 88 : Nat) : Int) := hy.2.1 (2102, 87, 88) (by decide)
  have p05 : jfn N 2105 (x + 87) = ((x + 90 : Nat) : Int) := hy.2.1 (2105, 87, 90) (by decide)
  have o1 : jfn N 0 (x + 87) = 1 := (hy.1 87 (by decide)).2
  have hE0 : ∀ i j, sToE W c (sHolds W L c l) (sRw L l) i j = sAlike (sTo W c (sHolds W L c l) (sRw L l) i) (sTo W c (sHolds W L c l) (sRw L l) j) := fun i j => rfl
  have hD0 : ∀ i, sToD W c (sHolds W L c l) (sRw L l) i ↔ ¬ 0 < (sTo W c (sHolds W L c l) (sRw L l) i).1 := fun i => by
    have g := (hxk i).1
    show (sTo W c (sHolds W L c l) (sRw L l) i).1 = 0 ↔ _
    omega
  have hX : ∀ i, sSayR W c (sTo W c (sHolds W L c l) (sRw L l) i) (sHolds W L c l) = sTo W c (sHolds W L c l) (sRw L l) (i + 1) := fun i => rfl
  have T0 : 0 < T := by
    rcases hf.1 with d | ⟨k, k1, -⟩
    · by_cases w : T = 0
      · rw [w] at d
        have d : L 2 l 0 = 0 := d
        omega
      · omega
    · omega
  have nD0 : ¬ sToD W c (sHolds W L c l) (sRw L l) 0 := fun d => by
    have d : L 2 l 0 = 0 := d
    omega
  refine ⟨_, by exact ha2.trans l1, ?_⟩ -- d1: a2 = (b1 : Int)
  refine ⟨by exact l2.1, ?_⟩ -- s1: jtg N b1 = 17
  refine ⟨_, by exact p02, ?_⟩ -- d4: jfn N 2102 o = (b4 : Int)
  refine ⟨by exact hy.slow.1, ?_⟩ -- s2: jtg N b4 = 4
  refine ⟨_, sX3_like (b := bl + 3) l2.2.2.2.1 hy.slow l4 hRk hx.wd (by omega) (by omega) (by omega), ?_⟩ -- call wqX3_like b4 (jfn N 5102 b1) N F A P7
  intro z9 F10 A11 p7
  obtain ⟨q1, q2, q3⟩ := p7
  have l4' : rowIs N F10 A11 wA (bl + 3) (sRw L l) := l4.fr q3 (by omega) (by omega)
  refine ⟨_, by exact p05, ?_⟩ -- d16: jfn N 2105 o = (b16 : Int)
  refine ⟨by exact hy.fast.1, ?_⟩ -- s3: jtg N b16 = 4
  refine ⟨_, sX3_like (b := bl + 3) l2.2.2.2.1 hy.fast l4' hRk (hx.fr sc (q3.mono (by omega) (by omega))).wd (by omega) (by omega) (by omega), ?_⟩ -- call wqX3_like b16 (jfn N 5102 b1) N F10 A11 P19
  intro z21 F22 A23 p19
  obtain ⟨r1, r2, r3⟩ := p19
  refine ⟨by exact o1, ?_⟩ -- s4: jfn N 0 o = 1
  intro F30 e30
  intro F32 e32
  refine ⟨fun (v33 : Int) (F34 : jFl) (A35 : jAr) => ∃ s r : Nat, v33 = ((s + 1 : Nat) : Int) ∧ bPv (sToE W c (sHolds W L c l) (sRw L l)) (sToD W c (sHolds W L c l) (sRw L l)) T s r ∧ bIv N F34 A35 x wA (sTo W c (sHolds W L c l) (sRw L l)) s r ∧ frR x F A F34 A35, fun v33 F34 A35 => (10000 - (F34 2106 (x + 87)).toNat), ?_, ?_⟩ -- loop I38 I38 1 F32 A23
  ·
    -- l1: I38 1 F32 A23
    refine ⟨0, 0, rfl, ⟨by omega, fun j j0 j1 => by omega, fun m hm => by rw [show m = 0 by omega]; exact nD0, by omega⟩, ⟨?_, ?_, by rw [e32, upF_s]; rfl, by rw [e32, upF_f (by decide), e30, upF_s]; rfl⟩, ?_⟩
    · exact (q2.fr r3 (by omega) (by omega)).of (by rw [e32, upF_f (by decide), e30, upF_f (by decide)]) (by rw [e32, upF_f (by decide), e30, upF_f (by decide)]) rfl
    · exact r2.of (by rw [e32, upF_f (by decide), e30, upF_f (by decide)]) (by rw [e32, upF_f (by decide), e30, upF_f (by decide)]) rfl
    · rw [e32, e30]; exact ((q3.R (by omega)).trans (r3.R (by omega))).upF.upF
  intro v33 F34 A35 i38
  obtain ⟨s, r, i1, i2, ⟨i3, i4, i5, i6⟩, i7⟩ := i38
  have hx1 := hx.fr sc i7.fr
  obtain ⟨b1, b2, b3, b4⟩ := id i2
  refine ⟨fun hc => ?_, fun hc => ?_⟩ -- c1
  · -- case ((F34 2112 o) = 0)
    refine ⟨fun (v42 : Int) (F43 : jFl) (A44 : jAr) => False ∨ (v42 = v33 ∧ F43 = F34 ∧ A44 = A35), ?_, ?_⟩ -- join K47
    · intro v42 F43 A44 k47
      obtain ⟨k1, k2, k3⟩ : v42 = v33 ∧ F43 = F34 ∧ A44 = A35 := by rcases k47 with q | q; exact absurd q id; exact q
      subst k1 k2 k3
      have r0 : r = 0 := by omega
      refine ⟨by rw [i6]; omega, ?_⟩ -- s5: jR ((F43 2106 o) + 1)
      intro F52 e52
      refine ⟨by rw [e52, upF_f (by decide), i5]; omega, ?_⟩ -- s6: jR ((F52 2112 o) + 1)
      intro F55 e55
      have hf5 : ∀ f, f ≠ 2106 → f ≠ 2112 → F55 f (x + 87) = F43 f (x + 87) := fun f h1 h2 => by rw [e55, upF_f h2, e52, upF_f h1]
      have fr5 : frR x F A F55 A44 := by rw [e55, e52]; exact i7.upF.upF
      have i45 : rowIs N F55 A44 wA (x + 90) (sTo W c (sHolds W L c l) (sRw L l) (s + r)) := i4.of (by rw [e55, upF_f (by decide), e52, upF_f (by decide)]) (by rw [e55, upF_f (by decide), e52, upF_f (by decide)]) rfl
      have i35 : rowIs N F55 A44 wA (x + 88) (sTo W c (sHolds W L c l) (sRw L l) s) := i3.of (by rw [e55, upF_f (by decide), e52, upF_f (by decide)]) (by rw [e55, upF_f (by decide), e52, upF_f (by decide)]) rfl
      have g12 : F55 2112 (x + 87) = ((r + 1 : Nat) : Int) := by rw [e55, upF_s, e52, upF_f (by decide), i5]; omega
      have g06 : F55 2106 (x + 87) = ((s + r + 1 : Nat) : Int) := by rw [e55, upF_f (by decide), e52, upF_s, i6]; omega
      refine ⟨_, sX6_next (l := l) (hx.fr sc fr5.fr) hy rfl p05 (Or.inr rfl) i45 (hxk _) ha1 hc1 ha2 hl, ?_⟩ -- call wqX6_next o (jfn N 2105 o) a1 a2 N F55 A44 P56
      intro z58 F59 A60 p56
      obtain ⟨u1, u2, u3⟩ := p56
      rw [hX] at u1 u2
      have fr6 : frR x F A F59 A60 := fr5.trans (fun a ha => u3 a (by omega) (by omega))
      have h12 : F59 2112 (x + 87) = ((r + 1 : Nat) : Int) := by rw [(u3 _ (by omega) (by omega)).1, g12]
      have h06 : F59 2106 (x + 87) = ((s + r + 1 : Nat) : Int) := by rw [(u3 _ (by omega) (by omega)).1, g06]
      have i36 := i35.of (F' := F59) (A' := A60) ((u3 _ (by omega) (by omega)).1 _) ((u3 _ (by omega) (by omega)).1 _) (u3 _ (by omega) (by omega)).2
      refine ⟨fun hc => ?_, fun hc => ?_⟩ -- c2
      · -- case (¬ z58 = 0)
        refine ⟨?_, ?_⟩ -- l2: I38 v42 F59 A60
        · have nD : ¬ sToD W c (sHolds W L c l) (sRw L l) (s + r + 1) := fun d => by
            rw [if_neg ((hD0 _).mp d)] at u1; exact hc u1
          exact ⟨s, r + 1, i1, i2.next (by omega) (fun q => by omega) nD, ⟨i36, u2, h12, by rw [h06]; omega⟩, fr6⟩
        · dsimp only; rw [h06, i6]; omega
      · -- case (z58 = 0)
        refine ⟨_, sX6_lost o1, ?_⟩ -- call wqX6_lost o N F59 A60 P66
        intro z68 F69 A70 p66
        -- l3: Q z68 F69 A70
        obtain ⟨v1, v2, v3⟩ := p66
        subst v3
        have d : sToD W c (sHolds W L c l) (sRw L l) (s + r + 1) := (hD0 _).mpr (fun q => by rw [if_pos q] at u1; omega)
        obtain ⟨eT, dT⟩ := i2.last hwk hf d
        refine ⟨v1, ⟨T, hT, hf, by rw [v2, upF_f (by decide), upF_f (by decide), h06, eT], Or.inl ⟨dT, by rw [v2, upF_f (by decide), upF_s], by rw [v2, upF_s]⟩⟩, by rw [v2]; exact fr6.upF.upF⟩
    refine ⟨fun hc => ?_, fun hc => ?_⟩ -- c3
    · -- case (¬ (F34 2112 o) = v33)
      -- l4: K47 v33 F34 A35
      exact Or.inr ⟨rfl, rfl, rfl⟩
    · -- case ((F34 2112 o) = v33)
      refine ⟨_, sX3_like (b := x + 90) (by exact p05) hy.slow i4 (hxk _) hx1.wd (by omega) (by omega) (by omega), ?_⟩ -- call wqX3_like b4 (jfn N 2105 o) N F34 A35 P75
      intro z77 F78 A79 p75
      refine ⟨by omega, ?_⟩ -- s7: jR (v33 * 2)
      intro v85 e85
      intro F87 e87
      -- l5: K47 v85 F87 A79
      exact Or.inl (by omega)
  · -- case (¬ ((F34 2112 o) = 0))
    refine ⟨_, sX3_isLike p05 i3 (hxk s) i4 (hxk _) hx1.wd, ?_⟩ -- call wqX3_isLike b4 (jfn N 2105 o) N F34 A35 P88
    intro z90 p88
    have r0 : 0 < r := by omega
    have hEz : sToE W c (sHolds W L c l) (sRw L l) s (s + r) ↔ ¬ z90 = 0 := by
      rw [p88, hE0]
      by_cases a : sAlike (sTo W c (sHolds W L c l) (sRw L l) s) (sTo W c (sHolds W L c l) (sRw L l) (s + r))
      · rw [cif_pos a]; exact ⟨fun _ => by decide, fun _ => a⟩
      · rw [cif_neg a]; exact ⟨fun q => absurd q a, fun q => absurd rfl q⟩
    refine ⟨fun hc => ?_, fun hc => ?_⟩ -- c4
    · -- case (¬ z90 = 0)
      obtain ⟨k, k1, k2, k3⟩ := i2.found hwk hf r0 (hEz.mpr hc)
      refine ⟨_, sX6_meets (T := T) (k := k) hx1 hy rfl ha1 hc1 ha2 hl hT (hf) k1 k2 (by rw [i5, k3]), ?_⟩ -- call wqX6_meets o a1 a2 N F34 A35 P96
      intro z98 F99 A100 p96
      -- l6: Q z98 F99 A100
      obtain ⟨u1, u2, u3, u4, u5⟩ := p96
      exact ⟨u1, ⟨T, hT, hf, u2, Or.inr ⟨k, k1, k2, u3, by rw [u4]; omega⟩⟩, i7.trans u5⟩
    · -- case (z90 = 0)
      refine ⟨fun hc => ?_, fun hc => ?_⟩ -- c5
      · -- case (¬ (F34 2112 o) = v33)
        refine ⟨by rw [i6]; omega, ?_⟩ -- s8: jR ((F34 2106 o) + 1)
        intro F108 e108
        refine ⟨by rw [e108, upF_f (by decide), i5]; omega, ?_⟩ -- s9: jR ((F108 2112 o) + 1)
        intro F111 e111
        have hz0 : z90 = 0 := by assumption
        have nE : ¬ sToE W c (sHolds W L c l) (sRw L l) s (s + r) := fun q => (hEz.mp q) hz0
        have fr5 : frR x F A F111 A35 := by rw [e111, e108]; exact i7.upF.upF
        have i45 : rowIs N F111 A35 wA (x + 90) (sTo W c (sHolds W L c l) (sRw L l) (s + r)) := i4.of (by rw [e111, upF_f (by decide), e108, upF_f (by decide)]) (by rw [e111, upF_f (by decide), e108, upF_f (by decide)]) rfl
        have i35 : rowIs N F111 A35 wA (x + 88) (sTo W c (sHolds W L c l) (sRw L l) s) := i3.of (by rw [e111, upF_f (by decide), e108, upF_f (by decide)]) (by rw [e111, upF_f (by decide), e108, upF_f (by decide)]) rfl
        have g12 : F111 2112 (x + 87) = ((r + 1 : Nat) : Int) := by rw [e111, upF_s, e108, upF_f (by decide), i5]; omega
        have g06 : F111 2106 (x + 87) = ((s + r + 1 : Nat) : Int) := by rw [e111, upF_f (by decide), e108, upF_s, i6]; omega
        refine ⟨_, sX6_next (l := l) (hx.fr sc fr5.fr) hy rfl p05 (Or.inr rfl) i45 (hxk _) ha1 hc1 ha2 hl, ?_⟩ -- call wqX6_next o (jfn N 2105 o) a1 a2 N F111 A35 P112
        intro z114 F115 A116 p112
        obtain ⟨u1, u2, u3⟩ := p112
        rw [hX] at u1 u2
        have fr6 : frR x F A F115 A116 := fr5.trans (fun a ha => u3 a (by omega) (by omega))
        have h12 : F115 2112 (x + 87) = ((r + 1 : Nat) : Int) := by rw [(u3 _ (by omega) (by omega)).1, g12]
        have h06 : F115 2106 (x + 87) = ((s + r + 1 : Nat) : Int) := by rw [(u3 _ (by omega) (by omega)).1, g06]
        have i36 := i35.of (F' := F115) (A' := A116) ((u3 _ (by omega) (by omega)).1 _) ((u3 _ (by omega) (by omega)).1 _) (u3 _ (by omega) (by omega)).2
        refine ⟨fun hc => ?_, fun hc => ?_⟩ -- c6
        · -- case (¬ z114 = 0)
          refine ⟨?_, ?_⟩ -- l7: I38 v33 F115 A116
          · have nD : ¬ sToD W c (sHolds W L c l) (sRw L l) (s + r + 1) := fun d => by
              rw [if_neg ((hD0 _).mp d)] at u1; exact hc u1
            exact ⟨s, r + 1, i1, i2.next (by omega) (fun _ => nE) nD, ⟨i36, u2, h12, by rw [h06]; omega⟩, fr6⟩
          · dsimp only; rw [h06, i6]; omega
        · -- case (z114 = 0)
          refine ⟨_, sX6_lost o1, ?_⟩ -- call wqX6_lost o N F115 A116 P122
          intro z124 F125 A126 p122
          -- l8: Q z124 F125 A126
          obtain ⟨v1, v2, v3⟩ := p122
          subst v3
          have d : sToD W c (sHolds W L c l) (sRw L l) (s + r + 1) := (hD0 _).mpr (fun q => by rw [if_pos q] at u1; omega)
          obtain ⟨eT, dT⟩ := i2.last hwk hf d
          refine ⟨v1, ⟨T, hT, hf, by rw [v2, upF_f (by decide), upF_f (by decide), h06, eT], Or.inl ⟨dT, by rw [v2, upF_f (by decide), upF_s], by rw [v2, upF_s]⟩⟩, by rw [v2]; exact fr6.upF.upF⟩
      · -- case ((F34 2112 o) = v33)
        refine ⟨_, sX3_like (b := x + 90) (by exact p05) hy.slow i4 (hxk _) hx1.wd (by omega) (by omega) (by omega), ?_⟩ -- call wqX3_like b4 (jfn N 2105 o) N F34 A35 P131
        intro z133 F134 A135 p131
        obtain ⟨w1, w2, w3⟩ := p131
        have rs : r = s + 1 := by omega
        have i2' := i2
        rw [rs] at i2'
        have bd := i2'.dbl hwk hf (fun q => by
          rw [← rs] at q
          have hz0 : z90 = 0 := by assumption
          exact (hEz.mp q) hz0)
        have i44 := i4.of (F' := F134) (A' := A135) ((w3 _ (by omega)).1 _) ((w3 _ (by omega)).1 _) (w3 _ (by omega)).2
        refine ⟨by omega, ?_⟩ -- s10: jR (v33 * 2)
        intro v141 e141
        intro F143 e143
        have f12 : F143 2112 (x + 87) = 0 := by rw [e143, upF_s]
        have f06 : F143 2106 (x + 87) = ((s + r : Nat) : Int) := by rw [e143, upF_f (by decide), (w3 _ (by omega)).1, i6]
        refine ⟨by rw [f06]; omega, ?_⟩ -- s11: jR ((F143 2106 o) + 1)
        intro F146 e146
        refine ⟨by rw [e146, upF_f (by decide), f12]; omega, ?_⟩ -- s12: jR ((F146 2112 o) + 1)
        intro F149 e149
        have fr5 : frR x F A F149 A135 := by rw [e149, e146, e143]; exact (i7.trans (w3.R (by omega))).upF.upF.upF
        have hr9 : ∀ f, f ≠ 2106 → f ≠ 2112 → ∀ b, F149 f b = F134 f b := fun f h1 h2 b => by rw [e149, upF_f h2, e146, upF_f h1, e143, upF_f h2]
        have i45 : rowIs N F149 A135 wA (x + 90) (sTo W c (sHolds W L c l) (sRw L l) (s + r)) := i44.of (hr9 _ (by decide) (by decide) _) (hr9 _ (by decide) (by decide) _) rfl
        have i35 : rowIs N F149 A135 wA (x + 88) (sTo W c (sHolds W L c l) (sRw L l) (s + r)) := w2.of (hr9 _ (by decide) (by decide) _) (hr9 _ (by decide) (by decide) _) rfl
        have g12 : F149 2112 (x + 87) = ((0 + 1 : Nat) : Int) := by rw [e149, upF_s, e146, upF_f (by decide), f12]; rfl
        have g06 : F149 2106 (x + 87) = ((s + r + 1 : Nat) : Int) := by rw [e149, upF_f (by decide), e146, upF_s, f06]; omega
        refine ⟨_, sX6_next (l := l) (hx.fr sc fr5.fr) hy rfl p05 (Or.inr rfl) i45 (hxk _) ha1 hc1 ha2 hl, ?_⟩ -- call wqX6_next o (jfn N 2105 o) a1 a2 N F149 A135 P150
        intro z152 F153 A154 p150
        obtain ⟨u1, u2, u3⟩ := p150
        rw [hX] at u1 u2
        have fr6 : frR x F A F153 A154 := fr5.trans (fun a ha => u3 a (by omega) (by omega))
        have h12 : F153 2112 (x + 87) = ((0 + 1 : Nat) : Int) := by rw [(u3 _ (by omega) (by omega)).1, g12]
        have h06 : F153 2106 (x + 87) = ((s + r + 1 : Nat) : Int) := by rw [(u3 _ (by omega) (by omega)).1, g06]
        have i36 := i35.of (F' := F153) (A' := A154) ((u3 _ (by omega) (by omega)).1 _) ((u3 _ (by omega) (by omega)).1 _) (u3 _ (by omega) (by omega)).2
        rw [← rs] at bd
        refine ⟨fun hc => ?_, fun hc => ?_⟩ -- c7
        · -- case (¬ z152 = 0)
          refine ⟨?_, ?_⟩ -- l9: I38 v141 F153 A154
          · have nD : ¬ sToD W c (sHolds W L c l) (sRw L l) (s + r + 1) := fun d => by
              rw [if_neg ((hD0 _).mp d)] at u1; exact hc u1
            exact ⟨s + r, 0 + 1, by rw [e141, i1]; omega, bd.next (by omega) (fun q => by omega) nD, ⟨i36, u2, h12, by have := h06; omega⟩, fr6⟩
          · dsimp only; rw [h06, i6]; omega
        · -- case (z152 = 0)
          refine ⟨_, sX6_lost o1, ?_⟩ -- call wqX6_lost o N F153 A154 P160
          intro z162 F163 A164 p160
          -- l10: Q z162 F163 A164
          obtain ⟨v1, v2, v3⟩ := p160
          subst v3
          have d : sToD W c (sHolds W L c l) (sRw L l) (s + r + 1) := (hD0 _).mpr (fun q => by rw [if_pos q] at u1; omega)
          obtain ⟨eT, dT⟩ := bd.last hwk hf d
          refine ⟨v1, ⟨T, hT, hf, by rw [v2, upF_f (by decide), upF_f (by decide), h06]; omega, Or.inl ⟨dT, by rw [v2, upF_f (by decide), upF_s], by rw [v2, upF_s]⟩⟩, by rw [v2]; exact fr6.upF.upF⟩

theorem sX0_round {S : Nat → Nat} {o : Nat} {a1 : Int} {a2 : Int} {a3 : Int} {N : jSh} {F : jFl} {A : jAr} {W L : sTb} {t : Nat} {wA sA cA lA : Int → Int} (hx : ctx N F A o t W L wA sA cA lA) (hy : lay N o) : wqX0_round S o a1 a2 a3 N F A (fun z F' A' => rRound W L a1 a2 a3 z ∧ frR o F A F' A') := by
  unfold wqX0_round
  have hll : ∀ a : Int, 0 ≤ a ∧ a < W 3 0 0 → 0 ≤ lA a := fun a h => by obtain ⟨b, u1, -⟩ := hx.lw h; omega
  have hcc : ∀ a : Int, 0 ≤ a ∧ a < W 2 0 0 → 0 ≤ cA a := fun a h => by obtain ⟨b, u1, -⟩ := hx.ch h; omega
  refine ⟨_, sX0_childOf hx, ?_⟩ -- call wqX0_childOf o a2 N F A P1
  intro z3 p1
  refine ⟨_, sX0_standingOf hx, ?_⟩ -- call wqX0_standingOf o a1 N F A P8
  intro z10 p8
  refine ⟨fun hc => ?_, fun hc => ?_⟩ -- c1
  · -- case (z3 < 0)
    -- l1: Q (-1) F A
    exact ⟨by unfold rRound; rw [if_neg (by grind)], frR.refl _ _ _⟩
  · -- case (¬ (z3 < 0))
    refine ⟨fun hc => ?_, fun hc => ?_⟩ -- c2
    · -- case (z10 < 0)
      -- l2: Q (-1) F A
      exact ⟨by unfold rRound; rw [if_neg (by grind)], frR.refl _ _ _⟩
    · -- case (¬ (z10 < 0))
      refine ⟨_, sX0_isIn, ?_⟩ -- call wqX0_isIn a3 0 2 N F A P17
      intro z19 p17
      refine ⟨fun hc => ?_, fun hc => ?_⟩ -- c3
      · -- case (¬ z19 = 0)
        have h1 : 0 ≤ a2 ∧ a2 < W 2 0 0 := by grind
        have h2 : 0 ≤ a1 ∧ a1 < W 3 0 0 ∧ 0 < L 2 a1 0 := by grind
        have h3 : 0 ≤ a3 ∧ a3 ≤ 2 := by grind
        rw [if_pos h1] at p1
        rw [if_pos h2] at p8
        have eR : ∀ z, (∃ n b r : Int, sRnd W a2 (sHolds W L a2 a1) (sRw L a1) n b r ∧ z = (if a3 = 0 then n else if a3 = 1 then b else r)) → rRound W L a1 a2 a3 z := fun z q => by
          unfold rRound
          rw [if_pos ⟨h1, h2, h3⟩]
          exact q
        refine ⟨_, by exact hy.p338, ?_⟩ -- d25: jfn N 338 o = (b25 : Int)
        refine ⟨by exact (hy.1 87 (by decide)).1, ?_⟩ -- s1: jtg N b25 = 7
        refine ⟨_, sX6_of hx hy rfl p1 h1 p8 ⟨h2.1, h2.2.1⟩ h2.2.2, ?_⟩ -- call wqX6_of b25 z3 z10 N F A P28
        intro z30 F31 A32 p28
        obtain ⟨q1, q2, q3⟩ := p28
        refine ⟨fun hc => ?_, fun hc => ?_⟩ -- c4
        · -- case (¬ a3 = 0)
          refine ⟨fun hc => ?_, fun hc => ?_⟩ -- c5
          · -- case (¬ a3 = 1)
            -- l3: Q (F31 2112 b25) F31 A32
            exact ⟨eR _ ⟨_, _, _, q2, by rw [if_neg (by omega), if_neg (by omega)]⟩, q3⟩
          · -- case (a3 = 1)
            -- l4: Q (F31 2109 b25) F31 A32
            exact ⟨eR _ ⟨_, _, _, q2, by rw [if_neg (by omega), if_pos (by omega)]⟩, q3⟩
        · -- case (a3 = 0)
          -- l5: Q (F31 2106 b25) F31 A32
          exact ⟨eR _ ⟨_, _, _, q2, by rw [if_pos (by omega)]⟩, q3⟩
      · -- case (z19 = 0)
        -- l6: Q (-1) F A
        exact ⟨by unfold rRound; rw [if_neg (by grind)], frR.refl _ _ _⟩

