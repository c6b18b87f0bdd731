set_option maxRecDepth 100000
set_option linter.unusedVariables false
/-! the component's once; printed by gen/prove.py out of spec/a2.conce.spec -/
def frT (x : Nat) (F : jFl) (A : jAr) (F' : jFl) (A' : jAr) : Prop := ∀ a : Nat, (a < x + 11 ∨ (x + 14 ≤ a ∧ a < x + 138) ∨ x + 140 ≤ a) → (∀ f, F' f a = F f a) ∧ A' a = A a
theorem frT.refl (x : Nat) (F : jFl) (A : jAr) : frT x F A F A := fun _ _ => ⟨fun _ => rfl, rfl⟩
theorem frT.trans {x : Nat} {F F' F'' : jFl} {A A' A'' : jAr} (h : frT x F A F' A') (h2 : frT x F' A' F'' A'') : frT x F A F'' A'' := fun a ha => ⟨fun f => ((h2 a ha).1 f).trans ((h a ha).1 f), (h2 a ha).2.trans (h a ha).2⟩
theorem frT.fr {x : Nat} {F F' : jFl} {A A' : jAr} (h : frT x F A F' A') : fr (x + 11) (x + 140) F A F' A' := fun a ha => h a (by omega)
theorem fr.T {x lo hi : Nat} {F F' : jFl} {A A' : jAr} (h : fr lo hi F A F' A') (h1 : x + 11 ≤ lo ∧ hi ≤ x + 14) : frT x F A F' A' := fun a ha => h a (by omega)
theorem frT.upF {x f : Nat} {F F' : jFl} {A A' : jAr} {z : Int} (h : frT x F A F' A') : frT x F A (upF F' f (x + 138) z) A' := fun a ha => ⟨fun g => by rw [upF_a (by omega)]; exact (h a ha).1 g, (h a ha).2⟩
theorem frT.upA {x : Nat} {F F' : jFl} {A A' : jAr} {i z : Int} (h : frT x F A F' A') : frT x F A F' (upA A' (x + 139) i z) := fun a ha => ⟨(h a ha).1, by rw [upA_o (by omega)]; exact (h a ha).2⟩
theorem lay.tried {N : jSh} {x : Nat} (h : lay N x) : rowOk N (x + 138) := h.row (k := 138) (by decide) (by decide) (by decide) (by decide) (by decide)
theorem sOnN_bad {W L : sTb} {c l p w k v : Int} (hk : 0 ≤ k ∧ k < L 2 l 0) (h : sSaid W c v ≠ L 5 l k ∨ (p = k ∧ 0 ≤ p ∧ v ≠ w)) (t : Int → Int) (ht : t k = v) : sOnN W L c l p w t = 0 := by
  unfold sOnN
  refine cif_neg (fun q => ?_)
  rcases h with h | ⟨h1, h2, h3⟩
  · exact h (by rw [← ht]; exact q.1 k hk.1 hk.2)
  · rcases q.2.1 with e | e
    · omega
    · rw [h1, ht] at e; exact h3 e
theorem sX0_isSaidSo {o : Nat} {a1 : Int} {a2 : Int} {N : jSh} {F : jFl} {A : jAr} {W L : sTb} {t : Nat} {wA sA cA lA : Int → Int} {c l : Int} {T : Int → Int} (hx : ctx N F A o t W L wA sA cA lA) (hy : lay N o) (ha1 : a1 = cA c) (hc1 : 0 ≤ c ∧ c < W 2 0 0) (ha2 : a2 = lA l) (hl : 0 ≤ l ∧ l < W 3 0 0) (hT : ∀ k : Int, 0 ≤ k → k < L 2 l 0 → (0 ≤ T k ∧ T k < W 0 0 0) ∧ A (o + 139) k = wA (T k)) : wqX0_isSaidSo o a1 a2 N F A (fun z F' A' => z = cif (sKind W c (L 2 l 0, 0, T) (W 20 c 0) = 3) 0 1 ∧ frT o F A F' A' ∧ A' (o + 139) = A (o + 139)) := by
  unfold wqX0_isSaidSo
  obtain ⟨bl, l1, l2, l3, l4⟩ := hx.lw hl
  obtain ⟨bc, c1, c2⟩ := hx.ch hc1
  have r1 := hx.oL.2.2.2.1 l hl.1 hl.2
  have g20 := hx.oW.2.2.2.2.2.2.2.2.2.1 c hc1.1 hc1.2
  have tc := c2.1.1
  have bcn : bc ≠ o + 138 := fun w => by rw [w, (hy.1 138 (by decide)).1] at tc; exact absurd tc (by decide)
  refine ⟨_, by exact ha2.trans l1, ?_⟩ -- d1: a2 = (b1 : Int)
  refine ⟨by exact l2.1, ?_⟩ -- s1: jtg N b1 = 17
  refine ⟨_, by exact l2.2.2.2.1, ?_⟩ -- d4: jfn N 5102 b1 = (b4 : Int)
  refine ⟨by exact l2.2.2.2.2.1, ?_⟩ -- s2: jtg N b4 = 4
  refine ⟨_, by exact hy.p347, ?_⟩ -- d7: jfn N 347 o = (b7 : Int)
  refine ⟨by exact hy.tried.1, ?_⟩ -- s3: jtg N b7 = 4
  refine ⟨by exact hy.tried.2.1, ?_⟩ -- s4: jfn N 0 b7 = 1
  intro F12 e12
  intro F14 e14
  have f1 : frT o F A F14 A := by rw [e14, e12]; exact ((frT.refl o F A).upF).upF
  have e12' : F (1203) (bl + 3) = L 2 l 0 := l4.2.1
  rw [e12'] at e12
  have hx1 := hx.fr (hy.scr.mono (by omega) (by omega)) f1.fr
  obtain ⟨bc1, c11, c21⟩ := hx1.ch hc1
  have ebc : bc1 = bc := by omega
  subst ebc
  have rI : rowIs N F14 A wA (o + 138) (L 2 l 0, 0, T) := ⟨hy.tried, by rw [e14, upF_f (by decide), e12, upF_s], by rw [e14, upF_s], fun k k0 k1 => (hT k k0 (by have k1 : k < L 2 l 0 + 0 := k1; omega)).2⟩
  have rk : sRok (W 0 0 0) (L 2 l 0, 0, T) := ⟨by show 0 ≤ L 2 l 0 ∧ L 2 l 0 ≤ 8; omega, ⟨Int.le_refl 0, (by decide : (0 : Int) ≤ 4)⟩, fun k k0 k1 => (hT k k0 (by have k1 : k < L 2 l 0 + 0 := k1; omega)).1⟩
  refine ⟨_, by exact ha1.trans c1, ?_⟩ -- d15: a1 = (b15 : Int)
  refine ⟨by exact c2.1.1, ?_⟩ -- s5: jtg N b15 = 16
  refine ⟨_, by exact hy.p326, ?_⟩ -- d18: jfn N 326 o = (b18 : Int)
  refine ⟨by exact hy.alone.1, ?_⟩ -- s6: jtg N b18 = 3
  refine ⟨_, sX2_of_2 (left := W 20 c 0) hy.alone hx1.tx hx1.ft hx1.tt hx1.f6 (ha1.trans c1) c21 hc1 hy.p347 rI rk hx1.wd hx1.oW (by omega) (by rw [c21.2.2.1, if_pos rfl, Int.add_zero]) (by rw [c21.2.2.1]; omega), ?_⟩ -- call wqX2_of_2 b18 a1 (jfn N 347 o) 0 (F14 4803 b15) N F14 A P21
  intro z23 F24 A25 p21
  obtain ⟨q1, q2, q3⟩ := p21
  refine ⟨_, by exact q1, ?_⟩ -- d30: z23 = (b30 : Int)
  refine ⟨by exact hy.alone.1, ?_⟩ -- s7: jtg N b30 = 3
  intro z34 e34
  -- l1: Q z34 F24 A25
  refine ⟨?_, f1.trans (fr.T q3 (by omega)), (q3 _ (by omega)).2⟩
  rw [e34, q2.1]
  by_cases w : sKind W c (L 2 l 0, 0, T) (W 20 c 0) = 3
  · rw [if_pos w, cif_pos w]
  · rw [if_neg w, cif_neg w]

set_option maxHeartbeats 2000000 in
theorem sX0_rows : ∀ (n : Nat) {o : Nat} {a1 : Int} {a2 : Int} {a3 : Int} {a4 : Int} {a5 : Int} {N : jSh} {F : jFl} {A : jAr} {W L : sTb} {t : Nat} {wA sA cA lA : Int → Int} {c l : Int} {T : Int → Int} (hx : ctx N F A o t W L wA sA cA lA) (hy : lay N o) (ha1 : a1 = cA c) (hc1 : 0 ≤ c ∧ c < W 2 0 0) (ha2 : a2 = lA l) (hl : 0 ≤ l ∧ l < W 3 0 0) (hm : 1 ≤ L 2 l 0 ∧ L 2 l 0 ≤ 3) (hk : 0 ≤ a3 ∧ a3 ≤ L 2 l 0 ∧ L 2 l 0 - a3 < n) (ha4 : a4 = -1 ∨ 0 ≤ a4 ∧ a4 < L 2 l 0) (hT : ∀ k : Int, 0 ≤ k → k < a3 → (0 ≤ T k ∧ T k < W 0 0 0) ∧ A (o + 139) k = wA (T k)) (hO : ∀ k : Int, 0 ≤ k → k < a3 → sSaid W c (T k) = L 5 l k ∧ (a4 = k → T k = a5)), wqX0_rows n o a1 a2 a3 a4 a5 N F A (fun z F' A' => z = sS (sOnN W L c l a4 a5) (W 0 0 0) T a3 (L 2 l 0 - a3).toNat ∧ frT o F A F' A' ∧ ∀ k : Int, 0 ≤ k → k < a3 → A' (o + 139) k = A (o + 139) k) := by
  intro n
  induction n with
  | zero =>
    intro o a1 a2 a3 a4 a5 N F A W L t wA sA cA lA c l T hx hy ha1 hc1 ha2 hl hm hk ha4 hT hO
    omega
  | succ n ih =>
    intro o a1 a2 a3 a4 a5 N F A W L t wA sA cA lA c l T hx hy ha1 hc1 ha2 hl hm hk ha4 hT hO
    unfold wqX0_rows
    have w0 := hx.oW.1
    obtain ⟨bl, l1, l2, l3, l4⟩ := hx.lw hl
    obtain ⟨bc, c1, c2⟩ := hx.ch hc1
    have r1 := hx.oL.2.2.2.1 l hl.1 hl.2
    have hRk := sRw_ok hx.oL hl
    have e4 : F 1203 (bl + 3) = L 2 l 0 := l4.2.1
    refine ⟨_, by exact ha2.trans l1, ?_⟩ -- d1: a2 = (b1 : Int)
    refine ⟨by exact l2.1, ?_⟩ -- s1: jtg N b1 = 17
    refine ⟨_, by exact l2.2.2.2.1, ?_⟩ -- d4: jfn N 5102 b1 = (b4 : Int)
    refine ⟨by exact l2.2.2.2.2.1, ?_⟩ -- s2: jtg N b4 = 4
    rw [e4]
    refine ⟨fun hc => ?_, fun hc => ?_⟩ -- c1
    · -- case (¬ a3 = (F 1203 b4))
      have hj : (L 2 l 0 - a3).toNat = (L 2 l 0 - a3 - 1).toNat + 1 := by omega
      have hsr : ∀ w : Int, 0 ≤ sS (sOnN W L c l a4 a5) (W 0 0 0) (upI T a3 w) (a3 + 1) (L 2 l 0 - a3 - 1).toNat ∧ sS (sOnN W L c l a4 a5) (W 0 0 0) (upI T a3 w) (a3 + 1) (L 2 l 0 - a3 - 1).toNat ≤ 576 := fun w => by
        have q := sS_range (g := sOnN W L c l a4 a5) (n := W 0 0 0) (fun _ => sOnN_01) (t := upI T a3 w) (k := a3 + 1) (j := (L 2 l 0 - a3 - 1).toNat)
        have := pw_bound2 (N := (W 0 0 0).toNat) (k := (L 2 l 0 - a3 - 1).toNat) (by omega) (by omega)
        omega
      refine ⟨fun (v8 : Int) (v9 : Int) (F10 : jFl) (A11 : jAr) => (0 ≤ v9 ∧ v9 ≤ W 0 0 0) ∧ v8 = sm v9.toNat (fun w => sS (sOnN W L c l a4 a5) (W 0 0 0) (upI T a3 w) (a3 + 1) (L 2 l 0 - a3 - 1).toNat) ∧ (0 ≤ v8 ∧ v8 ≤ 576 * v9) ∧ frT o F A F10 A11 ∧ ∀ k : Int, 0 ≤ k → k < a3 → A11 (o + 139) k = A (o + 139) k, fun v8 v9 F10 A11 => (W 0 0 0 - v9).toNat, ?_, ?_⟩ -- loop I14 I14 0 0 F A
      ·
        -- l1: I14 0 0 F A
        exact ⟨by omega, rfl, by omega, frT.refl _ _ _, fun _ _ _ => rfl⟩
      intro v8 v9 F10 A11 i14
      obtain ⟨i1, i2, i3, i4, i5⟩ := i14
      have hx1 := hx.fr (hy.scr.mono (by omega) (by omega)) i4.fr
      obtain ⟨bl1, l11, l21, l31, l41⟩ := hx1.lw hl
      have ebl : bl1 = bl := by omega
      subst ebl
      obtain ⟨bc1, c11, c21⟩ := hx1.ch hc1
      have ebc : bc1 = bc := by omega
      subst ebc
      have sc : v9 < W 0 0 0 → sm (v9 + 1).toNat (fun w => sS (sOnN W L c l a4 a5) (W 0 0 0) (upI T a3 w) (a3 + 1) (L 2 l 0 - a3 - 1).toNat) = v8 + sS (sOnN W L c l a4 a5) (W 0 0 0) (upI T a3 v9) (a3 + 1) (L 2 l 0 - a3 - 1).toNat := fun _ => by
        rw [show (v9 + 1).toNat = v9.toNat + 1 by omega, sm_succ, ← i2, show ((v9.toNat : Nat) : Int) = v9 by omega]
      have prune : v9 < W 0 0 0 → (sSaid W c v9 ≠ L 5 l a3 ∨ (a4 = a3 ∧ 0 ≤ a4 ∧ v9 ≠ a5)) → sm (v9 + 1).toNat (fun w => sS (sOnN W L c l a4 a5) (W 0 0 0) (upI T a3 w) (a3 + 1) (L 2 l 0 - a3 - 1).toNat) = v8 := fun q1 q2 => by
        rw [sc q1, sS_none (k0 := a3) (v := v9) (sOnN_bad (by omega) q2) (by omega) upI_s, Int.add_zero]
      refine ⟨_, by exact hx1.ft, ?_⟩ -- d16: F10 311 o = (b16 : Int)
      refine ⟨by exact hx1.tt, ?_⟩ -- s3: jtg N b16 = 2
      refine ⟨_, by exact hx1.nW, ?_⟩ -- d19: jfn N 617 b16 = (b19 : Int)
      refine ⟨by exact hx1.lW.1.1, ?_⟩ -- s4: jtg N b19 = 20
      refine ⟨_, sJ2_size hx1.lW, ?_⟩ -- call wqJ2_size b19 N F10 A11 P22
      intro z24 p22
      subst p22
      refine ⟨fun hc => ?_, fun hc => ?_⟩ -- c2
      · -- case (z24 ≤ v9)
        -- l2: Q v8 F10 A11
        refine ⟨?_, i4, i5⟩
        rw [hj, sS_succ, i2, show v9 = W 0 0 0 by omega]
      · -- case (¬ (z24 ≤ v9))
        have hv : 0 ≤ v9 ∧ v9 < W 0 0 0 := by omega
        have h3 : 0 ≤ a3 ∧ a3 < L 2 l 0 := by omega
        have hsd : 0 ≤ sSaid W c v9 ∧ sSaid W c v9 < W 0 0 0 := sSaid_range hx.oW hc1 hv
        have hL5 : 0 ≤ L 5 l a3 ∧ L 5 l a3 < W 0 0 0 := hRk.2.2 a3 h3.1 (by show a3 < L 2 l 0 + L 3 l 0; omega)
        have ec1 : A11 (bc1 + 4) v9 = wA (sSaid W c v9) := c21.2.2.2.2.2 v9 hv.1 hv.2
        have ec2 : A11 (bl1 + 3 + 1) a3 = wA (L 5 l a3) := l41.2.2.2 a3 h3.1 (by show a3 < L 2 l 0 + L 3 l 0; omega)
        have einj := hx.wd.inj hsd hL5
        obtain ⟨bw, wd1, wd2, -⟩ := hx.wd v9 hv.1 hv.2
        have hT2 : ∀ A59 : jAr, A59 = upA A11 (o + 139) a3 (wA v9) → ∀ k : Int, 0 ≤ k → k < a3 + 1 → (0 ≤ upI T a3 v9 k ∧ upI T a3 v9 k < W 0 0 0) ∧ A59 (o + 139) k = wA (upI T a3 v9 k) := fun A59 e59 k k0 k1 => by
          by_cases w : k = a3
          · rw [w, upI_s, e59, upA_s]; exact ⟨hv, rfl⟩
          · rw [upI_n w, e59, upA_i w, i5 k k0 (by omega)]; exact hT k k0 (by omega)
        have hO2 : sSaid W c v9 = L 5 l a3 → (a4 = a3 → v9 = a5) → ∀ k : Int, 0 ≤ k → k < a3 + 1 → sSaid W c (upI T a3 v9 k) = L 5 l k ∧ (a4 = k → upI T a3 v9 k = a5) := fun s1 s2 k k0 k1 => by
          by_cases w : k = a3
          · rw [w, upI_s]; exact ⟨s1, s2⟩
          · rw [upI_n w]; exact hO k k0 (by omega)
        refine ⟨fun hc => ?_, fun hc => ?_⟩ -- c3
        · -- case (¬ a3 = a4)
          refine ⟨_, by exact ha1.trans c11, ?_⟩ -- d31: a1 = (b31 : Int)
          refine ⟨by exact c21.1.1, ?_⟩ -- s5: jtg N b31 = 16
          refine ⟨_, by exact c21.1.2.2.2.2.2.2.2.1, ?_⟩ -- d34: jfn N 4814 b31 = (b34 : Int)
          refine ⟨by exact c21.1.2.2.2.2.2.2.2.2.1, ?_⟩ -- s6: jtg N b34 = 107
          refine ⟨by (have := c21.1.2.2.2.2.2.2.2.2.2.2; omega), ?_⟩ -- s7: ((0 : Int) ≤ v9 ∧ (v9 : Int) < (jln N b34 : Int))
          refine ⟨_, by exact l21.2.2.2.2.2.2.1, ?_⟩ -- d38: jfn N 1202 b4 = (b38 : Int)
          refine ⟨by exact l21.2.2.2.2.2.2.2.1, ?_⟩ -- s8: jtg N b38 = 107
          refine ⟨by (have := l21.2.2.2.2.2.2.2.2.2; omega), ?_⟩ -- s9: ((0 : Int) ≤ a3 ∧ (a3 : Int) < (jln N b38 : Int))
          rw [ec1, ec2, einj]
          refine ⟨fun hc => ?_, fun hc => ?_⟩ -- c4
          · -- case ((A11 b34 v9 = A11 b38 a3 ∨ (A11 b34 v9 < 0 ∧ A11 b38 a3 < 0)))
            refine ⟨_, by exact hy.p347, ?_⟩ -- d43: jfn N 347 o = (b43 : Int)
            refine ⟨by exact hy.tried.1, ?_⟩ -- s10: jtg N b43 = 4
            refine ⟨_, sJ2_get hx1.lW hv, ?_⟩ -- call wqJ2_get b19 v9 N F10 A11 P46
            intro z48 p46
            refine ⟨by exact jcst_word (p46.trans wd1) wd2, ?_⟩ -- s11: jcst N "ChildSays$Word" z48
            refine ⟨_, by exact hy.tried.2.2.1, ?_⟩ -- d54: jfn N 1202 b43 = (b54 : Int)
            refine ⟨by exact hy.tried.2.2.2.1, ?_⟩ -- s12: jtg N b54 = 107
            refine ⟨by exact hy.tried.2.2.2.2.1, ?_⟩ -- s13: jfn N 0 b54 = 1
            refine ⟨by (have := hy.tried.2.2.2.2.2; omega), ?_⟩ -- s14: ((0 : Int) ≤ a3 ∧ (a3 : Int) < (jln N b54 : Int))
            refine ⟨by (rw [p46]; exact hx.wd.ast hv), ?_⟩ -- s15: jast N "ChildSays$Word" z48
            intro A59 e59
            rw [p46] at e59
            have f2 : frT o F A F10 A59 := by rw [e59]; exact i4.upA
            refine ⟨by omega, ?_⟩ -- s16: jR (a3 + 1)
            refine ⟨_, ih (c := c) (l := l) (T := upI T a3 v9) (hx.fr (hy.scr.mono (by omega) (by omega)) f2.fr) hy ha1 hc1 ha2 hl hm (by omega) ha4 (hT2 A59 e59) (hO2 hc (fun w => absurd w.symm (by assumption))), ?_⟩ -- call wqX0_rows n o a1 a2 (a3 + 1) a4 a5 N F10 A59 P63
            intro z65 F66 A67 p63
            obtain ⟨n1, n2, n3⟩ := p63
            rw [show L 2 l 0 - (a3 + 1) = L 2 l 0 - a3 - 1 by omega] at n1
            have nr := hsr v9
            rw [← n1] at nr
            refine ⟨by omega, ?_⟩ -- s17: jR (v8 + z65)
            intro v73 e73
            refine ⟨by omega, ?_⟩ -- s18: jR (v9 + 1)
            refine ⟨?_, ?_⟩ -- l3: I14 v73 (v9 + 1) F66 A67
            · refine ⟨by omega, ?_, by omega, f2.trans n2, fun k k0 k1 => ?_⟩
              · rw [sc hv.2, e73, ← n1]
              · rw [n3 k k0 (by omega), e59, upA_i (by omega)]; exact i5 k k0 k1
            · dsimp only; omega
          · -- case (¬ ((A11 b34 v9 = A11 b38 a3 ∨ (A11 b34 v9 < 0 ∧ A11 b38 a3 < 0))))
            refine ⟨by omega, ?_⟩ -- s19: jR (v9 + 1)
            refine ⟨?_, ?_⟩ -- l4: I14 v8 (v9 + 1) F10 A11
            · exact ⟨by omega, (prune hv.2 (Or.inl hc)).symm, by omega, i4, i5⟩
            · dsimp only; omega
        · -- case (a3 = a4)
          refine ⟨fun hc => ?_, fun hc => ?_⟩ -- c5
          · -- case (¬ v9 = a5)
            refine ⟨by omega, ?_⟩ -- s20: jR (v9 + 1)
            refine ⟨?_, ?_⟩ -- l5: I14 v8 (v9 + 1) F10 A11
            · exact ⟨by omega, (prune hv.2 (Or.inr ⟨by omega, by omega, hc⟩)).symm, by omega, i4, i5⟩
            · dsimp only; omega
          · -- case (v9 = a5)
            refine ⟨_, by exact ha1.trans c11, ?_⟩ -- d78: a1 = (b78 : Int)
            refine ⟨by exact c21.1.1, ?_⟩ -- s21: jtg N b78 = 16
            refine ⟨_, by exact c21.1.2.2.2.2.2.2.2.1, ?_⟩ -- d81: jfn N 4814 b78 = (b81 : Int)
            refine ⟨by exact c21.1.2.2.2.2.2.2.2.2.1, ?_⟩ -- s22: jtg N b81 = 107
            refine ⟨by (have := c21.1.2.2.2.2.2.2.2.2.2.2; omega), ?_⟩ -- s23: ((0 : Int) ≤ v9 ∧ (v9 : Int) < (jln N b81 : Int))
            refine ⟨_, by exact l21.2.2.2.2.2.2.1, ?_⟩ -- d85: jfn N 1202 b4 = (b85 : Int)
            refine ⟨by exact l21.2.2.2.2.2.2.2.1, ?_⟩ -- s24: jtg N b85 = 107
            refine ⟨by (have := l21.2.2.2.2.2.2.2.2.2; omega), ?_⟩ -- s25: ((0 : Int) ≤ a3 ∧ (a3 : Int) < (jln N b85 : Int))
            rw [ec1, ec2, einj]
            refine ⟨fun hc => ?_, fun hc => ?_⟩ -- c6
            · -- case ((A11 b81 v9 = A11 b85 a3 ∨ (A11 b81 v9 < 0 ∧ A11 b85 a3 < 0)))
              refine ⟨_, by exact hy.p347, ?_⟩ -- d90: jfn N 347 o = (b90 : Int)
              refine ⟨by exact hy.tried.1, ?_⟩ -- s26: jtg N b90 = 4
              refine ⟨_, sJ2_get hx1.lW hv, ?_⟩ -- call wqJ2_get b19 v9 N F10 A11 P93
              intro z95 p93
              refine ⟨by exact jcst_word (p93.trans wd1) wd2, ?_⟩ -- s27: jcst N "ChildSays$Word" z95
              refine ⟨_, by exact hy.tried.2.2.1, ?_⟩ -- d101: jfn N 1202 b90 = (b101 : Int)
              refine ⟨by exact hy.tried.2.2.2.1, ?_⟩ -- s28: jtg N b101 = 107
              refine ⟨by exact hy.tried.2.2.2.2.1, ?_⟩ -- s29: jfn N 0 b101 = 1
              refine ⟨by (have := hy.tried.2.2.2.2.2; omega), ?_⟩ -- s30: ((0 : Int) ≤ a3 ∧ (a3 : Int) < (jln N b101 : Int))
              refine ⟨by (rw [p93]; exact hx.wd.ast hv), ?_⟩ -- s31: jast N "ChildSays$Word" z95
              intro A106 e106
              rw [p93] at e106
              have f2 : frT o F A F10 A106 := by rw [e106]; exact i4.upA
              refine ⟨by omega, ?_⟩ -- s32: jR (a3 + 1)
              refine ⟨_, ih (c := c) (l := l) (T := upI T a3 v9) (hx.fr (hy.scr.mono (by omega) (by omega)) f2.fr) hy ha1 hc1 ha2 hl hm (by omega) ha4 (hT2 A106 e106) (hO2 hc (fun w => by assumption)), ?_⟩ -- call wqX0_rows n o a1 a2 (a3 + 1) a4 a5 N F10 A106 P110
              intro z112 F113 A114 p110
              obtain ⟨n1, n2, n3⟩ := p110
              rw [show L 2 l 0 - (a3 + 1) = L 2 l 0 - a3 - 1 by omega] at n1
              have nr := hsr v9
              rw [← n1] at nr
              refine ⟨by omega, ?_⟩ -- s33: jR (v8 + z112)
              intro v120 e120
              refine ⟨by omega, ?_⟩ -- s34: jR (v9 + 1)
              refine ⟨?_, ?_⟩ -- l6: I14 v120 (v9 + 1) F113 A114
              · refine ⟨by omega, ?_, by omega, f2.trans n2, fun k k0 k1 => ?_⟩
                · rw [sc hv.2, e120, ← n1]
                · rw [n3 k k0 (by omega), e106, upA_i (by omega)]; exact i5 k k0 k1
              · dsimp only; omega
            · -- case (¬ ((A11 b81 v9 = A11 b85 a3 ∨ (A11 b81 v9 < 0 ∧ A11 b85 a3 < 0))))
              refine ⟨by omega, ?_⟩ -- s35: jR (v9 + 1)
              refine ⟨?_, ?_⟩ -- l7: I14 v8 (v9 + 1) F10 A11
              · exact ⟨by omega, (prune hv.2 (Or.inl hc)).symm, by omega, i4, i5⟩
              · dsimp only; omega
    · -- case (a3 = (F 1203 b4))
      refine ⟨_, sX0_isSaidSo (T := T) hx hy ha1 hc1 ha2 hl (fun k k0 k1 => hT k k0 (by omega)), ?_⟩ -- call wqX0_isSaidSo o a1 a2 N F A P123
      intro z125 F126 A127 p123
      obtain ⟨q1, q2, q3⟩ := p123
      intro z133 e133
      -- l8: Q z133 F126 A127
      refine ⟨?_, q2, fun k _ _ => by rw [q3]⟩
      rw [show (L 2 l 0 - a3).toNat = 0 by omega, sS_zero]
      refine sOnN_at ?_
      by_cases w : sKind W c (L 2 l 0, 0, T) (W 20 c 0) = 3
      · refine Or.inr ⟨?_, fun x => x.2.2 w⟩
        rw [e133, q1, cif_pos w]; rfl
      · refine Or.inl ⟨?_, fun k k0 k1 => (hO k k0 (by omega)).1, ?_, w⟩
        · rw [e133, q1, cif_neg w]; rfl
        · rcases ha4 with x | x
          · exact Or.inl x
          · exact Or.inr ((hO a4 x.1 (by omega)).2 rfl)

theorem sX0_once {o : Nat} {a1 : Int} {a2 : Int} {a3 : Int} {a4 : Int} {N : jSh} {F : jFl} {A : jAr} {W L : sTb} {t : Nat} {wA sA cA lA : Int → Int} (hx : ctx N F A o t W L wA sA cA lA) (hy : lay N o) : wqX0_once o a1 a2 a3 a4 N F A (fun z F' A' => z = rOnce W L a1 a2 a3 a4 ∧ frT o F A F' A') := by
  unfold wqX0_once
  have hll : ∀ a : Int, 0 ≤ a ∧ a < W 3 0 0 → 0 ≤ lA a := fun a h => by obtain ⟨b, u1, -⟩ := hx.lw h; omega
  have hcc : ∀ a : Int, 0 ≤ a ∧ a < W 2 0 0 → 0 ≤ cA a := fun a h => by obtain ⟨b, u1, -⟩ := hx.ch h; omega
  have hww : ∀ a : Int, 0 ≤ a ∧ a < W 0 0 0 → 0 ≤ wA a := fun a h => by obtain ⟨b, u1, -⟩ := hx.wd a h.1 h.2; omega
  have w3 := hx.oW.2.2.2.1
  have bad : ¬ rOnceC W L a1 a2 a3 a4 → (-1 : Int) = rOnce W L a1 a2 a3 a4 ∧ frT o F A F A := fun q => by
    unfold rOnce
    rw [cif_neg q]
    exact ⟨rfl, frT.refl _ _ _⟩
  refine ⟨_, sX0_childOf hx, ?_⟩ -- call wqX0_childOf o a2 N F A P1
  intro z3 p1
  refine ⟨_, sX0_standingOf hx, ?_⟩ -- call wqX0_standingOf o a1 N F A P8
  intro z10 p8
  refine ⟨fun hc => ?_, fun hc => ?_⟩ -- c1
  · -- case (z3 < 0)
    -- l1: Q (-1) F A
    exact bad (by unfold rOnceC; grind)
  · -- case (¬ (z3 < 0))
    refine ⟨fun hc => ?_, fun hc => ?_⟩ -- c2
    · -- case (z10 < 0)
      -- l2: Q (-1) F A
      exact bad (by unfold rOnceC; grind)
    · -- case (¬ (z10 < 0))
      have h1 : 0 ≤ a2 ∧ a2 < W 2 0 0 := by grind
      have h2 : 0 ≤ a1 ∧ a1 < W 3 0 0 ∧ 0 < L 2 a1 0 := by grind
      have hl : 0 ≤ a1 ∧ a1 < W 3 0 0 := by omega
      rw [if_pos h1] at p1
      rw [if_pos h2] at p8
      obtain ⟨bl, l1, l2, l3, l4⟩ := hx.lw hl
      have e4 : F 1203 (bl + 3) = L 2 a1 0 := l4.2.1
      refine ⟨_, by exact p8.trans l1, ?_⟩ -- d17: z10 = (b17 : Int)
      refine ⟨by exact l2.1, ?_⟩ -- s1: jtg N b17 = 17
      refine ⟨_, by exact l2.2.2.2.1, ?_⟩ -- d20: jfn N 5102 b17 = (b20 : Int)
      refine ⟨by exact l2.2.2.2.2.1, ?_⟩ -- s2: jtg N b20 = 4
      rw [e4]
      refine ⟨fun hc => ?_, fun hc => ?_⟩ -- c3
      · -- case (3 < (F 1203 b20))
        -- l3: Q (-1) F A
        exact bad (by unfold rOnceC; omega)
      · -- case (¬ (3 < (F 1203 b20)))
        refine ⟨fun hc => ?_, fun hc => ?_⟩ -- c4
        · -- case (a3 = (-1))
          refine ⟨_, by exact (by decide : 60 ≤ 60), ?_⟩ -- d28: fu28 ≤ 60
          refine ⟨_, sX0_rows 60 (c := a2) (l := a1) (T := fun _ => 0) hx hy p1 h1 p8 hl (by omega) (by omega) (Or.inl (by assumption)) (fun k k0 k1 => by omega) (fun k k0 k1 => by omega), ?_⟩ -- call wqX0_rows fu28 o z3 z10 0 a3 a4 N F A P25
          intro z27 F29 A30 p25
          -- l4: Q z27 F29 A30
          refine ⟨?_, p25.2.1⟩
          rw [p25.1, show L 2 a1 0 - 0 = L 2 a1 0 by omega]
          exact (cif_pos ⟨⟨h1, h2⟩, by omega, Or.inl (by assumption)⟩).symm
        · -- case (¬ (a3 = (-1)))
          refine ⟨by omega, ?_⟩ -- s3: jR ((F 1203 b20) - 1)
          refine ⟨_, sX0_isIn, ?_⟩ -- call wqX0_isIn a3 0 ((F 1203 b20) - 1) N F A P36
          intro z38 p36
          refine ⟨fun hc => ?_, fun hc => ?_⟩ -- c5
          · -- case (z38 = 0)
            -- l5: Q (-1) F A
            exact bad (by unfold rOnceC; grind)
          · -- case (¬ (z38 = 0))
            refine ⟨_, sX0_wordOf hx, ?_⟩ -- call wqX0_wordOf o a4 N F A P44
            intro z46 p44
            refine ⟨fun hc => ?_, fun hc => ?_⟩ -- c6
            · -- case (¬ z46 < 0)
              have h5 : 0 ≤ a4 ∧ a4 < W 0 0 0 := by grind
              have h6 : 0 ≤ a3 ∧ a3 ≤ L 2 a1 0 - 1 := by grind
              refine ⟨_, by exact (by decide : 60 ≤ 60), ?_⟩ -- d55: fu55 ≤ 60
              refine ⟨_, sX0_rows 60 (c := a2) (l := a1) (T := fun _ => 0) hx hy p1 h1 p8 hl (by omega) (by omega) (Or.inr (by omega)) (fun k k0 k1 => by omega) (fun k k0 k1 => by omega), ?_⟩ -- call wqX0_rows fu55 o z3 z10 0 a3 a4 N F A P52
              intro z54 F56 A57 p52
              -- l6: Q z54 F56 A57
              refine ⟨?_, p52.2.1⟩
              rw [p52.1, show L 2 a1 0 - 0 = L 2 a1 0 by omega]
              exact (cif_pos ⟨⟨h1, h2⟩, by omega, Or.inr ⟨h6, h5⟩⟩).symm
            · -- case (z46 < 0)
              -- l7: Q (-1) F A
              exact bad (by unfold rOnceC; grind)

