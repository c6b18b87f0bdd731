set_option maxRecDepth 100000
set_option linter.unusedVariables false
/-! the component's reader: what children say, a town; printed by gen/prove.py out of spec/b6.ct7.spec -/
theorem sX15_nearest {o : Nat} {a1 : Int} {a2 : Int} {N : jSh} {F : jFl} {A : jAr} {h : Nat} {W : sTb} {wA : Int → Int} {c hd : Int} (h1 : a2 = (h : Int)) (hh : jtg N h = 2 ∧ jfn N 617 h = ((h + 1 : Nat) : Int)) (hl : jli N F A (h + 1) (W 0 0 0) wA) (hw : wds N F W wA) (hm : F 606 h = W 5 0 0) (hW : sWok W) (hc1 : 0 ≤ c ∧ c < W 2 0 0) (ho : chOk N c o) (hA : ∀ w : Int, 0 ≤ w → w < W 0 0 0 → A (o + 3) w = W 21 c w) (ha1 : a1 = wA hd) (hd1 : 0 ≤ hd ∧ hd < W 0 0 0) : wqX15_nearest o a1 a2 N F A (fun z => z = wA (if W 21 c hd = 1 then hd else (sNear W c hd (W 0 0 0).toNat).1)) := by
  unfold wqX15_nearest
  obtain ⟨bw, x1, x2, x3, x4, -⟩ := hw _ hd1.1 hd1.2
  have w0 := hW.1
  have w5 := hW.2.2.2.2.2.1
  have k21 := fun w (a : 0 ≤ w) (b : w < W 0 0 0) => hW.2.2.2.2.2.2.2.2.2.2 c w hc1.1 hc1.2 a b
  obtain ⟨o1, o2, o3, o4, o5, o6, o7, -⟩ := ho
  refine ⟨_, by exact ha1.trans x1, ?_⟩ -- d1: a1 = (b1 : Int)
  refine ⟨by exact x2, ?_⟩ -- s1: jtg N b1 = 14
  refine ⟨_, by exact o4, ?_⟩ -- d4: jfn N 4811 o = (b4 : Int)
  refine ⟨by exact o5, ?_⟩ -- s2: jtg N b4 = 105
  refine ⟨by (rw [x4, o7]; omega), ?_⟩ -- s3: ((0 : Int) ≤ jfn N 3903 b1 ∧ (jfn N 3903 b1 : Int) < (jln N b4 : Int))
  rw [x4, hA hd hd1.1 hd1.2]
  refine ⟨fun hc => ?_, fun hc => ?_⟩ -- c1
  · -- case ((A b4 (jfn N 3903 b1)) = 0)
    refine ⟨_, by exact h1, ?_⟩ -- d9: a2 = (b9 : Int)
    refine ⟨by exact hh.1, ?_⟩ -- s4: jtg N b9 = 2
    refine ⟨by (rw [hm]; omega), ?_⟩ -- s5: jR ((F 606 b9) - 1)
    intro v13 e13
    refine ⟨fun (v14 : Int) (v15 : Int) (v16 : Int) => (0 ≤ v16 ∧ v16 ≤ W 0 0 0) ∧ ∃ p : Int × Int, sNear W c hd v16.toNat = p ∧ v14 = wA p.1 ∧ v15 = p.2 ∧ 0 ≤ p.1 ∧ p.1 < W 0 0 0, fun v14 v15 v16 => (W 0 0 0 - v16).toNat, ?_, ?_⟩ -- loop I18 I18 a1 v13 0
    ·
      -- l1: I18 a1 v13 0
      exact ⟨by omega, (hd, W 5 0 0 - 1), rfl, ha1, by rw [e13, hm], hd1⟩
    intro v14 v15 v16 i18
    obtain ⟨i1, p, i2, i3, i4, i5⟩ := i18
    refine ⟨_, by exact hh.2, ?_⟩ -- d20: jfn N 617 b9 = (b20 : Int)
    refine ⟨by exact hl.1.1, ?_⟩ -- s6: jtg N b20 = 20
    refine ⟨_, sJ2_size hl, ?_⟩ -- call wqJ2_size b20 N F A P23
    intro z25 p23
    refine ⟨fun hc => ?_, fun hc => ?_⟩ -- c2
    · -- case (z25 ≤ v16)
      -- l2: Q v14
      have e : v16 = W 0 0 0 := by omega
      rw [if_neg (by omega), ← e, i2]
      exact i3
    · -- case (¬ (z25 ≤ v16))
      refine ⟨_, sJ2_get hl (by omega), ?_⟩ -- call wqJ2_get b20 v16 N F A P31
      intro z33 p31
      obtain ⟨b9, y1, y2, -⟩ := hw v16 i1.1 (by omega)
      have st : sNear W c hd (v16 + 1).toNat = sNearF W c hd v16 p := by
        rw [← i2]; exact it_succ _ _ i1.1
      have kv := k21 v16 i1.1 (by omega)
      refine ⟨by exact jcst_word (p31.trans y1) y2, ?_⟩ -- s7: jcst N "ChildSays$Word" z33
      refine ⟨by (rw [o7]; omega), ?_⟩ -- s8: ((0 : Int) ≤ v16 ∧ (v16 : Int) < (jln N b4 : Int))
      rw [hA v16 i1.1 (by omega)]
      refine ⟨fun hc => ?_, fun hc => ?_⟩ -- c3
      · -- case ((A b4 v16) = 0)
        refine ⟨by omega, ?_⟩ -- s9: jR (v16 + 1)
        refine ⟨?_, ?_⟩ -- l3: I18 v14 v15 (v16 + 1)
        · refine ⟨by omega, p, ?_, i3, i4, i5⟩
          rw [st]
          exact if_neg (by omega)
        · dsimp only; omega
      · -- case (¬ ((A b4 v16) = 0))
        refine ⟨_, by exact p31.trans y1, ?_⟩ -- d42: z33 = (b42 : Int)
        refine ⟨by exact y2, ?_⟩ -- s10: jtg N b42 = 14
        refine ⟨_, sX13_alike hw y1 (by omega) ha1 hd1, ?_⟩ -- call wqX13_alike b42 a1 N F A P45
        intro z47 p45
        refine ⟨fun hc => ?_, fun hc => ?_⟩ -- c4
        · -- case (v15 < z47)
          refine ⟨_, sX13_alike hw y1 (by omega) ha1 hd1, ?_⟩ -- call wqX13_alike b42 a1 N F A P53
          intro z55 p53
          refine ⟨by omega, ?_⟩ -- s11: jR (v16 + 1)
          refine ⟨?_, ?_⟩ -- l4: I18 z33 z55 (v16 + 1)
          · refine ⟨by omega, (v16, sLikes W v16 hd), ?_, p31, p53, by show 0 ≤ v16; omega, by show v16 < _; omega⟩
            rw [st]
            exact (if_pos (by omega)).trans (if_pos (by omega))
          · dsimp only; omega
        · -- case (¬ (v15 < z47))
          refine ⟨by omega, ?_⟩ -- s12: jR (v16 + 1)
          refine ⟨?_, ?_⟩ -- l5: I18 v14 v15 (v16 + 1)
          · refine ⟨by omega, p, ?_, i3, i4, i5⟩
            rw [st]
            exact (if_pos (by omega)).trans (if_neg (by omega))
          · dsimp only; omega
  · -- case (¬ ((A b4 (jfn N 3903 b1)) = 0))
    -- l6: Q a1
    have : W 21 c hd = 1 := by have := k21 hd hd1.1 hd1.2; omega
    rw [if_pos this]
    exact ha1

theorem sX15_learns {o : Nat} {a1 : Int} {N : jSh} {F : jFl} {A : jAr} {h : Nat} {W : sTb} {wA sA : Int → Int} {c : Int} (h1 : a1 = (h : Int)) (hh : jtg N h = 2 ∧ jfn N 617 h = ((h + 1 : Nat) : Int)) (hl : jli N F A (h + 1) (W 0 0 0) wA) (hw : wds N F W wA) (hm : F 606 h = W 5 0 0) (hW : sWok W) (hc1 : 0 ≤ c ∧ c < W 2 0 0) (ho : chOk N c o) (hA : ∀ w : Int, 0 ≤ w → w < W 0 0 0 → A (o + 3) w = W 21 c w) (hs : ∀ s : Int, 0 ≤ s → s < W 1 0 0 → ∃ b : Nat, sA s = (b : Int) ∧ stIs N A W wA s b) (hst : jfn N 4802 o = sA (W 19 c 0)) : wqX15_learns o a1 N F A (fun F' A' => F' = F ∧ (∀ a, a ≠ o + 4 → A' a = A a) ∧ ∀ w : Int, 0 ≤ w → w < W 0 0 0 → A' (o + 4) w = wA (sSaid W c w)) := by
  unfold wqX15_learns
  have w0 := hW.1
  have g1 := hW.2.2.2.2.2.2.2.2.2.1 c hc1.1 hc1.2
  obtain ⟨bs, s1, s2⟩ := hs _ g1.1.1 g1.1.2
  obtain ⟨o1, o2, o3, o4, o5, o6, o7, o8, o9, o10, o11⟩ := id ho
  have bs3 : bs + 3 ≠ o + 4 := fun w => by
    have e : bs + 2 = o + 3 := by omega
    have := s2.1.2.2.2.2.2.2.2
    rw [e, o5] at this; omega
  refine ⟨fun (v1 : Int) (A2 : jAr) => (0 ≤ v1 ∧ v1 ≤ W 0 0 0) ∧ (∀ a, a ≠ o + 4 → A2 a = A a) ∧ ∀ w : Int, 0 ≤ w → w < v1 → A2 (o + 4) w = wA (sSaid W c w), fun v1 A2 => (W 0 0 0 - v1).toNat, ?_, ?_⟩ -- loop I5 I5 0 A
  ·
    -- l1: I5 0 A
    exact ⟨by omega, fun _ _ => rfl, fun w a b => by omega⟩
  intro v1 A2 i5
  obtain ⟨i1, i2, i3⟩ := i5
  have hl2 : jli N F A2 (h + 1) (W 0 0 0) wA := by
    obtain ⟨q1, q2, q3, b, q4, q5, q6, q7, ⟨q8, q9, q10⟩, q11⟩ := hl
    have nb : b ≠ o + 4 := fun w => by rw [w, o9] at q5; omega
    exact ⟨q1, q2, q3, b, q4, q5, q6, by rw [i2 b nb]; exact q7, ⟨q8, q9, by rw [i2 b nb]; exact q10⟩, q11⟩
  have s3 : stIs N A2 W wA (W 19 c 0) bs := ⟨s2.1, by rw [i2 _ bs3]; exact s2.2⟩
  refine ⟨_, by exact h1, ?_⟩ -- d7: a1 = (b7 : Int)
  refine ⟨by exact hh.1, ?_⟩ -- s1: jtg N b7 = 2
  refine ⟨_, by exact hh.2, ?_⟩ -- d10: jfn N 617 b7 = (b10 : Int)
  refine ⟨by exact hl.1.1, ?_⟩ -- s2: jtg N b10 = 20
  refine ⟨_, sJ2_size hl2, ?_⟩ -- call wqJ2_size b10 N F A2 P13
  intro z15 p13
  refine ⟨fun hc => ?_, fun hc => ?_⟩ -- c1
  · -- case (z15 ≤ v1)
    -- l2: Q F A2
    exact ⟨rfl, i2, fun w a b => i3 w a (by omega)⟩
  · -- case (¬ (z15 ≤ v1))
    refine ⟨_, sJ2_get hl2 (by omega), ?_⟩ -- call wqJ2_get b10 v1 N F A2 P21
    intro z23 p21
    obtain ⟨bw, y1, y2, -⟩ := hw v1 i1.1 (by omega)
    have hr := sHeard_range (c := c) hW hc1 (w := v1) (by omega)
    refine ⟨by exact jcst_word (p21.trans y1) y2, ?_⟩ -- s3: jcst N "ChildSays$Word" z23
    refine ⟨_, by exact hst.trans s1, ?_⟩ -- d29: jfn N 4802 o = (b29 : Int)
    refine ⟨by exact s2.1.1, ?_⟩ -- s4: jtg N b29 = 15
    refine ⟨_, sX14_heard (c := c) (w := v1) hw s3 rfl g1.1 (by omega) p21 hW, ?_⟩ -- call wqX14_heard b29 z23 N F A2 P32
    intro z34 p32
    refine ⟨_, sX15_nearest h1 hh hl2 hw hm hW hc1 ho (fun w a b => by rw [i2 _ (by omega)]; exact hA w a b) p32 hr, ?_⟩ -- call wqX15_nearest o z34 a1 N F A2 P39
    intro z41 p39
    have said : z41 = wA (sSaid W c v1) := p39
    have sr := sSaid_range (c := c) hW hc1 (w := v1) (by omega)
    refine ⟨_, by exact o8, ?_⟩ -- d46: jfn N 4814 o = (b46 : Int)
    refine ⟨by exact o9, ?_⟩ -- s5: jtg N b46 = 107
    refine ⟨by exact o10, ?_⟩ -- s6: jfn N 0 b46 = 1
    refine ⟨by (rw [o11]; omega), ?_⟩ -- s7: ((0 : Int) ≤ v1 ∧ (v1 : Int) < (jln N b46 : Int))
    refine ⟨by (rw [said]; exact hw.ast sr), ?_⟩ -- s8: jast N "ChildSays$Word" z41
    intro A51 e51
    refine ⟨by omega, ?_⟩ -- s9: jR (v1 + 1)
    refine ⟨?_, ?_⟩ -- l3: I5 (v1 + 1) A51
    · refine ⟨by omega, fun a ha => by rw [e51, upA_o ha]; exact i2 a ha, fun w a b => ?_⟩
      by_cases y : w = v1
      · rw [y, e51, upA_s]; exact said
      · rw [e51, upA_i y]; exact i3 w a (by omega)
    · dsimp only; omega

theorem it_stop {α : Type} {f : Int → α → α} {a : α} {n : Nat} (h : ∀ k : Int, (n : Int) ≤ k → ∀ s, f k s = s) : ∀ m : Nat, it f a (n + m) = it f a n
  | 0 => rfl
  | m + 1 => by
    show f ((n + m : Nat) : Int) (it f a (n + m)) = _
    rw [h _ (by omega), it_stop h m]
theorem sKnown_24 {W L : sTb} {c : Int} (ht : tOk W L) (hc : 0 ≤ c ∧ c < W 2 0 0) : sKnown (w24 W) c = sKnown W c := by
  have t0 := ht.1
  have k21 := ht.2.2.2.2.2.2.2.2.2.2.1
  have e := it_stop (f := fun w (n : Int) => if W 21 c w = 1 then n + 1 else n) (a := (0 : Int)) (n := (W 0 0 0).toNat) (fun k hk s => by
    have := (k21 c k hc.1 hc.2).2 (by omega)
    rw [if_neg (by omega)]) (24 - (W 0 0 0).toNat)
  rw [show (W 0 0 0).toNat + (24 - (W 0 0 0).toNat) = 24 by omega] at e
  exact e
theorem stIs.w {N : jSh} {A : jAr} {W L : sTb} {wA : Int → Int} {s : Int} {b : Nat} (ht : tOk W L) (h : stIs N A (w24 W) wA s b) : stIs N A W wA s b := ⟨h.1, fun w w0 w1 => h.2 w w0 (by have := ht.1; show w < 24; omega)⟩
set_option maxHeartbeats 8000000 in
theorem sX10_town {S : Nat → Nat} {o : Nat} {N : jSh} {F : jFl} {A : jAr} {u M : Int} {x h lo : Nat} {n : Int} {q : Int → Int} {wA sA cA lA : Int → Int} (hO : rdO S u N A o x h n q) (hU : rU F o q n 0) (t : tRd u N F A h sW0 sL0 wA sA cA lA 0) (g : gi S M N F) (hM : M ≤ 700000000) (hlo : lo ≤ o ∧ lo ≤ h ∧ lo ≤ jnx N) (hL : lLo lo N F h) {RR : smR} (hRR : RR = sTn q n) {X : Nat → jSh → jFl → jAr → Prop} (hX : RR.1.1 ≠ 0 → ∀ (b : Nat) (N' : jSh) (F' : jFl) (A' : jAr), flt N' b RR.1 → lf lo N F A N' F' A' → gi S (M + 200) N' F' → (jnx N' ≤ jnx N + 16000 ∧ jsu N' ≤ jsu N + 78000) → X b N' F' A') : wqX10_town S o N F A (fun z N' F' A' => RR.1.1 = 0 ∧ z = (h : Int) ∧ F' 600 h = RR.2.1 ∧ tOk RR.2.2.1 RR.2.2.2 ∧ (∃ wA sA cA lA : Int → Int, twn N' F' A' h RR.2.2.1 RR.2.2.2 wA sA cA lA ∧ nms N' A' u RR.2.2.1 wA sA cA lA) ∧ jli N' F' A' (h + 6) 0 (fun _ => 0) ∧ gi S (M + 200) N' F' ∧ lf lo N F A N' F' A' ∧ (jnx N' ≤ jnx N + 16000 ∧ jsu N' ≤ jsu N + 78000)) (X) := by
  unfold wqX10_town
  have hq := hO.2.2.1
  have tOo := hO.1.1
  have noo : o ≠ h := fun w => by have := t.1.1.1; rw [← w, tOo] at this; omega
  refine ⟨fun (N1 : jSh) (F2 : jFl) (A3 : jAr) => ∃ (f : Nat) (kk pp : Int) (W L : sTb), (tnN q n f kk pp W L = RR ∧ kk + f = 91 ∧ 0 ≤ kk ∧ kk ≤ 90) ∧ tOk W L ∧ rU F2 o q n pp ∧ (∃ wA sA cA lA : Int → Int, tRd u N1 F2 A3 h W L wA sA cA lA kk ∧ loC lo W cA) ∧ rdO S u N1 A3 o x h n q ∧ gi S (M + 2 * kk) N1 F2 ∧ lLo lo N1 F2 h ∧ lf lo N F A N1 F2 A3 ∧ (jnx N1 : Int) + lsum N F h ≤ jnx N + lsum N1 F2 h + 8 * pp + 3 * kk ∧ (jsu N1 : Int) + 4 * lsum N F h ≤ jsu N + 4 * lsum N1 F2 h + 40 * pp + 55 * kk, fun N1 F2 A3 => (n - F2 3306 o).toNat, ?_, ?_⟩ -- loop I6 I6 N F A
  ·
    -- l1: I6 N F A
    exact ⟨91, 0, 0, sW0, sL0, ⟨hRR.symm, by decide, by decide, by decide⟩, tOk_0, hU, ⟨wA, sA, cA, lA, t, fun c c0 c1 => by have c1 : c < 0 := c1; omega⟩, hO, by rw [show M + 2 * 0 = M by omega]; exact g, hL, ⟨nex.refl _, fun _ _ => ⟨fun _ => rfl, rfl⟩⟩, by omega, by omega⟩
  intro N1 F2 A3 i6
  obtain ⟨f, kk, pp, W, L, ⟨st1, st2, st3, st4⟩, tok, U1, ⟨wB, sB, cB, lB, T1, C1⟩, O1, g1, L1, lf1, cx, cs⟩ := i6
  have hp := U1.2.2.1
  have nb1 := O1.2.1.1
  have lo1 : lo ≤ jnx N1 := by have := lf1.1.1; omega
  refine ⟨_, sX10_isMoreR O1 U1, ?_⟩ -- call wqX10_isMore o N1 F2 A3 P9
  intro z11 F12 A13 p9
  obtain ⟨m1, m2, m3, m4⟩ := p9
  subst m1
  have R12 : rfr S o N1 F2 A13 N1 F12 A13 := rfr.own (by rw [O1.1.1]; decide) m4
  have T12 := T1.go R12 O1.1.1 nb1
  have g12 := R12.2.2.2.1 _ g1
  have ls12 := R12.lists (lo := lo) O1.1.1 nb1 T1.2.2.1
  have L12 := ls12.2 L1
  have lf12 := lf1.trans (R12.lf hlo.1 lo1)
  have cap12 := T12.2.2.1.cap
  have hw12 := T12.2.2.2.1
  have ch107 : ∀ c : Int, 0 ≤ c → c < W 2 0 0 → ∃ b : Nat, cB c = (b : Int) ∧ chR N1 F12 A13 W sB c b := T12.2.2.2.2.2.1
  refine ⟨fun hc => ?_, fun hc => ?_⟩ -- c1
  · -- case (z11 = 0)
    have nend : n ≤ tkAt q n pp := Classical.byContradiction (fun w => by rw [if_neg w] at m2; omega)
    rw [tnN_end nend] at st1
    subst st1
    refine ⟨fun (v19 : Int) (F20 : jFl) (A21 : jAr) => (0 ≤ v19 ∧ v19 ≤ W 2 0 0) ∧ F20 = F12 ∧ (∀ a : Nat, (∀ c : Int, 0 ≤ c → c < W 2 0 0 → cB c + 4 ≠ (a : Int)) → A21 a = A13 a) ∧ ∀ c : Int, 0 ≤ c → c < v19 → ∀ w : Int, 0 ≤ w → w < W 0 0 0 → A21 ((cB c).toNat + 4) w = wB (sSaid W c w), fun v19 F20 A21 => (W 2 0 0 - v19).toNat, ?_, ?_⟩ -- loop I24 I24 0 F12 A13
    ·
      -- l2: I24 0 F12 A13
      exact ⟨by have := tok.2.2.1; omega, rfl, fun _ _ => rfl, fun c c0 c1 => by omega⟩
    intro v19 F20 A21 i24
    obtain ⟨j1, j2, j3, j4⟩ := i24
    subst j2
    have A21t : ∀ a : Nat, jtg N1 a ≠ 107 → A21 a = A13 a := fun a ha => j3 a (fun c c0 c1 e => ha (by
      obtain ⟨b, y1, y2, -⟩ := ch107 c c0 c1
      rw [show a = b + 4 by omega]
      exact y2.2.2.2.2.2.2.2.2.1))
    have hli : ∀ {l : Nat} {m : Int} {e : Int → Int}, jli N1 F20 A13 l m e → jli N1 F20 A21 l m e := fun {l m e} hl => by
      obtain ⟨q1, q2, q3, b, q4, q5, q6, q7, ⟨q8, q9, q10⟩, q11⟩ := hl
      have e9 := A21t b (by rw [q5]; decide)
      exact ⟨q1, q2, q3, b, q4, q5, q6, by rw [e9]; exact q7, ⟨q8, q9, by rw [e9]; exact q10⟩, q11⟩
    have st21 : ∀ s : Int, 0 ≤ s → s < W 1 0 0 → ∃ b : Nat, sB s = (b : Int) ∧ stIs N1 A21 W wB s b := fun s s0 s1 => by
      obtain ⟨b, y1, y2⟩ := T12.2.2.2.2.1 s s0 s1
      refine ⟨b, y1, stIs.w tok ⟨y2.1, ?_⟩⟩
      rw [j3 (b + 3) (fun c c0 c1 e => by
        obtain ⟨b', z1, z2, -⟩ := ch107 c c0 c1
        have e2 : b + 2 = b' + 3 := by omega
        have := y2.1.2.2.2.2.2.2.2
        rw [e2, z2.2.2.2.2.1] at this
        omega)]
      exact y2.2
    have ch21 : ∀ c : Int, 0 ≤ c → c < W 2 0 0 → ∃ b : Nat, cB c = (b : Int) ∧ chR N1 F20 A13 W sB c b ∧ A21 (b + 3) = A13 (b + 3) := fun c c0 c1 => by
      obtain ⟨b, y1, y2⟩ := ch107 c c0 c1
      exact ⟨b, y1, y2, A21t _ (by rw [y2.1.2.2.2.2.1]; decide)⟩
    refine ⟨_, by exact O1.1.2.2.2.2, ?_⟩ -- d26: jfn N1 3305 o = (b26 : Int)
    refine ⟨by exact T12.1.1.1, ?_⟩ -- s1: jtg N1 b26 = 2
    refine ⟨_, by exact T12.1.2.2.2.1, ?_⟩ -- d29: jfn N1 623 b26 = (b29 : Int)
    refine ⟨by exact T12.2.2.1.2.2.1.1.1, ?_⟩ -- s2: jtg N1 b29 = 20
    refine ⟨_, sJ2_size (hli T12.2.2.1.2.2.1), ?_⟩ -- call wqJ2_size b29 N1 F20 A21 P32
    intro z34 p32
    refine ⟨fun hc => ?_, fun hc => ?_⟩ -- c2
    · -- case (z34 ≤ v19)
      -- l3: Q (jfn N1 3305 o) N1 F20 A21
      have end_ : v19 = W 2 0 0 := by omega
      have b3 := T12.2.1
      have one : ∀ p : Int, L 1 p 0 = p := tok.2.2.2.2.2.2.2.2.2.2.2.1.2.2
      have A21r : ∀ {b : Nat}, jtg N1 b = 4 → jtg N1 (b + 1) = 107 → A21 (b + 1) = A13 (b + 1) := fun {b} h1 h2 => j3 _ (fun c c0 c1 e => by
        obtain ⟨b', z1, z2, -⟩ := ch107 c c0 c1
        have e2 : b = b' + 3 := by omega
        rw [e2, z2.2.2.2.2.1] at h1
        omega)
      refine ⟨rfl, O1.1.2.2.2.2, b3.2.2.2.2, tok, ⟨wB, sB, cB, lB, ⟨?_, ⟨b3.1, b3.2.1, b3.2.2.1, ?_⟩, ⟨hli T12.2.2.1.1, hli T12.2.2.1.2.1, hli T12.2.2.1.2.2.1, hli T12.2.2.1.2.2.2.1, ?_⟩, hw12, st21, fun c c0 c1 => ?_, fun l l0 l1 => ?_⟩, ?_⟩, hli T12.2.2.1.2.2.2.2.2, g12.mono (by omega) (by omega), lf12.trans ⟨nex.refl _, fun a ha => ⟨fun _ => rfl, ?_⟩⟩, by rw [← ls12.1] at cx; omega, by rw [← ls12.1] at cs; omega⟩
      · exact ⟨T12.1.1.1, T12.1.1.2, T12.1.2⟩
      · rw [b3.2.2.2.1]; exact tok.2.2.2.2.2.2.2.2.2.2.2.1.1.symm
      · have e : (fun p => lB (L 1 p 0)) = lB := funext (fun p => by rw [one])
        rw [e]
        exact hli T12.2.2.1.2.2.2.2.1
      · have c1 : c < W 2 0 0 := c1
        obtain ⟨b, y1, y2, y3⟩ := ch21 c c0 c1
        refine ⟨b, y1, y2.1, y2.2.1, y2.2.2.1, by rw [y2.2.2.2.1]; exact sKnown_24 tok ⟨c0, c1⟩, fun w w0 w1 => by rw [y3]; exact y2.2.2.2.2 w w0 (Int.lt_of_lt_of_le (show w < W 0 0 0 from w1) tok.1.2), fun w w0 w1 => ?_⟩
        have := j4 c c0 (by omega) w w0 w1
        rw [show (cB c).toNat + 4 = b + 4 by omega] at this
        exact this
      · have l1 : l < W 3 0 0 := l1
        obtain ⟨b, y1, y2, y3, y4⟩ := T12.2.2.2.2.2.2.1 l l0 l1
        exact ⟨b, y1, y2, y3, y4.of rfl rfl (A21r y4.1.1 y4.1.2.2.2.1)⟩
      · exact T12.2.2.2.2.2.2.2.1.kv nb1 (nex.refl _) (fun a ha => A21t a (by rcases ha with w | w <;> omega)) (Or.inl rfl)
      · exact j3 a (fun c c0 c1 e => by
          have := C1 c c0 c1
          omega)
    · -- case (¬ (z34 ≤ v19))
      refine ⟨_, sJ2_get (hli T12.2.2.1.2.2.1) (by omega), ?_⟩ -- call wqJ2_get b29 v19 N1 F20 A21 P40
      intro z42 p40
      obtain ⟨bc, y1, y2, y3⟩ := ch21 v19 j1.1 (by omega)
      refine ⟨by exact jcst_child (p40.trans y1) y2.1.1, ?_⟩ -- s3: jcst N1 "ChildSays$Child" z42
      refine ⟨_, by exact p40.trans y1, ?_⟩ -- d48: z42 = (b48 : Int)
      refine ⟨by exact y2.1.1, ?_⟩ -- s4: jtg N1 b48 = 16
      refine ⟨_, sX15_learns O1.1.2.2.2.2 ⟨T12.1.1.1, T12.1.2.1⟩ (hli T12.2.2.1.1) hw12 T12.2.1.2.1 tok.W (by omega) y2.1 (fun w w0 w1 => by rw [y3]; exact y2.2.2.2.2 w w0 (by have := tok.1; omega)) st21 y2.2.1, ?_⟩ -- call wqX15_learns b48 (jfn N1 3305 o) N1 F20 A21 P51
      intro F54 A55 p51
      obtain ⟨e1, e2, e3⟩ := p51
      subst e1
      refine ⟨by (have := tok.2.2.1; omega), ?_⟩ -- s5: jR (v19 + 1)
      refine ⟨?_, ?_⟩ -- l4: I24 (v19 + 1) F54 A55
      · refine ⟨by omega, rfl, fun a ha => ?_, fun c c0 c1 w w0 w1 => ?_⟩
        · rw [e2 a (fun y => ha v19 j1.1 (by omega) (by rw [y1, y]; omega))]
          exact j3 a ha
        · by_cases y : c = v19
          · rw [y, show (cB v19).toNat + 4 = bc + 4 by omega]
            exact e3 w w0 w1
          · obtain ⟨b', z1, z2, -⟩ := ch107 c c0 (by omega)
            have nb : b' ≠ bc := fun w => by
              have u1 := z2.2.2.1
              have u2 := y2.1.2.2.1
              rw [w] at u1
              omega
            rw [e2 _ (by omega)]
            exact j4 c c0 (by omega) w w0 w1
      · dsimp only; omega
  · -- case (¬ (z11 = 0))
    have nend : tkAt q n pp < n := Classical.byContradiction (fun w => by rw [if_pos (by omega)] at m2; exact hc m2)
    obtain ⟨f', ef⟩ : ∃ f', f = f' + 1 := ⟨f - 1, by omega⟩
    subst ef
    refine ⟨_, sX10_statement O1 hp m3 T12 ⟨st3, st4⟩ tok g12 (by omega) ⟨hlo.1, hlo.2.1, lo1⟩ L12 C1 (fun w b N' F' A' y1 y2 y3 y4 => by
      have e : RR.1 = (5, tkAt q n pp) := by rw [← st1, tnN_90 nend w]
      rw [e] at hX
      exact hX (by show (5 : Int) ≠ 0; decide) b N' F' A' y1 (lf12.trans y2) (y3.mono (by omega) (by omega)) (by rw [ls12.1] at y4; omega)) (fun w w2 b N' F' A' y1 y2 y3 y4 => by
      have e : RR.1 = tnC W L q n pp := by rw [← st1, tnN_bad nend w w2]
      rw [e] at hX
      exact hX w2 b N' F' A' y1 (lf12.trans y2) (y3.mono (by omega) (by omega)) (by rw [ls12.1] at y4; omega)), ?_⟩ -- call wqX10_statement S o N1 F12 A13 P61 X
    intro N66 F64 A65 p61
    obtain ⟨s1, s2, ⟨wC, sC, cC, lC, T66, C66⟩, s4, s5, s6, s7, s8, s9, s10, s11⟩ := p61
    obtain ⟨c1, c2⟩ := tnC_0 s2
    obtain ⟨sm1, sm2⟩ := smS_ok hp tok c1
    have xr := nx_range (q := q) (n := n) (p := (smS W L q n pp).2.1) (by omega)
    have kd := (asF_0 c2).2.1
    have lt0 := tkKd_lt (q := q) (n := n) (a := tkAt q n (smS W L q n pp).2.1) (by omega)
    have lt1 := nx_lt (q := q) (n := n) (p := (smS W L q n pp).2.1) (by omega) lt0
    refine ⟨?_, ?_⟩ -- l5: I6 N66 F64 A65
    · refine ⟨f', kk + 1, nx q n (smS W L q n pp).2.1, _, _, ⟨by rw [← st1, tnN_go nend s1 s2], by omega, by omega, by omega⟩, sm2, s8, ⟨wC, sC, cC, lC, T66, C66⟩, s4, by rw [show M + 2 * (kk + 1) = M + 2 * kk + 2 by omega]; exact s5, s6, lf12.trans s7, by rw [ls12.1] at s10; omega, by rw [ls12.1] at s11; omega⟩
    · dsimp only
      rw [s8.2.1, U1.2.1]
      omega

