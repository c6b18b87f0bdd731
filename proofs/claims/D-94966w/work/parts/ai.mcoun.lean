set_option maxRecDepth 100000
set_option linter.unusedVariables false
/-! the model's council; printed by gen/prove.py out of spec/ai.mcoun.spec -/
/-- what is told of a fault -/
def qFlt (Q : sMi) (r : Int × Int) : sMi := fun k i => if k = 3 then r.1 else if k = 4 then r.2 else Q k i
/-- the row of a council -/
noncomputable def sCo (W : sTb) (Q : sMi) : roR := roS (fun w => W 10 w 0) (W 0 0 0) (Q 1) (Q 0 0) 0
noncomputable def sCoF (W : sTb) (Q : sMi) : Int × Int := roA (Q 1) (Q 0 0) (sCo W Q)
theorem roA_roF {q : Int → Int} {n : Int} {r : roR} (h : (roF q n r).1 ≠ 0) : roA q n r = roF q n r := if_neg h
theorem roA_bad {q : Int → Int} {n : Int} {r : roR} (h : (roF q n r).1 = 0) (h1 : 0 ≤ tkBad q n (tkAt q n r.2.2.1)) : roA q n r = (1, tkBad q n (tkAt q n r.2.2.1)) := (if_pos h).trans (if_pos h1)
theorem roA_more {q : Int → Int} {n : Int} {r : roR} (h : (roF q n r).1 = 0) (h1 : ¬ 0 ≤ tkBad q n (tkAt q n r.2.2.1)) (h2 : tkKd q n (tkAt q n r.2.2.1) ≠ 0) : roA q n r = (1, tkAt q n r.2.2.1) := (if_pos h).trans ((if_neg h1).trans (if_neg h2))
theorem roA_ok {q : Int → Int} {n : Int} {r : roR} (h : (roF q n r).1 = 0) (h1 : ¬ 0 ≤ tkBad q n (tkAt q n r.2.2.1)) (h2 : tkKd q n (tkAt q n r.2.2.1) = 0) : roA q n r = (0, 0) := (if_pos h).trans ((if_neg h1).trans (if_pos h2))
theorem roF_0 {q : Int → Int} {n : Int} {r : roR} (h : (roF q n r).1 = 0) : r.1.1 = 0 := Classical.byContradiction (fun w => by
  rw [roF_ne w] at h
  exact w h)
theorem sLok.lset {W L : sTb} {l : Int} {R : sRow} (h : sLok W L) (hR : sRok (W 0 0 0) R) (h1 : sRo1 R) : sLok W (sLset L l R) := by
  obtain ⟨k1, k2, k3, k4, k5⟩ := h
  obtain ⟨r1, r2, r3⟩ := hR
  have e : ∀ (k : Nat) (i j : Int), k ≠ 2 → k ≠ 3 → k ≠ 5 → sLset L l R k i j = L k i j := fun k i j h2 h3 h5 => by simp [sLset, h2, h3, h5]
  refine ⟨by rw [e _ _ _ (by decide) (by decide) (by decide)]; exact k1, fun p p0 p1 => by rw [e _ _ _ (by decide) (by decide) (by decide)]; exact k2 p p0 p1, fun p q p0 p1 q0 q1 h9 h1' => by
    rw [e _ _ _ (by decide) (by decide) (by decide)] at h9
    rw [e _ _ _ (by decide) (by decide) (by decide), e _ _ _ (by decide) (by decide) (by decide)] at h1'
    exact k3 p q p0 p1 q0 q1 h9 h1', fun i i0 i1 => ?_, fun i k i0 i1 k0 kk => ?_⟩
  · by_cases w : i = l
    · have y := k4 i i0 i1
      rw [w]
      simp only [sLset, and_self, if_true, if_false, and_true, true_and]
      simp
      rw [w] at y
      exact ⟨r1, r2, h1, y.2.2.2⟩
    · have y := k4 i i0 i1
      simp only [sLset, w, false_and, if_false]
      exact y
  · by_cases w : i = l
    · rw [w] at kk ⊢
      simp [sLset] at kk ⊢
      exact r3 k k0 kk
    · have y := k5 i k i0 i1 k0
      simp only [sLset, w, false_and, if_false] at kk ⊢
      exact y kk
theorem mst.mi6 {R R' : Int} {o : Nat} {F F' : jFl} {A A' : jAr} {W L : sTb} {B : sBk} {U : sUn} {Q Q' : sMi} (h : mst R o F A W L B U Q) (hF : ∀ f, f = 3039 ∨ f = 3186 ∨ f = 3153 ∨ f = 3156 → F' f o = F f o) (hA : ∀ k : Nat, 2 ≤ k → k ≤ 35 → k ≠ 27 → k ≠ 26 → A' (o + k) = A (o + k)) (hM : mMi R' o F' A' Q') : mst R' o F' A' W L B U Q' := by
  obtain ⟨⟨⟨hk, hW, hL, hh, hv⟩, h9⟩, hB, hU, _⟩ := h
  exact ⟨⟨⟨hk, hW.of (hF _ (by decide)) (fun k k0 k1 => hA k (by omega) (by omega) (by omega) (by omega)), hL.of (fun k k0 k1 => hA k (by omega) (by omega) (by omega) (by omega)), by rw [hF _ (by decide)]; exact hh, hv⟩, h9⟩, hB.of (hA 34 (by decide) (by decide) (by decide) (by decide)) (hA 35 (by decide) (by decide) (by decide) (by decide)), hU.fr hk.1 (hF _ (by decide)) (hF _ (by decide)) (fun k k0 k1 => hA k (by omega) (by omega) (by omega) (by omega)), hM⟩
theorem sX9_takesTape {o : Nat} {F : jFl} {A : jAr} {R : Int} {Q : sMi} (h : mMi R o F A Q) : wpX9_takesTape o F A (fun F' A' => A' = A ∧ F' 3024 o = 0 ∧ F' 3006 o = Q 0 0 ∧ F' 3003 o = 0 ∧ F' 3027 o = -1 ∧ mTk o F' (Q 1) (Q 0 0) (tkAt (Q 1) (Q 0 0) 0) ∧ ∀ f b, (b = o → f ≠ 3003 ∧ f ≠ 3006 ∧ f ≠ 3009 ∧ f ≠ 3012 ∧ f ≠ 3015 ∧ f ≠ 3018 ∧ f ≠ 3022 ∧ f ≠ 3036 ∧ f ≠ 3024 ∧ f ≠ 3027) → F' f b = F f b) := by
  unfold wpX9_takesTape
  obtain ⟨⟨g1, g2, g3⟩, g4, -⟩ := h
  intro F1 e1
  intro F3 e3
  intro F5 e5
  intro F7 e7
  intro F9 e9
  have a1 : F9 3006 o = Q 0 0 := by rw [e9, upF_f (by decide), e7, upF_f (by decide), e5, upF_f (by decide), e3, upF_f (by decide), e1, upF_s]; exact g1
  have a2 : F9 3015 o = 0 := by rw [e9, upF_f (by decide), e7, upF_f (by decide), e5, upF_s]
  have a3 : F9 3024 o = 0 := by rw [e9, upF_f (by decide), e7, upF_s]
  have a4 : F9 3003 o = 0 := by rw [e9, upF_f (by decide), e7, upF_f (by decide), e5, upF_f (by decide), e3, upF_s]
  have a6 : F9 3027 o = -1 := by rw [e9, upF_s]
  have a5 : ∀ f b, (b = o → f ≠ 3003 ∧ f ≠ 3006 ∧ f ≠ 3015 ∧ f ≠ 3024 ∧ f ≠ 3027) → F9 f b = F f b := fun f b hb => by
    by_cases w : b = o
    · have := hb w
      rw [w, e9, upF_f (by omega), e7, upF_f (by omega), e5, upF_f (by omega), e3, upF_f (by omega), e1, upF_f (by omega)]
    · rw [e9, upF_a w, e7, upF_a w, e5, upF_a w, e3, upF_a w, e1, upF_a w]
  refine ⟨_, sX9_ahead (q := Q 1) (n := Q 0 0) g4 a1 ⟨g2, g3⟩ a2 ⟨Int.le_refl 0, g2⟩, ?_⟩ -- call wpX9_ahead o F9 A P11
  intro F14 A15 p11
  -- l1: Q F14 A15
  obtain ⟨u1, u2, u3⟩ := p11
  refine ⟨u1, by rw [u3 _ _ (fun _ => by decide)]; exact a3, by rw [u3 _ _ (fun _ => by decide)]; exact a1, by rw [u3 _ _ (fun _ => by decide)]; exact a4, by rw [u3 _ _ (fun _ => by decide)]; exact a6, u2, fun f b hb => ?_⟩
  rw [u3 f b (fun w => by have := hb w; omega), a5 f b (fun w => by have := hb w; omega)]

set_option maxHeartbeats 2000000 in
theorem sX9_council {o : Nat} {a1 : Int} {F : jFl} {A : jAr} {R : Int} {W L : sTb} {B : sBk} {U : sUn} {Q : sMi} (h : mst R o F A W L B U Q) (hR : R < 1000000000) : wpX9_council o a1 F A (fun z F' A' => (¬ (0 ≤ a1 ∧ a1 < W 3 0 0) → z = -1 ∧ mst (R + 1) o F' A' W L B U (qRef (qLen Q 0) 2)) ∧ ((0 ≤ a1 ∧ a1 < W 3 0 0) → ((sCoF W Q).1 ≠ 0 → z = -1 ∧ mst (R + 1) o F' A' W L B U (qRef (qFlt (qLen Q 0) (sCoF W Q)) 2)) ∧ ((sCoF W Q).1 = 0 → z = (sCo W Q).2.1.1 + (sCo W Q).2.1.2 ∧ mst (R + 1) o F' A' W (sLset L a1 (roW (sCo W Q))) B (sKeep U (L, B)) (qFlt (qLen Q 0) (0, -1))))) := by
  unfold wpX9_council
  have hW := h.1.1.2.1
  have hk := h.1.1.1.1
  have hLk := h.1.1.1.2
  have w0 := hk.1
  have w3 := hk.2.2.2.1
  have hM := h.2.2.2
  obtain ⟨⟨q1, q2, q3⟩, q4, -⟩ := id hM
  refine ⟨_, sX9_isLaw hW, ?_⟩ -- call wpX9_isLaw o a1 F A P1
  intro z3 p1
  have hl : z3 ≠ 0 ↔ (0 ≤ a1 ∧ a1 < W 3 0 0) := by rw [p1]; split <;> (constructor <;> intro w <;> omega)
  refine ⟨fun hc => ?_, fun hc => ?_⟩ -- c1
  · -- case (¬ z3 = 0)
    intro F7 e7
    have f7 : ∀ f, f ≠ 3114 → F7 f o = F f o := fun f hf => by rw [e7, upF_f hf]
    have b7 : F7 3114 o = F 3039 o := by rw [e7, upF_s]
    refine ⟨_, sX9_takesTape (Q := Q) (hM.of (fun f hf => f7 f (by omega)) rfl rfl rfl), ?_⟩ -- call wpX9_takesTape o F7 A P9
    intro F12 A13 p9
    obtain ⟨t1, t2, t3, t4, t7, t5, t6⟩ := p9
    subst t1
    have ta := tkAt_all (q := Q 1) (n := Q 0 0) (p := 0) q2
    have N12 : mNm o F12 A13 0 (fun w => W 10 w 0) (W 0 0 0) := by
      have e : F12 3114 o = F 3039 o := by rw [t6 _ _ (fun _ => by decide)]; exact b7
      unfold mNm
      rw [e]
      exact ⟨by have := hW.1; omega, by omega, Or.inl ⟨rfl, by omega, hW.2.1.1, fun k k0 k1 => (hW.2.2.2.1 k k0 k1).1⟩⟩
    refine ⟨_, sX9_rowing (e := fun w => W 10 w 0) (m := W 0 0 0) t2 t5 (by omega) (tkAt_tkAt q2) N12 q4 t3 ⟨q2, q3⟩, ?_⟩ -- call wpX9_rowing o F12 A13 P17
    intro F20 A21 p17
    rw [roS_tkAt q2] at p17
    obtain ⟨RR, hRR⟩ : ∃ RR : roR, sCo W Q = RR := ⟨_, rfl⟩
    rw [show roS (fun w => W 10 w 0) (W 0 0 0) (Q 1) (Q 0 0) 0 = RR from hRR] at p17
    have hCF : sCoF W Q = roA (Q 1) (Q 0 0) RR := by unfold sCoF; rw [hRR]
    rw [hCF, hRR]
    obtain ⟨r1, r2, r3, r4⟩ := p17
    refine ⟨_, sX9_lex, ?_⟩ -- call wpX9_lex o F20 A21 P25
    intro F28 A29 p25
    obtain ⟨x1, x2, x3⟩ := p25
    subst x1
    refine ⟨fun (F34 : jFl) (A35 : jAr) => A35 = A29 ∧ mgF o F20 F34 ∧ (F34 3024 o = (roA (Q 1) (Q 0 0) RR).1 ∧ 0 ≤ F34 3024 o) ∧ ((roA (Q 1) (Q 0 0) RR).1 ≠ 0 → F34 3027 o = (roA (Q 1) (Q 0 0) RR).2) ∧ ((roA (Q 1) (Q 0 0) RR).1 = 0 → RR.1.1 = 0 ∧ F34 3027 o = -1 ∧ F34 3120 o = RR.2.1.1 ∧ F34 3123 o = RR.2.1.2 ∧ mWs o A29 RR.2.2.2 (RR.2.1.1 + RR.2.1.2)), ?_, ?_⟩ -- join K37
    · intro F34 A35 k37
      obtain ⟨v1, v2, ⟨v3, v30⟩, v4, v5⟩ := k37
      subst v1
      have g12 : ∀ f b, (b = o → f ≠ 3003 ∧ f ≠ 3006 ∧ f ≠ 3009 ∧ f ≠ 3012 ∧ f ≠ 3015 ∧ f ≠ 3018 ∧ f ≠ 3022 ∧ f ≠ 3036 ∧ f ≠ 3024 ∧ f ≠ 3027 ∧ f ≠ 3114 ∧ f ≠ 3120 ∧ f ≠ 3123) → F34 f b = F f b := fun f b hb => by
        rw [v2 f b (fun w => by have := hb w; omega), r1 f b (fun w => by have := hb w; omega), t6 f b (fun w => by have := hb w; omega)]
        by_cases w : b = o
        · rw [w, f7 f (by have := hb w; omega)]
        · rw [e7, upF_a w]
      have s34 : F34 3003 o = 0 := by rw [v2 _ _ (fun _ => by decide), r1 _ _ (fun _ => by decide)]; exact t4
      intro F40 e40
      intro F42 e42
      have h42 : ∀ (f b : Nat), (b = o → f ≠ 3030 ∧ f ≠ 3033) → F42 f b = F34 f b := fun f b hb => by
        by_cases w : b = o
        · have := hb w
          rw [w, e42, upF_f (by omega), e40, upF_f (by omega)]
        · rw [e42, upF_a w, e40, upF_a w]
      have m30 : F42 3030 o = (roA (Q 1) (Q 0 0) RR).1 := by rw [e42, upF_f (by decide), e40, upF_s]; exact v3
      have m33 : F42 3033 o = F34 3027 o := by rw [e42, upF_s, e40, upF_f (by decide)]
      have s42 : F42 3003 o = 0 := by rw [h42 _ _ (fun _ => by decide)]; exact s34
      have M42 : ∀ f : Int × Int, f.1 = (roA (Q 1) (Q 0 0) RR).1 → F34 3027 o = f.2 → mst R o F42 A35 W L B U (qFlt (qLen Q 0) f) := fun f h1 h2 => by
        obtain ⟨-, -, g3, -, g5, g6, g7⟩ := hM
        have fs : ∀ g, g = 3039 ∨ g = 3186 ∨ g = 3153 ∨ g = 3156 ∨ g = 3160 ∨ g = 3237 → F42 g o = F g o := fun g hg => by rw [h42 _ _ (fun _ => by omega), g12 _ _ (fun _ => by omega)]
        exact h.mi6 (fun g hg => fs g (by omega)) (fun k k0 k1 k2 k3 => r2 _ (by omega)) ⟨⟨s42, Int.le_refl 0, (by decide : (0 : Int) ≤ 1600)⟩, fun i i0 i1 => by have i1 : i < 0 := i1; omega, fun r r0 r1' => by rw [r2 _ (by omega)]; exact g3 r r0 r1', ⟨by rw [m30]; exact h1.symm, by rw [m33]; exact h2⟩, by rw [fs _ (by decide)]; exact g5, by rw [fs _ (by decide)]; exact g6, fun k k0 k1 => by rw [r2 _ (by omega)]; exact g7 k k0 k1⟩
      refine ⟨fun hc => ?_, fun hc => ?_⟩ -- c2
      · -- case ((F42 3024 o) ≤ 0)
        have f3 : F34 3024 o = F42 3024 o := (h42 _ _ (fun _ => by decide)).symm
        have z0 : (roA (Q 1) (Q 0 0) RR).1 = 0 := by omega
        obtain ⟨y1, y2, y3, y4, y5⟩ := v5 z0
        have hlaw := hl.mp (by assumption)
        obtain ⟨o1, o2, -, -, o5⟩ := roS_ok (e := fun w => W 10 w 0) (q := Q 1) w0.1 ⟨Int.le_refl 0, q2⟩ (by rw [show roS (fun w => W 10 w 0) (W 0 0 0) (Q 1) (Q 0 0) 0 = RR from hRR]; exact y1)
        rw [show roS (fun w => W 10 w 0) (W 0 0 0) (Q 1) (Q 0 0) 0 = RR from hRR] at o1 o2 o5
        refine ⟨_, sX9_keeps (M42 (0, -1) (by rw [z0]) y2), ?_⟩ -- call wpX9_keeps o F42 A35 P45
        intro F48 A49 p45
        obtain ⟨m1, m2, m3⟩ := p45
        have e1 : F48 3120 o = RR.2.1.1 := by rw [m2 _ _ (fun _ => by decide), h42 _ _ (fun _ => by decide)]; exact y3
        have e2 : F48 3123 o = RR.2.1.2 := by rw [m2 _ _ (fun _ => by decide), h42 _ _ (fun _ => by decide)]; exact y4
        rw [e1, e2]
        have w26 : ∀ i : Int, 0 ≤ i → i < RR.2.1.1 + RR.2.1.2 → A49 (o + 26) i = RR.2.2.2 i := fun i i0 i1 => by rw [m3 _ (by omega)]; exact y5 i i0 i1
        refine ⟨by omega, ?_⟩ -- s1: (0 ≤ a1 ∧ a1 < 264)
        intro A54 e54
        refine ⟨by omega, ?_⟩ -- s2: (0 ≤ a1 ∧ a1 < 264)
        intro A57 e57
        refine ⟨fun (v59 : Int) (A60 : jAr) => (0 ≤ v59 ∧ v59 ≤ RR.2.1.1 + RR.2.1.2) ∧ A60 (o + 30) a1 = RR.2.1.1 ∧ A60 (o + 31) a1 = RR.2.1.2 ∧ (∀ k : Int, 0 ≤ k → k < v59 → A60 (o + 33) (12 * a1 + k) = RR.2.2.2 k) ∧ (∀ b, b ≠ o + 30 → b ≠ o + 31 → b ≠ o + 33 → A60 b = A49 b) ∧ (∀ i : Int, i ≠ a1 → A60 (o + 30) i = A49 (o + 30) i ∧ A60 (o + 31) i = A49 (o + 31) i) ∧ ∀ i : Int, (i < 12 * a1 ∨ 12 * a1 + 12 ≤ i) → A60 (o + 33) i = A49 (o + 33) i, fun v59 A60 => (RR.2.1.1 + RR.2.1.2 - v59).toNat, ?_, ?_⟩ -- loop I62 I62 0 A57
        ·
          -- l1: I62 0 A57
          exact ⟨by omega, by rw [e57, upA_a (by omega), e54, upA_s], by rw [e57, upA_s], fun k k0 k1 => by omega, fun b b1 b2 b3 => by rw [e57, upA_o b2, e54, upA_o b1], fun i hi => ⟨by rw [e57, upA_i hi, e54, upA_i hi], by rw [e57, upA_i hi, e54, upA_i hi]⟩, fun i hi => by rw [e57, upA_a (by omega), e54, upA_a (by omega)]⟩
        intro v59 A60 i62
        obtain ⟨i1, i2, i3, i4, i5, i6, i7⟩ := i62
        refine ⟨by omega, ?_⟩ -- s3: jR ((F48 3120 o) + (F48 3123 o))
        refine ⟨fun hc => ?_, fun hc => ?_⟩ -- c3
        · -- case (((F48 3120 o) + (F48 3123 o)) ≤ v59)
          refine ⟨by omega, ?_⟩ -- s4: jR ((F48 3120 o) + (F48 3123 o))
          -- l2: Q ((F48 3120 o) + (F48 3123 o)) F48 A60
          refine ⟨fun w => absurd hlaw w, fun _ => ⟨fun w => absurd z0 w, fun _ => ⟨rfl, ?_⟩⟩⟩
          have ro : sRok (W 0 0 0) (roW RR) := ⟨⟨by show 0 ≤ RR.2.1.1; omega, o1.2⟩, o2, o5⟩
          have r1 : sRo1 (roW RR) := fun w => by have w : RR.2.1.1 = 0 := w; omega
          have mL := m1.1.1.2.2.1
          refine (m1.lay0 (L' := sLset L a1 (roW RR)) (hLk.lset ro r1) ?_ ⟨?_, fun p p0 p1 => ?_, fun l l0 l1 => ?_⟩ ⟨fun i hi => ⟨by rw [i5 _ (by omega) (by omega) (by omega)], by rw [i5 _ (by omega) (by omega) (by omega)]⟩, fun i hi => ⟨by rw [i5 _ (by omega) (by omega) (by omega)], (i6 i (by omega)).1, (i6 i (by omega)).2, by rw [i5 _ (by omega) (by omega) (by omega)]⟩, fun i hi => i7 i (by omega), fun i hi => by rw [i5 _ (by omega) (by omega) (by omega)]⟩ (fun b hb => i5 b (by omega) (by omega) (by omega))).mono (by omega)
          · simp [sLset]; exact h.1.2
          · rw [i5 _ (by omega) (by omega) (by omega)]; simp [sLset]; exact mL.1
          · rw [i5 _ (by omega) (by omega) (by omega)]; simp [sLset]; have := mL.2.1 p p0 p1; rw [show 12 * 0 + p = p by omega] at this; exact this
          · obtain ⟨n1, n2, n3, n4⟩ := mL.2.2 l l0 l1
            rw [show 12 * 0 + l = l by omega] at n1 n2 n3 n4 ⊢
            rw [i5 (o + 32) (by omega) (by omega) (by omega)]
            by_cases w : l = a1
            · subst w
              refine ⟨by rw [i2]; simp [sLset, roW], by rw [i3]; simp [sLset, roW], by simp [sLset]; exact n3, fun k k0 k1 => ?_⟩
              simp [sLset, roW] at k1 ⊢
              exact i4 k k0 (by omega)
            · rw [(i6 l w).1, (i6 l w).2]
              refine ⟨by simp [sLset, w]; exact n1, by simp [sLset, w]; exact n2, by simp [sLset]; exact n3, fun k k0 k1 => ?_⟩
              simp [sLset, w] at k1 ⊢
              have kk := hLk.2.2.2.1 l l0 l1
              rw [i7 _ (by omega)]
              exact n4 k k0 k1
        · -- case ¬ (((F48 3120 o) + (F48 3123 o)) ≤ v59)
          refine ⟨by omega, ?_⟩ -- s5: (0 ≤ v59 ∧ v59 < 12)
          refine ⟨by omega, ?_⟩ -- s6: (0 ≤ (12 * a1) + v59 ∧ (12 * a1) + v59 < 3168)
          intro A69 e69
          refine ⟨by omega, ?_⟩ -- s7: jR (v59 + 1)
          refine ⟨?_, ?_⟩ -- l3: I62 (v59 + 1) A69
          · refine ⟨by omega, by rw [e69, upA_a (by omega)]; exact i2, by rw [e69, upA_a (by omega)]; exact i3, fun k k0 k1 => ?_, fun b b1 b2 b3 => by rw [e69, upA_o b3]; exact i5 b b1 b2 b3, fun i hi => ⟨by rw [e69, upA_a (by omega)]; exact (i6 i hi).1, by rw [e69, upA_a (by omega)]; exact (i6 i hi).2⟩, fun i hi => by rw [e69, upA_i (by omega)]; exact i7 i hi⟩
            by_cases w : k = v59
            · rw [w, e69, upA_s, i5 _ (by omega) (by omega) (by omega)]; exact w26 v59 i1.1 (by omega)
            · rw [e69, upA_i (by omega)]; exact i4 k k0 (by omega)
          · dsimp only; omega
      · -- case ¬ ((F42 3024 o) ≤ 0)
        have f3 : F34 3024 o = F42 3024 o := (h42 _ _ (fun _ => by decide)).symm
        have nz : (roA (Q 1) (Q 0 0) RR).1 ≠ 0 := by omega
        refine ⟨_, sX9_refuses (M42 (roA (Q 1) (Q 0 0) RR) rfl (v4 nz)) hR (by decide), ?_⟩ -- call wpX9_refuses o 2 F42 A35 P72
        intro z74 F75 A76 p72
        -- l4: Q z74 F75 A76
        exact ⟨fun w => absurd (hl.mp (by assumption)) w, fun _ => ⟨fun _ => ⟨by rw [p72.1], p72.2⟩, fun w => absurd w nz⟩⟩
    refine ⟨fun hc => ?_, fun hc => ?_⟩ -- c4
    · -- case (¬ (F28 3024 o) = 0)
      -- l5: K37 F28 A29
      by_cases w : (roF (Q 1) (Q 0 0) RR).1 = 0
      · obtain ⟨g1, g2, g3, g4, g5, g6⟩ := r4 w
        have bd : tkBad (Q 1) (Q 0 0) (tkAt (Q 1) (Q 0 0) RR.2.2.1) ≠ -1 := fun y => by
          rw [x3 (Or.inr (by rw [g3.2.2.2.1]; exact y))] at hc
          exact hc g1
        have pr := (roS_ok (e := fun w => W 10 w 0) (q := Q 1) w0.1 ⟨Int.le_refl 0, q2⟩ (by rw [show roS (fun w => W 10 w 0) (W 0 0 0) (Q 1) (Q 0 0) 0 = RR from hRR]; exact roF_0 w)).2.2.1
        rw [show roS (fun w => W 10 w 0) (W 0 0 0) (Q 1) (Q 0 0) 0 = RR from hRR] at pr
        have tp := (tkAt_all (q := Q 1) pr.2).1
        have bg := tkBad_ge (q := Q 1) (n := Q 0 0) (p := tkAt (Q 1) (Q 0 0) RR.2.2.1) (by omega) tp.2
        have ra := roA_bad w (by omega)
        have eF := x2 ⟨by omega, by rw [g3.2.2.2.1]; exact bd⟩
        rw [ra, eF]
        refine ⟨rfl, mfl_g, ⟨mfl_k, by rw [mfl_k]; show (0 : Int) ≤ 1; decide⟩, fun _ => by rw [mfl_p, g3.2.2.2.1], fun y => absurd y (by show ¬ (1 : Int) = 0; decide)⟩
      · obtain ⟨g0, g1, g2⟩ := r3 w
        have ra := roA_roF w
        have eF := x3 (Or.inl (by omega))
        rw [ra, eF]
        exact ⟨rfl, mgF.refl _ _, ⟨g1, by omega⟩, fun _ => g2, fun y => absurd y w⟩
    · -- case ¬ (¬ (F28 3024 o) = 0)
      have w : (roF (Q 1) (Q 0 0) RR).1 = 0 := Classical.byContradiction (fun w => by
        obtain ⟨g0, g1, g2⟩ := r3 w
        rw [x3 (Or.inl (by omega))] at hc
        omega)
      obtain ⟨g1, g2, g3, g4, g5, g6⟩ := r4 w
      have bd : tkBad (Q 1) (Q 0 0) (tkAt (Q 1) (Q 0 0) RR.2.2.1) = -1 := Classical.byContradiction (fun y => by
        rw [x2 ⟨by omega, by rw [g3.2.2.2.1]; exact y⟩, mfl_k] at hc
        exact hc (by show ¬ (1 : Int) = 0; decide))
      have eF := x3 (Or.inr (by rw [g3.2.2.2.1]; exact bd))
      subst eF
      refine ⟨fun hc => ?_, fun hc => ?_⟩ -- c5
      · -- case ((F28 3009 o) = 0)
        -- l6: K37 F28 A29
        have ra := roA_ok w (by omega) (by rw [← g3.2.2.1]; exact hc)
        rw [ra]
        exact ⟨rfl, mgF.refl _ _, ⟨g1, by omega⟩, fun y => absurd rfl y, fun _ => ⟨roF_0 w, by rw [g2]; exact t7, g4, g5, g6⟩⟩
      · -- case ¬ ((F28 3009 o) = 0)
        refine ⟨_, sX9_blame, ?_⟩ -- call wpX9_blame o 1 (F28 3012 o) F28 A29 P81
        intro F84 A85 p81
        -- l7: K37 F84 A85
        obtain ⟨u1, u2, -⟩ := p81
        have u2 := u2 (by omega)
        have ra := roA_more w (by omega) (by rw [← g3.2.2.1]; exact hc)
        rw [ra, u2, g3.1]
        exact ⟨u1, mfl_g, ⟨mfl_k, by rw [mfl_k]; show (0 : Int) ≤ 1; decide⟩, fun _ => mfl_p, fun y => absurd y (by show ¬ (1 : Int) = 0; decide)⟩
  · -- case ¬ (¬ z3 = 0)
    intro F89 e89
    have f89 : ∀ f, f ≠ 3003 → F89 f o = F f o := fun f hf => by rw [e89, upF_f hf]
    have M89 : mst R o F89 A W L B U (qLen Q 0) := h.mi (fun f hf => f89 f (by omega)) (fun _ _ _ _ => rfl) (by rw [e89]; exact hM.len ⟨Int.le_refl 0, q2⟩)
    refine ⟨_, sX9_refuses M89 hR (by decide), ?_⟩ -- call wpX9_refuses o 2 F89 A P91
    intro z93 F94 A95 p91
    -- l8: Q z93 F94 A95
    exact ⟨fun _ => ⟨p91.1, p91.2⟩, fun w => absurd (hl.mpr w) hc⟩

