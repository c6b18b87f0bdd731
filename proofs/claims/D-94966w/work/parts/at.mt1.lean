set_option maxRecDepth 100000
set_option linter.unusedVariables false
/-! the model's reader: what is asked for, one after the other; printed by gen/prove.py out of spec/at.mt1.spec -/
/-- the tape that is read -/
def mTp (o : Nat) (F : jFl) (A : jAr) (q : Int → Int) (n : Int) : Prop := (∀ i : Int, 0 ≤ i → i < n → A (o + 1) i = q i ∧ 0 ≤ q i ∧ q i ≤ 255) ∧ F 3006 o = n ∧ (0 ≤ n ∧ n ≤ 1600)
theorem mTp.of {o : Nat} {F F' : jFl} {A A' : jAr} {q : Int → Int} {n : Int} (h : mTp o F A q n) (hF : mgF o F F') (hA : A' (o + 1) = A (o + 1)) : mTp o F' A' q n := ⟨by rw [hA]; exact h.1, by rw [hF _ _ (fun _ => by decide)]; exact h.2.1, h.2.2⟩
/-- the fault so far; if none, what stands from a place on is looked at -/
def mG (o : Nat) (q : Int → Int) (n : Int) (f : Int × Int) (p : Int) (F : jFl) : Prop := (F 3024 o = f.1 ∧ 0 ≤ f.1) ∧ (f.1 = 0 → F 3027 o = -1 ∧ mTk o F q n (tkAt q n p) ∧ 0 ≤ p ∧ p ≤ n) ∧ (f.1 ≠ 0 → F 3027 o = f.2)
section
variable {o : Nat} {F F' : jFl} {A A' : jAr} {q : Int → Int} {n p p' : Int} {f g : Int × Int}
theorem mG.any (h : mG o q n f p F) (hf : f.1 ≠ 0) : mG o q n f p' F := ⟨h.1, fun w => absurd w hf, h.2.2⟩
theorem mG.fl (h : 0 < g.1) : mG o q n g p' (mfl o F g) := ⟨⟨mfl_k, by omega⟩, fun w => by omega, fun _ => mfl_p⟩
theorem mG.to (h : mG o q n f p F) (e : F' 3024 o = F 3024 o ∧ F' 3027 o = F 3027 o) (e2 : ∀ f, f = 3009 ∨ f = 3012 ∨ f = 3015 ∨ f = 3018 ∨ f = 3022 ∨ f = 3036 → F' f o = F f o) : mG o q n f p F' := ⟨by rw [e.1]; exact h.1, fun w => ⟨by rw [e.2]; exact (h.2.1 w).1, (h.2.1 w).2.1.of e2, (h.2.1 w).2.2⟩, fun w => by rw [e.2]; exact h.2.2 w⟩
/-- a sign is passed -/
theorem mG.go (h : mG o q n f p F) (hf : f.1 = 0) (hg : g.1 = 0) (hm : mTk o F' q n (tkAt q n (nx q n p))) (hF : mhF o F F') : mG o q n g (nx q n p) F' := by
  obtain ⟨a, b, c⟩ := h.2.1 hf
  refine ⟨⟨by rw [hF _ _ (fun _ => by decide), h.1.1, hf, hg], by omega⟩, fun _ => ⟨by rw [hF _ _ (fun _ => by decide)]; exact a, hm, (nx_range (q := q) c).2.2⟩, fun w => absurd hg w⟩
/-- the sign itself is wrong, or not -/
theorem mG.lex {F4 : jFl} (h : mG o q n f p F) (h1 : F 3024 o ≤ 0 ∧ F 3036 o ≠ -1 → F4 = mfl o F (1, F 3036 o)) (h2 : 0 < F 3024 o ∨ F 3036 o = -1 → F4 = F) : (f.1 = 0 ∧ tkBad q n (tkAt q n p) = -1 ∧ F4 = F) ∨ (0 < F4 3024 o ∧ mgF o F F4 ∧ ((f.1 ≠ 0 ∧ F4 = F) ∨ (f.1 = 0 ∧ 0 ≤ tkBad q n (tkAt q n p) ∧ F4 = mfl o F (1, tkBad q n (tkAt q n p))))) := by
  by_cases w : f.1 = 0
  · obtain ⟨a, b, c⟩ := h.2.1 w
    rw [b.2.2.2.1] at h1 h2
    have e0 : F 3024 o = 0 := by rw [h.1.1, w]
    rcases tkBad_two (q := q) c with y | y
    · exact Or.inl ⟨w, y, h2 (Or.inr y)⟩
    · have e := h1 ⟨by omega, by omega⟩
      exact Or.inr ⟨by rw [e, mfl_k]; show (0 : Int) < 1; decide, by rw [e]; exact mfl_g, Or.inr ⟨w, y, e⟩⟩
  · have e0 : 0 < F 3024 o := by have := h.1; omega
    have e := h2 (Or.inl e0)
    exact Or.inr ⟨by rw [e]; exact e0, by rw [e]; exact mgF.refl o F, Or.inl ⟨w, e⟩⟩
theorem mG.bad {F4 : jFl} (h : mG o q n f p F) (k : (f.1 ≠ 0 ∧ F4 = F) ∨ (f.1 = 0 ∧ 0 ≤ tkBad q n (tkAt q n p) ∧ F4 = mfl o F (1, tkBad q n (tkAt q n p)))) (hg : 0 ≤ tkBad q n (tkAt q n p) → g = (1, tkBad q n (tkAt q n p))) : mG o q n (fb f g) p' F4 := by
  rcases k with ⟨w, e⟩ | ⟨w, y, e⟩
  · rw [fb_no w, e]; exact h.any w
  · rw [fb_ok w, hg y, e]; exact mG.fl (g := (1, tkBad q n (tkAt q n p))) (by show (0 : Int) < 1; decide)
theorem mG.badne {F4 : jFl} (k : (f.1 ≠ 0 ∧ F4 = F) ∨ (f.1 = 0 ∧ 0 ≤ tkBad q n (tkAt q n p) ∧ F4 = mfl o F (1, tkBad q n (tkAt q n p)))) (hg : 0 ≤ tkBad q n (tkAt q n p) → g = (1, tkBad q n (tkAt q n p))) (w : f.1 = 0) : g.1 ≠ 0 := by
  rcases k with ⟨w2, e⟩ | ⟨-, y, e⟩
  · exact absurd w w2
  · rw [hg y]; show (1 : Int) ≠ 0; decide
end
theorem sX9_number {o : Nat} {a1 : Int} {a2 : Int} {F : jFl} {A : jAr} {q : Int → Int} {n p : Int} {f : Int × Int} (hT : mTp o F A q n) (hG : mG o q n f p F) : wpX9_number o a1 a2 F A (fun z F' A' => A' = A ∧ mgF o F F' ∧ mG o q n (fb f (nuF a1 a2 q n p)) (nx q n p) F' ∧ (f.1 = 0 → (nuF a1 a2 q n p).1 = 0 → z = tkV q n (tkAt q n p))) := by
  unfold wpX9_number
  refine ⟨_, sX9_lex, ?_⟩ -- call wpX9_lex o F A P1
  intro F4 A5 p1
  obtain ⟨x1, x2, x3⟩ := p1
  subst x1
  have lx := hG.lex x2 x3
  have L1 : (F4 3024 o) ≤ 0 → f.1 = 0 ∧ tkBad q n (tkAt q n p) = -1 ∧ F4 = F := fun hc => by
    rcases lx with w | ⟨w, -⟩
    · exact w
    · omega
  refine ⟨fun hc => ?_, fun hc => ?_⟩ -- c1
  · -- case ((F4 3024 o) ≤ 0)
    obtain ⟨f0, bd, e4⟩ := L1 hc
    subst e4
    obtain ⟨g1, g2, g3⟩ := hG.2.1 f0
    obtain ⟨t1, t2, t3, t4, t5, t6, t7⟩ := id g2
    have e0 : F4 3024 o = 0 := by rw [hG.1.1, f0]
    refine ⟨fun (F11 : jFl) (A12 : jAr) => A12 = A5 ∧ ((F11 = F4 ∧ tkKd q n (tkAt q n p) = 2) ∨ (F11 = mfl o F4 (1, tkAt q n p) ∧ tkKd q n (tkAt q n p) ≠ 2)), ?_, ?_⟩ -- join K14
    · intro F11 A12 k14
      obtain ⟨y1, y2⟩ := k14
      subst y1
      refine ⟨fun (F18 : jFl) (A19 : jAr) => A19 = A12 ∧ ((F18 = F4 ∧ nuF a1 a2 q n p = (0, 0)) ∨ (∃ r, nuF a1 a2 q n p = r ∧ 0 < r.1 ∧ F18 = mfl o F4 r)), ?_, ?_⟩ -- join K21
      · intro F18 A19 k21
        obtain ⟨y3, y4⟩ := k21
        subst y3
        intro v24 e24
        refine ⟨fun hc => ?_, fun hc => ?_⟩ -- c2
        · -- case (¬ (F18 3024 o) = 0)
          -- l1: Q v24 F18 A19
          rcases y4 with ⟨e, -⟩ | ⟨r, e1, e2, e3⟩
          · rw [e, e0] at hc; exact absurd rfl hc
          · refine ⟨rfl, by rw [e3]; exact mfl_g, by rw [fb_ok f0, e1, e3]; exact mG.fl e2, fun _ w => by rw [e1] at w; omega⟩
        · -- case ¬ (¬ (F18 3024 o) = 0)
          obtain ⟨e18, nu⟩ : F18 = F4 ∧ nuF a1 a2 q n p = (0, 0) := by
            rcases y4 with w | ⟨r, e1, e2, e3⟩
            · exact w
            · exfalso
              apply hc
              rw [e3, mfl_k]; omega
          subst e18
          refine ⟨_, sX9_ahead (q := q) (n := n) (p := nx q n p) hT.1 hT.2.1 hT.2.2 t2 (nx_range (q := q) g3).2.2, ?_⟩ -- call wpX9_ahead o F18 A19 P26
          intro F29 A30 p26
          -- l2: Q v24 F29 A30
          obtain ⟨u1, u2, u3⟩ := p26
          refine ⟨u1, u3.mgF, by rw [fb_ok f0, nu]; exact hG.go f0 rfl u2 u3, fun _ _ => ?_⟩
          rw [e24]
          exact t6 (nuF_0 g3 (by rw [nu])).2.1
      refine ⟨fun hc => ?_, fun hc => ?_⟩ -- c3
      · -- case (¬ (F11 3024 o) = 0)
        -- l3: K21 F11 A12
        rcases y2 with ⟨e, -⟩ | ⟨e, k⟩
        · rw [e, e0] at hc; exact absurd rfl hc
        · exact ⟨rfl, Or.inr ⟨_, nuF_no bd k, by show (0 : Int) < 1; decide, e⟩⟩
      · -- case ¬ (¬ (F11 3024 o) = 0)
        obtain ⟨e11, kd⟩ : F11 = F4 ∧ tkKd q n (tkAt q n p) = 2 := by
          rcases y2 with w | ⟨e, -⟩
          · exact w
          · exfalso
            apply hc
            rw [e, mfl_k]; show ¬ (1 : Int) = 0; decide
        subst e11
        have vv := t6 kd
        rw [vv]
        refine ⟨_, sX9_is, ?_⟩ -- call wpX9_is o (F11 3018 o) a1 a2 F11 A12 P34
        intro z36 p34
        refine ⟨fun hc => ?_, fun hc => ?_⟩ -- c4
        · -- case (¬ z36 = 0)
          -- l4: K21 F11 A12
          refine ⟨rfl, Or.inl ⟨rfl, nuF_ok bd kd ?_⟩⟩
          rw [p34] at hc
          exact Classical.byContradiction (fun w => hc (if_neg w))
        · -- case ¬ (¬ z36 = 0)
          refine ⟨_, sX9_blame, ?_⟩ -- call wpX9_blame o 4 (F11 3012 o) F11 A12 P40
          intro F43 A44 p40
          -- l5: K21 F43 A44
          obtain ⟨u1, u2, -⟩ := p40
          have u2 := u2 (by omega)
          rw [t1] at u2
          refine ⟨u1, Or.inr ⟨_, nuF_out bd kd (fun w => ?_), by show (0 : Int) < 4; decide, u2⟩⟩
          rw [p34, if_pos w] at hc
          exact hc (by decide)
    refine ⟨fun hc => ?_, fun hc => ?_⟩ -- c5
    · -- case ((F4 3009 o) = 2)
      -- l6: K14 F4 A5
      exact ⟨rfl, Or.inl ⟨rfl, by omega⟩⟩
    · -- case ¬ ((F4 3009 o) = 2)
      refine ⟨_, sX9_blame, ?_⟩ -- call wpX9_blame o 1 (F4 3012 o) F4 A5 P48
      intro F51 A52 p48
      -- l7: K14 F51 A52
      obtain ⟨u1, u2, -⟩ := p48
      have u2 := u2 (by omega)
      rw [t1] at u2
      exact ⟨u1, Or.inr ⟨u2, by omega⟩⟩
  · -- case ¬ ((F4 3024 o) ≤ 0)
    -- l8: Q 0 F4 A5
    rcases lx with ⟨w, -, e⟩ | ⟨-, w2, w3⟩
    · exfalso
      apply hc
      rw [e, hG.1.1, w]
      omega
    · exact ⟨rfl, w2, hG.bad w3 (fun y => nuF_bad y), fun w y => absurd y (mG.badne w3 (fun y => nuF_bad y) w)⟩

theorem sX9_must {o : Nat} {a1 : Int} {F : jFl} {A : jAr} {q : Int → Int} {n p : Int} {f : Int × Int} (hT : mTp o F A q n) (hG : mG o q n f p F) : wpX9_must o a1 F A (fun F' A' => A' = A ∧ mgF o F F' ∧ mG o q n (fb f (asW a1 q n p)) (nx q n p) F') := by
  unfold wpX9_must
  refine ⟨_, sX9_lex, ?_⟩ -- call wpX9_lex o F A P1
  intro F4 A5 p1
  obtain ⟨x1, x2, x3⟩ := p1
  subst x1
  have lx := hG.lex x2 x3
  refine ⟨fun hc => ?_, fun hc => ?_⟩ -- c1
  · -- case ((F4 3024 o) ≤ 0)
    obtain ⟨f0, bd, e4⟩ : f.1 = 0 ∧ tkBad q n (tkAt q n p) = -1 ∧ F4 = F := by
      rcases lx with w | ⟨w, -⟩
      · exact w
      · omega
    subst e4
    obtain ⟨g1, g2, g3⟩ := hG.2.1 f0
    obtain ⟨t1, t2, t3, t4, t5, t6, t7⟩ := id g2
    have e0 : F4 3024 o = 0 := by rw [hG.1.1, f0]
    refine ⟨_, sX9_isWord, ?_⟩ -- call wpX9_isWord o a1 F4 A5 P10
    intro z12 p10
    have wd : z12 ≠ 0 ↔ (tkKd q n (tkAt q n p) = 1 ∧ tkC q n (tkAt q n p) = a1) := by
      rw [p10, t3]
      constructor
      · intro w
        by_cases y : tkKd q n (tkAt q n p) = 1 ∧ F4 3022 o = a1
        · exact ⟨y.1, by rw [← t5 y.1]; exact y.2⟩
        · rw [if_neg y] at w; exact absurd rfl w
      · intro w
        rw [if_pos ⟨w.1, by rw [t5 w.1]; exact w.2⟩]
        decide
    refine ⟨fun hc => ?_, fun hc => ?_⟩ -- c2
    · -- case (¬ z12 = 0)
      refine ⟨fun hc => ?_, fun hc => ?_⟩ -- c3
      · -- case (¬ (F4 3024 o) = 0)
        -- l1: Q F4 A5
        exact absurd e0 hc
      · -- case ¬ (¬ (F4 3024 o) = 0)
        refine ⟨_, sX9_ahead (q := q) (n := n) (p := nx q n p) hT.1 hT.2.1 hT.2.2 t2 (nx_range (q := q) g3).2.2, ?_⟩ -- call wpX9_ahead o F4 A5 P17
        intro F20 A21 p17
        -- l2: Q F20 A21
        obtain ⟨u1, u2, u3⟩ := p17
        have y := wd.mp (by assumption)
        exact ⟨u1, u3.mgF, by rw [fb_ok f0, show asW a1 q n p = (0, 0) from asF_ok bd y]; exact hG.go f0 rfl u2 u3⟩
    · -- case ¬ (¬ z12 = 0)
      refine ⟨_, sX9_blame, ?_⟩ -- call wpX9_blame o 1 (F4 3012 o) F4 A5 P25
      intro F28 A29 p25
      obtain ⟨u1, u2, -⟩ := p25
      have u2 := u2 (by omega)
      rw [t1] at u2
      have ny : ¬ (tkKd q n (tkAt q n p) = 1 ∧ tkC q n (tkAt q n p) = a1) := fun w => hc (wd.mpr w)
      refine ⟨fun hc => ?_, fun hc => ?_⟩ -- c4
      · -- case (¬ (F28 3024 o) = 0)
        -- l3: Q F28 A29
        exact ⟨u1, by rw [u2]; exact mfl_g, by rw [fb_ok f0, show asW a1 q n p = (1, tkAt q n p) from asF_no bd ny, u2]; exact mG.fl (by show (0 : Int) < 1; decide)⟩
      · -- case ¬ (¬ (F28 3024 o) = 0)
        (rw [u2, mfl_k] at hc; exact absurd (by show ¬ (1 : Int) = 0; decide) hc)
  · -- case ¬ ((F4 3024 o) ≤ 0)
    -- l4: Q F4 A5
    rcases lx with ⟨w, -, e⟩ | ⟨-, w2, w3⟩
    · exfalso
      apply hc
      rw [e, hG.1.1, w]
      omega
    · exact ⟨rfl, w2, hG.bad w3 (fun y => asF_bad y)⟩

theorem sX9_must_2 {o : Nat} {a1 : Int} {F : jFl} {A : jAr} {q : Int → Int} {n p : Int} {f : Int × Int} (hT : mTp o F A q n) (hG : mG o q n f p F) : wpX9_must_2 o a1 F A (fun F' A' => A' = A ∧ mgF o F F' ∧ mG o q n (fb f (asS a1 q n p)) (nx q n p) F') := by
  unfold wpX9_must_2
  refine ⟨_, sX9_lex, ?_⟩ -- call wpX9_lex o F A P1
  intro F4 A5 p1
  obtain ⟨x1, x2, x3⟩ := p1
  subst x1
  have lx := hG.lex x2 x3
  refine ⟨_, sX9_isSign, ?_⟩ -- call wpX9_isSign o a1 F4 A5 P9
  intro z11 p9
  have lz : f.1 = 0 ∧ tkBad q n (tkAt q n p) = -1 ∧ F4 = F → F4 3024 o = 0 ∧ (z11 ≠ 0 ↔ (tkKd q n (tkAt q n p) = 3 ∧ q (tkAt q n p) = a1)) := fun ⟨w1, w2, w3⟩ => by
    obtain ⟨g1, g2, g3⟩ := hG.2.1 w1
    refine ⟨by rw [w3, hG.1.1, w1], ?_⟩
    rw [p9, w3, g2.2.2.1]
    constructor
    · intro w
      by_cases y : tkKd q n (tkAt q n p) = 3 ∧ F 3018 o = a1
      · exact ⟨y.1, by rw [← g2.2.2.2.2.2.2 y.1]; exact y.2⟩
      · rw [if_neg y] at w; exact absurd rfl w
    · intro w
      rw [if_pos ⟨w.1, by rw [g2.2.2.2.2.2.2 w.1]; exact w.2⟩]
      decide
  refine ⟨fun hc => ?_, fun hc => ?_⟩ -- c1
  · -- case (¬ z11 = 0)
    refine ⟨fun hc => ?_, fun hc => ?_⟩ -- c2
    · -- case (¬ (F4 3024 o) = 0)
      -- l1: Q F4 A5
      rcases lx with w | ⟨-, w2, w3⟩
      · exact absurd (lz w).1 hc
      · exact ⟨rfl, w2, hG.bad w3 (fun y => asF_bad y)⟩
    · -- case ¬ (¬ (F4 3024 o) = 0)
      obtain ⟨f0, bd, e4⟩ : f.1 = 0 ∧ tkBad q n (tkAt q n p) = -1 ∧ F4 = F := by
        rcases lx with w | ⟨w, -⟩
        · exact w
        · omega
      obtain ⟨e0, wd⟩ := lz ⟨f0, bd, e4⟩
      subst e4
      obtain ⟨g1, g2, g3⟩ := hG.2.1 f0
      refine ⟨_, sX9_ahead (q := q) (n := n) (p := nx q n p) hT.1 hT.2.1 hT.2.2 g2.2.1 (nx_range (q := q) g3).2.2, ?_⟩ -- call wpX9_ahead o F4 A5 P16
      intro F19 A20 p16
      -- l2: Q F19 A20
      obtain ⟨u1, u2, u3⟩ := p16
      have y := wd.mp (by assumption)
      exact ⟨u1, u3.mgF, by rw [fb_ok f0, show asS a1 q n p = (0, 0) from asF_ok bd y]; exact hG.go f0 rfl u2 u3⟩
  · -- case ¬ (¬ z11 = 0)
    refine ⟨_, sX9_blame, ?_⟩ -- call wpX9_blame o 1 (F4 3012 o) F4 A5 P24
    intro F27 A28 p24
    obtain ⟨u1, u2, u3⟩ := p24
    refine ⟨fun hc => ?_, fun hc => ?_⟩ -- c3
    · -- case (¬ (F27 3024 o) = 0)
      -- l3: Q F27 A28
      rcases lx with w | ⟨w1, w2, w3⟩
      · obtain ⟨e0, wd⟩ := lz w
        obtain ⟨f0, bd, e4⟩ := w
        have u2 := u2 (by omega)
        subst e4
        rw [(hG.2.1 f0).2.1.1] at u2
        exact ⟨u1, by rw [u2]; exact mfl_g, by rw [fb_ok f0, show asS a1 q n p = (1, tkAt q n p) from asF_no bd (fun y => by have := wd.mpr y; contradiction), u2]; exact mG.fl (by show (0 : Int) < 1; decide)⟩
      · rw [u3 w1]
        exact ⟨u1, w2, hG.bad w3 (fun y => asF_bad y)⟩
    · -- case ¬ (¬ (F27 3024 o) = 0)
      (rcases lx with w | ⟨w1, w2, w3⟩; (rw [u2 (by have := (lz w).1; omega), mfl_k] at hc; exact absurd (by show ¬ (1 : Int) = 0; decide) hc); (rw [u3 w1] at hc; omega))

theorem sX9_counts {o : Nat} {a1 : Int} {F : jFl} {A : jAr} {q : Int → Int} {n p : Int} (hT : mTp o F A q n) (hG : mG o q n (0, 0) p F) : wpX9_counts o a1 F A (fun z F' A' => A' = A ∧ mgF o F F' ∧ (a1 ≠ 0 → z = 0 ∧ mG o q n (5, tkAt q n p) p F') ∧ (a1 = 0 → z = 1 ∧ mG o q n (0, 0) (nx q n p) F')) := by
  unfold wpX9_counts
  obtain ⟨g1, g2, g3⟩ := hG.2.1 rfl
  have e0 : F 3024 o = 0 := hG.1.1
  refine ⟨fun (F2 : jFl) (A3 : jAr) => A3 = A ∧ ((F2 = F ∧ a1 = 0) ∨ (F2 = mfl o F (5, tkAt q n p) ∧ a1 ≠ 0)), ?_, ?_⟩ -- join K5
  · intro F2 A3 k5
    obtain ⟨y1, y2⟩ := k5
    subst y1
    refine ⟨fun hc => ?_, fun hc => ?_⟩ -- c1
    · -- case (¬ (F2 3024 o) = 0)
      intro z10 e10
      -- l1: Q z10 F2 A3
      rcases y2 with ⟨e, w⟩ | ⟨e, w⟩
      · rw [e, e0] at hc; exact absurd rfl hc
      · exact ⟨rfl, by rw [e]; exact mfl_g, fun _ => ⟨by rw [e10, if_pos hc], by rw [e]; exact mG.fl (by show (0 : Int) < 5; decide)⟩, fun y => absurd y w⟩
    · -- case ¬ (¬ (F2 3024 o) = 0)
      obtain ⟨e, w⟩ : F2 = F ∧ a1 = 0 := by
        rcases y2 with w | ⟨e, w⟩
        · exact w
        · exfalso
          apply hc
          rw [e, mfl_k]; show ¬ (5 : Int) = 0; decide
      subst e
      refine ⟨_, sX9_ahead (q := q) (n := n) (p := nx q n p) hT.1 hT.2.1 hT.2.2 g2.2.1 (nx_range (q := q) g3).2.2, ?_⟩ -- call wpX9_ahead o F2 A3 P12
      intro F15 A16 p12
      intro z21 e21
      -- l2: Q z21 F15 A16
      obtain ⟨u1, u2, u3⟩ := p12
      have g := hG.go (g := (0, 0)) rfl rfl u2 u3
      exact ⟨u1, u3.mgF, fun y => absurd w y, fun _ => ⟨by rw [e21, if_neg (fun y => y g.1.1)], g⟩⟩
  refine ⟨fun hc => ?_, fun hc => ?_⟩ -- c2
  · -- case (¬ (F 3024 o) = 0)
    -- l3: K5 F A
    exact absurd e0 hc
  · -- case ¬ (¬ (F 3024 o) = 0)
    refine ⟨fun hc => ?_, fun hc => ?_⟩ -- c3
    · -- case (a1 = 0)
      -- l4: K5 F A
      exact ⟨rfl, Or.inl ⟨rfl, hc⟩⟩
    · -- case ¬ (a1 = 0)
      refine ⟨_, sX9_blame, ?_⟩ -- call wpX9_blame o 5 (F 3012 o) F A P24
      intro F27 A28 p24
      -- l5: K5 F27 A28
      obtain ⟨u1, u2, -⟩ := p24
      have u2 := u2 (by omega)
      rw [g2.1] at u2
      exact ⟨u1, Or.inr ⟨u2, hc⟩⟩

/-- the names of one kind -/
def eK (W : sTb) (k : Int) : Int → Int := fun i => if k = 0 then W 10 i 0 else if k = 1 then W 16 i 0 else if k = 2 then W 18 i 0 else W 22 i 0
def mK (W : sTb) (k : Int) : Int := if k = 0 then W 0 0 0 else if k = 1 then W 1 0 0 else if k = 2 then W 2 0 0 else W 3 0 0
theorem kn4_eq (W : sTb) (c : Int) : kn4 W c ↔ ∃ k : Int, 0 ≤ k ∧ k ≤ 3 ∧ nmd (eK W k) (mK W k) c ≠ -1 := by
  have a0 : eK W 0 = fun i => W 10 i 0 := rfl
  have a1 : eK W 1 = fun i => W 16 i 0 := rfl
  have a2 : eK W 2 = fun i => W 18 i 0 := rfl
  have a3 : eK W 3 = fun i => W 22 i 0 := rfl
  have b0 : mK W 0 = W 0 0 0 := rfl
  have b1 : mK W 1 = W 1 0 0 := rfl
  have b2 : mK W 2 = W 2 0 0 := rfl
  have b3 : mK W 3 = W 3 0 0 := rfl
  constructor
  · rintro (w | w | w | w)
    · exact ⟨0, by decide, by decide, by rw [a0, b0]; exact w⟩
    · exact ⟨1, by decide, by decide, by rw [a1, b1]; exact w⟩
    · exact ⟨2, by decide, by decide, by rw [a2, b2]; exact w⟩
    · exact ⟨3, by decide, by decide, by rw [a3, b3]; exact w⟩
  · rintro ⟨k, k0, k1, w⟩
    have h : k = 0 ∨ k = 1 ∨ k = 2 ∨ k = 3 := by omega
    rcases h with h | h | h | h <;> subst h
    · exact Or.inl w
    · exact Or.inr (Or.inl w)
    · exact Or.inr (Or.inr (Or.inl w))
    · exact Or.inr (Or.inr (Or.inr w))
theorem sX9_fresh {o : Nat} {F : jFl} {A : jAr} {q : Int → Int} {n p : Int} {f : Int × Int} {W : sTb} (hT : mTp o F A q n) (hG : mG o q n f p F) (hN : ∀ k : Int, 0 ≤ k → k ≤ 3 → mNm o F A k (eK W k) (mK W k)) : wpX9_fresh o F A (fun z F' A' => A' = A ∧ mgF o F F' ∧ mG o q n (fb f (frF W q n p)) (nx q n p) F' ∧ (f.1 = 0 → (frF W q n p).1 = 0 → z = tkC q n (tkAt q n p))) := by
  unfold wpX9_fresh
  refine ⟨_, sX9_lex, ?_⟩ -- call wpX9_lex o F A P1
  intro F4 A5 p1
  obtain ⟨x1, x2, x3⟩ := p1
  subst x1
  have lx := hG.lex x2 x3
  refine ⟨fun hc => ?_, fun hc => ?_⟩ -- c1
  · -- case ((F4 3024 o) ≤ 0)
    obtain ⟨f0, bd, e4⟩ : f.1 = 0 ∧ tkBad q n (tkAt q n p) = -1 ∧ F4 = F := by
      rcases lx with w | ⟨w, -⟩
      · exact w
      · omega
    subst e4
    obtain ⟨g1, g2, g3⟩ := hG.2.1 f0
    obtain ⟨t1, t2, t3, t4, t5, t6, t7⟩ := id g2
    have e0 : F4 3024 o = 0 := by rw [hG.1.1, f0]
    refine ⟨fun (F11 : jFl) (A12 : jAr) => A12 = A5 ∧ ((F11 = F4 ∧ tkKd q n (tkAt q n p) = 1 ∧ ¬ sOwn (tkC q n (tkAt q n p))) ∨ (F11 = mfl o F4 (1, tkAt q n p) ∧ frF W q n p = (1, tkAt q n p))), ?_, ?_⟩ -- join K14
    · intro F11 A12 k14
      obtain ⟨y1, y2⟩ := k14
      subst y1
      refine ⟨fun (v17 : Int) (F18 : jFl) (A19 : jAr) => A19 = A12 ∧ (0 ≤ v17 ∧ v17 ≤ 4) ∧ ((F18 = F4 ∧ (tkKd q n (tkAt q n p) = 1 ∧ ¬ sOwn (tkC q n (tkAt q n p))) ∧ ∀ k : Int, 0 ≤ k → k < v17 → nmd (eK W k) (mK W k) (tkC q n (tkAt q n p)) = -1) ∨ (∃ r, frF W q n p = r ∧ 0 < r.1 ∧ F18 = mfl o F4 r)), fun v17 F18 A19 => (4 - v17).toNat, ?_, ?_⟩ -- loop I21 I21 0 F11 A12
      ·
        -- l1: I21 0 F11 A12
        rcases y2 with ⟨e, w⟩ | ⟨e, w⟩
        · exact ⟨rfl, by omega, Or.inl ⟨e, w, fun k k0 k1 => by omega⟩⟩
        · exact ⟨rfl, by omega, Or.inr ⟨_, w, by show (0 : Int) < 1; decide, e⟩⟩
      intro v17 F18 A19 i21
      obtain ⟨z1, z2, z3⟩ := i21
      subst z1
      refine ⟨(F18 = F4 ∧ frF W q n p = (0, 0)) ∨ (∃ r, frF W q n p = r ∧ 0 < r.1 ∧ F18 = mfl o F4 r), ?_, ?_⟩ -- join K24
      · intro k24
        intro v27 e27
        refine ⟨fun hc => ?_, fun hc => ?_⟩ -- c2
        · -- case (¬ (F18 3024 o) = 0)
          -- l2: Q v27 F18 A19
          rcases k24 with ⟨e, -⟩ | ⟨r, e1, e2, e3⟩
          · rw [e, e0] at hc; exact absurd rfl hc
          · exact ⟨rfl, by rw [e3]; exact mfl_g, by rw [fb_ok f0, e1, e3]; exact mG.fl e2, fun _ w => by rw [e1] at w; omega⟩
        · -- case ¬ (¬ (F18 3024 o) = 0)
          obtain ⟨e18, nu⟩ : F18 = F4 ∧ frF W q n p = (0, 0) := by
            rcases k24 with w | ⟨r, e1, e2, e3⟩
            · exact w
            · exfalso
              apply hc
              rw [e3, mfl_k]; omega
          subst e18
          refine ⟨_, sX9_ahead (q := q) (n := n) (p := nx q n p) hT.1 hT.2.1 hT.2.2 t2 (nx_range (q := q) g3).2.2, ?_⟩ -- call wpX9_ahead o F18 A19 P29
          intro F32 A33 p29
          -- l3: Q v27 F32 A33
          obtain ⟨u1, u2, u3⟩ := p29
          refine ⟨u1, u3.mgF, by rw [fb_ok f0, nu]; exact hG.go f0 rfl u2 u3, fun _ _ => ?_⟩
          rw [e27]
          exact t5 (frF_0 g3 (by rw [nu])).2.1
      refine ⟨fun hc => ?_, fun hc => ?_⟩ -- c3
      · -- case (3 < v17)
        -- l4: K24
        rcases z3 with ⟨e, ⟨w1, w2⟩, w3⟩ | w
        · refine Or.inl ⟨e, frF_ok bd w1 w2 (fun w => ?_)⟩
          obtain ⟨k, k0, k1, k2⟩ := (kn4_eq W _).mp w
          exact k2 (w3 k k0 (by omega))
        · exact Or.inr w
      · -- case ¬ (3 < v17)
        refine ⟨fun hc => ?_, fun hc => ?_⟩ -- c4
        · -- case (¬ (F18 3024 o) = 0)
          -- l5: K24
          rcases z3 with ⟨e, -, -⟩ | w
          · rw [e, e0] at hc; exact absurd rfl hc
          · exact Or.inr w
        · -- case ¬ (¬ (F18 3024 o) = 0)
          obtain ⟨e18, ⟨w1, w2⟩, w3⟩ : F18 = F4 ∧ (tkKd q n (tkAt q n p) = 1 ∧ ¬ sOwn (tkC q n (tkAt q n p))) ∧ ∀ k : Int, 0 ≤ k → k < v17 → nmd (eK W k) (mK W k) (tkC q n (tkAt q n p)) = -1 := by
            rcases z3 with w | ⟨r, e1, e2, e3⟩
            · exact w
            · exfalso
              apply hc
              rw [e3, mfl_k]; omega
          subst e18
          rw [t5 w1]
          refine ⟨_, sX9_named (hN v17 z2.1 (by omega)), ?_⟩ -- call wpX9_named o v17 (F18 3022 o) F18 A19 P38
          intro z40 p38
          refine ⟨fun hc => ?_, fun hc => ?_⟩ -- c5
          · -- case (z40 = (-1))
            refine ⟨by omega, ?_⟩ -- s1: jR (v17 + 1)
            refine ⟨?_, ?_⟩ -- l6: I21 (v17 + 1) F18 A19
            · refine ⟨rfl, by omega, Or.inl ⟨rfl, ⟨w1, w2⟩, fun k k0 k1 => ?_⟩⟩
              by_cases y : k = v17
              · rw [y]; omega
              · exact w3 k k0 (by omega)
            · dsimp only; omega
          · -- case ¬ (z40 = (-1))
            refine ⟨_, sX9_blame, ?_⟩ -- call wpX9_blame o 2 (F18 3012 o) F18 A19 P45
            intro F48 A49 p45
            refine ⟨by omega, ?_⟩ -- s2: jR (v17 + 1)
            refine ⟨?_, ?_⟩ -- l7: I21 (v17 + 1) F48 A49
            · obtain ⟨u1, u2, -⟩ := p45
              have u2 := u2 (by omega)
              rw [t1] at u2
              exact ⟨u1, by omega, Or.inr ⟨_, frF_kn bd w1 w2 ((kn4_eq W _).mpr ⟨v17, z2.1, by omega, by omega⟩), by show (0 : Int) < 2; decide, u2⟩⟩
            · dsimp only; omega
    refine ⟨fun hc => ?_, fun hc => ?_⟩ -- c6
    · -- case (¬ (F4 3009 o) = 1)
      refine ⟨_, sX9_blame, ?_⟩ -- call wpX9_blame o 1 (F4 3012 o) F4 A5 P54
      intro F57 A58 p54
      -- l8: K14 F57 A58
      obtain ⟨u1, u2, -⟩ := p54
      have u2 := u2 (by omega)
      rw [t1] at u2
      exact ⟨u1, Or.inr ⟨u2, frF_no bd (Or.inl (by omega))⟩⟩
    · -- case ¬ (¬ (F4 3009 o) = 1)
      have kd1 : tkKd q n (tkAt q n p) = 1 := by omega
      rw [t5 kd1]
      refine ⟨_, sX9_isOwn, ?_⟩ -- call wpX9_isOwn o (F4 3022 o) F4 A5 P62
      intro z64 p62
      refine ⟨fun hc => ?_, fun hc => ?_⟩ -- c7
      · -- case (z64 = 0)
        -- l9: K14 F4 A5
        refine ⟨rfl, Or.inl ⟨rfl, kd1, fun w => ?_⟩⟩
        rw [p62, cif_pos w] at hc; exact absurd hc (by decide)
      · -- case ¬ (z64 = 0)
        refine ⟨_, sX9_blame, ?_⟩ -- call wpX9_blame o 1 (F4 3012 o) F4 A5 P68
        intro F71 A72 p68
        -- l10: K14 F71 A72
        obtain ⟨u1, u2, -⟩ := p68
        have u2 := u2 (by omega)
        rw [t1] at u2
        refine ⟨u1, Or.inr ⟨u2, frF_no bd (Or.inr (Classical.byContradiction (fun w => ?_)))⟩⟩
        rw [p62, cif_neg w] at hc; exact hc rfl
  · -- case ¬ ((F4 3024 o) ≤ 0)
    -- l11: Q 0 F4 A5
    rcases lx with ⟨w, -, e⟩ | ⟨-, w2, w3⟩
    · exfalso
      apply hc
      rw [e, hG.1.1, w]
      omega
    · exact ⟨rfl, w2, hG.bad w3 (fun y => frF_bad y), fun w y => absurd y (mG.badne w3 (fun y => frF_bad y) w)⟩

