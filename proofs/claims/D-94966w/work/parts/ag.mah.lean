set_option maxRecDepth 100000
set_option linter.unusedVariables false
/-! the model's next sign; printed by gen/prove.py out of spec/ag.mah.spec -/
/-- what looking at the next sign leaves -/
def mhF (o : Nat) (F F' : jFl) : Prop := ∀ f a, (a = o → f ≠ 3009 ∧ f ≠ 3012 ∧ f ≠ 3015 ∧ f ≠ 3018 ∧ f ≠ 3022 ∧ f ≠ 3036) → F' f a = F f a
theorem mhF.refl (o : Nat) (F : jFl) : mhF o F F := fun _ _ _ => rfl
theorem mhF.trans {o : Nat} {F F' F'' : jFl} (h : mhF o F F') (h2 : mhF o F' F'') : mhF o F F'' := fun f a ha => (h2 f a ha).trans (h f a ha)
theorem mhF.up {o : Nat} {F F' : jFl} (h : mhF o F F') {f : Nat} {z : Int} (hf : f = 3009 ∨ f = 3012 ∨ f = 3015 ∨ f = 3018 ∨ f = 3022 ∨ f = 3036) : mhF o F (upF F' f o z) := fun g a ha => by
  by_cases w : a = o
  · have := ha w
    rw [w, upF_f (by omega)]; exact h g o (fun _ => this)
  · rw [upF_a w]; exact h g a ha
/-- the sign at a place is looked at -/
def mTk (o : Nat) (F : jFl) (q : Int → Int) (n a : Int) : Prop := F 3012 o = a ∧ F 3015 o = tkEnd q n a ∧ F 3009 o = tkKd q n a ∧ F 3036 o = tkBad q n a ∧ (tkKd q n a = 1 → F 3022 o = tkC q n a) ∧ (tkKd q n a = 2 → F 3018 o = tkV q n a) ∧ (tkKd q n a = 3 → F 3018 o = q a)
theorem mTk.of {o : Nat} {F F' : jFl} {q : Int → Int} {n a : Int} (h : mTk o F q n a) (hf : ∀ f, f = 3009 ∨ f = 3012 ∨ f = 3015 ∨ f = 3018 ∨ f = 3022 ∨ f = 3036 → F' f o = F f o) : mTk o F' q n a := by
  unfold mTk at *
  rw [hf 3012 (by decide), hf 3015 (by decide), hf 3009 (by decide), hf 3036 (by decide), hf 3022 (by decide), hf 3018 (by decide)]
  exact h
/-- in the midst of letters or digits: the limit told as far as u, the value as far as w -/
def mLp (o : Nat) (q : Int → Int) (n a k kd : Int) (F0 : jFl) (u w : Int) (F : jFl) : Prop := mhF o F0 F ∧ F 3006 o = n ∧ F 3012 o = a ∧ F 3009 o = kd ∧ F 3036 o = cif (alB q a) a (if k < u - a then a + k else -1) ∧ (kd = 1 → F 3022 o = tkW q n a w) ∧ (kd = 2 → F 3018 o = dgV q a (if w - a ≤ 4 then w - a else 4).toNat)
theorem cif_or {P : Prop} {x y : Int} : (P ∧ cif P x y = x) ∨ (¬ P ∧ cif P x y = y) := by
  by_cases w : P
  · exact Or.inl ⟨w, cif_pos w⟩
  · exact Or.inr ⟨w, cif_neg w⟩
theorem mLp.lA {o : Nat} {q : Int → Int} {n a k kd u w : Int} {F0 F : jFl} (h : mLp o q n a k kd F0 u w F) (hu : ¬ (u - a = k ∧ F 3036 o = -1)) (h0 : 0 ≤ a) (hk : u - a ≤ k ∨ k < u - a) : mLp o q n a k kd F0 (u + 1) w F := by
  obtain ⟨h1, h2, h3, h4, h5, h6, h7⟩ := h
  refine ⟨h1, h2, h3, h4, ?_, h6, h7⟩
  rw [h5]
  rw [h5] at hu
  rcases cif_or (P := alB q a) (x := a) (y := if k < u - a then a + k else -1) with ⟨x, -⟩ | ⟨x, -⟩
  · rw [cif_pos x, cif_pos x]
  · rw [cif_neg x] at hu ⊢
    rw [cif_neg x]
    by_cases y : k < u - a
    · rw [if_pos y, if_pos (by omega)]
    · rw [if_neg y] at hu ⊢
      rw [if_neg (by omega)]
theorem mLp.lB {o : Nat} {q : Int → Int} {n a k kd u w : Int} {F0 F F' : jFl} (h : mLp o q n a k kd F0 u w F) (e : F' = upF F 3036 o u) (hu : u - a = k ∧ F 3036 o = -1) (h0 : 0 ≤ a) : mLp o q n a k kd F0 (u + 1) w F' := by
  obtain ⟨h1, h2, h3, h4, h5, h6, h7⟩ := h
  subst e
  refine ⟨h1.up (by decide), by rw [upF_f (by decide)]; exact h2, by rw [upF_f (by decide)]; exact h3, by rw [upF_f (by decide)]; exact h4, ?_, by rw [upF_f (by decide)]; exact h6, by rw [upF_f (by decide)]; exact h7⟩
  rw [upF_s]
  rw [h5] at hu
  rcases cif_or (P := alB q a) (x := a) (y := if k < u - a then a + k else -1) with ⟨x, -⟩ | ⟨x, -⟩
  · rw [cif_pos x] at hu; omega
  · rw [cif_neg x, if_pos (by omega)]; omega
theorem tkW_succ {q : Int → Int} {n a w : Int} (h : a ≤ w) (h6 : w - a < 6) : tkW q n a (w + 1) = 256 * tkW q n a w + q w := by
  unfold tkW
  rw [if_pos (by omega), if_pos (by omega), show (w + 1 - a).toNat = (w - a).toNat + 1 by omega]
  show 256 * sCode _ (w - a).toNat + q (a + ((w - a).toNat : Nat)) = _
  rw [show a + ((w - a).toNat : Nat) = w by omega]
theorem tkW_full {q : Int → Int} {n a w : Int} (h6 : 6 ≤ w - a) : tkW q n a (w + 1) = tkW q n a w := by
  unfold tkW
  rw [if_neg (by omega)]
  by_cases x : w - a = 6
  · rw [if_pos (by omega), x]
  · rw [if_neg (by omega)]
theorem tkW_range {q : Int → Int} {n a w : Int} (h : a ≤ w) (hq : ∀ i : Int, a ≤ i → i < w → 0 ≤ q i ∧ q i ≤ 255) : 0 ≤ tkW q n a w ∧ tkW q n a w < 281474976710656 := by
  unfold tkW
  obtain ⟨m, hm⟩ : ∃ m : Nat, (if w - a ≤ 6 then w - a else 6).toNat = m := ⟨_, rfl⟩
  have hm6 : m ≤ 6 ∧ (m : Int) ≤ w - a := by
    rw [← hm]
    split <;> omega
  have r := sCode_range (g := fun i => q (a + i)) m (fun i i0 i1 => hq (a + i) (by omega) (by omega))
  have hp : (256 : Int) ^ m ≤ 256 ^ 6 := by
    have : (256 : Nat) ^ m ≤ 256 ^ 6 := Nat.pow_le_pow_right (by decide) hm6.1
    exact_mod_cast this
  rw [hm]
  have : (256 : Int) ^ 6 = 281474976710656 := by decide
  omega
theorem mLp.wA {o : Nat} {q : Int → Int} {n a k kd u w : Int} {F0 F : jFl} (h : mLp o q n a k kd F0 u w F) (hw : k ≤ w - a) (hkd : (kd = 1 ∧ k = 6) ∨ (kd = 2 ∧ k = 4)) : mLp o q n a k kd F0 u (w + 1) F := by
  obtain ⟨h1, h2, h3, h4, h5, h6, h7⟩ := h
  refine ⟨h1, h2, h3, h4, h5, fun x => by rw [tkW_full (by omega)]; exact h6 x, fun x => ?_⟩
  rw [h7 x, if_neg (show ¬ w + 1 - a ≤ 4 by omega)]
  by_cases y : w - a = 4
  · rw [if_pos (by omega), y]
  · rw [if_neg (by omega)]
theorem mLp.wB {o : Nat} {q : Int → Int} {n a u w y : Int} {F0 F F' : jFl} (h : mLp o q n a 6 1 F0 u w F) (e : F' = upF F 3022 o (jor (F 3022 o * 2 ^ 8) y)) (hy : y = q w) (h0 : a ≤ w) (hw : w - a < 6) (hq : ∀ i : Int, a ≤ i → i < w + 1 → 0 ≤ q i ∧ q i ≤ 255) : mLp o q n a 6 1 F0 u (w + 1) F' := by
  obtain ⟨h1, h2, h3, h4, h5, h6, h7⟩ := h
  have r := tkW_range (n := n) h0 (fun i i0 i1 => hq i i0 (by omega))
  have qw := hq w h0 (by omega)
  rw [h6 rfl, hy, jor_256 r.1 qw] at e
  subst e
  refine ⟨h1.up (by decide), by rw [upF_f (by decide)]; exact h2, by rw [upF_f (by decide)]; exact h3, by rw [upF_f (by decide)]; exact h4, by rw [upF_f (by decide)]; exact h5, fun _ => ?_, fun x => by omega⟩
  rw [upF_s, tkW_succ h0 hw]
theorem mLp.wC {o : Nat} {q : Int → Int} {n a u w y : Int} {F0 F F' : jFl} (h : mLp o q n a 4 2 F0 u w F) (e : F' = upF F 3018 o (10 * F 3018 o + y - 48)) (hy : y = q w) (h0 : a ≤ w) (hw : w - a < 4) : mLp o q n a 4 2 F0 u (w + 1) F' := by
  obtain ⟨h1, h2, h3, h4, h5, h6, h7⟩ := h
  rw [h7 rfl, hy, if_pos (show w - a ≤ 4 by omega)] at e
  subst e
  refine ⟨h1.up (by decide), by rw [upF_f (by decide)]; exact h2, by rw [upF_f (by decide)]; exact h3, by rw [upF_f (by decide)]; exact h4, by rw [upF_f (by decide)]; exact h5, fun x => by omega, fun _ => ?_⟩
  rw [upF_s, if_pos (by omega), show (w + 1 - a).toNat = (w - a).toNat + 1 by omega]
  show _ = 10 * dgV q a (w - a).toNat + q (a + ((w - a).toNat : Nat)) - 48
  rw [show a + ((w - a).toNat : Nat) = w by omega]
theorem mLp.dg {o : Nat} {q : Int → Int} {n a u w : Int} {F0 F : jFl} (h : mLp o q n a 4 2 F0 u w F) (h0 : a ≤ w) (hw : w - a < 4) (hq : ∀ i : Int, a ≤ i → i < w → isDg (q i)) : 0 ≤ F 3018 o ∧ F 3018 o ≤ 9999 := by
  rw [h.2.2.2.2.2.2 rfl, if_pos (show w - a ≤ 4 by omega)]
  have r := dgV_range (q := q) (a := a) (w - a).toNat (by omega) (fun i i0 i1 => hq (a + i) (by omega) (by omega))
  have hp : (10 : Int) ^ (w - a).toNat ≤ 10 ^ 4 := by
    have : (10 : Nat) ^ (w - a).toNat ≤ 10 ^ 4 := Nat.pow_le_pow_right (by decide) (by omega)
    exact_mod_cast this
  have : (10 : Int) ^ 4 = 10000 := by decide
  omega
theorem mLp.lt {o : Nat} {q : Int → Int} {n a u w : Int} {F0 F : jFl} (h : mLp o q n a 6 1 F0 u w F) (h0 : a ≤ w) (hq : ∀ i : Int, a ≤ i → i < w → 0 ≤ q i ∧ q i ≤ 255) : 0 ≤ F 3022 o ∧ F 3022 o < 281474976710656 := by
  rw [h.2.2.2.2.2.1 rfl]
  exact tkW_range h0 hq
theorem jor_rng {x y : Int} (h : 0 ≤ x ∧ x < 281474976710656) (hy : 0 ≤ y ∧ y ≤ 255) : jRL (jor (x * 2 ^ 8) y) := by
  rw [jor_256 h.1 hy]
  omega
/-- letters end -/
theorem mLp.endL {o : Nat} {q : Int → Int} {n a u : Int} {F0 F F' : jFl} (h : mLp o q n a 6 1 F0 u u F) (e : F' = upF F 3015 o u) (h0 : 0 ≤ a ∧ a < n) (ha : isLt (q a)) (hu : a ≤ u ∧ u ≤ n) (hl : ∀ i : Int, a ≤ i → i < u → isLt (q i)) (hx : u < n → ¬ isLt (q u)) : mTk o F' q n a ∧ mhF o F0 F' := by
  obtain ⟨h1, h2, h3, h4, h5, h6, h7⟩ := h
  have ee : tkEnd q n a = u := by rw [tkEnd_let h0.2 ha]; exact scn_is hu hl hx
  have ek : tkKd q n a = 1 := tkKd_let h0.2 ha
  subst e
  refine ⟨⟨by rw [upF_f (by decide)]; exact h3, by rw [upF_s, ee], by rw [upF_f (by decide), ek]; exact h4, ?_, fun _ => ?_, fun x => by rw [ek] at x; exact absurd x (by decide), fun x => by rw [ek] at x; exact absurd x (by decide)⟩, h1.up (by decide)⟩
  · rw [upF_f (by decide), h5]
    by_cases al : alB q a
    · rw [cif_pos al, tkBad_al h0.2 (Or.inl ha) al]
    · rw [cif_neg al]
      by_cases g : 6 < u - a
      · rw [if_pos g, tkBad_let h0.2 ha al (by omega)]
      · rw [if_neg g, tkBad_no al (fun _ => by omega) (fun x => absurd x (not_both ha))]
  · rw [upF_f (by decide), h6 rfl]
    unfold tkC
    rw [ee]
theorem mLp.endD {o : Nat} {q : Int → Int} {n a u : Int} {F0 F F' : jFl} (h : mLp o q n a 4 2 F0 u u F) (e : F' = upF F 3015 o u) (h0 : 0 ≤ a ∧ a < n) (ha : isDg (q a)) (hu : a ≤ u ∧ u ≤ n) (hl : ∀ i : Int, a ≤ i → i < u → isDg (q i)) (hx : u < n → ¬ isDg (q u)) : mTk o F' q n a ∧ mhF o F0 F' := by
  obtain ⟨h1, h2, h3, h4, h5, h6, h7⟩ := h
  have ee : tkEnd q n a = u := by rw [tkEnd_dig h0.2 ha]; exact scn_is hu hl hx
  have ek : tkKd q n a = 2 := tkKd_dig h0.2 ha
  subst e
  refine ⟨⟨by rw [upF_f (by decide)]; exact h3, by rw [upF_s, ee], by rw [upF_f (by decide), ek]; exact h4, ?_, fun x => by rw [ek] at x; exact absurd x (by decide), fun _ => ?_, fun x => by rw [ek] at x; exact absurd x (by decide)⟩, h1.up (by decide)⟩
  · rw [upF_f (by decide), h5]
    by_cases al : alB q a
    · rw [cif_pos al, tkBad_al h0.2 (Or.inr ha) al]
    · rw [cif_neg al]
      by_cases g : 4 < u - a
      · rw [if_pos g, tkBad_dig h0.2 ha al (by omega)]
      · rw [if_neg g, tkBad_no al (fun x => absurd ha (not_both x)) (fun _ => by omega)]
  · rw [upF_f (by decide), h7 rfl]
    unfold tkV
    rw [ee]
set_option maxHeartbeats 4000000 in
theorem sX9_ahead {o : Nat} {F : jFl} {A : jAr} {q : Int → Int} {n p : Int} (hq : ∀ i : Int, 0 ≤ i → i < n → A (o + 1) i = q i ∧ 0 ≤ q i ∧ q i ≤ 255) (h6 : F 3006 o = n) (hn : 0 ≤ n ∧ n ≤ 1600) (hp : F 3015 o = p) (hp2 : 0 ≤ p ∧ p ≤ n) : wpX9_ahead o F A (fun F' A' => A' = A ∧ mTk o F' q n (tkAt q n p) ∧ mhF o F F') := by
  unfold wpX9_ahead
  intro v1 e1
  refine ⟨fun (v2 : Int) => (p ≤ v2 ∧ v2 ≤ n) ∧ tkAt q n v2 = tkAt q n p, fun v2 => (n - v2).toNat, ?_, ?_⟩ -- loop I3 I3 v1
  ·
    -- l1: I3 v1
    exact ⟨by omega, by rw [e1, hp]⟩
  intro v2 i3
  obtain ⟨i1, i2⟩ := i3
  refine ⟨tkAt q n v2 = v2, ?_, ?_⟩ -- join K6
  · intro k6
    intro F9 e9
    intro F11 e11
    intro F13 e13
    intro F15 e15
    have kk : tkAt q n p = v2 := by rw [← i2]; exact k6
    have m15 : mhF o F F15 := by rw [e15, e13, e11, e9]; exact ((((mhF.refl o F).up (by decide)).up (by decide)).up (by decide)).up (by decide)
    have b1 : F15 3006 o = n := by rw [m15 _ _ (fun _ => by decide)]; exact h6
    have b2 : F15 3012 o = v2 := by rw [e15, upF_f (by decide), e13, upF_f (by decide), e11, upF_f (by decide), e9, upF_s]
    have b3 : F15 3015 o = v2 := by rw [e15, upF_f (by decide), e13, upF_f (by decide), e11, upF_s]
    have b4 : F15 3009 o = 0 := by rw [e15, upF_f (by decide), e13, upF_s]
    have b5 : F15 3036 o = -1 := by rw [e15, upF_s]
    rw [b1]
    refine ⟨fun hc => ?_, fun hc => ?_⟩ -- c1
    · -- case (v2 < (F15 3006 o))
      refine ⟨by first | omega | exact jor_rng r4 hv4.2 | (have rd := k289.dg (by omega) (by omega) h3; omega) | (have rd := h4.dg (by omega) (by omega) h3; omega), ?_⟩ -- s1: (0 ≤ v2 ∧ v2 < 1800)
      have hv := hq v2 (by omega) (by omega)
      rw [hv.1]
      refine ⟨_, sX9_isLetter, ?_⟩ -- call wpX9_isLetter o (A (o + 1) v2) F15 A P19
      intro z21 p19
      refine ⟨by first | omega | exact jor_rng r4 hv4.2 | (have rd := k289.dg (by omega) (by omega) h3; omega) | (have rd := h4.dg (by omega) (by omega) h3; omega), ?_⟩ -- s2: (0 ≤ v2 ∧ v2 < 1800)
      refine ⟨_, sX9_isDigit, ?_⟩ -- call wpX9_isDigit o (A (o + 1) v2) F15 A P25
      intro z27 p25
      have k33a : ¬ ((z21 = 1 ∨ z27 = 1) ∧ alB q v2) → (mhF o F F15 ∧ F15 3006 o = n ∧ F15 3012 o = v2 ∧ F15 3036 o = cif ((z21 = 1 ∨ z27 = 1) ∧ alB q v2) v2 (-1)) := fun x => ⟨m15, b1, b2, by rw [cif_neg x]; exact b5⟩
      have k33b : ((z21 = 1 ∨ z27 = 1) ∧ alB q v2) → ∀ F' : jFl, F' = upF F15 3036 o v2 → (mhF o F F' ∧ F' 3006 o = n ∧ F' 3012 o = v2 ∧ F' 3036 o = cif ((z21 = 1 ∨ z27 = 1) ∧ alB q v2) v2 (-1)) := fun x F' e => ⟨by rw [e]; exact m15.up (by decide), by rw [e, upF_f (by decide)]; exact b1, by rw [e, upF_f (by decide)]; exact b2, by rw [e, upF_s, cif_pos x]⟩
      refine ⟨fun (F31 : jFl) => mhF o F F31 ∧ F31 3006 o = n ∧ F31 3012 o = v2 ∧ F31 3036 o = cif ((z21 = 1 ∨ z27 = 1) ∧ alB q v2) v2 (-1), ?_, ?_⟩ -- join K33
      · intro F31 k33
        obtain ⟨d1, d2, d3, d4⟩ := k33
        intro F36 e36
        intro F38 e38
        intro F40 e40
        refine ⟨by first | omega | exact jor_rng r4 hv4.2 | (have rd := k289.dg (by omega) (by omega) h3; omega) | (have rd := h4.dg (by omega) (by omega) h3; omega), ?_⟩ -- s3: jR (v2 + 1)
        intro F43 e43
        have m43 : mhF o F F43 := by rw [e43, e40, e38, e36]; exact (((d1.up (by decide)).up (by decide)).up (by decide)).up (by decide)
        have y1 : F43 3012 o = v2 := by rw [e43, upF_f (by decide), e40, upF_f (by decide), e38, upF_f (by decide), e36, upF_f (by decide)]; exact d3
        have y2 : F43 3036 o = cif ((z21 = 1 ∨ z27 = 1) ∧ alB q v2) v2 (-1) := by rw [e43, upF_f (by decide), e40, upF_f (by decide), e38, upF_f (by decide), e36, upF_f (by decide)]; exact d4
        have y3 : F43 3022 o = 0 := by rw [e43, upF_f (by decide), e40, upF_f (by decide), e38, upF_s]
        have y4 : F43 3018 o = 0 := by rw [e43, upF_f (by decide), e40, upF_f (by decide), e38, upF_f (by decide), e36, upF_s]
        have y5 : F43 3009 o = 3 := by rw [e43, upF_f (by decide), e40, upF_s]
        have y6 : F43 3015 o = v2 + 1 := by rw [e43, upF_s]
        have y7 : F43 3006 o = n := by rw [m43 _ _ (fun _ => by decide)]; exact h6
        refine ⟨fun hc => ?_, fun hc => ?_⟩ -- c2
        · -- case (¬ z21 = 0)
          intro z47 e47
          intro F49 e49
          intro z52 e52
          have lt : isLt (q v2) := by unfold isLt; split at p19 <;> omega
          have z1 : z21 = 1 := by split at p19 <;> omega
          have zd : z27 = 0 := by rw [p25]; exact if_neg (fun x => not_both lt x)
          have z6 : z52 = 6 := by rw [e52, if_neg (by omega)]
          have z7 : z47 = 1 := by rw [e47, if_neg (by omega)]
          rw [z7] at e49
          have m49 : mLp o q n v2 6 1 F v2 v2 F49 := by
            rw [e49]
            refine ⟨m43.up (by decide), by rw [upF_f (by decide)]; exact y7, by rw [upF_f (by decide)]; exact y1, upF_s, ?_, fun _ => ?_, fun x => by omega⟩
            · rw [upF_f (by decide), y2, if_neg (by omega)]
              by_cases al : alB q v2
              · rw [cif_pos al, cif_pos ⟨Or.inl z1, al⟩]
              · rw [cif_neg al, cif_neg (fun x => al x.2)]
            · rw [upF_f (by decide), y3]
              unfold tkW
              rw [if_pos (by omega), show (v2 - v2).toNat = 0 by omega]
              rfl
          refine ⟨fun (v54 : Int) (v55 : Int) (F56 : jFl) => (v2 ≤ v54 ∧ v54 ≤ n) ∧ v55 = v54 - v2 ∧ (∀ i : Int, v2 ≤ i → i < v54 → isLt (q i)) ∧ mLp o q n v2 6 1 F v54 v54 F56, fun v54 v55 F56 => (n - v54).toNat, ?_, ?_⟩ -- loop I58 I58 v2 0 F49
          ·
            -- l2: I58 v2 0 F49
            exact ⟨by omega, by omega, fun i i0 i1 => by omega, m49⟩
          intro v54 v55 F56 i58
          obtain ⟨j1, j2, j3, j4⟩ := i58
          have n56 := j4.2.1
          rw [n56]
          refine ⟨fun hc => ?_, fun hc => ?_⟩ -- c3
          · -- case ((F56 3006 o) ≤ v54)
            intro F61 e61
            -- l3: Q F61 A
            have g := j4.endL e61 ⟨by omega, by omega⟩ lt (by omega) j3 (fun x => by omega)
            exact ⟨rfl, by rw [kk]; exact g.1, g.2⟩
          · -- case ¬ ((F56 3006 o) ≤ v54)
            refine ⟨fun hc => ?_, fun hc => ?_⟩ -- c4
            · -- case (z21 = 0)
              omega
            · -- case ¬ (z21 = 0)
              refine ⟨by first | omega | exact jor_rng r4 hv4.2 | (have rd := k289.dg (by omega) (by omega) h3; omega) | (have rd := h4.dg (by omega) (by omega) h3; omega), ?_⟩ -- s4: (0 ≤ v54 ∧ v54 < 1800)
              have hv4 := hq v54 (by omega) (by omega)
              rw [hv4.1]
              refine ⟨_, sX9_isLetter, ?_⟩ -- call wpX9_isLetter o (A (o + 1) v54) F56 A P108
              intro z110 p108
              refine ⟨fun hc => ?_, fun hc => ?_⟩ -- c5
              · -- case (z110 = 0)
                intro F114 e114
                -- l4: Q F114 A
                have g := j4.endL e114 ⟨by omega, by omega⟩ lt (by omega) j3 (fun _ x => by unfold isLt at x; rw [if_pos x] at p108; omega)
                exact ⟨rfl, by rw [kk]; exact g.1, g.2⟩
              · -- case ¬ (z110 = 0)
                have lt4 : isLt (q v54) := by unfold isLt; split at p108 <;> omega
                have j3' : ∀ i : Int, v2 ≤ i → i < v54 + 1 → isLt (q i) := fun i i0 i1 => by
                  by_cases x : i = v54
                  · rw [x]; exact lt4
                  · exact j3 i i0 (by omega)
                have hqa : ∀ i : Int, v2 ≤ i → i < v54 + 1 → 0 ≤ q i ∧ q i ≤ 255 := fun i i0 i1 => (hq i (by omega) (by omega)).2
                have r4 := j4.lt (by omega) (fun i i0 i1 => hqa i i0 (by omega))
                refine ⟨fun hc => ?_, fun hc => ?_⟩ -- c6
                · -- case (¬ v55 = z52)
                  refine ⟨fun hc => ?_, fun hc => ?_⟩ -- c7
                  · -- case (z52 ≤ v55)
                    refine ⟨fun hc => ?_, fun hc => ?_⟩ -- c8
                    · -- case (z52 ≤ v55)
                      refine ⟨by first | omega | exact jor_rng r4 hv4.2 | (have rd := k289.dg (by omega) (by omega) h3; omega) | (have rd := h4.dg (by omega) (by omega) h3; omega), ?_⟩ -- s5: jR (v55 + 1)
                      refine ⟨by first | omega | exact jor_rng r4 hv4.2 | (have rd := k289.dg (by omega) (by omega) h3; omega) | (have rd := h4.dg (by omega) (by omega) h3; omega), ?_⟩ -- s6: jR (v54 + 1)
                      refine ⟨?_, ?_⟩ -- l5: I58 (v54 + 1) (v55 + 1) F56
                      · first | (exfalso; omega) | exact ⟨by omega, by omega, j3', (j4.lA (by omega) (by omega) (by omega)).wA (by omega) (Or.inl ⟨rfl, rfl⟩)⟩ | exact ⟨by omega, by omega, j3', (j4.lA (by omega) (by omega) (by omega)).wB (by assumption) rfl (by omega) (by omega) hqa⟩ | exact ⟨by omega, by omega, j3', (j4.lB (by assumption) (by omega) (by omega)).wA (by omega) (Or.inl ⟨rfl, rfl⟩)⟩
                      · dsimp only; omega
                    · -- case ¬ (z52 ≤ v55)
                      refine ⟨fun hc => ?_, fun hc => ?_⟩ -- c9
                      · -- case (z27 = 0)
                        refine ⟨by first | omega | exact jor_rng r4 hv4.2 | (have rd := k289.dg (by omega) (by omega) h3; omega) | (have rd := h4.dg (by omega) (by omega) h3; omega), ?_⟩ -- s7: jR (v55 + 1)
                        refine ⟨by first | omega | exact jor_rng r4 hv4.2 | (have rd := k289.dg (by omega) (by omega) h3; omega) | (have rd := h4.dg (by omega) (by omega) h3; omega), ?_⟩ -- s8: jR (v54 + 1)
                        refine ⟨?_, ?_⟩ -- l6: I58 (v54 + 1) (v55 + 1) F56
                        · first | (exfalso; omega) | exact ⟨by omega, by omega, j3', (j4.lA (by omega) (by omega) (by omega)).wA (by omega) (Or.inl ⟨rfl, rfl⟩)⟩ | exact ⟨by omega, by omega, j3', (j4.lA (by omega) (by omega) (by omega)).wB (by assumption) rfl (by omega) (by omega) hqa⟩ | exact ⟨by omega, by omega, j3', (j4.lB (by assumption) (by omega) (by omega)).wA (by omega) (Or.inl ⟨rfl, rfl⟩)⟩
                        · dsimp only; omega
                      · -- case ¬ (z27 = 0)
                        omega
                  · -- case ¬ (z52 ≤ v55)
                    refine ⟨fun hc => ?_, fun hc => ?_⟩ -- c10
                    · -- case (z21 = 0)
                      omega
                    · -- case ¬ (z21 = 0)
                      refine ⟨by first | omega | exact jor_rng r4 hv4.2 | (have rd := k289.dg (by omega) (by omega) h3; omega) | (have rd := h4.dg (by omega) (by omega) h3; omega), ?_⟩ -- s9: ((0 : Int) ≤ 8 ∧ (8 : Int) < 64)
                      refine ⟨by first | omega | exact jor_rng r4 hv4.2 | (have rd := k289.dg (by omega) (by omega) h3; omega) | (have rd := h4.dg (by omega) (by omega) h3; omega), ?_⟩ -- s10: (0 ≤ v54 ∧ v54 < 1800)
                      refine ⟨by first | omega | exact jor_rng r4 hv4.2 | (have rd := k289.dg (by omega) (by omega) h3; omega) | (have rd := h4.dg (by omega) (by omega) h3; omega), ?_⟩ -- s11: (((0 : Int) ≤ (F56 3022 o) * 2 ^ 8 ∧ ((F56 3022 o) * 2 ^ 8 : Int) ≤ 9223372036854775807) ∧ ((0 : Int) ≤ A (o + 1) v54 ∧ (A (o + 1) v54 : Int) ≤ 9223372036854775
                      refine ⟨by first | omega | exact jor_rng r4 hv4.2 | (have rd := k289.dg (by omega) (by omega) h3; omega) | (have rd := h4.dg (by omega) (by omega) h3; omega), ?_⟩ -- s12: jRL (jor ((F56 3022 o) * 2 ^ 8) (A (o + 1) v54))
                      intro F147 e147
                      refine ⟨fun hc => ?_, fun hc => ?_⟩ -- c11
                      · -- case (z52 ≤ v55)
                        refine ⟨by first | omega | exact jor_rng r4 hv4.2 | (have rd := k289.dg (by omega) (by omega) h3; omega) | (have rd := h4.dg (by omega) (by omega) h3; omega), ?_⟩ -- s13: jR (v55 + 1)
                        refine ⟨by first | omega | exact jor_rng r4 hv4.2 | (have rd := k289.dg (by omega) (by omega) h3; omega) | (have rd := h4.dg (by omega) (by omega) h3; omega), ?_⟩ -- s14: jR (v54 + 1)
                        refine ⟨?_, ?_⟩ -- l7: I58 (v54 + 1) (v55 + 1) F147
                        · first | (exfalso; omega) | exact ⟨by omega, by omega, j3', (j4.lA (by omega) (by omega) (by omega)).wA (by omega) (Or.inl ⟨rfl, rfl⟩)⟩ | exact ⟨by omega, by omega, j3', (j4.lA (by omega) (by omega) (by omega)).wB (by assumption) rfl (by omega) (by omega) hqa⟩ | exact ⟨by omega, by omega, j3', (j4.lB (by assumption) (by omega) (by omega)).wA (by omega) (Or.inl ⟨rfl, rfl⟩)⟩
                        · dsimp only; omega
                      · -- case ¬ (z52 ≤ v55)
                        refine ⟨fun hc => ?_, fun hc => ?_⟩ -- c12
                        · -- case (z27 = 0)
                          refine ⟨by first | omega | exact jor_rng r4 hv4.2 | (have rd := k289.dg (by omega) (by omega) h3; omega) | (have rd := h4.dg (by omega) (by omega) h3; omega), ?_⟩ -- s15: jR (v55 + 1)
                          refine ⟨by first | omega | exact jor_rng r4 hv4.2 | (have rd := k289.dg (by omega) (by omega) h3; omega) | (have rd := h4.dg (by omega) (by omega) h3; omega), ?_⟩ -- s16: jR (v54 + 1)
                          refine ⟨?_, ?_⟩ -- l8: I58 (v54 + 1) (v55 + 1) F147
                          · first | (exfalso; omega) | exact ⟨by omega, by omega, j3', (j4.lA (by omega) (by omega) (by omega)).wA (by omega) (Or.inl ⟨rfl, rfl⟩)⟩ | exact ⟨by omega, by omega, j3', (j4.lA (by omega) (by omega) (by omega)).wB (by assumption) rfl (by omega) (by omega) hqa⟩ | exact ⟨by omega, by omega, j3', (j4.lB (by assumption) (by omega) (by omega)).wA (by omega) (Or.inl ⟨rfl, rfl⟩)⟩
                          · dsimp only; omega
                        · -- case ¬ (z27 = 0)
                          omega
                · -- case ¬ (¬ v55 = z52)
                  refine ⟨fun hc => ?_, fun hc => ?_⟩ -- c13
                  · -- case (¬ (F56 3036 o) = (-1))
                    refine ⟨fun hc => ?_, fun hc => ?_⟩ -- c14
                    · -- case (z52 ≤ v55)
                      refine ⟨fun hc => ?_, fun hc => ?_⟩ -- c15
                      · -- case (z52 ≤ v55)
                        refine ⟨by first | omega | exact jor_rng r4 hv4.2 | (have rd := k289.dg (by omega) (by omega) h3; omega) | (have rd := h4.dg (by omega) (by omega) h3; omega), ?_⟩ -- s17: jR (v55 + 1)
                        refine ⟨by first | omega | exact jor_rng r4 hv4.2 | (have rd := k289.dg (by omega) (by omega) h3; omega) | (have rd := h4.dg (by omega) (by omega) h3; omega), ?_⟩ -- s18: jR (v54 + 1)
                        refine ⟨?_, ?_⟩ -- l9: I58 (v54 + 1) (v55 + 1) F56
                        · first | (exfalso; omega) | exact ⟨by omega, by omega, j3', (j4.lA (by omega) (by omega) (by omega)).wA (by omega) (Or.inl ⟨rfl, rfl⟩)⟩ | exact ⟨by omega, by omega, j3', (j4.lA (by omega) (by omega) (by omega)).wB (by assumption) rfl (by omega) (by omega) hqa⟩ | exact ⟨by omega, by omega, j3', (j4.lB (by assumption) (by omega) (by omega)).wA (by omega) (Or.inl ⟨rfl, rfl⟩)⟩
                        · dsimp only; omega
                      · -- case ¬ (z52 ≤ v55)
                        refine ⟨fun hc => ?_, fun hc => ?_⟩ -- c16
                        · -- case (z27 = 0)
                          refine ⟨by first | omega | exact jor_rng r4 hv4.2 | (have rd := k289.dg (by omega) (by omega) h3; omega) | (have rd := h4.dg (by omega) (by omega) h3; omega), ?_⟩ -- s19: jR (v55 + 1)
                          refine ⟨by first | omega | exact jor_rng r4 hv4.2 | (have rd := k289.dg (by omega) (by omega) h3; omega) | (have rd := h4.dg (by omega) (by omega) h3; omega), ?_⟩ -- s20: jR (v54 + 1)
                          refine ⟨?_, ?_⟩ -- l10: I58 (v54 + 1) (v55 + 1) F56
                          · first | (exfalso; omega) | exact ⟨by omega, by omega, j3', (j4.lA (by omega) (by omega) (by omega)).wA (by omega) (Or.inl ⟨rfl, rfl⟩)⟩ | exact ⟨by omega, by omega, j3', (j4.lA (by omega) (by omega) (by omega)).wB (by assumption) rfl (by omega) (by omega) hqa⟩ | exact ⟨by omega, by omega, j3', (j4.lB (by assumption) (by omega) (by omega)).wA (by omega) (Or.inl ⟨rfl, rfl⟩)⟩
                          · dsimp only; omega
                        · -- case ¬ (z27 = 0)
                          omega
                    · -- case ¬ (z52 ≤ v55)
                      refine ⟨fun hc => ?_, fun hc => ?_⟩ -- c17
                      · -- case (z21 = 0)
                        omega
                      · -- case ¬ (z21 = 0)
                        refine ⟨by first | omega | exact jor_rng r4 hv4.2 | (have rd := k289.dg (by omega) (by omega) h3; omega) | (have rd := h4.dg (by omega) (by omega) h3; omega), ?_⟩ -- s21: ((0 : Int) ≤ 8 ∧ (8 : Int) < 64)
                        refine ⟨by first | omega | exact jor_rng r4 hv4.2 | (have rd := k289.dg (by omega) (by omega) h3; omega) | (have rd := h4.dg (by omega) (by omega) h3; omega), ?_⟩ -- s22: (0 ≤ v54 ∧ v54 < 1800)
                        refine ⟨by first | omega | exact jor_rng r4 hv4.2 | (have rd := k289.dg (by omega) (by omega) h3; omega) | (have rd := h4.dg (by omega) (by omega) h3; omega), ?_⟩ -- s23: (((0 : Int) ≤ (F56 3022 o) * 2 ^ 8 ∧ ((F56 3022 o) * 2 ^ 8 : Int) ≤ 9223372036854775807) ∧ ((0 : Int) ≤ A (o + 1) v54 ∧ (A (o + 1) v54 : Int) ≤ 9223372036854775
                        refine ⟨by first | omega | exact jor_rng r4 hv4.2 | (have rd := k289.dg (by omega) (by omega) h3; omega) | (have rd := h4.dg (by omega) (by omega) h3; omega), ?_⟩ -- s24: jRL (jor ((F56 3022 o) * 2 ^ 8) (A (o + 1) v54))
                        intro F192 e192
                        refine ⟨fun hc => ?_, fun hc => ?_⟩ -- c18
                        · -- case (z52 ≤ v55)
                          refine ⟨by first | omega | exact jor_rng r4 hv4.2 | (have rd := k289.dg (by omega) (by omega) h3; omega) | (have rd := h4.dg (by omega) (by omega) h3; omega), ?_⟩ -- s25: jR (v55 + 1)
                          refine ⟨by first | omega | exact jor_rng r4 hv4.2 | (have rd := k289.dg (by omega) (by omega) h3; omega) | (have rd := h4.dg (by omega) (by omega) h3; omega), ?_⟩ -- s26: jR (v54 + 1)
                          refine ⟨?_, ?_⟩ -- l11: I58 (v54 + 1) (v55 + 1) F192
                          · first | (exfalso; omega) | exact ⟨by omega, by omega, j3', (j4.lA (by omega) (by omega) (by omega)).wA (by omega) (Or.inl ⟨rfl, rfl⟩)⟩ | exact ⟨by omega, by omega, j3', (j4.lA (by omega) (by omega) (by omega)).wB (by assumption) rfl (by omega) (by omega) hqa⟩ | exact ⟨by omega, by omega, j3', (j4.lB (by assumption) (by omega) (by omega)).wA (by omega) (Or.inl ⟨rfl, rfl⟩)⟩
                          · dsimp only; omega
                        · -- case ¬ (z52 ≤ v55)
                          refine ⟨fun hc => ?_, fun hc => ?_⟩ -- c19
                          · -- case (z27 = 0)
                            refine ⟨by first | omega | exact jor_rng r4 hv4.2 | (have rd := k289.dg (by omega) (by omega) h3; omega) | (have rd := h4.dg (by omega) (by omega) h3; omega), ?_⟩ -- s27: jR (v55 + 1)
                            refine ⟨by first | omega | exact jor_rng r4 hv4.2 | (have rd := k289.dg (by omega) (by omega) h3; omega) | (have rd := h4.dg (by omega) (by omega) h3; omega), ?_⟩ -- s28: jR (v54 + 1)
                            refine ⟨?_, ?_⟩ -- l12: I58 (v54 + 1) (v55 + 1) F192
                            · first | (exfalso; omega) | exact ⟨by omega, by omega, j3', (j4.lA (by omega) (by omega) (by omega)).wA (by omega) (Or.inl ⟨rfl, rfl⟩)⟩ | exact ⟨by omega, by omega, j3', (j4.lA (by omega) (by omega) (by omega)).wB (by assumption) rfl (by omega) (by omega) hqa⟩ | exact ⟨by omega, by omega, j3', (j4.lB (by assumption) (by omega) (by omega)).wA (by omega) (Or.inl ⟨rfl, rfl⟩)⟩
                            · dsimp only; omega
                          · -- case ¬ (z27 = 0)
                            omega
                  · -- case ¬ (¬ (F56 3036 o) = (-1))
                    intro F206 e206
                    refine ⟨fun hc => ?_, fun hc => ?_⟩ -- c20
                    · -- case (z52 ≤ v55)
                      refine ⟨fun hc => ?_, fun hc => ?_⟩ -- c21
                      · -- case (z52 ≤ v55)
                        refine ⟨by first | omega | exact jor_rng r4 hv4.2 | (have rd := k289.dg (by omega) (by omega) h3; omega) | (have rd := h4.dg (by omega) (by omega) h3; omega), ?_⟩ -- s29: jR (v55 + 1)
                        refine ⟨by first | omega | exact jor_rng r4 hv4.2 | (have rd := k289.dg (by omega) (by omega) h3; omega) | (have rd := h4.dg (by omega) (by omega) h3; omega), ?_⟩ -- s30: jR (v54 + 1)
                        refine ⟨?_, ?_⟩ -- l13: I58 (v54 + 1) (v55 + 1) F206
                        · first | (exfalso; omega) | exact ⟨by omega, by omega, j3', (j4.lA (by omega) (by omega) (by omega)).wA (by omega) (Or.inl ⟨rfl, rfl⟩)⟩ | exact ⟨by omega, by omega, j3', (j4.lA (by omega) (by omega) (by omega)).wB (by assumption) rfl (by omega) (by omega) hqa⟩ | exact ⟨by omega, by omega, j3', (j4.lB (by assumption) (by omega) (by omega)).wA (by omega) (Or.inl ⟨rfl, rfl⟩)⟩
                        · dsimp only; omega
                      · -- case ¬ (z52 ≤ v55)
                        refine ⟨fun hc => ?_, fun hc => ?_⟩ -- c22
                        · -- case (z27 = 0)
                          refine ⟨by first | omega | exact jor_rng r4 hv4.2 | (have rd := k289.dg (by omega) (by omega) h3; omega) | (have rd := h4.dg (by omega) (by omega) h3; omega), ?_⟩ -- s31: jR (v55 + 1)
                          refine ⟨by first | omega | exact jor_rng r4 hv4.2 | (have rd := k289.dg (by omega) (by omega) h3; omega) | (have rd := h4.dg (by omega) (by omega) h3; omega), ?_⟩ -- s32: jR (v54 + 1)
                          refine ⟨?_, ?_⟩ -- l14: I58 (v54 + 1) (v55 + 1) F206
                          · first | (exfalso; omega) | exact ⟨by omega, by omega, j3', (j4.lA (by omega) (by omega) (by omega)).wA (by omega) (Or.inl ⟨rfl, rfl⟩)⟩ | exact ⟨by omega, by omega, j3', (j4.lA (by omega) (by omega) (by omega)).wB (by assumption) rfl (by omega) (by omega) hqa⟩ | exact ⟨by omega, by omega, j3', (j4.lB (by assumption) (by omega) (by omega)).wA (by omega) (Or.inl ⟨rfl, rfl⟩)⟩
                          · dsimp only; omega
                        · -- case ¬ (z27 = 0)
                          omega
                    · -- case ¬ (z52 ≤ v55)
                      refine ⟨fun hc => ?_, fun hc => ?_⟩ -- c23
                      · -- case (z21 = 0)
                        omega
                      · -- case ¬ (z21 = 0)
                        refine ⟨by first | omega | exact jor_rng r4 hv4.2 | (have rd := k289.dg (by omega) (by omega) h3; omega) | (have rd := h4.dg (by omega) (by omega) h3; omega), ?_⟩ -- s33: ((0 : Int) ≤ 8 ∧ (8 : Int) < 64)
                        refine ⟨by first | omega | exact jor_rng r4 hv4.2 | (have rd := k289.dg (by omega) (by omega) h3; omega) | (have rd := h4.dg (by omega) (by omega) h3; omega), ?_⟩ -- s34: (0 ≤ v54 ∧ v54 < 1800)
                        refine ⟨by first | omega | exact jor_rng r4 hv4.2 | (have rd := k289.dg (by omega) (by omega) h3; omega) | (have rd := h4.dg (by omega) (by omega) h3; omega), ?_⟩ -- s35: (((0 : Int) ≤ (F206 3022 o) * 2 ^ 8 ∧ ((F206 3022 o) * 2 ^ 8 : Int) ≤ 9223372036854775807) ∧ ((0 : Int) ≤ A (o + 1) v54 ∧ (A (o + 1) v54 : Int) ≤ 92233720368547
                        refine ⟨by first | omega | exact jor_rng r4 hv4.2 | (have rd := k289.dg (by omega) (by omega) h3; omega) | (have rd := h4.dg (by omega) (by omega) h3; omega), ?_⟩ -- s36: jRL (jor ((F206 3022 o) * 2 ^ 8) (A (o + 1) v54))
                        intro F238 e238
                        refine ⟨fun hc => ?_, fun hc => ?_⟩ -- c24
                        · -- case (z52 ≤ v55)
                          refine ⟨by first | omega | exact jor_rng r4 hv4.2 | (have rd := k289.dg (by omega) (by omega) h3; omega) | (have rd := h4.dg (by omega) (by omega) h3; omega), ?_⟩ -- s37: jR (v55 + 1)
                          refine ⟨by first | omega | exact jor_rng r4 hv4.2 | (have rd := k289.dg (by omega) (by omega) h3; omega) | (have rd := h4.dg (by omega) (by omega) h3; omega), ?_⟩ -- s38: jR (v54 + 1)
                          refine ⟨?_, ?_⟩ -- l15: I58 (v54 + 1) (v55 + 1) F238
                          · first | (exfalso; omega) | exact ⟨by omega, by omega, j3', (j4.lA (by omega) (by omega) (by omega)).wA (by omega) (Or.inl ⟨rfl, rfl⟩)⟩ | exact ⟨by omega, by omega, j3', (j4.lA (by omega) (by omega) (by omega)).wB (by assumption) rfl (by omega) (by omega) hqa⟩ | exact ⟨by omega, by omega, j3', (j4.lB (by assumption) (by omega) (by omega)).wA (by omega) (Or.inl ⟨rfl, rfl⟩)⟩
                          · dsimp only; omega
                        · -- case ¬ (z52 ≤ v55)
                          refine ⟨fun hc => ?_, fun hc => ?_⟩ -- c25
                          · -- case (z27 = 0)
                            refine ⟨by first | omega | exact jor_rng r4 hv4.2 | (have rd := k289.dg (by omega) (by omega) h3; omega) | (have rd := h4.dg (by omega) (by omega) h3; omega), ?_⟩ -- s39: jR (v55 + 1)
                            refine ⟨by first | omega | exact jor_rng r4 hv4.2 | (have rd := k289.dg (by omega) (by omega) h3; omega) | (have rd := h4.dg (by omega) (by omega) h3; omega), ?_⟩ -- s40: jR (v54 + 1)
                            refine ⟨?_, ?_⟩ -- l16: I58 (v54 + 1) (v55 + 1) F238
                            · first | (exfalso; omega) | exact ⟨by omega, by omega, j3', (j4.lA (by omega) (by omega) (by omega)).wA (by omega) (Or.inl ⟨rfl, rfl⟩)⟩ | exact ⟨by omega, by omega, j3', (j4.lA (by omega) (by omega) (by omega)).wB (by assumption) rfl (by omega) (by omega) hqa⟩ | exact ⟨by omega, by omega, j3', (j4.lB (by assumption) (by omega) (by omega)).wA (by omega) (Or.inl ⟨rfl, rfl⟩)⟩
                            · dsimp only; omega
                          · -- case ¬ (z27 = 0)
                            omega
        · -- case ¬ (¬ z21 = 0)
          refine ⟨fun hc => ?_, fun hc => ?_⟩ -- c26
          · -- case (¬ z27 = 0)
            intro z254 e254
            intro F256 e256
            intro z259 e259
            have dg : isDg (q v2) := by unfold isDg; split at p25 <;> omega
            have w1 : z27 = 1 := by split at p25 <;> omega
            have w4 : z259 = 4 := by rw [e259, if_pos (by omega)]
            have w2 : z254 = 2 := by rw [e254, if_pos (by omega)]
            rw [w2] at e256
            have m56 : mLp o q n v2 4 2 F v2 v2 F256 := by
              rw [e256]
              refine ⟨m43.up (by decide), by rw [upF_f (by decide)]; exact y7, by rw [upF_f (by decide)]; exact y1, upF_s, ?_, fun x => by omega, fun _ => ?_⟩
              · rw [upF_f (by decide), y2, if_neg (by omega)]
                by_cases al : alB q v2
                · rw [cif_pos al, cif_pos ⟨Or.inr w1, al⟩]
                · rw [cif_neg al, cif_neg (fun x => al x.2)]
              · rw [upF_f (by decide), y4, if_pos (by omega), show (v2 - v2).toNat = 0 by omega]
                rfl
            refine ⟨fun (v261 : Int) (v262 : Int) (F263 : jFl) => (v2 ≤ v261 ∧ v261 ≤ n) ∧ v262 = v261 - v2 ∧ (∀ i : Int, v2 ≤ i → i < v261 → isDg (q i)) ∧ mLp o q n v2 4 2 F v261 v261 F263, fun v261 v262 F263 => (n - v261).toNat, ?_, ?_⟩ -- loop I265 I265 v2 0 F256
            ·
              -- l17: I265 v2 0 F256
              exact ⟨by omega, by omega, fun i i0 i1 => by omega, m56⟩
            intro v261 v262 F263 i265
            obtain ⟨h1, h2, h3, h4⟩ := i265
            have n63 := h4.2.1
            rw [n63]
            refine ⟨fun hc => ?_, fun hc => ?_⟩ -- c27
            · -- case ((F263 3006 o) ≤ v261)
              intro F268 e268
              -- l18: Q F268 A
              have g := h4.endD e268 ⟨by omega, by omega⟩ dg (by omega) h3 (fun x => by omega)
              exact ⟨rfl, by rw [kk]; exact g.1, g.2⟩
            · -- case ¬ ((F263 3006 o) ≤ v261)
              refine ⟨fun hc => ?_, fun hc => ?_⟩ -- c28
              · -- case (z21 = 0)
                refine ⟨by first | omega | exact jor_rng r4 hv4.2 | (have rd := k289.dg (by omega) (by omega) h3; omega) | (have rd := h4.dg (by omega) (by omega) h3; omega), ?_⟩ -- s41: (0 ≤ v261 ∧ v261 < 1800)
                have hv4 := hq v261 (by omega) (by omega)
                rw [hv4.1]
                refine ⟨_, sX9_isDigit, ?_⟩ -- call wpX9_isDigit o (A (o + 1) v261) F263 A P272
                intro z274 p272
                refine ⟨fun hc => ?_, fun hc => ?_⟩ -- c29
                · -- case (z274 = 0)
                  intro F278 e278
                  -- l19: Q F278 A
                  have g := h4.endD e278 ⟨by omega, by omega⟩ dg (by omega) h3 (fun _ x => by unfold isDg at x; rw [if_pos x] at p272; omega)
                  exact ⟨rfl, by rw [kk]; exact g.1, g.2⟩
                · -- case ¬ (z274 = 0)
                  have dg4 : isDg (q v261) := by unfold isDg; split at p272 <;> omega
                  have dq : 48 ≤ q v261 ∧ q v261 ≤ 57 := dg4
                  have h3' : ∀ i : Int, v2 ≤ i → i < v261 + 1 → isDg (q i) := fun i i0 i1 => by
                    by_cases x : i = v261
                    · rw [x]; exact dg4
                    · exact h3 i i0 (by omega)
                  refine ⟨fun (F281 : jFl) => mLp o q n v2 4 2 F (v261 + 1) v261 F281, ?_, ?_⟩ -- join K283
                  · intro F281 k283
                    refine ⟨fun (F287 : jFl) => mLp o q n v2 4 2 F (v261 + 1) v261 F287, ?_, ?_⟩ -- join K289
                    · intro F287 k289
                      refine ⟨fun hc => ?_, fun hc => ?_⟩ -- c30
                      · -- case (z259 ≤ v262)
                        refine ⟨by first | omega | exact jor_rng r4 hv4.2 | (have rd := k289.dg (by omega) (by omega) h3; omega) | (have rd := h4.dg (by omega) (by omega) h3; omega), ?_⟩ -- s42: jR (v262 + 1)
                        refine ⟨by first | omega | exact jor_rng r4 hv4.2 | (have rd := k289.dg (by omega) (by omega) h3; omega) | (have rd := h4.dg (by omega) (by omega) h3; omega), ?_⟩ -- s43: jR (v261 + 1)
                        refine ⟨?_, ?_⟩ -- l20: I265 (v261 + 1) (v262 + 1) F287
                        · exact ⟨by omega, by omega, h3', k289.wA (by omega) (Or.inr ⟨rfl, rfl⟩)⟩
                        · dsimp only; omega
                      · -- case ¬ (z259 ≤ v262)
                        refine ⟨fun hc => ?_, fun hc => ?_⟩ -- c31
                        · -- case (z27 = 0)
                          omega
                        · -- case ¬ (z27 = 0)
                          refine ⟨by first | omega | exact jor_rng r4 hv4.2 | (have rd := k289.dg (by omega) (by omega) h3; omega) | (have rd := h4.dg (by omega) (by omega) h3; omega), ?_⟩ -- s44: (0 ≤ v261 ∧ v261 < 1800)
                          refine ⟨by first | omega | exact jor_rng r4 hv4.2 | (have rd := k289.dg (by omega) (by omega) h3; omega) | (have rd := h4.dg (by omega) (by omega) h3; omega), ?_⟩ -- s45: jR (((10 * (F287 3018 o)) + (A (o + 1) v261)) - 48)
                          intro F300 e300
                          refine ⟨by first | omega | exact jor_rng r4 hv4.2 | (have rd := k289.dg (by omega) (by omega) h3; omega) | (have rd := h4.dg (by omega) (by omega) h3; omega), ?_⟩ -- s46: jR (v262 + 1)
                          refine ⟨by first | omega | exact jor_rng r4 hv4.2 | (have rd := k289.dg (by omega) (by omega) h3; omega) | (have rd := h4.dg (by omega) (by omega) h3; omega), ?_⟩ -- s47: jR (v261 + 1)
                          refine ⟨?_, ?_⟩ -- l21: I265 (v261 + 1) (v262 + 1) F300
                          · exact ⟨by omega, by omega, h3', k289.wC (by assumption) rfl (by omega) (by omega)⟩
                          · dsimp only; omega
                    refine ⟨fun hc => ?_, fun hc => ?_⟩ -- c32
                    · -- case (z259 ≤ v262)
                      -- l22: K289 F281
                      exact k283
                    · -- case ¬ (z259 ≤ v262)
                      refine ⟨fun hc => ?_, fun hc => ?_⟩ -- c33
                      · -- case (z21 = 0)
                        -- l23: K289 F281
                        exact k283
                      · -- case ¬ (z21 = 0)
                        omega
                  refine ⟨fun hc => ?_, fun hc => ?_⟩ -- c34
                  · -- case (¬ v262 = z259)
                    -- l24: K283 F263
                    exact h4.lA (by omega) (by omega) (by omega)
                  · -- case ¬ (¬ v262 = z259)
                    refine ⟨fun hc => ?_, fun hc => ?_⟩ -- c35
                    · -- case (¬ (F263 3036 o) = (-1))
                      -- l25: K283 F263
                      exact h4.lA (by omega) (by omega) (by omega)
                    · -- case ¬ (¬ (F263 3036 o) = (-1))
                      intro F312 e312
                      -- l26: K283 F312
                      exact h4.lB (by assumption) (by omega) (by omega)
              · -- case ¬ (z21 = 0)
                omega
          · -- case ¬ (¬ z27 = 0)
            refine ⟨by first | omega | exact jor_rng r4 hv4.2 | (have rd := k289.dg (by omega) (by omega) h3; omega) | (have rd := h4.dg (by omega) (by omega) h3; omega), ?_⟩ -- s48: (0 ≤ v2 ∧ v2 < 1800)
            intro F460 e460
            -- l27: Q F460 A
            have nl : ¬ isLt (q v2) := fun x => by unfold isLt at x; rw [if_pos x] at p19; omega
            have nd : ¬ isDg (q v2) := fun x => by unfold isDg at x; rw [if_pos x] at p25; omega
            have ek := tkKd_sgn (q := q) (n := n) (p := v2) (by omega) nl nd
            refine ⟨rfl, ?_, by rw [e460]; exact m43.up (by decide)⟩
            rw [kk, e460]
            refine ⟨by rw [upF_f (by decide)]; exact y1, by rw [upF_f (by decide), y6, tkEnd_sgn (by omega) nl nd], by rw [upF_f (by decide), y5, ek], ?_, fun x => by rw [ek] at x; exact absurd x (by decide), fun x => by rw [ek] at x; exact absurd x (by decide), fun _ => upF_s⟩
            rw [upF_f (by decide), y2, tkBad_sgn nl nd, cif_neg (fun x => by have := x.1; omega)]
      refine ⟨fun hc => ?_, fun hc => ?_⟩ -- c36
      · -- case (¬ z21 = 0)
        refine ⟨fun hc => ?_, fun hc => ?_⟩ -- c37
        · -- case (v2 ≤ 0)
          -- l28: K33 F15
          exact k33a (fun x => by have := x.2.1; omega)
        · -- case ¬ (v2 ≤ 0)
          refine ⟨by first | omega | exact jor_rng r4 hv4.2 | (have rd := k289.dg (by omega) (by omega) h3; omega) | (have rd := h4.dg (by omega) (by omega) h3; omega), ?_⟩ -- s49: (0 ≤ v2 - 1 ∧ v2 - 1 < 1800)
          have hw := hq (v2 - 1) (by omega) (by omega)
          rw [hw.1]
          refine ⟨_, sX9_isLetter, ?_⟩ -- call wpX9_isLetter o (A (o + 1) (v2 - 1)) F15 A P464
          intro z466 p464
          refine ⟨fun hc => ?_, fun hc => ?_⟩ -- c38
          · -- case (¬ z466 = 0)
            intro F470 e470
            -- l29: K33 F470
            exact k33b ⟨Or.inl (by split at p19 <;> omega), by omega, Or.inl (by unfold isLt; split at p464 <;> omega)⟩ _ e470
          · -- case ¬ (¬ z466 = 0)
            refine ⟨by first | omega | exact jor_rng r4 hv4.2 | (have rd := k289.dg (by omega) (by omega) h3; omega) | (have rd := h4.dg (by omega) (by omega) h3; omega), ?_⟩ -- s50: (0 ≤ v2 - 1 ∧ v2 - 1 < 1800)
            refine ⟨_, sX9_isDigit, ?_⟩ -- call wpX9_isDigit o (A (o + 1) (v2 - 1)) F15 A P473
            intro z475 p473
            refine ⟨fun hc => ?_, fun hc => ?_⟩ -- c39
            · -- case (z475 = 0)
              -- l30: K33 F15
              exact k33a (fun x => by
                rcases x.2.2 with w | w
                · unfold isLt at w; rw [if_pos w] at p464; omega
                · unfold isDg at w; rw [if_pos w] at p473; omega)
            · -- case ¬ (z475 = 0)
              intro F479 e479
              -- l31: K33 F479
              exact k33b ⟨Or.inl (by split at p19 <;> omega), by omega, Or.inr (by unfold isDg; split at p473 <;> omega)⟩ _ e479
      · -- case ¬ (¬ z21 = 0)
        refine ⟨fun hc => ?_, fun hc => ?_⟩ -- c40
        · -- case (z27 = 0)
          -- l32: K33 F15
          exact k33a (fun x => by have := x.1; omega)
        · -- case ¬ (z27 = 0)
          refine ⟨fun hc => ?_, fun hc => ?_⟩ -- c41
          · -- case (v2 ≤ 0)
            -- l33: K33 F15
            exact k33a (fun x => by have := x.2.1; omega)
          · -- case ¬ (v2 ≤ 0)
            refine ⟨by first | omega | exact jor_rng r4 hv4.2 | (have rd := k289.dg (by omega) (by omega) h3; omega) | (have rd := h4.dg (by omega) (by omega) h3; omega), ?_⟩ -- s51: (0 ≤ v2 - 1 ∧ v2 - 1 < 1800)
            have hw := hq (v2 - 1) (by omega) (by omega)
            rw [hw.1]
            refine ⟨_, sX9_isLetter, ?_⟩ -- call wpX9_isLetter o (A (o + 1) (v2 - 1)) F15 A P484
            intro z486 p484
            refine ⟨fun hc => ?_, fun hc => ?_⟩ -- c42
            · -- case (¬ z486 = 0)
              intro F490 e490
              -- l34: K33 F490
              exact k33b ⟨Or.inr (by split at p25 <;> omega), by omega, Or.inl (by unfold isLt; split at p484 <;> omega)⟩ _ e490
            · -- case ¬ (¬ z486 = 0)
              refine ⟨by first | omega | exact jor_rng r4 hv4.2 | (have rd := k289.dg (by omega) (by omega) h3; omega) | (have rd := h4.dg (by omega) (by omega) h3; omega), ?_⟩ -- s52: (0 ≤ v2 - 1 ∧ v2 - 1 < 1800)
              refine ⟨_, sX9_isDigit, ?_⟩ -- call wpX9_isDigit o (A (o + 1) (v2 - 1)) F15 A P493
              intro z495 p493
              refine ⟨fun hc => ?_, fun hc => ?_⟩ -- c43
              · -- case (z495 = 0)
                -- l35: K33 F15
                exact k33a (fun x => by
                  rcases x.2.2 with w | w
                  · unfold isLt at w; rw [if_pos w] at p484; omega
                  · unfold isDg at w; rw [if_pos w] at p493; omega)
              · -- case ¬ (z495 = 0)
                intro F499 e499
                -- l36: K33 F499
                exact k33b ⟨Or.inr (by split at p25 <;> omega), by omega, Or.inr (by unfold isDg; split at p493 <;> omega)⟩ _ e499
    · -- case ¬ (v2 < (F15 3006 o))
      -- l37: Q F15 A
      have ek := tkKd_end (q := q) (n := n) (p := v2) (by omega)
      refine ⟨rfl, ?_, m15⟩
      rw [kk]
      exact ⟨b2, by rw [b3, tkEnd_end (by omega)], by rw [b4, ek], by rw [b5, tkBad_end (by omega)], fun x => by rw [ek] at x; exact absurd x (by decide), fun x => by rw [ek] at x; exact absurd x (by decide), fun x => by rw [ek] at x; exact absurd x (by decide)⟩
  refine ⟨fun hc => ?_, fun hc => ?_⟩ -- c44
  · -- case ((F 3006 o) ≤ v2)
    -- l38: K6
    exact scn_end (by omega)
  · -- case ¬ ((F 3006 o) ≤ v2)
    refine ⟨by first | omega | exact jor_rng r4 hv4.2 | (have rd := k289.dg (by omega) (by omega) h3; omega) | (have rd := h4.dg (by omega) (by omega) h3; omega), ?_⟩ -- s53: (0 ≤ v2 ∧ v2 < 1800)
    refine ⟨fun hc => ?_, fun hc => ?_⟩ -- c45
    · -- case ((A (o + 1) v2) = 32)
      refine ⟨by first | omega | exact jor_rng r4 hv4.2 | (have rd := k289.dg (by omega) (by omega) h3; omega) | (have rd := h4.dg (by omega) (by omega) h3; omega), ?_⟩ -- s54: jR (v2 + 1)
      refine ⟨?_, ?_⟩ -- l39: I3 (v2 + 1)
      · have hv := hq v2 (by omega) (by omega)
        have go : tkAt q n v2 = tkAt q n (v2 + 1) := scn_go (P := fun i => isBl (q i)) (by omega) (Or.inl (by omega))
        exact ⟨by omega, by rw [← go]; exact i2⟩
      · dsimp only; omega
    · -- case ¬ ((A (o + 1) v2) = 32)
      refine ⟨by first | omega | exact jor_rng r4 hv4.2 | (have rd := k289.dg (by omega) (by omega) h3; omega) | (have rd := h4.dg (by omega) (by omega) h3; omega), ?_⟩ -- s55: (0 ≤ v2 ∧ v2 < 1800)
      refine ⟨fun hc => ?_, fun hc => ?_⟩ -- c46
      · -- case (¬ (A (o + 1) v2) = 10)
        -- l40: K6
        have hv := hq v2 (by omega) (by omega)
        exact scn_no (P := fun i => isBl (q i)) (by omega) (fun w => by rcases w with w | w <;> omega)
      · -- case ¬ (¬ (A (o + 1) v2) = 10)
        refine ⟨by first | omega | exact jor_rng r4 hv4.2 | (have rd := k289.dg (by omega) (by omega) h3; omega) | (have rd := h4.dg (by omega) (by omega) h3; omega), ?_⟩ -- s56: jR (v2 + 1)
        refine ⟨?_, ?_⟩ -- l41: I3 (v2 + 1)
        · have hv := hq v2 (by omega) (by omega)
          have go : tkAt q n v2 = tkAt q n (v2 + 1) := scn_go (P := fun i => isBl (q i)) (by omega) (Or.inr (by omega))
          exact ⟨by omega, by rw [← go]; exact i2⟩
        · dsimp only; omega

