set_option maxRecDepth 100000
set_option linter.unusedVariables false
/-! the component's reader: the next sign; printed by gen/prove.py out of spec/an.see.spec -/
/-- what a step of the reader leaves: only its own fields, new cells -/
def rfr (S : Nat → Nat) (o : Nat) (N : jSh) (F : jFl) (A : jAr) (N' : jSh) (F' : jFl) (A' : jAr) : Prop := nex N N' ∧ (∀ a : Nat, a < jnx N → a ≠ o → ∀ f, F' f a = F f a) ∧ (∀ a : Nat, a < jnx N → A' a = A a) ∧ (∀ M, gi S M N F → gi S M N' F') ∧ (nb N → nb N')
theorem rfr.refl (S : Nat → Nat) (o : Nat) (N : jSh) (F : jFl) (A : jAr) : rfr S o N F A N F A := ⟨nex.refl _, fun _ _ _ _ => rfl, fun _ _ => rfl, fun _ h => h, id⟩
theorem rfr.trans {S : Nat → Nat} {o : Nat} {N N' N'' : jSh} {F F' F'' : jFl} {A A' A'' : jAr} (h : rfr S o N F A N' F' A') (h2 : rfr S o N' F' A' N'' F'' A'') : rfr S o N F A N'' F'' A'' := by
  have l := h.1.1
  exact ⟨h.1.trans h2.1, fun a ha hao f => (h2.2.1 a (by omega) hao f).trans (h.2.1 a ha hao f), fun a ha => (h2.2.2.1 a (by omega)).trans (h.2.2.1 a ha), fun M g => h2.2.2.2.1 M (h.2.2.2.1 M g), fun g => h2.2.2.2.2 (h.2.2.2.2 g)⟩
theorem rfr.own {S : Nat → Nat} {o : Nat} {N : jSh} {F F' : jFl} {A : jAr} (ho : jtg N o ≠ 20) (h : ∀ a, a ≠ o → ∀ f, F' f a = F f a) : rfr S o N F A N F' A := ⟨nex.refl _, fun a _ hao f => h a hao f, fun _ _ => rfl, fun M g => g.of (fun l hl => by
  have : l ≠ o := fun w => ho (by rw [← w]; exact hl)
  exact ⟨h l this _, h l this _⟩), id⟩
theorem gr.rfr {S : Nat → Nat} {o : Nat} {N N' : jSh} {F F' : jFl} {A A' : jAr} (h : gr N F A N' F' A') (g : ∀ M, gi S M N F → gi S M N' F') (g2 : nb N → nb N') : rfr S o N F A N' F' A' := ⟨h.1, fun a ha _ f => h.2.1 a ha f, h.2.2, g, g2⟩
/-- so many cells and slots, by signs passed -/
def kB (N N' : jSh) (c c' : Int) : Prop := (jnx N' : Int) ≤ jnx N + 2 * (c' - c) ∧ (jsu N' : Int) ≤ jsu N + 10 * (c' - c)
theorem kB.trans {N N' N'' : jSh} {c c' c'' : Int} (h : kB N N' c c') (h2 : kB N' N'' c' c'') : kB N N'' c c'' := by unfold kB at *; omega
def xB (n : Int) (N N' : jSh) (c : Int) : Prop := (jnx N' : Int) ≤ jnx N + 2 * (n - c) + 20 ∧ (jsu N' : Int) ≤ jsu N + 10 * (n - c) + 3000
theorem kB.xb {n : Int} {N N' N'' : jSh} {c c' : Int} (h : kB N N' c c') (h2 : xB n N' N'' c') : xB n N N'' c := by unfold kB at h; unfold xB at *; omega
/-- two cells more: a text and its bytes -/
def nm2 (N N' : jSh) : Prop := jnx N' = jnx N + 2 ∧ jtg N' (jnx N + 1) = 108
/-- a fault made -/
def flt (N : jSh) (b : Nat) (r : Int × Int) : Prop := jtg N b = 12 ∧ jfn N 0 b = 1 ∧ jfn N 3600 b = r.1 ∧ jfn N 3603 b = r.2
/-- the reader, what it reads -/
def rdO (S : Nat → Nat) (u : Int) (N : jSh) (A : jAr) (o x h : Nat) (n : Int) (q : Int → Int) : Prop := (jtg N o = 11 ∧ jfn N 0 o = 1 ∧ jfn N 3300 o = n ∧ jfn N 3332 o = (x : Int) ∧ jfn N 3305 o = (h : Int)) ∧ (nb N ∧ own S N A u ∧ lay N x) ∧ (0 ≤ n ∧ n ≤ 1600) ∧ ∀ i : Int, 0 ≤ i → i < n → A (x + 1) i = q i ∧ 0 ≤ q i ∧ q i ≤ 255
theorem rdO.ex {S : Nat → Nat} {u : Int} {N N' : jSh} {A A' : jAr} {o x h : Nat} {n : Int} {q : Int → Int} (r : rdO S u N A o x h n q) (e : nex N N') (hn : nb N') (hA : ∀ a : Nat, a < jnx N → A' a = A a) : rdO S u N' A' o x h n q := by
  obtain ⟨⟨a1, a2, a3, a4, a5⟩, ⟨b1, b2, b3⟩, c, d⟩ := r
  have hx : x + 141 ≤ jnx N := by
    have := b1 (x + 140) (by rw [(b3.1 140 (by decide)).1]; decide)
    omega
  have ef := fun f => e.fn b1 a1 (by decide) f
  exact ⟨⟨e.tg b1 a1 (by decide), by rw [ef, a2], by rw [ef, a3], by rw [ef, a4], by rw [ef, a5]⟩, ⟨hn, b2.kv b1 e (fun a ha => hA a (b1 a (by omega))) (Or.inl rfl), b3.ex b1 e hx⟩, c, fun i i0 i1 => by rw [hA _ (by omega)]; exact d i i0 i1⟩
/-- the reader behind a sign -/
def rU (F : jFl) (o : Nat) (q : Int → Int) (n p : Int) : Prop := F 3321 o = 0 ∧ F 3306 o = p ∧ (0 ≤ p ∧ p ≤ n) ∧ F 3309 o ≤ p ∧ (F 3309 o = p ↔ alB q p)
/-- the reader, a sign being seen -/
def rS (N : jSh) (F : jFl) (A : jAr) (o : Nat) (q : Int → Int) (n a : Int) : Prop := (F 3321 o = 1 ∧ F 3312 o = a ∧ F 3318 o = tkKd q n a ∧ F 3306 o = tkEnd q n a) ∧ (0 ≤ a ∧ a ≤ n) ∧ tkBad q n a = -1 ∧ (F 3309 o ≤ tkEnd q n a ∧ (F 3309 o = tkEnd q n a ↔ alB q (tkEnd q n a))) ∧ (tkKd q n a = 1 → ∃ b v : Nat, F 3329 o = (b : Int) ∧ txt N A b v (fun i => q (a + i)) (tkEnd q n a - a).toNat) ∧ (tkKd q n a = 2 → F 3315 o = tkV q n a) ∧ (tkKd q n a = 3 → F 3324 o = q a)
theorem txt.ex {N N' : jSh} {A A' : jAr} {b v n : Nat} {g : Int → Int} (h : txt N A b v g n) (hn : nb N) (e : nex N N') (hA : ∀ a : Nat, a < jnx N → A' a = A a) : txt N' A' b v g n := by
  obtain ⟨⟨h1, h2, h3⟩, ⟨h4, h5, h6⟩, h7⟩ := h
  have hv := hn v (by rw [h4]; decide)
  exact ⟨⟨e.tg hn h1 (by decide), by rw [e.fn hn h1 (by decide), h2], by rw [e.fn hn h1 (by decide), h3]⟩, ⟨e.tg hn h4 (by decide), by rw [e.ln hn h4 (by decide), h5], h6⟩, by rw [hA v hv]; exact h7⟩
theorem rS.ex {N N' : jSh} {F F' : jFl} {A A' : jAr} {o : Nat} {q : Int → Int} {n a : Int} (h : rS N F A o q n a) (hn : nb N) (e : nex N N') (hA : ∀ a : Nat, a < jnx N → A' a = A a) (hF : ∀ f, F' f o = F f o) : rS N' F' A' o q n a := by
  obtain ⟨h1, h2, h3, h4, h5, h6, h7⟩ := h
  refine ⟨by rw [hF, hF, hF, hF]; exact h1, h2, h3, by rw [hF]; exact h4, fun w => ?_, by rw [hF]; exact h6, by rw [hF]; exact h7⟩
  obtain ⟨b, v, y1, y2⟩ := h5 w
  exact ⟨b, v, by rw [hF]; exact y1, y2.ex hn e hA⟩
/-- ahead of the sign behind p, seen or not; signs passed as far as c -/
def rA (N : jSh) (F : jFl) (A : jAr) (o : Nat) (q : Int → Int) (n p c : Int) : Prop := (0 ≤ p ∧ p ≤ n) ∧ ((rU F o q n p ∧ c = p) ∨ (rS N F A o q n (tkAt q n p) ∧ c = tkEnd q n (tkAt q n p)))
theorem alB_skip {q : Int → Int} {n p : Int} {b : Int} (h : p ≤ n) (h1 : b ≤ p) (h2 : b = p ↔ alB q p) : b ≤ tkAt q n p ∧ (b = tkAt q n p ↔ alB q (tkAt q n p)) := by
  obtain ⟨a1, a2, -⟩ := tkAt_all (q := q) h
  by_cases w : tkAt q n p = p
  · rw [w]; exact ⟨h1, h2⟩
  · refine ⟨by omega, fun x => by omega, fun x => ?_⟩
    have bl := a2 (tkAt q n p - 1) (by omega) (by omega)
    unfold alB isLt isDg at x
    unfold isBl at bl
    omega
/-- a sign that is seen is passed -/
theorem rS.pass {N : jSh} {F F' : jFl} {A : jAr} {o : Nat} {q : Int → Int} {n a : Int} (h : rS N F A o q n a) (e : F' = upF F 3321 o 0) : rU F' o q n (tkEnd q n a) := by
  obtain ⟨⟨h1, h2, h3, h4⟩, h5, h6, h7, -⟩ := h
  have te := tkEnd_le (q := q) h5.2
  rw [e]
  exact ⟨upF_s, by rw [upF_f (by decide)]; exact h4, by omega, by rw [upF_f (by decide)]; exact h7⟩
theorem alB_let {q : Int → Int} {n a : Int} (h : 0 ≤ a ∧ a ≤ n) (hk : tkKd q n a = 1 ∨ tkKd q n a = 2) : alB q (tkEnd q n a) := by
  rcases tk_cases q n a h.2 with w | w | w | w
  · omega
  · exact ⟨by omega, Or.inl (w.2.2.2.2.1 _ (by omega) (by omega))⟩
  · exact ⟨by omega, Or.inr (w.2.2.2.2.1 _ (by omega) (by omega))⟩
  · omega
theorem sJ7_init {o : Nat} {N : jSh} {F : jFl} {A : jAr} (ho : jfn N 0 o = 1) (hb : F 7514 o < 0) : wqJ7_init o N F A (fun F' A' => A' = A ∧ ∀ f a, a ≠ o → F' f a = F f a) := ⟨ho, hb, fun F' h1 h2 => ⟨rfl, h1⟩⟩
theorem sJ8_init {o : Nat} {N : jSh} {F : jFl} {A : jAr} (ho : jfn N 0 o = 1) (hb : F 7514 o < 0) : wqJ8_init o N F A (fun F' A' => A' = A ∧ ∀ f a, a ≠ o → F' f a = F f a) := by
  unfold wqJ8_init
  refine ⟨_, sJ7_init ho hb, ?_⟩ -- call wqJ7_init o N F A P1
  intro F4 A5 p1
  -- l1: Q F4 A5
  exact p1

theorem sX11_init {o : Nat} {a1 : Int} {a2 : Int} {N : jSh} {F : jFl} {A : jAr} (ho : jfn N 0 o = 1 ∧ F 7514 o < 0) : wqX11_init o a1 a2 N F A (fun N' F' A' => A' = A ∧ N' = jpF (jpF N 3600 o a1) 3603 o a2 ∧ ∀ f a, a ≠ o → F' f a = F f a) := by
  unfold wqX11_init
  refine ⟨_, sJ8_init ho.1 ho.2, ?_⟩ -- call wqJ8_init o N F A P1
  intro F4 A5 p1
  refine ⟨by exact ho.1, ?_⟩ -- s1: jfn N 0 o = 1
  intro N12 e12
  intro N17 e17
  -- l1: Q N17 F4 A5
  exact ⟨p1.1, by rw [e17, e12], p1.2⟩

theorem flt_new {S : Nat → Nat} {o b : Nat} {N N2 N3 : jSh} {F F2 F3 : jFl} {A A3 : jAr} {k p : Int} (hn : nb N) (e1 : b = jnx N) (e2 : N2 = jnew N 12 0 8 1) (e3 : F2 = nwF N F) (h : A3 = A ∧ N3 = jpF (jpF N2 3600 b k) 3603 b p ∧ ∀ f a, a ≠ b → F3 f a = F2 f a) : flt N3 b (k, p) ∧ rfr S o N F A N3 F3 A3 ∧ jnx N3 = jnx N + 1 ∧ jsu N3 = jsu N + 8 := by
  obtain ⟨h1, h2, h3⟩ := h
  subst h1 h2 e1 e2 e3
  have f3 : ∀ a : Nat, a < jnx N → ∀ f, F3 f a = F f a := fun a ha f => by rw [h3 f a (by omega), nwF_o (by omega)]
  have nx := nex.new N 12 0 8 1
  refine ⟨⟨jnewTg N 12 0 8 1, ?_, ?_, jpF_s _ _ _ _⟩, ⟨⟨nx.1, fun a ha => ⟨(nx.2 a ha).1, (nx.2 a ha).2.1, fun f => by rw [jpF_a (by omega), jpF_a (by omega)]; exact (nx.2 a ha).2.2 f⟩⟩, fun a ha _ f => f3 a ha f, fun _ _ => rfl, fun M g => ?_, fun h => (h.new : nb (jnew N 12 0 8 1))⟩, rfl, rfl⟩
  · rw [jpF_f (by decide), jpF_f (by decide), jnew_f0]
  · rw [jpF_f (by decide), jpF_s]
  · have g2 : gi S M (jnew N 12 0 8 1) (nwF N F) := g.add (by decide) (by decide)
    exact (g2.of (fun l hl => by
      have : l ≠ jnx N := fun w => by rw [w, jnewTg] at hl; omega
      exact ⟨h3 _ l this, h3 _ l this⟩) : gi S M (jnew N 12 0 8 1) F3)
theorem jnew_own {N : jSh} {t n sl : Nat} {z : Int} {b : Nat} (e : b = jnx N) : jfn (jnew N t n sl z) 0 b = z := by rw [e, jnew_f0]
theorem jnew_flt {N N2 : jSh} {F F2 : jFl} {b : Nat} (e1 : b = jnx N) (e2 : N2 = jnew N 12 0 8 1) (e3 : F2 = nwF N F) : jfn N2 0 b = 1 ∧ F2 7514 b < 0 := ⟨by rw [e2]; exact jnew_own e1, by rw [e3, e1, nwF_s]; decide⟩
set_option maxHeartbeats 4000000 in
theorem sX10_see {S : Nat → Nat} {o : Nat} {N : jSh} {F : jFl} {A : jAr} {u : Int} {x h : Nat} {n p c : Int} {q : Int → Int} (hO : rdO S u N A o x h n q) (hA : rA N F A o q n p c) {X : Nat → jSh → jFl → jAr → Prop} (hX : ∀ (b : Nat) (N' : jSh) (F' : jFl) (A' : jAr), 0 ≤ tkBad q n (tkAt q n p) → flt N' b (1, tkBad q n (tkAt q n p)) → rfr S o N F A N' F' A' → xB n N N' c → X b N' F' A') : wqX10_see S o N F A (fun z N' F' A' => z = tkKd q n (tkAt q n p) ∧ rS N' F' A' o q n (tkAt q n p) ∧ rfr S o N F A N' F' A' ∧ kB N N' c (tkEnd q n (tkAt q n p)) ∧ (c = p → tkKd q n (tkAt q n p) = 1 → nm2 N N')) (X) := by
  unfold wqX10_see
  obtain ⟨⟨o1, o2, o3, o4, o5⟩, ⟨hnb, how, hy⟩, hn, hq⟩ := id hO
  obtain ⟨hp, hA⟩ := hA
  have ta := tkAt_all (q := q) hp.2
  have te := tkEnd_le (q := q) ta.1.2
  have hox := hnb o (by rw [o1]; decide)
  have tx0 : jtg N x = 1 := (hy.1 0 (by decide)).1
  have t1 : jtg N (x + 1) = 111 := (hy.1 1 (by decide)).1
  have l1600 : jln N (x + 1) = 1600 := hy.2.2 (1, 1600) (by decide)
  have hx0 := hnb x (by rw [tx0]; decide)
  have hx1 := hnb (x + 1) (by rw [t1]; decide)
  have hxo : x ≠ o := fun w => by rw [w, o1] at tx0; omega
  rw [o3]
  refine ⟨fun hc => ?_, fun hc => ?_⟩ -- c1
  · -- case ((F 3321 o) = 0)
    have hU : rU F o q n p ∧ c = p := by
      rcases hA with w | ⟨w, -⟩
      · exact w
      · have := w.1.1; omega
    obtain ⟨⟨u1, u2, u3, u4, u5⟩, u6⟩ := hU
    have u7 : p = c := u6.symm
    subst u7
    refine ⟨fun (F2 : jFl) => (p ≤ F2 3306 o ∧ F2 3306 o ≤ n) ∧ tkAt q n (F2 3306 o) = tkAt q n p ∧ ∀ f b, (b = o → f ≠ 3306) → F2 f b = F f b, fun F2 => (n - F2 3306 o).toNat, ?_, ?_⟩ -- loop I5 I5 F
    ·
      -- l1: I5 F
      exact ⟨by omega, by rw [u2], fun _ _ _ => rfl⟩
    intro F2 i5
    obtain ⟨i1, i2, i3⟩ := i5
    refine ⟨tkAt q n p = F2 3306 o, ?_, ?_⟩ -- join K9
    · intro k9
      refine ⟨by exact o2, ?_⟩ -- s1: jfn N 0 o = 1
      intro F14 e14
      intro F16 e16
      intro F18 e18
      obtain ⟨a, ea⟩ : ∃ a : Int, F2 3306 o = a := ⟨_, rfl⟩
      rw [ea] at k9 i1
      rw [k9] at hX ⊢
      have nal0 := alB_skip (q := q) (b := F 3309 o) hp.2 u4 u5
      rw [k9] at nal0 ta te
      have x12 : F18 3312 o = a := by rw [e18, upF_f (by decide), e16, upF_f (by decide), e14, upF_s]; exact ea
      have x21 : F18 3321 o = 1 := by rw [e18, upF_f (by decide), e16, upF_s]
      have x18 : F18 3318 o = 0 := by rw [e18, upF_s]
      have x6 : F18 3306 o = a := by rw [e18, upF_f (by decide), e16, upF_f (by decide), e14, upF_f (by decide)]; exact ea
      have f18 : ∀ f b, (b = o → f ≠ 3306 ∧ f ≠ 3312 ∧ f ≠ 3318 ∧ f ≠ 3321) → F18 f b = F f b := fun f b hb => by
        by_cases w : b = o
        · have := hb w
          rw [w, e18, upF_f (by omega), e16, upF_f (by omega), e14, upF_f (by omega)]; exact i3 f o (fun _ => by omega)
        · rw [e18, upF_a w, e16, upF_a w, e14, upF_a w]; exact i3 f b (fun w2 => absurd w2 w)
      have x9 : F18 3309 o = F 3309 o := f18 _ _ (fun _ => by decide)
      have xo : ∀ b, b ≠ o → ∀ f, F18 f b = F f b := fun b hb f => f18 f b (fun w => absurd w hb)
      have r18 : rfr S o N F A N F18 A := rfr.own (by rw [o1]; decide) xo
      rw [x6]
      refine ⟨fun hc => ?_, fun hc => ?_⟩ -- c2
      · -- case (¬ (F18 3306 o) = (jfn N 3300 o))
        refine ⟨_, by exact o4, ?_⟩ -- d20: jfn N 3332 o = (b20 : Int)
        refine ⟨by exact tx0, ?_⟩ -- s2: jtg N b20 = 1
        refine ⟨_, by exact hy.p302, ?_⟩ -- d23: jfn N 302 b20 = (b23 : Int)
        refine ⟨by exact t1, ?_⟩ -- s3: jtg N b23 = 111
        refine ⟨by omega, ?_⟩ -- s4: ((0 : Int) ≤ F18 3306 o ∧ (F18 3306 o : Int) < (jln N b23 : Int))
        intro v27 e27
        have hv := hq a (by omega) (by omega)
        rw [hv.1] at e27
        refine ⟨_, sX10_isLetter, ?_⟩ -- call wqX10_isLetter o v27 N F18 A P28
        intro z30 p28
        refine ⟨fun hc => ?_, fun hc => ?_⟩ -- c3
        · -- case (¬ z30 = 0)
          have ha : isLt (q a) := by unfold isLt; rw [e27] at p28; split at p28 <;> omega
          refine ⟨fun hc => ?_, fun hc => ?_⟩ -- c4
          · -- case (¬ (F18 3306 o) = (F18 3309 o))
            intro z38 e38
            have nal : ¬ alB q a := fun w => hc (by rw [x9]; exact (nal0.2.mpr w).symm)
            refine ⟨fun (F40 : jFl) => (a ≤ F40 3306 o ∧ F40 3306 o ≤ n) ∧ F40 3306 o - a ≤ 6 ∧ (∀ i : Int, a ≤ i → i < F40 3306 o → isLt (q i)) ∧ ∀ f b, (b = o → f ≠ 3306) → F40 f b = F18 f b, fun F40 => (n - F40 3306 o).toNat, ?_, ?_⟩ -- loop I43 I43 F18
            ·
              -- l2: I43 F18
              exact ⟨by omega, by omega, fun i i0 i1 => by omega, fun _ _ _ => rfl⟩
            intro F40 i43
            obtain ⟨j1, j2, j3, j4⟩ := i43
            have j12 : F40 3312 o = a := by rw [j4 _ _ (fun _ => by decide)]; exact x12
            have zz : z38 = 6 := by rw [e38]; rw [if_neg (by omega)]
            refine ⟨tkEnd q n a = F40 3306 o, ?_, ?_⟩ -- join K47
            · intro k47
              intro F51 e51
              have m1 : ∀ f b, (b = o → f ≠ 3306 ∧ f ≠ 3309 ∧ f ≠ 3312 ∧ f ≠ 3318 ∧ f ≠ 3321) → F51 f b = F f b := fun f b hb => by
                rw [e51]
                by_cases w : b = o
                · have := hb w
                  rw [w, upF_f (by omega), j4 _ _ (fun _ => by omega)]; exact f18 f o (fun _ => by omega)
                · rw [upF_a w, j4 _ _ (fun w2 => absurd w2 w)]; exact f18 f b (fun w2 => absurd w2 w)
              have m9 : F51 3309 o = tkEnd q n a := by rw [e51, upF_s]; exact k47.symm
              have m6 : F51 3306 o = tkEnd q n a := by rw [e51, upF_f (by decide)]; exact k47.symm
              have m12 : F51 3312 o = a := by rw [e51, upF_f (by decide)]; exact j12
              have m21 : F51 3321 o = 1 := by rw [e51, upF_f (by decide), j4 _ _ (fun _ => by decide)]; exact x21
              intro b52 N53 F54 e52 e53 e54
              have y6 : F54 3306 o = tkEnd q n a := by rw [e54, nwF_o (by omega)]; exact m6
              have y12 : F54 3312 o = a := by rw [e54, nwF_o (by omega)]; exact m12
              have yx : jfn N53 3332 o = (x : Int) := by rw [e53, jnew_fno (by omega)]; exact o4
              have ytx : jtg N53 x = 1 := by rw [e53, jnew_tgo (by omega)]; exact tx0
              have yt1 : jtg N53 (x + 1) = 111 := by rw [e53, jnew_tgo (by omega)]; exact t1
              have yl1 : jln N53 (x + 1) = 1600 := by rw [e53, jnew_lno (by omega)]; exact l1600
              have yp : jfn N53 302 x = ((x + 1 : Nat) : Int) := by rw [e53, jnew_fno (by omega)]; exact hy.p302
              obtain ⟨-, -, v18, w18, -, w5, -⟩ := id how
              have x18 := hnb (S 18) (by rw [w18]; decide)
              have tln : (((tkEnd q n a - a).toNat : Nat) : Int) = tkEnd q n a - a := by omega
              have qs : ∀ i : Int, 0 ≤ i → i < ((tkEnd q n a - a).toNat : Nat) → isLt (q (a + i)) := fun i i0 i1 => j3 (a + i) (by omega) (by omega)
              refine ⟨_, by exact yx, ?_⟩ -- d60: jfn N53 3332 o = (b60 : Int)
              refine ⟨by exact ytx, ?_⟩ -- s5: jtg N53 b60 = 1
              refine ⟨by omega, ?_⟩ -- s6: jR ((F54 3306 o) - (F54 3312 o))
              refine ⟨_, sJ5_init (c := x + 1) (n := (tkEnd q n a - a).toNat) (q := fun i => q (a + i)) yp yt1 (by rw [e53, jnewNx]; omega) (by rw [y6, y12]; exact tln.symm) ⟨by rw [y12]; omega, by rw [y12, y6, yl1]; omega, by rw [yl1]; decide⟩ (fun i i0 i1 => by rw [y12]; exact hq (a + i) (by omega) (by omega)) ⟨by rw [e53, e52, jnew_f0], by rw [e53, jnewNx]; omega⟩ ⟨by rw [e53, jnew_tgo (by omega)]; exact w18, by rw [e53, jnew_fno (by omega)]; exact w5, by omega⟩, ?_⟩ -- call wqJ5_init S b52 (jfn N53 302 b60) (F54 3312 o) ((F54 3306 o) - (F54 3312 o)) N53 F54 A P64
              intro N69 F67 A68 p64
              subst e52
              obtain ⟨⟨v, hs, hb⟩, k14, g14, nb14, b14, b14s⟩ := on_str hnb how e53 e54 (by omega) (fun i i0 i1 => (hq (a + i) (by omega) (by omega)).2) p64
              have e14 := k14.1
              have c67 : ∀ f, F67 f o = F51 f o := fun f => k14.2.1 o hox f
              intro F77 e77
              have fr77 : ∀ f, f ≠ 3329 → F77 f o = F51 f o := fun f hf => by rw [e77, upF_f hf]; exact c67 f
              have fo77 : ∀ b : Nat, b < jnx N → b ≠ o → ∀ f, F77 f b = F f b := fun b hb hbo f => by rw [e77, upF_a hbo, k14.2.1 b hb f]; exact m1 f b (fun w => absurd w hbo)
              have t77 : F77 3329 o = ((jnx N : Nat) : Int) := by rw [e77, upF_s]
              refine ⟨fun (F79 : jFl) => (∀ f, f ≠ 3315 → F79 f o = F77 f o) ∧ (∀ b, b ≠ o → ∀ f, F79 f b = F77 f b), ?_, ?_⟩ -- join K82
              · intro F79 k82
                obtain ⟨c1, c2⟩ := k82
                intro z86 e86
                intro F89 e89
                have lt1 : a < tkEnd q n a := by rcases tk_cases q n a (by omega) with ⟨y, -⟩ | ⟨-, -, -, y, -⟩ | ⟨-, -, -, y, -⟩ | ⟨-, -, -, y⟩ <;> omega
                have b9 : ∀ f, f ≠ 3315 → f ≠ 3318 → f ≠ 3329 → F89 f o = F51 f o := fun f h1 h2 h3 => by rw [e89, upF_f h2, c1 f h1]; exact fr77 f h3
                have ek : tkKd q n a = 1 := tkKd_let (by omega) ha
                have ez : z86 = 1 := by rw [e86]; rw [if_neg (by omega)]
                have two : nm2 N N69 := by
                  rcases p64 with ⟨w, -⟩ | ⟨-, w, -⟩
                  · omega
                  · rw [w, e53]
                    exact ⟨by rw [jpF_nx, jpF_nx, jnewNx, jnewNx], by rw [jpF_tg, jpF_tg, show jnx N + 1 = jnx (jnew N 22 0 4 1) from rfl, jnewTg]⟩
                have fin : F89 3318 o = tkKd q n a ∧ rS N69 F89 A68 o q n a ∧ rfr S o N F A N69 F89 A68 ∧ kB N N69 p (tkEnd q n a) ∧ (p = p → tkKd q n a = 1 → nm2 N N69) := by
                  have s18 : F89 3318 o = tkKd q n a := by rw [e89, upF_s, ez, ek]
                  refine ⟨s18, ⟨⟨by rw [b9 _ (by decide) (by decide) (by decide)]; exact m21, by rw [b9 _ (by decide) (by decide) (by decide)]; exact m12, s18, by rw [b9 _ (by decide) (by decide) (by decide)]; exact m6⟩, by omega, tkBad_no nal (fun _ => by omega) (fun w => absurd w (not_both ha)), ⟨by rw [b9 _ (by decide) (by decide) (by decide), m9]; exact Int.le_refl _, by rw [b9 _ (by decide) (by decide) (by decide), m9]; exact ⟨fun _ => alB_let (by omega) (by omega), fun _ => rfl⟩⟩, fun w => ?_, fun w => ?_, fun w => by omega⟩, ⟨e14, fun b hb hbo f => by rw [e89, upF_a hbo, c2 b hbo]; exact fo77 b hb hbo f, k14.2.2, fun M g => (g14 M (g.of (fun l hl => ?_))).of (fun l hl => ?_), fun _ => nb14⟩, by unfold kB; omega, fun _ _ => two⟩
                  · exact ⟨jnx N, v, by rw [e89, upF_f (by decide), c1 _ (by decide)]; exact t77, hs.1, hs.2.1, fun i i0 i1 => by have := qs i i0 i1; unfold isLt at this; rw [hb i i0 i1, jby_255 (by omega), if_pos (by omega)]; exact ⟨rfl, this⟩⟩
                  · omega
                  · have hlo : l ≠ o := fun w => by rw [w, o1] at hl; omega
                    exact ⟨m1 _ l (fun w => absurd w hlo), m1 _ l (fun w => absurd w hlo)⟩
                  · have hlo : l ≠ o := fun w => by rw [w, e14.tg hnb o1 (by decide)] at hl; omega
                    exact ⟨by rw [e89, upF_a hlo, c2 l hlo, e77, upF_a hlo], by rw [e89, upF_a hlo, c2 l hlo, e77, upF_a hlo]⟩
                -- l3: Q (F89 3318 o) N69 F89 A68
                exact fin
              refine ⟨fun hc => ?_, fun hc => ?_⟩ -- c5
              · -- case (¬ z30 = 0)
                -- l4: K82 F77
                exact ⟨fun _ _ => rfl, fun _ _ _ => rfl⟩
              · -- case (z30 = 0)
                omega
            refine ⟨fun hc => ?_, fun hc => ?_⟩ -- c6
            · -- case ((jfn N 3300 o) ≤ (F40 3306 o))
              -- l5: K47
              rw [tkEnd_let (by omega) ha]
              exact scn_is (by omega) j3 (fun w => by omega)
            · -- case (¬ ((jfn N 3300 o) ≤ (F40 3306 o)))
              refine ⟨fun hc => ?_, fun hc => ?_⟩ -- c7
              · -- case (z30 = 0)
                omega
              · -- case (¬ (z30 = 0))
                refine ⟨by omega, ?_⟩ -- s7: ((0 : Int) ≤ F40 3306 o ∧ (F40 3306 o : Int) < (jln N b23 : Int))
                have hv4 := hq (F40 3306 o) (by omega) (by omega)
                rw [hv4.1]
                refine ⟨_, sX10_isLetter, ?_⟩ -- call wqX10_isLetter o (A b23 (F40 3306 o)) N F40 A P135
                intro z137 p135
                refine ⟨fun hc => ?_, fun hc => ?_⟩ -- c8
                · -- case (z137 = 0)
                  -- l6: K47
                  rw [tkEnd_let (by omega) ha]
                  exact scn_is (by omega) j3 (fun _ w => by unfold isLt at w; rw [if_pos w] at p135; omega)
                · -- case (¬ (z137 = 0))
                  refine ⟨by omega, ?_⟩ -- s8: jR ((F40 3306 o) - (F40 3312 o))
                  refine ⟨fun hc => ?_, fun hc => ?_⟩ -- c9
                  · -- case (¬ ((F40 3306 o) - (F40 3312 o)) = z38)
                    refine ⟨by omega, ?_⟩ -- s9: jR ((F40 3306 o) + 1)
                    intro F147 e147
                    refine ⟨?_, ?_⟩ -- l7: I43 F147
                    · have b6 : F147 3306 o = F40 3306 o + 1 := by rw [e147, upF_s]
                      refine ⟨by omega, by omega, fun i i0 i1 => ?_, fun f b hb => ?_⟩
                      · by_cases w : i = F40 3306 o
                        · rw [w]; unfold isLt; split at p135 <;> omega
                        · exact j3 i i0 (by omega)
                      · rw [e147]
                        by_cases w : b = o
                        · rw [w, upF_f (hb w)]; exact j4 f o (fun _ => hb w)
                        · rw [upF_a w]; exact j4 f b hb
                    · dsimp only
                      rw [e147, upF_s]
                      omega
                  · -- case (((F40 3306 o) - (F40 3312 o)) = z38)
                    intro b148 N149 F150 e148 e149 e150
                    refine ⟨_, sX11_init (jnew_flt e148 e149 e150), ?_⟩ -- call wqX11_init b148 1 (F150 3306 o) N149 F150 A P156
                    intro N161 F159 A160 p156
                    -- l8: X b148 N161 F159 A160
                    obtain ⟨g1, g2, g3, g4⟩ := flt_new (S := S) (o := o) hnb e148 e149 e150 p156
                    have ev : F40 3306 o = a + 6 := by omega
                    have big : 6 < tkEnd q n a - a := Classical.byContradiction (fun w => by
                      rcases tk_cases q n a (by omega) with y | y | y | y
                      · omega
                      · have lt := y.2.2.2.2.2 (by omega)
                        by_cases z : tkEnd q n a = F40 3306 o
                        · rw [z] at lt; exact lt (by unfold isLt; split at p135 <;> omega)
                        · exact lt (j3 _ (by omega) (by omega))
                      · exact not_both ha y.2.1
                      · exact y.2.1.1 ha)
                    have bd : tkBad q n a = a + 6 := tkBad_let (by omega) ha nal big
                    rw [e150, nwF_o (by omega), ev] at g1
                    rw [bd] at hX
                    exact hX _ _ _ _ (by omega) g1 ((rfr.own (by rw [o1]; decide) (fun b hb f => (j4 f b (fun w => absurd w hb)).trans (xo b hb f))).trans g2) (by unfold xB; omega)
          · -- case ((F18 3306 o) = (F18 3309 o))
            intro b168 N169 F170 e168 e169 e170
            refine ⟨_, sX11_init (jnew_flt e168 e169 e170), ?_⟩ -- call wqX11_init b168 1 (F170 3306 o) N169 F170 A P176
            intro N181 F179 A180 p176
            -- l9: X b168 N181 F179 A180
            obtain ⟨g1, g2, g3, g4⟩ := flt_new (S := S) (o := o) hnb e168 e169 e170 p176
            have bd : tkBad q n a = a := tkBad_al (by omega) (Or.inl ha) (nal0.2.mp (by rw [← x9]; exact hc.symm))
            rw [e170, nwF_o (by omega), x6] at g1
            rw [bd] at hX
            exact hX _ _ _ _ (by omega) g1 (r18.trans g2) (by unfold xB; omega)
        · -- case (z30 = 0)
          refine ⟨_, sX10_isDigit, ?_⟩ -- call wqX10_isDigit o v27 N F18 A P188
          intro z190 p188
          refine ⟨fun hc => ?_, fun hc => ?_⟩ -- c10
          · -- case (¬ z190 = 0)
            have ha : isDg (q a) := by unfold isDg; rw [e27] at p188; split at p188 <;> omega
            refine ⟨fun hc => ?_, fun hc => ?_⟩ -- c11
            · -- case (¬ (F18 3306 o) = (F18 3309 o))
              intro z198 e198
              have nal : ¬ alB q a := fun w => hc (by rw [x9]; exact (nal0.2.mpr w).symm)
              refine ⟨fun (F200 : jFl) => (a ≤ F200 3306 o ∧ F200 3306 o ≤ n) ∧ F200 3306 o - a ≤ 4 ∧ (∀ i : Int, a ≤ i → i < F200 3306 o → isDg (q i)) ∧ ∀ f b, (b = o → f ≠ 3306) → F200 f b = F18 f b, fun F200 => (n - F200 3306 o).toNat, ?_, ?_⟩ -- loop I203 I203 F18
              ·
                -- l10: I203 F18
                exact ⟨by omega, by omega, fun i i0 i1 => by omega, fun _ _ _ => rfl⟩
              intro F200 i203
              obtain ⟨j1, j2, j3, j4⟩ := i203
              have j12 : F200 3312 o = a := by rw [j4 _ _ (fun _ => by decide)]; exact x12
              have zz : z198 = 4 := by rw [e198]; rw [if_pos (by omega)]
              refine ⟨tkEnd q n a = F200 3306 o, ?_, ?_⟩ -- join K207
              · intro k207
                intro F211 e211
                have m1 : ∀ f b, (b = o → f ≠ 3306 ∧ f ≠ 3309 ∧ f ≠ 3312 ∧ f ≠ 3318 ∧ f ≠ 3321) → F211 f b = F f b := fun f b hb => by
                  rw [e211]
                  by_cases w : b = o
                  · have := hb w
                    rw [w, upF_f (by omega), j4 _ _ (fun _ => by omega)]; exact f18 f o (fun _ => by omega)
                  · rw [upF_a w, j4 _ _ (fun w2 => absurd w2 w)]; exact f18 f b (fun w2 => absurd w2 w)
                have m9 : F211 3309 o = tkEnd q n a := by rw [e211, upF_s]; exact k207.symm
                have m6 : F211 3306 o = tkEnd q n a := by rw [e211, upF_f (by decide)]; exact k207.symm
                have m12 : F211 3312 o = a := by rw [e211, upF_f (by decide)]; exact j12
                have m21 : F211 3321 o = 1 := by rw [e211, upF_f (by decide), j4 _ _ (fun _ => by decide)]; exact x21
                intro b212 N213 F214 e212 e213 e214
                have y6 : F214 3306 o = tkEnd q n a := by rw [e214, nwF_o (by omega)]; exact m6
                have y12 : F214 3312 o = a := by rw [e214, nwF_o (by omega)]; exact m12
                have yx : jfn N213 3332 o = (x : Int) := by rw [e213, jnew_fno (by omega)]; exact o4
                have ytx : jtg N213 x = 1 := by rw [e213, jnew_tgo (by omega)]; exact tx0
                have yt1 : jtg N213 (x + 1) = 111 := by rw [e213, jnew_tgo (by omega)]; exact t1
                have yl1 : jln N213 (x + 1) = 1600 := by rw [e213, jnew_lno (by omega)]; exact l1600
                have yp : jfn N213 302 x = ((x + 1 : Nat) : Int) := by rw [e213, jnew_fno (by omega)]; exact hy.p302
                obtain ⟨-, -, v18, w18, -, w5, -⟩ := id how
                have x18 := hnb (S 18) (by rw [w18]; decide)
                have tln : (((tkEnd q n a - a).toNat : Nat) : Int) = tkEnd q n a - a := by omega
                have qs : ∀ i : Int, 0 ≤ i → i < ((tkEnd q n a - a).toNat : Nat) → isDg (q (a + i)) := fun i i0 i1 => j3 (a + i) (by omega) (by omega)
                refine ⟨_, by exact yx, ?_⟩ -- d220: jfn N213 3332 o = (b220 : Int)
                refine ⟨by exact ytx, ?_⟩ -- s10: jtg N213 b220 = 1
                refine ⟨by omega, ?_⟩ -- s11: jR ((F214 3306 o) - (F214 3312 o))
                refine ⟨_, sJ5_init (c := x + 1) (n := (tkEnd q n a - a).toNat) (q := fun i => q (a + i)) yp yt1 (by rw [e213, jnewNx]; omega) (by rw [y6, y12]; exact tln.symm) ⟨by rw [y12]; omega, by rw [y12, y6, yl1]; omega, by rw [yl1]; decide⟩ (fun i i0 i1 => by rw [y12]; exact hq (a + i) (by omega) (by omega)) ⟨by rw [e213, e212, jnew_f0], by rw [e213, jnewNx]; omega⟩ ⟨by rw [e213, jnew_tgo (by omega)]; exact w18, by rw [e213, jnew_fno (by omega)]; exact w5, by omega⟩, ?_⟩ -- call wqJ5_init S b212 (jfn N213 302 b220) (F214 3312 o) ((F214 3306 o) - (F214 3312 o)) N213 F214 A P224
                intro N229 F227 A228 p224
                subst e212
                obtain ⟨⟨v, hs, hb⟩, k14, g14, nb14, b14, b14s⟩ := on_str hnb how e213 e214 (by omega) (fun i i0 i1 => (hq (a + i) (by omega) (by omega)).2) p224
                have e14 := k14.1
                have c67 : ∀ f, F227 f o = F211 f o := fun f => k14.2.1 o hox f
                intro F237 e237
                have fr77 : ∀ f, f ≠ 3329 → F237 f o = F211 f o := fun f hf => by rw [e237, upF_f hf]; exact c67 f
                have fo77 : ∀ b : Nat, b < jnx N → b ≠ o → ∀ f, F237 f b = F f b := fun b hb hbo f => by rw [e237, upF_a hbo, k14.2.1 b hb f]; exact m1 f b (fun w => absurd w hbo)
                have t77 : F237 3329 o = ((jnx N : Nat) : Int) := by rw [e237, upF_s]
                refine ⟨fun (F239 : jFl) => (∀ f, f ≠ 3315 → F239 f o = F237 f o) ∧ (∀ b, b ≠ o → ∀ f, F239 f b = F237 f b) ∧ F239 3315 o = tkV q n a, ?_, ?_⟩ -- join K242
                · intro F239 k242
                  obtain ⟨c1, c2, c3⟩ := k242
                  intro z246 e246
                  intro F249 e249
                  have lt1 : a < tkEnd q n a := by rcases tk_cases q n a (by omega) with ⟨y, -⟩ | ⟨-, -, -, y, -⟩ | ⟨-, -, -, y, -⟩ | ⟨-, -, -, y⟩ <;> omega
                  have b9 : ∀ f, f ≠ 3315 → f ≠ 3318 → f ≠ 3329 → F249 f o = F211 f o := fun f h1 h2 h3 => by rw [e249, upF_f h2, c1 f h1]; exact fr77 f h3
                  have ek : tkKd q n a = 2 := tkKd_dig (by omega) ha
                  have ez : z246 = 2 := by rw [e246]; rw [if_pos (by omega)]
                  have fin : F249 3318 o = tkKd q n a ∧ rS N229 F249 A228 o q n a ∧ rfr S o N F A N229 F249 A228 ∧ kB N N229 p (tkEnd q n a) ∧ (p = p → tkKd q n a = 1 → nm2 N N229) := by
                    have s18 : F249 3318 o = tkKd q n a := by rw [e249, upF_s, ez, ek]
                    refine ⟨s18, ⟨⟨by rw [b9 _ (by decide) (by decide) (by decide)]; exact m21, by rw [b9 _ (by decide) (by decide) (by decide)]; exact m12, s18, by rw [b9 _ (by decide) (by decide) (by decide)]; exact m6⟩, by omega, tkBad_no nal (fun w => absurd ha (not_both w)) (fun _ => by omega), ⟨by rw [b9 _ (by decide) (by decide) (by decide), m9]; exact Int.le_refl _, by rw [b9 _ (by decide) (by decide) (by decide), m9]; exact ⟨fun _ => alB_let (by omega) (by omega), fun _ => rfl⟩⟩, fun w => ?_, fun w => ?_, fun w => by omega⟩, ⟨e14, fun b hb hbo f => by rw [e249, upF_a hbo, c2 b hbo]; exact fo77 b hb hbo f, k14.2.2, fun M g => (g14 M (g.of (fun l hl => ?_))).of (fun l hl => ?_), fun _ => nb14⟩, by unfold kB; omega, fun _ w => by omega⟩
                    · omega
                    · rw [e249, upF_f (by decide)]; exact c3
                    · have hlo : l ≠ o := fun w => by rw [w, o1] at hl; omega
                      exact ⟨m1 _ l (fun w => absurd w hlo), m1 _ l (fun w => absurd w hlo)⟩
                    · have hlo : l ≠ o := fun w => by rw [w, e14.tg hnb o1 (by decide)] at hl; omega
                      exact ⟨by rw [e249, upF_a hlo, c2 l hlo, e237, upF_a hlo], by rw [e249, upF_a hlo, c2 l hlo, e237, upF_a hlo]⟩
                  -- l11: Q (F249 3318 o) N229 F249 A228
                  exact fin
                refine ⟨fun hc => ?_, fun hc => ?_⟩ -- c12
                · -- case (¬ z30 = 0)
                  omega
                · -- case (z30 = 0)
                  refine ⟨_, sX0_digitsOf t77 hs qs (by omega), ?_⟩ -- call wqX0_digitsOf S (F237 3329 o) N229 F237 A228 P250
                  intro z252 p250
                  intro F258 e258
                  -- l12: K242 F258
                  refine ⟨fun f hf => by rw [e258, upF_f hf], fun b hb f => by rw [e258, upF_a hb], ?_⟩
                  rw [e258, upF_s, p250]
                  unfold tkV
                  rw [if_pos (by omega)]
                  rfl
              refine ⟨fun hc => ?_, fun hc => ?_⟩ -- c13
              · -- case ((jfn N 3300 o) ≤ (F200 3306 o))
                -- l13: K207
                rw [tkEnd_dig (by omega) ha]
                exact scn_is (by omega) j3 (fun w => by omega)
              · -- case (¬ ((jfn N 3300 o) ≤ (F200 3306 o)))
                refine ⟨fun hc => ?_, fun hc => ?_⟩ -- c14
                · -- case (z30 = 0)
                  refine ⟨by omega, ?_⟩ -- s12: ((0 : Int) ≤ F200 3306 o ∧ (F200 3306 o : Int) < (jln N b23 : Int))
                  have hv4 := hq (F200 3306 o) (by omega) (by omega)
                  rw [hv4.1]
                  refine ⟨_, sX10_isDigit, ?_⟩ -- call wqX10_isDigit o (A b23 (F200 3306 o)) N F200 A P261
                  intro z263 p261
                  refine ⟨fun hc => ?_, fun hc => ?_⟩ -- c15
                  · -- case (z263 = 0)
                    -- l14: K207
                    rw [tkEnd_dig (by omega) ha]
                    exact scn_is (by omega) j3 (fun _ w => by unfold isDg at w; rw [if_pos w] at p261; omega)
                  · -- case (¬ (z263 = 0))
                    refine ⟨by omega, ?_⟩ -- s13: jR ((F200 3306 o) - (F200 3312 o))
                    refine ⟨fun hc => ?_, fun hc => ?_⟩ -- c16
                    · -- case (¬ ((F200 3306 o) - (F200 3312 o)) = z198)
                      refine ⟨by omega, ?_⟩ -- s14: jR ((F200 3306 o) + 1)
                      intro F273 e273
                      refine ⟨?_, ?_⟩ -- l15: I203 F273
                      · have b6 : F273 3306 o = F200 3306 o + 1 := by rw [e273, upF_s]
                        refine ⟨by omega, by omega, fun i i0 i1 => ?_, fun f b hb => ?_⟩
                        · by_cases w : i = F200 3306 o
                          · rw [w]; unfold isDg; split at p261 <;> omega
                          · exact j3 i i0 (by omega)
                        · rw [e273]
                          by_cases w : b = o
                          · rw [w, upF_f (hb w)]; exact j4 f o (fun _ => hb w)
                          · rw [upF_a w]; exact j4 f b hb
                      · dsimp only
                        rw [e273, upF_s]
                        omega
                    · -- case (((F200 3306 o) - (F200 3312 o)) = z198)
                      intro b274 N275 F276 e274 e275 e276
                      refine ⟨_, sX11_init (jnew_flt e274 e275 e276), ?_⟩ -- call wqX11_init b274 1 (F276 3306 o) N275 F276 A P282
                      intro N287 F285 A286 p282
                      -- l16: X b274 N287 F285 A286
                      obtain ⟨g1, g2, g3, g4⟩ := flt_new (S := S) (o := o) hnb e274 e275 e276 p282
                      have ev : F200 3306 o = a + 4 := by omega
                      have big : 4 < tkEnd q n a - a := Classical.byContradiction (fun w => by
                        rcases tk_cases q n a (by omega) with y | y | y | y
                        · omega
                        · exact not_both y.2.1 ha
                        · have lt := y.2.2.2.2.2 (by omega)
                          by_cases z : tkEnd q n a = F200 3306 o
                          · rw [z] at lt; exact lt (by unfold isDg; split at p261 <;> omega)
                          · exact lt (j3 _ (by omega) (by omega))
                        · exact y.2.1.2 ha)
                      have bd : tkBad q n a = a + 4 := tkBad_dig (by omega) ha nal big
                      rw [e276, nwF_o (by omega), ev] at g1
                      rw [bd] at hX
                      exact hX _ _ _ _ (by omega) g1 ((rfr.own (by rw [o1]; decide) (fun b hb f => (j4 f b (fun w => absurd w hb)).trans (xo b hb f))).trans g2) (by unfold xB; omega)
                · -- case (¬ (z30 = 0))
                  omega
            · -- case ((F18 3306 o) = (F18 3309 o))
              intro b328 N329 F330 e328 e329 e330
              refine ⟨_, sX11_init (jnew_flt e328 e329 e330), ?_⟩ -- call wqX11_init b328 1 (F330 3306 o) N329 F330 A P336
              intro N341 F339 A340 p336
              -- l17: X b328 N341 F339 A340
              obtain ⟨g1, g2, g3, g4⟩ := flt_new (S := S) (o := o) hnb e328 e329 e330 p336
              have bd : tkBad q n a = a := tkBad_al (by omega) (Or.inr ha) (nal0.2.mp (by rw [← x9]; exact hc.symm))
              rw [e330, nwF_o (by omega), x6] at g1
              rw [bd] at hX
              exact hX _ _ _ _ (by omega) g1 (r18.trans g2) (by unfold xB; omega)
          · -- case (z190 = 0)
            refine ⟨by omega, ?_⟩ -- s15: (0 ≤ v27 ∧ v27 ≤ 65535)
            intro F350 e350
            refine ⟨by (rw [e350, upF_f (by decide), x6]; omega), ?_⟩ -- s16: jR ((F350 3306 o) + 1)
            intro F353 e353
            intro F355 e355
            -- l18: Q (F355 3318 o) N F355 A
            have nl : ¬ isLt (q a) := fun w => by unfold isLt at w; rw [e27, if_pos w] at p28; omega
            have nd : ¬ isDg (q a) := fun w => by unfold isDg at w; rw [e27, if_pos w] at p188; omega
            have ek := tkKd_sgn (q := q) (n := n) (p := a) (by omega) nl nd
            have ee := tkEnd_sgn (q := q) (n := n) (p := a) (by omega) nl nd
            have g6 : F355 3306 o = a + 1 := by rw [e355, upF_f (by decide), e353, upF_s, e350, upF_f (by decide), x6]
            have g : ∀ f, f ≠ 3306 → f ≠ 3318 → f ≠ 3324 → F355 f o = F18 f o := fun f h1 h2 h3 => by rw [e355, upF_f h2, e353, upF_f h1, e350, upF_f h3]
            have g18 : F355 3318 o = 3 := by rw [e355, upF_s]
            have nal : ¬ alB q (a + 1) := fun w => by
              obtain ⟨-, w⟩ := w
              rw [show a + 1 - 1 = a by omega] at w
              rcases w with w | w
              · exact nl w
              · exact nd w
            refine ⟨by rw [g18, ek], ⟨⟨by rw [g _ (by decide) (by decide) (by decide)]; exact x21, by rw [g _ (by decide) (by decide) (by decide)]; exact x12, by rw [g18, ek], by rw [g6, ee]⟩, by omega, tkBad_sgn nl nd, ?_, fun w => by omega, fun w => by omega, fun _ => by rw [e355, upF_f (by decide), e353, upF_f (by decide), e350, upF_s]; exact e27⟩, rfr.own (by rw [o1]; decide) (fun b hb f => by rw [e355, upF_a hb, e353, upF_a hb, e350, upF_a hb]; exact xo b hb f), by unfold kB; omega, fun _ w => by omega⟩
            rw [g _ (by decide) (by decide) (by decide), x9, ee]
            exact ⟨by omega, fun w => by omega, fun w => absurd w nal⟩
      · -- case ((F18 3306 o) = (jfn N 3300 o))
        -- l19: Q (F18 3318 o) N F18 A
        have ek := tkKd_end (q := q) (n := n) (p := a) (by omega)
        have ee := tkEnd_end (q := q) (n := n) (p := a) (by omega)
        refine ⟨by rw [x18, ek], ⟨⟨x21, x12, by rw [x18, ek], by rw [x6, ee]⟩, by omega, tkBad_end (by omega), by rw [x9, ee]; exact nal0, fun w => by omega, fun w => by omega, fun w => by omega⟩, r18, by unfold kB; omega, fun _ w => by omega⟩
    refine ⟨fun hc => ?_, fun hc => ?_⟩ -- c17
    · -- case ((jfn N 3300 o) ≤ (F2 3306 o))
      -- l20: K9
      rw [← i2]
      exact scn_end hc
    · -- case (¬ ((jfn N 3300 o) ≤ (F2 3306 o)))
      refine ⟨_, by exact o4, ?_⟩ -- d356: jfn N 3332 o = (b356 : Int)
      refine ⟨by exact tx0, ?_⟩ -- s17: jtg N b356 = 1
      refine ⟨_, by exact hy.p302, ?_⟩ -- d359: jfn N 302 b356 = (b359 : Int)
      refine ⟨by exact t1, ?_⟩ -- s18: jtg N b359 = 111
      refine ⟨by omega, ?_⟩ -- s19: ((0 : Int) ≤ F2 3306 o ∧ (F2 3306 o : Int) < (jln N b359 : Int))
      refine ⟨fun hc => ?_, fun hc => ?_⟩ -- c18
      · -- case ((A b359 (F2 3306 o)) = 32)
        refine ⟨by exact o2, ?_⟩ -- s20: jfn N 0 o = 1
        refine ⟨by omega, ?_⟩ -- s21: jR ((F2 3306 o) + 1)
        intro F367 e367
        refine ⟨?_, ?_⟩ -- l21: I5 F367
        · have hv := hq (F2 3306 o) (by omega) (by omega)
          have go : tkAt q n (F2 3306 o) = tkAt q n (F2 3306 o + 1) := scn_go (P := fun i => isBl (q i)) (by omega) (Or.inl (by omega))
          refine ⟨by rw [e367, upF_s]; omega, by rw [e367, upF_s, ← go]; exact i2, fun f b hb => ?_⟩
          rw [e367]
          by_cases w : b = o
          · rw [w, upF_f (hb w)]; exact i3 f o (fun _ => hb w)
          · rw [upF_a w]; exact i3 f b hb
        · dsimp only
          rw [e367, upF_s]
          omega
      · -- case (¬ ((A b359 (F2 3306 o)) = 32))
        refine ⟨by omega, ?_⟩ -- s22: ((0 : Int) ≤ F2 3306 o ∧ (F2 3306 o : Int) < (jln N b359 : Int))
        refine ⟨fun hc => ?_, fun hc => ?_⟩ -- c19
        · -- case (¬ (A b359 (F2 3306 o)) = 10)
          -- l22: K9
          have hv := hq (F2 3306 o) (by omega) (by omega)
          rw [← i2]
          exact scn_no (P := fun i => isBl (q i)) (by omega) (fun w => by rcases w with w | w <;> omega)
        · -- case ((A b359 (F2 3306 o)) = 10)
          refine ⟨by exact o2, ?_⟩ -- s23: jfn N 0 o = 1
          refine ⟨by omega, ?_⟩ -- s24: jR ((F2 3306 o) + 1)
          intro F373 e373
          refine ⟨?_, ?_⟩ -- l23: I5 F373
          · have hv := hq (F2 3306 o) (by omega) (by omega)
            have go : tkAt q n (F2 3306 o) = tkAt q n (F2 3306 o + 1) := scn_go (P := fun i => isBl (q i)) (by omega) (Or.inr (by omega))
            refine ⟨by rw [e373, upF_s]; omega, by rw [e373, upF_s, ← go]; exact i2, fun f b hb => ?_⟩
            rw [e373]
            by_cases w : b = o
            · rw [w, upF_f (hb w)]; exact i3 f o (fun _ => hb w)
            · rw [upF_a w]; exact i3 f b hb
          · dsimp only
            rw [e373, upF_s]
            omega
  · -- case (¬ ((F 3321 o) = 0))
    -- l24: Q (F 3318 o) N F A
    rcases hA with ⟨w, -⟩ | ⟨w, w2⟩
    · exact absurd w.1 hc
    · exact ⟨w.1.2.2.1, w, rfr.refl _ _ _ _ _, by unfold kB; omega, fun y k => by rcases tk_cases q n (tkAt q n p) (by omega) with z | z | z | z <;> omega⟩

