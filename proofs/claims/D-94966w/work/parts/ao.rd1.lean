set_option maxRecDepth 100000
set_option linter.unusedVariables false
/-! the component's reader: signs, words, names, what stands ahead; printed by gen/prove.py out of spec/ao.rd1.spec -/
/-- what a step says of its faults -/
def rX (S : Nat → Nat) (n : Int) (o : Nat) (N : jSh) (F : jFl) (A : jAr) (c : Int) (r : Int × Int) (X : Nat → jSh → jFl → jAr → Prop) : Prop := ∀ (b : Nat) (N' : jSh) (F' : jFl) (A' : jAr), flt N' b r → rfr S o N F A N' F' A' → xB n N N' c → X b N' F' A'
theorem rX.go {S : Nat → Nat} {n : Int} {o : Nat} {N N' : jSh} {F F' : jFl} {A A' : jAr} {c c' : Int} {r : Int × Int} {X : Nat → jSh → jFl → jAr → Prop} (h : rX S n o N F A c r X) (f : rfr S o N F A N' F' A') (k : kB N N' c c') : rX S n o N' F' A' c' r X := fun b N2 F2 A2 h1 h2 h3 => h b N2 F2 A2 h1 (f.trans h2) (k.xb h3)
theorem rdO.go {S : Nat → Nat} {u : Int} {N N' : jSh} {F F' : jFl} {A A' : jAr} {o x h : Nat} {n : Int} {q : Int → Int} (r : rdO S u N A o x h n q) (f : rfr S o N F A N' F' A') : rdO S u N' A' o x h n q := r.ex f.1 (f.2.2.2.2 r.2.1.1) f.2.2.1
/-- letters' value, if they are not bad -/
theorem tk_code {q : Int → Int} {n a : Int} (ha : 0 ≤ a ∧ a ≤ n) (k : tkKd q n a = 1) (bd : tkBad q n a = -1) : (a < tkEnd q n a ∧ tkEnd q n a ≤ a + 6) ∧ sCode (fun i => q (a + i)) (tkEnd q n a - a).toNat = tkC q n a := by
  rcases tk_cases q n a ha.2 with w | w | w | w
  · omega
  · have e6 : tkEnd q n a - a ≤ 6 := by
      rcases tkBad_cases q n a ha.1 ha.2 with ⟨-, y⟩ | ⟨-, -, y⟩
      · exact (y w.1).2.1 w.2.1
      · omega
    refine ⟨by omega, ?_⟩
    unfold tkC tkW
    rw [if_pos e6]
  · omega
  · omega
theorem sX10_isWord {S : Nat → Nat} {o : Nat} {a1 : Int} {N : jSh} {F : jFl} {A : jAr} {u code : Int} {x h : Nat} {n p c : Int} {q : Int → Int} (hO : rdO S u N A o x h n q) (hA : rA N F A o q n p c) (hs : strIs N A u a1 code) {X : Nat → jSh → jFl → jAr → Prop} (hX : 0 ≤ tkBad q n (tkAt q n p) → rX S n o N F A c (1, tkBad q n (tkAt q n p)) X) : wqX10_isWord S o a1 N F A (fun z N' F' A' => (z = 1 ∧ tkKd q n (tkAt q n p) = 1 ∧ tkC q n (tkAt q n p) = code ∨ z = 0 ∧ ¬ (tkKd q n (tkAt q n p) = 1 ∧ tkC q n (tkAt q n p) = code)) ∧ rS N' F' A' o q n (tkAt q n p) ∧ rfr S o N F A N' F' A' ∧ kB N N' c (tkEnd q n (tkAt q n p))) (X) := by
  unfold wqX10_isWord
  refine ⟨_, sX10_see hO hA (fun b N' F' A' h1 h2 h3 h4 => hX h1 b N' F' A' h2 h3 h4), ?_⟩ -- call wqX10_see S o N F A P1 X
  intro z3 N6 F4 A5 p1
  obtain ⟨r1, r2, r3, r4, -⟩ := p1
  refine ⟨fun hc => ?_, fun hc => ?_⟩ -- c1
  · -- case (¬ z3 = 1)
    -- l1: Q 0 N6 F4 A5
    exact ⟨Or.inr ⟨rfl, fun w => hc (by rw [r1]; exact w.1)⟩, r2, r3, r4⟩
  · -- case (z3 = 1)
    obtain ⟨-, ha, bd, -, r5, -, -⟩ := id r2
    have k1 : tkKd q n (tkAt q n p) = 1 := by rw [← r1]; exact hc
    obtain ⟨b, v, y1, y2⟩ := r5 k1
    have hs2 := hs.kv hO.2.1.1 r3.1 (fun a ha => r3.2.2.1 a (hO.2.1.1 a (by omega))) (Or.inl rfl)
    have cc := tk_code ha k1 bd
    refine ⟨_, by exact y1, ?_⟩ -- d13: F4 3329 o = (b13 : Int)
    refine ⟨by exact y2.1.1, ?_⟩ -- s1: jtg N6 b13 = 22
    refine ⟨_, txt_eq2 hs2 y2, ?_⟩ -- call wqJ5_equals S b13 a1 N6 F4 A5 P16
    intro z18 p16
    intro z24 e24
    -- l2: Q z24 N6 F4 A5
    refine ⟨?_, r2, r3, r4⟩
    by_cases w : tkC q n (tkAt q n p) = code
    · rw [cif_pos ⟨by omega, by rw [← w]; exact cc.2⟩] at p16
      exact Or.inl ⟨by rw [e24, p16]; rfl, k1, w⟩
    · rw [cif_neg (fun y => w (by rw [cc.2] at y; exact y.2))] at p16
      exact Or.inr ⟨by rw [e24, p16]; rfl, fun y => w y.2⟩

theorem sX10_isSign {S : Nat → Nat} {o : Nat} {a1 : Int} {N : jSh} {F : jFl} {A : jAr} {u : Int} {x h : Nat} {n p c : Int} {q : Int → Int} (hO : rdO S u N A o x h n q) (hA : rA N F A o q n p c) {X : Nat → jSh → jFl → jAr → Prop} (hX : 0 ≤ tkBad q n (tkAt q n p) → rX S n o N F A c (1, tkBad q n (tkAt q n p)) X) : wqX10_isSign S o a1 N F A (fun z N' F' A' => (z = 1 ∧ tkKd q n (tkAt q n p) = 3 ∧ q (tkAt q n p) = a1 ∨ z = 0 ∧ ¬ (tkKd q n (tkAt q n p) = 3 ∧ q (tkAt q n p) = a1)) ∧ rS N' F' A' o q n (tkAt q n p) ∧ rfr S o N F A N' F' A' ∧ kB N N' c (tkEnd q n (tkAt q n p))) (X) := by
  unfold wqX10_isSign
  refine ⟨_, sX10_see hO hA (fun b N' F' A' h1 h2 h3 h4 => hX h1 b N' F' A' h2 h3 h4), ?_⟩ -- call wqX10_see S o N F A P1 X
  intro z3 N6 F4 A5 p1
  obtain ⟨r1, r2, r3, r4, -⟩ := p1
  refine ⟨fun hc => ?_, fun hc => ?_⟩ -- c1
  · -- case (¬ z3 = 3)
    -- l1: Q 0 N6 F4 A5
    exact ⟨Or.inr ⟨rfl, fun w => hc (by rw [r1]; exact w.1)⟩, r2, r3, r4⟩
  · -- case (z3 = 3)
    intro z14 e14
    -- l2: Q z14 N6 F4 A5
    have k1 : tkKd q n (tkAt q n p) = 3 := by rw [← r1]; exact hc
    have y := r2.2.2.2.2.2.2 k1
    refine ⟨?_, r2, r3, r4⟩
    rw [e14, y]
    by_cases w : q (tkAt q n p) = a1
    · rw [if_neg (fun y => y w)]; exact Or.inl ⟨rfl, k1, w⟩
    · rw [if_pos w]; exact Or.inr ⟨rfl, fun y => w y.2⟩

theorem sX10_wrong {o : Nat} {N : jSh} {F : jFl} {A : jAr} {S : Nat → Nat} {u : Int} {x h : Nat} {n a : Int} {q : Int → Int} (hO : rdO S u N A o x h n q) (hp : F 3312 o = a) : wqX10_wrong o N F A (fun z N' F' A' => ∃ b : Nat, z = (b : Int) ∧ flt N' b (1, a) ∧ rfr S o N F A N' F' A' ∧ jnx N' = jnx N + 1 ∧ jsu N' = jsu N + 8) := by
  unfold wqX10_wrong
  have hox := hO.2.1.1 o (by rw [hO.1.1]; decide)
  intro b1 N2 F3 e1 e2 e3
  refine ⟨_, sX11_init (jnew_flt e1 e2 e3), ?_⟩ -- call wqX11_init b1 1 (F3 3312 o) N2 F3 A P9
  intro N14 F12 A13 p9
  -- l1: Q (b1 : Int) N14 F12 A13
  obtain ⟨g1, g2, g3, g4⟩ := flt_new (S := S) (o := o) hO.2.1.1 e1 e2 e3 p9
  rw [e3, nwF_o (by omega), hp] at g1
  exact ⟨b1, rfl, g1, g2, g3, g4⟩

/-- a sign seen is passed -/
theorem rS.go {S : Nat → Nat} {u : Int} {N : jSh} {F F' : jFl} {A : jAr} {o x h : Nat} {q : Int → Int} {n a : Int} (hO : rdO S u N A o x h n q) (hr : rS N F A o q n a) (e : F' = upF F 3321 o 0) : rfr S o N F A N F' A ∧ rU F' o q n (tkEnd q n a) ∧ rA N F' A o q n (tkEnd q n a) (tkEnd q n a) := by
  have hU := hr.pass e
  exact ⟨rfr.own (by rw [hO.1.1]; decide) (fun b hb f => by rw [e, upF_a hb]), hU, hU.2.2.1, Or.inl ⟨hU, rfl⟩⟩
theorem rS.rA {N : jSh} {F : jFl} {A : jAr} {o : Nat} {q : Int → Int} {n p : Int} (hp : 0 ≤ p ∧ p ≤ n) (h : rS N F A o q n (tkAt q n p)) : rA N F A o q n p (tkEnd q n (tkAt q n p)) := ⟨hp, Or.inr ⟨h, rfl⟩⟩
theorem sX10_takes {S : Nat → Nat} {o : Nat} {a1 : Int} {N : jSh} {F : jFl} {A : jAr} {u code : Int} {x h : Nat} {n p c : Int} {q : Int → Int} (hO : rdO S u N A o x h n q) (hA : rA N F A o q n p c) (hs : strIs N A u a1 code) {X : Nat → jSh → jFl → jAr → Prop} (hX : 0 ≤ tkBad q n (tkAt q n p) → rX S n o N F A c (1, tkBad q n (tkAt q n p)) X) : wqX10_takes S o a1 N F A (fun z N' F' A' => ((z = 1 ∧ (tkKd q n (tkAt q n p) = 1 ∧ tkC q n (tkAt q n p) = code) ∧ rU F' o q n (tkEnd q n (tkAt q n p)) ∧ tkBad q n (tkAt q n p) = -1) ∨ (z = 0 ∧ ¬ (tkKd q n (tkAt q n p) = 1 ∧ tkC q n (tkAt q n p) = code) ∧ rS N' F' A' o q n (tkAt q n p))) ∧ rfr S o N F A N' F' A' ∧ kB N N' c (tkEnd q n (tkAt q n p))) (X) := by
  unfold wqX10_takes
  refine ⟨_, sX10_isWord hO hA hs hX, ?_⟩ -- call wqX10_isWord S o a1 N F A P1 X
  intro z3 N6 F4 A5 p1
  obtain ⟨r1, r2, r3, r4⟩ := p1
  refine ⟨fun hc => ?_, fun hc => ?_⟩ -- c1
  · -- case (¬ z3 = 0)
    refine ⟨by exact (hO.go r3).1.2.1, ?_⟩ -- s1: jfn N6 0 o = 1
    intro F15 e15
    -- l1: Q 1 N6 F15 A5
    obtain ⟨g1, g2, g3⟩ := r2.go (hO.go r3) e15
    rcases r1 with w | w
    · exact ⟨Or.inl ⟨rfl, w.2, g2, r2.2.2.1⟩, r3.trans g1, r4⟩
    · exact absurd w.1 hc
  · -- case (z3 = 0)
    -- l2: Q 0 N6 F4 A5
    rcases r1 with w | w
    · omega
    · exact ⟨Or.inr ⟨rfl, w.2, r2⟩, r3, r4⟩

theorem sX10_takes_2 {S : Nat → Nat} {o : Nat} {a1 : Int} {N : jSh} {F : jFl} {A : jAr} {u : Int} {x h : Nat} {n p c : Int} {q : Int → Int} (hO : rdO S u N A o x h n q) (hA : rA N F A o q n p c) {X : Nat → jSh → jFl → jAr → Prop} (hX : 0 ≤ tkBad q n (tkAt q n p) → rX S n o N F A c (1, tkBad q n (tkAt q n p)) X) : wqX10_takes_2 S o a1 N F A (fun z N' F' A' => ((z = 1 ∧ (tkKd q n (tkAt q n p) = 3 ∧ q (tkAt q n p) = a1) ∧ rU F' o q n (tkEnd q n (tkAt q n p)) ∧ tkBad q n (tkAt q n p) = -1) ∨ (z = 0 ∧ ¬ (tkKd q n (tkAt q n p) = 3 ∧ q (tkAt q n p) = a1) ∧ rS N' F' A' o q n (tkAt q n p))) ∧ rfr S o N F A N' F' A' ∧ kB N N' c (tkEnd q n (tkAt q n p))) (X) := by
  unfold wqX10_takes_2
  refine ⟨_, sX10_isSign hO hA hX, ?_⟩ -- call wqX10_isSign S o a1 N F A P1 X
  intro z3 N6 F4 A5 p1
  obtain ⟨r1, r2, r3, r4⟩ := p1
  refine ⟨fun hc => ?_, fun hc => ?_⟩ -- c1
  · -- case (¬ z3 = 0)
    refine ⟨by exact (hO.go r3).1.2.1, ?_⟩ -- s1: jfn N6 0 o = 1
    intro F15 e15
    -- l1: Q 1 N6 F15 A5
    obtain ⟨g1, g2, g3⟩ := r2.go (hO.go r3) e15
    rcases r1 with w | w
    · exact ⟨Or.inl ⟨rfl, w.2, g2, r2.2.2.1⟩, r3.trans g1, r4⟩
    · exact absurd w.1 hc
  · -- case (z3 = 0)
    -- l2: Q 0 N6 F4 A5
    rcases r1 with w | w
    · omega
    · exact ⟨Or.inr ⟨rfl, w.2, r2⟩, r3, r4⟩

/-- something is asked for: what is wrong, where -/
noncomputable def asF (P : Prop) (q : Int → Int) (n a : Int) : Int × Int := if 0 ≤ tkBad q n a then (1, tkBad q n a) else cif P (0, 0) (1, a)
theorem asF_bad {P : Prop} {q : Int → Int} {n a : Int} (h : 0 ≤ tkBad q n a) : asF P q n a = (1, tkBad q n a) := if_pos h
theorem asF_no {P : Prop} {q : Int → Int} {n a : Int} (h : tkBad q n a = -1) (h1 : ¬ P) : asF P q n a = (1, a) := (if_neg (by omega)).trans (cif_neg h1)
theorem asF_ok {P : Prop} {q : Int → Int} {n a : Int} (h : tkBad q n a = -1) (h1 : P) : asF P q n a = (0, 0) := (if_neg (by omega)).trans (cif_pos h1)
theorem ne10 {x : Int} : ((1 : Int), x).1 ≠ 0 := by show (1 : Int) ≠ 0; decide
theorem sX10_asks {S : Nat → Nat} {o : Nat} {a1 : Int} {N : jSh} {F : jFl} {A : jAr} {u code : Int} {x h : Nat} {n p c : Int} {q : Int → Int} (hO : rdO S u N A o x h n q) (hA : rA N F A o q n p c) (hs : strIs N A u a1 code) {X : Nat → jSh → jFl → jAr → Prop} (hX : (asF (tkKd q n (tkAt q n p) = 1 ∧ tkC q n (tkAt q n p) = code) q n (tkAt q n p)).1 ≠ 0 → rX S n o N F A c (asF (tkKd q n (tkAt q n p) = 1 ∧ tkC q n (tkAt q n p) = code) q n (tkAt q n p)) X) : wqX10_asks S o a1 N F A (fun N' F' A' => asF (tkKd q n (tkAt q n p) = 1 ∧ tkC q n (tkAt q n p) = code) q n (tkAt q n p) = (0, 0) ∧ rU F' o q n (tkEnd q n (tkAt q n p)) ∧ rfr S o N F A N' F' A' ∧ kB N N' c (tkEnd q n (tkAt q n p))) (X) := by
  unfold wqX10_asks
  refine ⟨_, sX10_takes hO hA hs (fun w => by rw [asF_bad w] at hX; exact hX ne10), ?_⟩ -- call wqX10_takes S o a1 N F A P1 X
  intro z3 N6 F4 A5 p1
  obtain ⟨r1, r3, r4⟩ := p1
  refine ⟨fun hc => ?_, fun hc => ?_⟩ -- c1
  · -- case (¬ z3 = 0)
    -- l1: Q N6 F4 A5
    rcases r1 with ⟨-, w, w2, w3⟩ | ⟨w, -⟩
    · exact ⟨asF_ok w3 w, w2, r3, r4⟩
    · exact absurd w hc
  · -- case (z3 = 0)
    obtain ⟨w1, w2⟩ : ¬ (tkKd q n (tkAt q n p) = 1 ∧ tkC q n (tkAt q n p) = code) ∧ rS N6 F4 A5 o q n (tkAt q n p) := by
      rcases r1 with w | w
      · omega
      · exact w.2
    have te := (tkEnd_le (q := q) w2.2.1.2)
    rw [asF_no w2.2.2.1 w1] at hX
    refine ⟨_, sX10_wrong (hO.go r3) w2.1.2.1, ?_⟩ -- call wqX10_wrong o N6 F4 A5 P13
    intro z15 N18 F16 A17 p13
    obtain ⟨b, g1, g2, g3, g4, g5⟩ := p13
    refine ⟨_, by exact g1, ?_⟩ -- d23: z15 = (b23 : Int)
    refine ⟨by exact g2.1, ?_⟩ -- s1: jtg N18 b23 = 12
    refine ⟨by exact g2.2.1, ?_⟩ -- s2: jfn N18 0 b23 = 1
    -- l2: X b23 N18 F16 A17
    exact hX ne10 _ _ _ _ g2 (r3.trans g3) (by unfold kB at r4; unfold xB; omega)

theorem sX10_asks_2 {S : Nat → Nat} {o : Nat} {a1 : Int} {N : jSh} {F : jFl} {A : jAr} {u : Int} {x h : Nat} {n p c : Int} {q : Int → Int} (hO : rdO S u N A o x h n q) (hA : rA N F A o q n p c) {X : Nat → jSh → jFl → jAr → Prop} (hX : (asF (tkKd q n (tkAt q n p) = 3 ∧ q (tkAt q n p) = a1) q n (tkAt q n p)).1 ≠ 0 → rX S n o N F A c (asF (tkKd q n (tkAt q n p) = 3 ∧ q (tkAt q n p) = a1) q n (tkAt q n p)) X) : wqX10_asks_2 S o a1 N F A (fun N' F' A' => asF (tkKd q n (tkAt q n p) = 3 ∧ q (tkAt q n p) = a1) q n (tkAt q n p) = (0, 0) ∧ rU F' o q n (tkEnd q n (tkAt q n p)) ∧ rfr S o N F A N' F' A' ∧ kB N N' c (tkEnd q n (tkAt q n p))) (X) := by
  unfold wqX10_asks_2
  refine ⟨_, sX10_takes_2 hO hA (fun w => by rw [asF_bad w] at hX; exact hX ne10), ?_⟩ -- call wqX10_takes_2 S o a1 N F A P1 X
  intro z3 N6 F4 A5 p1
  obtain ⟨r1, r3, r4⟩ := p1
  refine ⟨fun hc => ?_, fun hc => ?_⟩ -- c1
  · -- case (¬ z3 = 0)
    -- l1: Q N6 F4 A5
    rcases r1 with ⟨-, w, w2, w3⟩ | ⟨w, -⟩
    · exact ⟨asF_ok w3 w, w2, r3, r4⟩
    · exact absurd w hc
  · -- case (z3 = 0)
    obtain ⟨w1, w2⟩ : ¬ (tkKd q n (tkAt q n p) = 3 ∧ q (tkAt q n p) = a1) ∧ rS N6 F4 A5 o q n (tkAt q n p) := by
      rcases r1 with w | w
      · omega
      · exact w.2
    have te := (tkEnd_le (q := q) w2.2.1.2)
    rw [asF_no w2.2.2.1 w1] at hX
    refine ⟨_, sX10_wrong (hO.go r3) w2.1.2.1, ?_⟩ -- call wqX10_wrong o N6 F4 A5 P13
    intro z15 N18 F16 A17 p13
    obtain ⟨b, g1, g2, g3, g4, g5⟩ := p13
    refine ⟨_, by exact g1, ?_⟩ -- d23: z15 = (b23 : Int)
    refine ⟨by exact g2.1, ?_⟩ -- s1: jtg N18 b23 = 12
    refine ⟨by exact g2.2.1, ?_⟩ -- s2: jfn N18 0 b23 = 1
    -- l2: X b23 N18 F16 A17
    exact hX ne10 _ _ _ _ g2 (r3.trans g3) (by unfold kB at r4; unfold xB; omega)

theorem sX10_name {S : Nat → Nat} {o : Nat} {N : jSh} {F : jFl} {A : jAr} {u : Int} {x h : Nat} {n p c : Int} {q : Int → Int} (hO : rdO S u N A o x h n q) (hA : rA N F A o q n p c) {X : Nat → jSh → jFl → jAr → Prop} (hX : (asF (tkKd q n (tkAt q n p) = 1 ∧ ¬ sOwn (tkC q n (tkAt q n p))) q n (tkAt q n p)).1 ≠ 0 → rX S n o N F A c (asF (tkKd q n (tkAt q n p) = 1 ∧ ¬ sOwn (tkC q n (tkAt q n p))) q n (tkAt q n p)) X) : wqX10_name S o N F A (fun z N' F' A' => (tkBad q n (tkAt q n p) = -1 ∧ tkKd q n (tkAt q n p) = 1 ∧ ¬ sOwn (tkC q n (tkAt q n p))) ∧ z = F' 3329 o ∧ rS N' F' A' o q n (tkAt q n p) ∧ rfr S o N F A N' F' A' ∧ kB N N' c (tkEnd q n (tkAt q n p)) ∧ (c = p → nm2 N N')) (X) := by
  unfold wqX10_name
  refine ⟨_, sX10_see hO hA (fun b N' F' A' h1 h2 h3 h4 => by rw [asF_bad h1] at hX; exact hX ne10 b N' F' A' h2 h3 h4), ?_⟩ -- call wqX10_see S o N F A P1 X
  intro z3 N6 F4 A5 p1
  obtain ⟨r1, r2, r3, r4, r5⟩ := p1
  have te := (tkEnd_le (q := q) r2.2.1.2)
  refine ⟨fun hc => ?_, fun hc => ?_⟩ -- c1
  · -- case (¬ z3 = 1)
    rw [asF_no r2.2.2.1 (fun w => hc (by rw [r1]; exact w.1))] at hX
    refine ⟨_, sX10_wrong (hO.go r3) r2.1.2.1, ?_⟩ -- call wqX10_wrong o N6 F4 A5 P13
    intro z15 N18 F16 A17 p13
    obtain ⟨b, g1, g2, g3, g4, g5⟩ := p13
    refine ⟨_, by exact g1, ?_⟩ -- d23: z15 = (b23 : Int)
    refine ⟨by exact g2.1, ?_⟩ -- s1: jtg N18 b23 = 12
    refine ⟨by exact g2.2.1, ?_⟩ -- s2: jfn N18 0 b23 = 1
    -- l1: X b23 N18 F16 A17
    exact hX ne10 _ _ _ _ g2 (r3.trans g3) (by unfold kB at r4; unfold xB; omega)
  · -- case (z3 = 1)
    have k1 : tkKd q n (tkAt q n p) = 1 := by rw [← r1]; exact hc
    obtain ⟨b, v, y1, y2⟩ := r2.2.2.2.2.1 k1
    have cc := tk_code r2.2.1 k1 r2.2.2.1
    refine ⟨_, sX0_isOwn (hO.go r3).2.1.2.1 y2 y1, ?_⟩ -- call wqX0_isOwn S (F4 3329 o) N6 F4 A5 P28
    intro z30 p28
    rw [cc.2] at p28
    refine ⟨fun hc => ?_, fun hc => ?_⟩ -- c2
    · -- case (z30 = 0)
      -- l2: Q (F4 3329 o) N6 F4 A5
      exact ⟨⟨r2.2.2.1, k1, fun w => by rw [cif_pos ⟨by omega, w⟩] at p28; omega⟩, rfl, r2, r3, r4, fun w => r5 w k1⟩
    · -- case (¬ (z30 = 0))
      have ow : sOwn (tkC q n (tkAt q n p)) := Classical.byContradiction (fun w => by rw [cif_neg (fun y => w y.2)] at p28; omega)
      rw [asF_no r2.2.2.1 (fun w => w.2 ow)] at hX
      refine ⟨_, sX10_wrong (hO.go r3) r2.1.2.1, ?_⟩ -- call wqX10_wrong o N6 F4 A5 P36
      intro z38 N41 F39 A40 p36
      obtain ⟨b, g1, g2, g3, g4, g5⟩ := p36
      refine ⟨_, by exact g1, ?_⟩ -- d46: z38 = (b46 : Int)
      refine ⟨by exact g2.1, ?_⟩ -- s3: jtg N41 b46 = 12
      refine ⟨by exact g2.2.1, ?_⟩ -- s4: jfn N41 0 b46 = 1
      -- l3: X b46 N41 F39 A40
      exact hX ne10 _ _ _ _ g2 (r3.trans g3) (by unfold kB at r4; unfold xB; omega)

theorem sX10_known {S : Nat → Nat} {o : Nat} {a1 : Int} {N : jSh} {F : jFl} {A : jAr} {u m : Int} {x h l k : Nat} {n p c : Int} {e nm : Int → Int} {q : Int → Int} (hO : rdO S u N A o x h n q) (hA : rA N F A o q n p c) (h1 : a1 = (l : Int)) (hl : jli N F A l m e) (hlo : l ≠ o) (hk : k = 14 ∨ k = 15 ∨ k = 16 ∨ k = 17) (he : ∀ i : Int, 0 ≤ i → i < m → nm1 N A u k (e i) (nm i)) {X : Nat → jSh → jFl → jAr → Prop} (hX : (knF nm m q n (tkAt q n p)).1 ≠ 0 → rX S n o N F A c (knF nm m q n (tkAt q n p)) X) : wqX10_known S o a1 N F A (fun z N' F' A' => knF nm m q n (tkAt q n p) = (0, 0) ∧ z = e (knV nm m q n (tkAt q n p)) ∧ rU F' o q n (tkEnd q n (tkAt q n p)) ∧ rfr S o N F A N' F' A' ∧ kB N N' c (tkEnd q n (tkAt q n p)) ∧ (c = p → nm2 N N') ∧ F' 3312 o = tkAt q n p) (X) := by
  unfold wqX10_known
  have hm := hl.2.2.1
  refine ⟨_, sX10_name hO hA (fun w => by
    by_cases b : 0 ≤ tkBad q n (tkAt q n p)
    · rw [asF_bad b]; rw [knF_bad b] at hX; exact hX ne10
    · have hp := hA.1
      have ta := tkAt_all (q := q) hp.2
      have bd := tkBad_ge (q := q) (n := n) (p := tkAt q n p) (by omega) (by omega)
      have bd : tkBad q n (tkAt q n p) = -1 := by omega
      have np : ¬ (tkKd q n (tkAt q n p) = 1 ∧ ¬ sOwn (tkC q n (tkAt q n p))) := fun y => w (by rw [asF_ok bd y])
      rw [asF_no bd np]
      rw [knF_own bd (by
        by_cases y : tkKd q n (tkAt q n p) = 1
        · exact Or.inr (Classical.byContradiction (fun z => np ⟨y, z⟩))
        · exact Or.inl y)] at hX
      exact hX ne10), ?_⟩ -- call wqX10_name S o N F A P1 X
  intro z3 N6 F4 A5 p1
  obtain ⟨⟨r1, r2, r3⟩, r4, r5, r6, r7, r8⟩ := p1
  have te := (tkEnd_le (q := q) r5.2.1.2)
  obtain ⟨b, v, y1, y2⟩ := r5.2.2.2.2.1 r2
  have cc := tk_code r5.2.1 r2 r1
  have hll := hO.2.1.1 l (by rw [hl.1.1]; decide)
  have hl2 : jli N6 F4 A5 l m e := hl.moved hO.2.1.1 r6.1 (r6.2.1 l hll hlo _) (r6.2.1 l hll hlo _) (fun _ => by
    obtain ⟨-, -, -, b9, z4, z5, -⟩ := hl
    have : lar F l = b9 := by show (F 6002 l).toNat = b9; rw [z4]; rfl
    rw [this]
    exact r6.2.2.1 b9 (hO.2.1.1 b9 (by rw [z5]; decide)))
  refine ⟨_, sX0_named h1 (r4.trans y1) hl2 hk (fun i i0 i1 => (he i i0 i1).kv (by omega) hO.2.1.1 r6.1 (fun a ha => r6.2.2.1 a (hO.2.1.1 a (by omega))) (Or.inl rfl)) y2 (by omega), ?_⟩ -- call wqX0_named S a1 z3 N6 F4 A5 P11
  intro z13 p11
  rw [cc.2] at p11
  have kc := nmd_cases (e := nm) (m := m) (c := tkC q n (tkAt q n p)) hm.1
  refine ⟨fun hc => ?_, fun hc => ?_⟩ -- c1
  · -- case (¬ z13 < 0)
    refine ⟨by exact (hO.go r6).1.2.1, ?_⟩ -- s1: jfn N6 0 o = 1
    intro F22 e22
    -- l1: Q z13 N6 F22 A5
    have nz : nmd nm m (tkC q n (tkAt q n p)) ≠ -1 := fun w => by rw [if_pos w] at p11; omega
    obtain ⟨g1, g2, g3⟩ := r5.go (hO.go r6) e22
    rw [if_neg nz] at p11
    exact ⟨knF_ok r1 r2 r3 nz, p11, g2, r6.trans g1, r7, r8, by rw [e22, upF_f (by decide)]; exact r5.1.2.1⟩
  · -- case (z13 < 0)
    intro b23 N24 F25 e23 e24 e25
    have nz : nmd nm m (tkC q n (tkAt q n p)) = -1 := by
      rcases kc with w | w
      · exact w.1
      · rw [if_neg (by omega)] at p11
        obtain ⟨b9, w9, -⟩ := he _ w.1.1 w.1.2
        omega
    rw [knF_no r1 r2 r3 nz] at hX
    have hox := (hO.go r6).2.1.1 o (by rw [(hO.go r6).1.1]; decide)
    refine ⟨_, sX11_init (jnew_flt e23 e24 e25), ?_⟩ -- call wqX11_init b23 3 (F25 3312 o) N24 F25 A5 P31
    intro N36 F34 A35 p31
    -- l2: X b23 N36 F34 A35
    obtain ⟨g1, g2, g3, g4⟩ := flt_new (S := S) (o := o) (hO.go r6).2.1.1 e23 e24 e25 p31
    rw [e25, nwF_o (by omega), r5.1.2.1] at g1
    exact hX (by show (3 : Int) ≠ 0; decide) _ _ _ _ g1 (r6.trans g2) (by unfold kB at r7; unfold xB; omega)

