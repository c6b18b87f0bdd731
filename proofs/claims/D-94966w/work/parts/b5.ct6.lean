set_option maxRecDepth 100000
set_option linter.unusedVariables false
/-! the component's reader: a statement; printed by gen/prove.py out of spec/b5.ct6.spec -/
theorem tkAt_id {q : Int → Int} {n p : Int} (h : p ≤ n) : tkAt q n (tkAt q n p) = tkAt q n p := by
  have ta := tkAt_all (q := q) h
  by_cases w : tkAt q n p < n
  · exact scn_no (P := fun i => isBl (q i)) w (ta.2.2 w)
  · exact scn_end (by omega)
/-- what a statement throws, lists and all -/
def stY (S : Nat → Nat) (n : Int) (lo : Nat) (M : Int) (N : jSh) (F : jFl) (A : jAr) (h : Nat) (p : Int) (r : Int × Int) (X : Nat → jSh → jFl → jAr → Prop) : Prop := ∀ (b : Nat) (N' : jSh) (F' : jFl) (A' : jAr), flt N' b r → lf lo N F A N' F' A' → gi S (M + 2) N' F' → ((jnx N' : Int) + lsum N F h ≤ jnx N + 8 * (n - p) + 900 ∧ (jsu N' : Int) + 4 * lsum N F h ≤ jsu N + 40 * (n - p) + 9000) → X b N' F' A'
section
variable {S : Nat → Nat} {u M M2 k z : Int} {lo o x h f : Nat} {n p p0 p1 c : Int} {q : Int → Int} {N N1 N' : jSh} {F F1 F' : jFl} {A A1 A' : jAr} {W W' L : sTb} {wA sA cA lA : Int → Int} {r : Int × Int} {X : Nat → jSh → jFl → jAr → Prop} {R R' : smR} {ec es ec' es' : Int}
theorem tLs.cap (t : tLs N F A h W wA sA cA lA) : lsum N F h ≤ 800 := by
  have y : ∀ {l : Nat} {m : Int} {e : Int → Int}, jli N F A l m e → lcp N F l ≤ 160 := fun {l m e} hl => by
    obtain ⟨-, -, -, b9, z4, z5, -, -, ⟨-, z9, -⟩, -⟩ := hl
    have : lar F l = b9 := by show (F 6002 l).toNat = b9; rw [z4]; rfl
    show jln N (lar F l) ≤ 160
    rw [this]; exact z9
  obtain ⟨t1, t2, t3, t4, t5, -⟩ := t
  have y1 := y t1
  have y2 := y t2
  have y3 := y t3
  have y4 := y t4
  have y5 := y t5
  unfold lsum
  omega
theorem stY.sub (y : stY S n lo M N F A h p r X) (r1 : rfr S o N F A N1 F1 A1) (g : gi S M N F) (hM : M ≤ 900000000) (hlo : lo ≤ o ∧ lo ≤ jnx N) (cap : lsum N F h ≤ 800) (c : kB N N1 p0 p1) (hp : p ≤ p0 ∧ p0 ≤ p1 ∧ p1 ≤ n) : stX S n o N1 F1 A1 p1 r X := fun b N' F' A' f1 f2 f3 => y b N' F' A' f1 ((r1.trans f2).lf hlo.1 hlo.2) (((r1.trans f2).2.2.2.1 M g).mono (by omega) (by omega)) (by unfold kB at c; omega)
theorem stX.rx (s : stX S n o N F A p r X) (hpc : p ≤ c ∧ p ≤ n) : rX S n o N F A c r X := fun b N' F' A' f1 f2 f3 => s b N' F' A' f1 f2 (by unfold xB at f3; omega)
theorem stP.go (s : stP S u lo M2 N1 F1 A1 o x h n q R k p1 ec es N' F' A') (r1 : rfr S o N F A N1 F1 A1) (ho : jtg N o = 11) (hn : nb N) (t : tLs N F A h W wA sA cA lA) (hlo : lo ≤ o ∧ lo ≤ jnx N) (c : kB N N1 p0 p1) (hp : p ≤ p0 ∧ p0 ≤ p1) (e : R.1.1 = 0 → R = R') (he : ec ≤ ec' ∧ es ≤ es') : stP S u lo M2 N F A o x h n q R' k p ec' es' N' F' A' := by
  obtain ⟨s1, s2, s3, s4, s5, s6, c', s7, s8, s9, s10⟩ := s
  have e := e s1
  subst e
  have ls := (r1.lists (lo := lo) ho hn t).1
  unfold kB at c
  exact ⟨s1, s2, s3, s4, s5, (r1.lf hlo.1 hlo.2).trans s6, c', s7, by omega, by omega, by omega⟩
theorem jli.upH {l : Nat} {m : Int} {e : Int → Int} (hl : jli N F A l m e) (hh : l ≠ h) : jli N (upF F f h z) A l m e := by
  obtain ⟨q1, q2, q3, c, q4, q5⟩ := hl
  exact ⟨q1, by rw [upF_a hh, q2], q3, c, by rw [upF_a hh, q4], q5⟩
/-- a field of the town that is read -/
theorem tRd.upH {k' : Int} (t : tRd u N F A h W L wA sA cA lA k) (hf : tFl (upF F f h z) h W' k') (hW : ∀ (k : Nat) (i j : Int), k ≠ 4 → k ≠ 5 → k ≠ 6 → W' k i j = W k i j) : tRd u N (upF F f h z) A h W' L wA sA cA lA k' := by
  obtain ⟨t1, -, ⟨l1, l2, l3, l4, l5, l6⟩, ⟨h1, h2, h3, h4, ⟨n1, n2, n3, n4⟩, h6⟩⟩ := t
  have e : ∀ a : Nat, jtg N a ≠ 2 → ∀ g, upF F f h z g a = F g a := fun a ha g => upF_a (fun w => ha (by rw [w]; exact t1.1.1))
  refine ⟨t1, hf, ⟨?_, ?_, ?_, ?_, ?_, l6.upH (by omega)⟩, ⟨fun i i0 i1 => ?_, fun s s0 s1 => ?_, fun c c0 c1 => ?_, fun l l0 l1 => ?_, ⟨fun i i0 i1 => ?_, fun i i0 i1 => ?_, fun i i0 i1 => ?_, fun s s0 s1 => ?_⟩, h6⟩⟩
  · rw [hW 0 _ _ (by decide) (by decide) (by decide)]; exact l1.upH (by omega)
  · rw [hW 1 _ _ (by decide) (by decide) (by decide)]; exact l2.upH (by omega)
  · rw [hW 2 _ _ (by decide) (by decide) (by decide)]; exact l3.upH (by omega)
  · rw [hW 3 _ _ (by decide) (by decide) (by decide)]; exact l4.upH (by omega)
  · rw [hW 3 _ _ (by decide) (by decide) (by decide)]; exact l5.upH (by omega)
  · rw [hW 0 _ _ (by decide) (by decide) (by decide)] at i1
    rw [hW 11 _ _ (by decide) (by decide) (by decide), hW 12 _ _ (by decide) (by decide) (by decide), hW 13 _ _ (by decide) (by decide) (by decide), hW 14 _ _ (by decide) (by decide) (by decide), hW 15 _ _ (by decide) (by decide) (by decide)]
    obtain ⟨b, y1, y2, y3, y4, y5, y6, y7, y8, y9⟩ := h1 i i0 i1
    have ne : jtg N b ≠ 2 := by rw [y2]; decide
    exact ⟨b, y1, y2, y3, y4, by rw [e b ne]; exact y5, by rw [e b ne]; exact y6, by rw [e b ne]; exact y7, by rw [e b ne]; exact y8, by rw [e b ne]; exact y9⟩
  · rw [hW 1 _ _ (by decide) (by decide) (by decide)] at s1
    obtain ⟨b', y1, y2, y3⟩ := h2 s s0 s1
    refine ⟨b', y1, y2, fun v v0 v1 => ?_⟩
    have e17 : w24 W' 17 s v = w24 W 17 s v := hW 17 s v (by decide) (by decide) (by decide)
    rw [e17]
    exact y3 v v0 v1
  · rw [hW 2 _ _ (by decide) (by decide) (by decide)] at c1
    obtain ⟨b', y1, y2, y3, y4, y5, y6⟩ := h3 c c0 c1
    have e21 : ∀ v, W' 21 c v = W 21 c v := fun v => hW _ _ _ (by decide) (by decide) (by decide)
    have ne : jtg N b' ≠ 2 := by rw [y2.1]; decide
    exact ⟨b', y1, y2, by rw [hW 19 _ _ (by decide) (by decide) (by decide)]; exact y3, by rw [hW 20 _ _ (by decide) (by decide) (by decide), e b' ne]; exact y4, by rw [e b' ne, y5]; exact (sKnown_congr rfl (fun v => (e21 v).symm)), fun v v0 v1 => by rw [e21]; exact y6 v v0 v1⟩
  · rw [hW 3 _ _ (by decide) (by decide) (by decide)] at l1
    obtain ⟨b', y1, y2, y3, y4⟩ := h4 l l0 l1
    have ne : jtg N b' ≠ 2 := by rw [y2.1]; decide
    have ne2 : jtg N (b' + 3) ≠ 2 := by rw [y4.1.1]; decide
    exact ⟨b', y1, y2, by rw [e b' ne]; exact y3, y4.of (e _ ne2 _) (e _ ne2 _) rfl⟩
  · rw [hW 0 _ _ (by decide) (by decide) (by decide)] at i1
    rw [hW 10 _ _ (by decide) (by decide) (by decide)]
    exact n1 i i0 i1
  · rw [hW 1 _ _ (by decide) (by decide) (by decide)] at i1
    rw [hW 16 _ _ (by decide) (by decide) (by decide)]
    exact n2 i i0 i1
  · rw [hW 2 _ _ (by decide) (by decide) (by decide)] at i1
    rw [hW 18 _ _ (by decide) (by decide) (by decide)]
    exact n3 i i0 i1
  · rw [hW 3 _ _ (by decide) (by decide) (by decide)] at s1
    rw [hW 22 _ _ (by decide) (by decide) (by decide)]
    exact n4 s s0 s1
theorem lists_upH : lsum N (upF F f h z) h = lsum N F h ∧ (lLo lo N F h → lLo lo N (upF F f h z) h) := by
  have e : ∀ j : Nat, 1 ≤ j → lar (upF F f h z) (h + j) = lar F (h + j) := fun j hj => by
    show ((upF F f h z) 6002 (h + j)).toNat = _
    rw [upF_a (by omega)]
  refine ⟨by unfold lsum lcp; rw [e 1 (by decide), e 2 (by decide), e 3 (by decide), e 4 (by decide), e 5 (by decide)], fun q j j0 j1 => by rw [e j j0]; exact q j j0 j1⟩
theorem lf.upH (l : lf lo N F A N' F' A') (hlo : lo ≤ h) : lf lo N F A N' (upF F' f h z) A' := ⟨l.1, fun a ha => ⟨fun g => by rw [upF_a (by omega)]; exact (l.2 a ha).1 g, (l.2 a ha).2⟩⟩
theorem gi.upH (g : gi S M N F) (hh : jtg N h = 2) : gi S M N (upF F f h z) := g.of (fun l hl => by
  have : l ≠ h := fun w => by rw [w, hh] at hl; omega
  exact ⟨upF_a this, upF_a this⟩)
/-- head, mend, tune: a number of the town -/
theorem stP.num {j : Nat} {v : Int} (hf : (f = 603 ∧ j = 4) ∨ (f = 606 ∧ j = 5) ∨ (f = 609 ∧ j = 6)) (r1 : rfr S o N F A N1 F1 A1) (hO : rdO S u N A o x h n q) (t : tRd u N F A h W L wA sA cA lA k) (g : gi S M N F) (hM : M ≤ 900000000) (hlo : lo ≤ o ∧ lo ≤ h ∧ lo ≤ jnx N) (hL : lLo lo N F h) (hC : loC lo W cA) (hU : rU F1 o q n p1) (c : kB N N1 p0 p1) (hp : p ≤ p0 ∧ p0 ≤ p1) (e : R = ((0, 0), p1, stK W j v, L)) (hz : z = v) : stP S u lo (M + 2) N F A o x h n q R k p 3 55 N1 (upF F1 f h z) A1 := by
  subst e hz
  have hn := hO.2.1.1
  have ho := hO.1.1
  have t1 := t.go r1 ho hn
  have O1 := hO.go r1
  have ne : o ≠ h := fun w => by have := t.1.1.1; rw [← w, ho] at this; omega
  have ls := r1.lists (lo := lo) ho hn t.2.2.1
  have lu := lists_upH (lo := lo) (N := N1) (F := F1) (h := h) (f := f) (z := z)
  have hW : ∀ (k : Nat) (i j' : Int), k ≠ 4 → k ≠ 5 → k ≠ 6 → stK W j z k i j' = W k i j' := fun k i j' h4 h5 h6 => by
    unfold stK
    rw [if_neg (by omega)]
  have fl : tFl (upF F1 f h z) h (stK W j z) k := by
    obtain ⟨-, ⟨f1, f2, f3, f4, f5⟩, -⟩ := t1
    unfold tFl
    rcases hf with ⟨w1, w2⟩ | ⟨w1, w2⟩ | ⟨w1, w2⟩ <;> subst w1 w2
    · exact ⟨upF_s, by rw [upF_f (by decide)]; exact f2, by rw [upF_f (by decide)]; exact f3, by rw [upF_f (by decide)]; exact f4, by rw [upF_f (by decide)]; exact f5⟩
    · exact ⟨by rw [upF_f (by decide)]; exact f1, upF_s, by rw [upF_f (by decide)]; exact f3, by rw [upF_f (by decide)]; exact f4, by rw [upF_f (by decide)]; exact f5⟩
    · exact ⟨by rw [upF_f (by decide)]; exact f1, by rw [upF_f (by decide)]; exact f2, upF_s, by rw [upF_f (by decide)]; exact f4, by rw [upF_f (by decide)]; exact f5⟩
  unfold kB at c
  exact ⟨rfl, ⟨wA, sA, cA, lA, t1.upH fl hW, hC.of (hW 2 0 0 (by decide) (by decide) (by decide))⟩, O1, ((r1.2.2.2.1 M g).upH t1.1.1.1).mono (by omega) (by omega), lu.2 (ls.2 hL), (r1.lf hlo.1 hlo.2.2).upH hlo.2.1, p1, ⟨hU.2.2.1, Or.inl ⟨hU.of (fun g => upF_a ne), rfl⟩⟩, by have := hU.2.2.1; omega, by rw [lu.1]; omega, by rw [lu.1]; omega⟩
end
theorem smT_tn {W L : sTb} {q : Int → Int} {n p : Int} : smT q n (smS W L q n p) = tnC W L q n p := rfl
set_option maxHeartbeats 8000000 in
theorem sX10_statement {S : Nat → Nat} {o : Nat} {N : jSh} {F : jFl} {A : jAr} {u M k p : Int} {x h lo : Nat} {n : Int} {q : Int → Int} {W L : sTb} {wA sA cA lA : Int → Int} (hO : rdO S u N A o x h n q) (hp : 0 ≤ p ∧ p ≤ n) (hU : rU F o q n (tkAt q n p)) (t : tRd u N F A h W L wA sA cA lA k) (hk : 0 ≤ k ∧ k ≤ 90) (ht : tOk W L) (g : gi S M N F) (hM : M ≤ 800000000) (hlo : lo ≤ o ∧ lo ≤ h ∧ lo ≤ jnx N) (hL : lLo lo N F h) (hC : loC lo W cA) {X : Nat → jSh → jFl → jAr → Prop} (hX1 : k = 90 → stY S n lo M N F A h p (5, tkAt q n p) X) (hX2 : k ≠ 90 → (tnC W L q n p).1 ≠ 0 → stY S n lo M N F A h p (tnC W L q n p) X) : wqX10_statement S o N F A (fun N' F' A' => k ≠ 90 ∧ (tnC W L q n p).1 = 0 ∧ (∃ wA sA cA lA : Int → Int, tRd u N' F' A' h (smS W L q n p).2.2.1 (smS W L q n p).2.2.2 wA sA cA lA (k + 1) ∧ loC lo (smS W L q n p).2.2.1 cA) ∧ rdO S u N' A' o x h n q ∧ gi S (M + 2) N' F' ∧ lLo lo N' F' h ∧ lf lo N F A N' F' A' ∧ rU F' o q n (nx q n (smS W L q n p).2.1) ∧ (p ≤ nx q n (smS W L q n p).2.1) ∧ (jnx N' : Int) + lsum N F h ≤ jnx N + lsum N' F' h + 8 * (nx q n (smS W L q n p).2.1 - p) + 3 ∧ (jsu N' : Int) + 4 * lsum N F h ≤ jsu N + 4 * lsum N' F' h + 40 * (nx q n (smS W L q n p).2.1 - p) + 55) (X) := by
  unfold wqX10_statement
  have hnb := hO.2.1.1
  have tOo := hO.1.1
  have hox := hnb o (by rw [tOo]; decide)
  have ta := (tkAt_all (q := q) hp.2).1
  have idm := tkAt_id (q := q) hp.2
  have p1r : 0 ≤ tkAt q n p ∧ tkAt q n p ≤ n := by omega
  have te := tkEnd_le (q := q) p1r.2
  have n1 := nx_range (q := q) hp
  have n2 := nx_range (q := q) n1.2.2
  have ne1 : nx q n p = tkEnd q n (tkAt q n p) := rfl
  have cap := t.2.2.1.cap
  have hhx : h < jnx N := hnb h (by rw [t.1.1.1]; decide)
  have fk : F 600 h = k := t.2.1.2.2.2.2
  have R0 := rfr.refl S o N F A
  have K0 : kB N N (tkAt q n p) (tkAt q n p) := by unfold kB; omega
  have noo : o ≠ h := fun w => by have := t.1.1.1; rw [← w, tOo] at this; omega
  intro v1 e1
  refine ⟨_, by exact hO.1.2.2.2.2, ?_⟩ -- d2: jfn N 3305 o = (b2 : Int)
  refine ⟨by exact t.1.1.1, ?_⟩ -- s1: jtg N b2 = 2
  refine ⟨fun hc => ?_, fun hc => ?_⟩ -- c1
  · -- case (¬ (F 600 b2) = 90)
    have k9 : k ≠ 90 := fun w => hc (by rw [fk]; exact w)
    have hX := hX2 k9
    refine ⟨_, sX10_takes (c := tkAt q n p) hO ⟨p1r, Or.inl ⟨hU, rfl⟩⟩ ((hO.2.1.2.1.2.1 0 (by decide)).2) (fun w => by
      rw [idm] at w ⊢
      have e : tnC W L q n p = (1, tkBad q n (tkAt q n p)) := by unfold tnC; rw [smS_bad w]; exact fb_no ne10
      rw [e] at hX
      exact ((hX ne10).sub R0 g (by omega) ⟨hlo.1, hlo.2.2⟩ cap K0 (by omega)).rx (by omega)), ?_⟩ -- call wqX10_takes S o (S 1 : Int) N F A P6 X
    intro z8 N11 F9 A10 p6
    rw [idm] at p6
    obtain ⟨tk6, R11, K11⟩ := p6
    have O11 := hO.go R11
    have K11 : kB N N11 (tkAt q n p) (nx q n p) := K11
    refine ⟨fun (N17 : jSh) (F18 : jFl) (A19 : jAr) => stP S u lo (M + 2) N F A o x h n q (smS W L q n p) k p 3 55 N17 F18 A19, ?_, ?_⟩ -- join K22
    · intro N17 F18 A19 k22
      obtain ⟨s0, ⟨wA', sA', cA', lA', tt, ttC⟩, s3, s4, s5, s6, c', s7, s8, s9, s10⟩ := k22
      have cap' := tt.2.2.1.cap
      refine ⟨_, sX10_asks_2 (c := c') s3 s7 (fun w b N' F' A' y1 y2 y3 => by
        have w : (asS 59 q n (smS W L q n p).2.1).1 ≠ 0 := w
        have e : tnC W L q n p = asS 59 q n (smS W L q n p).2.1 := fb_ok s0
        rw [e] at hX
        have lo17 : lo ≤ jnx N17 := by have := s6.1.1; omega
        exact hX w b N' F' A' y1 (s6.trans (y2.lf hlo.1 lo17)) (y2.2.2.2.1 _ s4) (by unfold xB at y3; omega)), ?_⟩ -- call wqX10_asks_2 S o 59 N17 F18 A19 P26 X
      intro N31 F29 A30 p26
      obtain ⟨as0, U31, r31, k31⟩ := p26
      have as0 : asS 59 q n (smS W L q n p).2.1 = (0, 0) := as0
      have U31 : rU F29 o q n (nx q n (smS W L q n p).2.1) := U31
      have k31 : kB N17 N31 c' (nx q n (smS W L q n p).2.1) := k31
      have O31 := s3.go r31
      have nb17 := s3.2.1.1
      have T31 := tt.go r31 s3.1.1 nb17
      refine ⟨_, by exact O31.1.2.2.2.2, ?_⟩ -- d37: jfn N31 3305 o = (b37 : Int)
      refine ⟨by exact T31.1.1.1, ?_⟩ -- s2: jtg N31 b37 = 2
      refine ⟨by exact T31.1.1.2, ?_⟩ -- s3: jfn N31 0 b37 = 1
      refine ⟨by (rw [T31.2.1.2.2.2.2]; omega), ?_⟩ -- s4: jR ((F29 600 b37) + 1)
      intro F43 e43
      -- l1: Q N31 F43 A30
      have ls := r31.lists (lo := lo) s3.1.1 nb17 tt.2.2.1
      have hcc : c' ≤ nx q n (smS W L q n p).2.1 := by
        have x1 := nx_range (q := q) s7.1
        rcases s7.2 with ⟨-, w⟩ | ⟨-, w⟩
        · omega
        · exact Int.le_of_eq w
      have lo17 : lo ≤ jnx N17 := by have := s6.1.1; omega
      have lu := lists_upH (lo := lo) (N := N31) (F := F29) (h := h) (f := 600) (z := F29 600 h + 1)
      have fl : tFl F43 h (smS W L q n p).2.2.1 (k + 1) := by
        obtain ⟨-, ⟨f1, f2, f3, f4, f5⟩, -⟩ := T31
        unfold tFl
        rw [e43]
        exact ⟨by rw [upF_f (by decide)]; exact f1, by rw [upF_f (by decide)]; exact f2, by rw [upF_f (by decide)]; exact f3, by rw [upF_f (by decide)]; exact f4, by rw [upF_s, f5]⟩
      rw [e43] at fl ⊢
      refine ⟨k9, ?_, ⟨wA', sA', cA', lA', T31.upH fl (fun _ _ _ _ _ _ => rfl), ttC⟩, O31, (r31.2.2.2.1 _ s4).upH T31.1.1.1, lu.2 (ls.2 s5), (s6.trans (r31.lf hlo.1 lo17)).upH hlo.2.1, U31.of (fun f => upF_a noo), ?_, ?_, ?_⟩
      · unfold tnC
        rw [fb_ok s0, as0]
      · have := s7.1
        have x1 := nx_range (q := q) s7.1
        have : p ≤ (smS W L q n p).2.1 := by
          have := (smS_ok hp ht s0).1
          omega
        omega
      · rw [lu.1, ls.1]; unfold kB at k31; omega
      · rw [lu.1, ls.1]; unfold kB at k31; omega
    refine ⟨fun hc => ?_, fun hc => ?_⟩ -- c2
    · -- case (z8 = 0)
      obtain ⟨nw, s11⟩ : ¬ hw 2003792484 q n p ∧ rS N11 F9 A10 o q n (tkAt q n p) := by
        rcases tk6 with w | w
        · omega
        · exact w.2
      have hb : ¬ 0 ≤ tkBad q n (tkAt q n p) := by have := s11.2.2.1; omega
      refine ⟨_, sX10_takes (c := nx q n p) O11 ⟨p1r, Or.inr ⟨by rw [idm]; exact s11, by rw [idm]; rfl⟩⟩ ((O11.2.1.2.1.2.1 5 (by decide)).2) (fun w => by rw [idm] at w; exact absurd w hb), ?_⟩ -- call wqX10_takes S o (S 6 : Int) N11 F9 A10 P45 X
      intro z47 N50 F48 A49 p45
      rw [idm] at p45
      obtain ⟨tk45, r50, k50⟩ := p45
      have R50 := R11.trans r50
      have O50 := hO.go R50
      have K50 : kB N N50 (tkAt q n p) (nx q n p) := K11.trans k50
      refine ⟨fun hc => ?_, fun hc => ?_⟩ -- c3
      · -- case (z47 = 0)
        obtain ⟨ns, s50⟩ : ¬ hw 126943972648308 q n p ∧ rS N50 F48 A49 o q n (tkAt q n p) := by
          rcases tk45 with w | w
          · omega
          · exact w.2
        refine ⟨_, sX10_takes (c := nx q n p) O50 ⟨p1r, Or.inr ⟨by rw [idm]; exact s50, by rw [idm]; rfl⟩⟩ ((O50.2.1.2.1.2.1 7 (by decide)).2) (fun w => by rw [idm] at w; exact absurd w hb), ?_⟩ -- call wqX10_takes S o (S 8 : Int) N50 F48 A49 P57 X
        intro z59 N62 F60 A61 p57
        rw [idm] at p57
        obtain ⟨tk57, r62, k62⟩ := p57
        have R62 := R50.trans r62
        have O62 := hO.go R62
        have K62 : kB N N62 (tkAt q n p) (nx q n p) := K50.trans k62
        refine ⟨fun hc => ?_, fun hc => ?_⟩ -- c4
        · -- case (z59 = 0)
          obtain ⟨nc, s62⟩ : ¬ hw 426953501796 q n p ∧ rS N62 F60 A61 o q n (tkAt q n p) := by
            rcases tk57 with w | w
            · omega
            · exact w.2
          refine ⟨_, sX10_takes (c := nx q n p) O62 ⟨p1r, Or.inr ⟨by rw [idm]; exact s62, by rw [idm]; rfl⟩⟩ ((O62.2.1.2.1.2.1 10 (by decide)).2) (fun w => by rw [idm] at w; exact absurd w hb), ?_⟩ -- call wqX10_takes S o (S 11 : Int) N62 F60 A61 P69 X
          intro z71 N74 F72 A73 p69
          rw [idm] at p69
          obtain ⟨tk69, r74, k74⟩ := p69
          have R74 := R62.trans r74
          have O74 := hO.go R74
          have K74 : kB N N74 (tkAt q n p) (nx q n p) := K62.trans k74
          refine ⟨fun hc => ?_, fun hc => ?_⟩ -- c5
          · -- case (z71 = 0)
            obtain ⟨nl, s74⟩ : ¬ hw 7102839 q n p ∧ rS N74 F72 A73 o q n (tkAt q n p) := by
              rcases tk69 with w | w
              · omega
              · exact w.2
            refine ⟨_, sX10_takes (c := nx q n p) O74 ⟨p1r, Or.inr ⟨by rw [idm]; exact s74, by rw [idm]; rfl⟩⟩ ((O74.2.1.2.1.2.1 14 (by decide)).2) (fun w => by rw [idm] at w; exact absurd w hb), ?_⟩ -- call wqX10_takes S o (S 15 : Int) N74 F72 A73 P81 X
            intro z83 N86 F84 A85 p81
            rw [idm] at p81
            obtain ⟨tk81, r86, k86⟩ := p81
            have R86 := R74.trans r86
            have O86 := hO.go R86
            have K86 : kB N N86 (tkAt q n p) (nx q n p) := K74.trans k86
            refine ⟨fun hc => ?_, fun hc => ?_⟩ -- c6
            · -- case (z83 = 0)
              obtain ⟨nh, s86⟩ : ¬ hw 1751474532 q n p ∧ rS N86 F84 A85 o q n (tkAt q n p) := by
                rcases tk81 with w | w
                · omega
                · exact w.2
              refine ⟨_, sX10_takes (c := nx q n p) O86 ⟨p1r, Or.inr ⟨by rw [idm]; exact s86, by rw [idm]; rfl⟩⟩ ((O86.2.1.2.1.2.1 15 (by decide)).2) (fun w => by rw [idm] at w; exact absurd w hb), ?_⟩ -- call wqX10_takes S o (S 16 : Int) N86 F84 A85 P93 X
              intro z95 N98 F96 A97 p93
              rw [idm] at p93
              obtain ⟨tk93, r98, k98⟩ := p93
              have R98 := R86.trans r98
              have O98 := hO.go R98
              have K98 : kB N N98 (tkAt q n p) (nx q n p) := K86.trans k98
              refine ⟨fun hc => ?_, fun hc => ?_⟩ -- c7
              · -- case (z95 = 0)
                obtain ⟨nm, s98⟩ : ¬ hw 1835363940 q n p ∧ rS N98 F96 A97 o q n (tkAt q n p) := by
                  rcases tk93 with w | w
                  · omega
                  · exact w.2
                refine ⟨_, sX10_asks (c := nx q n p) O98 ⟨p1r, Or.inr ⟨by rw [idm]; exact s98, by rw [idm]; rfl⟩⟩ ((O98.2.1.2.1.2.1 16 (by decide)).2) (fun w => by
                  rw [idm] at w ⊢
                  have w : (asF (hw 1953853029 q n p) q n (tkAt q n p)).1 ≠ 0 := w
                  show rX S n o N98 F96 A97 (nx q n p) (asF (hw 1953853029 q n p) q n (tkAt q n p)) X
                  have nt : ¬ hw 1953853029 q n p := fun y => w (by rw [asF_ok s98.2.2.1 y])
                  have e : tnC W L q n p = (1, tkAt q n p) := by unfold tnC; rw [smS_no hb nw ns nc nl nh nm nt]; exact fb_no ne10
                  rw [asF_no s98.2.2.1 nt]
                  rw [e] at hX
                  exact ((hX ne10).sub R98 g (by omega) ⟨hlo.1, hlo.2.2⟩ cap K98 (by omega)).rx (by omega)), ?_⟩ -- call wqX10_asks S o (S 17 : Int) N98 F96 A97 P105 X
                intro N110 F108 A109 p105
                rw [idm] at p105
                obtain ⟨as1, U110, r110, k110⟩ := p105
                have as1 : asF (hw 1953853029 q n p) q n (tkAt q n p) = (0, 0) := as1
                have htu : hw 1953853029 q n p := (asF_0 (by rw [as1])).2
                have R110 := R98.trans r110
                have O110 := hO.go R110
                have K110 : kB N N110 (tkAt q n p) (nx q n p) := K98.trans k110
                have U110 : rU F108 o q n (nx q n p) := U110
                refine ⟨_, sX10_number (c := nx q n p) O110 ⟨n1.2.2, Or.inl ⟨U110, rfl⟩⟩ (fun w => by
                  have e : tnC W L q n p = nuF 0 20 q n (nx q n p) := by unfold tnC; rw [smS_tune hb htu]; exact fb_no w
                  rw [e] at hX
                  exact ((hX w).sub R110 g (by omega) ⟨hlo.1, hlo.2.2⟩ cap K110 (by omega)).rx (by omega)), ?_⟩ -- call wqX10_number S o 0 20 N110 F108 A109 P116 X
                intro z118 N121 F119 A120 p116
                obtain ⟨v0, v1, U121, r121, k121⟩ := p116
                refine ⟨_, by exact O110.1.2.2.2.2, ?_⟩ -- d126: jfn N110 3305 o = (b126 : Int)
                refine ⟨by (rw [(r121.1.2 h (O110.2.1.1 h (by rw [(t.go R110 tOo hnb).1.1.1]; decide))).1]; exact (t.go R110 tOo hnb).1.1.1), ?_⟩ -- s5: jtg N121 b126 = 2
                refine ⟨by exact (t.go (R110.trans r121) tOo hnb).1.1.2, ?_⟩ -- s6: jfn N121 0 b126 = 1
                intro F131 e131
                -- l2: K22 N121 F131 A120
                rw [e131]
                exact stP.num (Or.inr (Or.inr ⟨rfl, rfl⟩)) (R110.trans r121) hO t g (by omega) hlo hL hC U121 (K110.trans k121) (by omega) (by rw [smS_tune hb htu, v0]; rfl) v1
              · -- case (¬ (z95 = 0))
                obtain ⟨hme, U98⟩ : hw 1835363940 q n p ∧ rU F96 o q n (nx q n p) := by
                  rcases tk93 with w | w
                  · exact ⟨w.2.1, w.2.2.1⟩
                  · omega
                refine ⟨_, sX10_number (c := nx q n p) O98 ⟨n1.2.2, Or.inl ⟨U98, rfl⟩⟩ (fun w => by
                  have e : tnC W L q n p = nuF 1 4 q n (nx q n p) := by unfold tnC; rw [smS_mend hb hme]; exact fb_no w
                  rw [e] at hX
                  exact ((hX w).sub R98 g (by omega) ⟨hlo.1, hlo.2.2⟩ cap K98 (by omega)).rx (by omega)), ?_⟩ -- call wqX10_number S o 1 4 N98 F96 A97 P133 X
                intro z135 N138 F136 A137 p133
                obtain ⟨v0, v1, U138, r138, k138⟩ := p133
                refine ⟨_, by exact O98.1.2.2.2.2, ?_⟩ -- d143: jfn N98 3305 o = (b143 : Int)
                refine ⟨by (rw [(r138.1.2 h (O98.2.1.1 h (by rw [(t.go R98 tOo hnb).1.1.1]; decide))).1]; exact (t.go R98 tOo hnb).1.1.1), ?_⟩ -- s7: jtg N138 b143 = 2
                refine ⟨by exact (t.go (R98.trans r138) tOo hnb).1.1.2, ?_⟩ -- s8: jfn N138 0 b143 = 1
                intro F148 e148
                -- l3: K22 N138 F148 A137
                rw [e148]
                exact stP.num (Or.inr (Or.inl ⟨rfl, rfl⟩)) (R98.trans r138) hO t g (by omega) hlo hL hC U138 (K98.trans k138) (by omega) (by rw [smS_mend hb hme, v0]; rfl) v1
            · -- case (¬ (z83 = 0))
              obtain ⟨hhe, U86⟩ : hw 1751474532 q n p ∧ rU F84 o q n (nx q n p) := by
                rcases tk81 with w | w
                · exact ⟨w.2.1, w.2.2.1⟩
                · omega
              refine ⟨_, sX10_number (c := nx q n p) O86 ⟨n1.2.2, Or.inl ⟨U86, rfl⟩⟩ (fun w => by
                have e : tnC W L q n p = nuF 1 12 q n (nx q n p) := by unfold tnC; rw [smS_head hb hhe]; exact fb_no w
                rw [e] at hX
                exact ((hX w).sub R86 g (by omega) ⟨hlo.1, hlo.2.2⟩ cap K86 (by omega)).rx (by omega)), ?_⟩ -- call wqX10_number S o 1 12 N86 F84 A85 P150 X
              intro z152 N155 F153 A154 p150
              obtain ⟨v0, v1, U155, r155, k155⟩ := p150
              refine ⟨_, by exact O86.1.2.2.2.2, ?_⟩ -- d160: jfn N86 3305 o = (b160 : Int)
              refine ⟨by (rw [(r155.1.2 h (O86.2.1.1 h (by rw [(t.go R86 tOo hnb).1.1.1]; decide))).1]; exact (t.go R86 tOo hnb).1.1.1), ?_⟩ -- s9: jtg N155 b160 = 2
              refine ⟨by exact (t.go (R86.trans r155) tOo hnb).1.1.2, ?_⟩ -- s10: jfn N155 0 b160 = 1
              intro F165 e165
              -- l4: K22 N155 F165 A154
              rw [e165]
              exact stP.num (Or.inl ⟨rfl, rfl⟩) (R86.trans r155) hO t g (by omega) hlo hL hC U155 (K86.trans k155) (by omega) (by rw [smS_head hb hhe, v0]; rfl) v1
          · -- case (¬ (z71 = 0))
            obtain ⟨hla, U74⟩ : hw 7102839 q n p ∧ rU F72 o q n (nx q n p) := by
              rcases tk69 with w | w
              · exact ⟨w.2.1, w.2.2.1⟩
              · omega
            have hS := smS_law (L := L) (W := W) hb hla
            have lx : lo ≤ jnx N74 := by have := R74.1.1; omega
            refine ⟨_, sX10_law O74 U74 (t.go R74 tOo hnb) ht (R74.2.2.2.1 M g) (by omega) ⟨hlo.1, hlo.2.1, lx⟩ ((R74.lists (lo := lo) tOo hnb t.2.2.1).2 hL) hC (e1.trans hU.2.1) rfl (fun w => by
              have e : smT q n (if W 3 0 0 = 12 then ((5, tkAt q n p), tkAt q n p, W, L) else (fb (lwH W q n (nx q n p)) (lwR W q n (nx q n p)).1, (lwR W q n (nx q n p)).2.2.1, lwW W q n (nx q n p), lwL W L q n (nx q n p))) = tnC W L q n p := by
                rw [← smT_tn, hS]
                by_cases y : W 3 0 0 = 12
                · rw [if_pos y, if_pos y]; exact (fb_no (by show (5 : Int) ≠ 0; decide)).trans (fb_no (by show (5 : Int) ≠ 0; decide)).symm
                · rw [if_neg y, if_neg y]
              rw [e] at w ⊢
              exact (hX w).sub R74 g (by omega) ⟨hlo.1, hlo.2.2⟩ cap K74 (by omega)), ?_⟩ -- call wqX10_law S o v1 N74 F72 A73 P167 X
            intro N172 F170 A171 p167
            -- l5: K22 N172 F170 A171
            exact p167.go R74 tOo hnb t.2.2.1 ⟨hlo.1, hlo.2.2⟩ K74 (by omega) (fun w => by
              rw [hS]
              by_cases y : W 3 0 0 = 12
              · rw [if_pos y] at w; exact absurd w (by show ¬ (5 : Int) = 0; decide)
              · rw [if_neg y, if_neg y]) (by decide)
        · -- case (¬ (z59 = 0))
          obtain ⟨hch, U62⟩ : hw 426953501796 q n p ∧ rU F60 o q n (nx q n p) := by
            rcases tk57 with w | w
            · exact ⟨w.2.1, w.2.2.1⟩
            · omega
          have hS := smS_child (L := L) (W := W) hb hch
          have lx : lo ≤ jnx N62 := by have := R62.1.1; omega
          refine ⟨_, sX10_child O62 U62 (t.go R62 tOo hnb) ht (R62.2.2.2.1 M g) (by omega) ⟨hlo.1, hlo.2.1, lx⟩ ((R62.lists (lo := lo) tOo hnb t.2.2.1).2 hL) hC (e1.trans hU.2.1) rfl (fun w => by
            have e : smT q n (if W 2 0 0 = 10 then ((5, tkAt q n p), tkAt q n p, W, L) else (fb (chH W q n (nx q n p)) (chA W q n (nx q n p)).1, (chA W q n (nx q n p)).2.1, chW W q n (nx q n p), L)) = tnC W L q n p := by
              rw [← smT_tn, hS]
              by_cases y : W 2 0 0 = 10
              · rw [if_pos y, if_pos y]; exact (fb_no (by show (5 : Int) ≠ 0; decide)).trans (fb_no (by show (5 : Int) ≠ 0; decide)).symm
              · rw [if_neg y, if_neg y]
            rw [e] at w ⊢
            exact (hX w).sub R62 g (by omega) ⟨hlo.1, hlo.2.2⟩ cap K62 (by omega)), ?_⟩ -- call wqX10_child S o v1 N62 F60 A61 P178 X
          intro N183 F181 A182 p178
          -- l6: K22 N183 F181 A182
          exact p178.go R62 tOo hnb t.2.2.1 ⟨hlo.1, hlo.2.2⟩ K62 (by omega) (fun w => by
            rw [hS]
            by_cases y : W 2 0 0 = 10
            · rw [if_pos y] at w; exact absurd w (by show ¬ (5 : Int) = 0; decide)
            · rw [if_neg y, if_neg y]) (by decide)
      · -- case (¬ (z47 = 0))
        obtain ⟨hst, U50⟩ : hw 126943972648308 q n p ∧ rU F48 o q n (nx q n p) := by
          rcases tk45 with w | w
          · exact ⟨w.2.1, w.2.2.1⟩
          · omega
        have hS := smS_street (L := L) (W := W) hb hst
        have lx : lo ≤ jnx N50 := by have := R50.1.1; omega
        refine ⟨_, sX10_street O50 U50 (t.go R50 tOo hnb) ht (R50.2.2.2.1 M g) (by omega) ⟨hlo.1, hlo.2.1, lx⟩ ((R50.lists (lo := lo) tOo hnb t.2.2.1).2 hL) hC (e1.trans hU.2.1) rfl (fun w => by
          have e : smT q n (if W 1 0 0 = 6 then ((5, tkAt q n p), tkAt q n p, W, L) else (fb (frF W q n (nx q n p)) (stA W q n (nx q n p)).1, (stA W q n (nx q n p)).2.1, stW W q n (nx q n p), L)) = tnC W L q n p := by
            rw [← smT_tn, hS]
            by_cases y : W 1 0 0 = 6
            · rw [if_pos y, if_pos y]; exact (fb_no (by show (5 : Int) ≠ 0; decide)).trans (fb_no (by show (5 : Int) ≠ 0; decide)).symm
            · rw [if_neg y, if_neg y]
          rw [e] at w ⊢
          exact (hX w).sub R50 g (by omega) ⟨hlo.1, hlo.2.2⟩ cap K50 (by omega)), ?_⟩ -- call wqX10_street S o v1 N50 F48 A49 P189 X
        intro N194 F192 A193 p189
        -- l7: K22 N194 F192 A193
        exact p189.go R50 tOo hnb t.2.2.1 ⟨hlo.1, hlo.2.2⟩ K50 (by omega) (fun w => by
          rw [hS]
          by_cases y : W 1 0 0 = 6
          · rw [if_pos y] at w; exact absurd w (by show ¬ (5 : Int) = 0; decide)
          · rw [if_neg y, if_neg y]) (by decide)
    · -- case (¬ (z8 = 0))
      obtain ⟨hwo, U11, hb⟩ : hw 2003792484 q n p ∧ rU F9 o q n (nx q n p) ∧ ¬ 0 ≤ tkBad q n (tkAt q n p) := by
        rcases tk6 with w | w
        · exact ⟨w.2.1, w.2.2.1, by have := w.2.2.2; omega⟩
        · omega
      have hS := smS_word (L := L) (W := W) hb hwo
      have lx : lo ≤ jnx N11 := by have := R11.1.1; omega
      refine ⟨_, sX10_word O11 U11 (t.go R11 tOo hnb) ht (R11.2.2.2.1 M g) (by omega) ⟨hlo.1, hlo.2.1, lx⟩ ((R11.lists (lo := lo) tOo hnb t.2.2.1).2 hL) hC (e1.trans hU.2.1) rfl (fun w => by
        have e : smT q n (if W 0 0 0 = 24 then ((5, tkAt q n p), tkAt q n p, W, L) else (wdF W q n (nx q n p), opP 474148660594 q n (nxk q n (nx q n p) 8), wdW W q n (nx q n p), L)) = tnC W L q n p := by
          rw [← smT_tn, hS]
          by_cases y : W 0 0 0 = 24
          · rw [if_pos y, if_pos y]; exact (fb_no (by show (5 : Int) ≠ 0; decide)).trans (fb_no (by show (5 : Int) ≠ 0; decide)).symm
          · rw [if_neg y, if_neg y]
        rw [e] at w ⊢
        exact (hX w).sub R11 g (by omega) ⟨hlo.1, hlo.2.2⟩ cap K11 (by omega)), ?_⟩ -- call wqX10_word S o v1 N11 F9 A10 P200 X
      intro N205 F203 A204 p200
      -- l8: K22 N205 F203 A204
      exact p200.go R11 tOo hnb t.2.2.1 ⟨hlo.1, hlo.2.2⟩ K11 (by omega) (fun w => by
        rw [hS]
        by_cases y : W 0 0 0 = 24
        · rw [if_pos y] at w; exact absurd w (by show ¬ (5 : Int) = 0; decide)
        · rw [if_neg y, if_neg y]) (by decide)
  · -- case ((F 600 b2) = 90)
    intro b210 N211 F212 e210 e211 e212
    refine ⟨_, sX11_init (jnew_flt e210 e211 e212), ?_⟩ -- call wqX11_init b210 5 v1 N211 F212 A P217
    intro N222 F220 A221 p217
    -- l9: X b210 N222 F220 A221
    obtain ⟨g1, g2, g3, g4⟩ := flt_new (S := S) (o := o) hnb e210 e211 e212 p217
    have v : v1 = tkAt q n p := e1.trans hU.2.1
    rw [v] at g1
    exact hX1 (by rw [← fk]; exact hc) _ _ _ _ g1 (g2.lf hlo.1 hlo.2.2) ((g2.2.2.2.1 M g).mono (by omega) (by omega)) (by omega)

