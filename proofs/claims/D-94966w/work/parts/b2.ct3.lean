set_option maxRecDepth 100000
set_option linter.unusedVariables false
/-! the component's reader: streets; printed by gen/prove.py out of spec/b2.ct3.spec -/
section
variable {u : Int} {N : jSh} {F : jFl} {A : jAr} {W W' L L' : sTb} {wA sA cA lA : Int → Int}
/-- one street more -/
theorem tOb.street {b : Nat} (t : tOb u N F A W L wA sA cA lA) (ht : tOk W L) (e0 : W' 1 0 0 = W 1 0 0 + 1) (e1 : ∀ (k : Nat) (i j : Int), k ≠ 1 → k ≠ 16 → k ≠ 17 → W' k i j = W k i j) (e2 : ∀ (k : Nat) (i j : Int), k ≠ 1 → i ≠ W 1 0 0 → W' k i j = W k i j) (hb : stIs N A (w24 W') wA (W 1 0 0) b) (hs : strIs N A u (jfn N 3902 b) (W' 16 (W 1 0 0) 0)) : tOb u N F A W' L wA (upI sA (W 1 0 0) (b : Int)) cA lA := by
  obtain ⟨h1, h2, h3, h4, ⟨n1, n2, n3, n4⟩, h6⟩ := t
  have k2 := ht.2.2.2.2.2.2.2.2.2.1
  refine ⟨fun i i0 i1 => ?_, fun s s0 s1 => ?_, fun c c0 c1 => ?_, fun l l0 l1 => ?_, ⟨fun i i0 i1 => ?_, fun s s0 s1 => ?_, fun i i0 i1 => ?_, fun i i0 i1 => ?_⟩, h6⟩
  · rw [e1 0 _ _ (by decide) (by decide) (by decide)] at i1
    rw [e1 11 _ _ (by decide) (by decide) (by decide), e1 12 _ _ (by decide) (by decide) (by decide), e1 13 _ _ (by decide) (by decide) (by decide), e1 14 _ _ (by decide) (by decide) (by decide), e1 15 _ _ (by decide) (by decide) (by decide)]
    exact h1 i i0 i1
  · by_cases w : s = W 1 0 0
    · rw [w, upI_s]
      exact ⟨b, rfl, hb⟩
    · rw [upI_n w]
      obtain ⟨b', y1, y2, y3⟩ := h2 s s0 (by omega)
      refine ⟨b', y1, y2, fun v v0 v1 => ?_⟩
      have e17 : w24 W' 17 s v = w24 W 17 s v := e2 17 s v (by decide) w
      rw [e17]
      exact y3 v v0 v1
  · rw [e1 2 _ _ (by decide) (by decide) (by decide)] at c1
    obtain ⟨b', y1, y2, y3, y4, y5, y6⟩ := h3 c c0 c1
    have e21 : ∀ w, W' 21 c w = W 21 c w := fun w => e1 _ _ _ (by decide) (by decide) (by decide)
    have q := (k2 c c0 c1).1
    exact ⟨b', y1, y2, by rw [e1 19 _ _ (by decide) (by decide) (by decide), upI_n (by omega)]; exact y3, by rw [e1 20 _ _ (by decide) (by decide) (by decide)]; exact y4, by rw [y5]; exact (sKnown_congr rfl (fun w => (e21 w).symm)), fun w w0 w1 => by rw [e21]; exact y6 w w0 w1⟩
  · rw [e1 3 _ _ (by decide) (by decide) (by decide)] at l1
    exact h4 l l0 l1
  · rw [e1 0 _ _ (by decide) (by decide) (by decide)] at i1
    rw [e1 10 _ _ (by decide) (by decide) (by decide)]
    exact n1 i i0 i1
  · by_cases w : s = W 1 0 0
    · rw [w, upI_s]
      exact ⟨b, rfl, hb.1.1, hs⟩
    · rw [upI_n w, e2 _ _ _ (by decide) w]
      exact n2 s s0 (by omega)
  · rw [e1 2 _ _ (by decide) (by decide) (by decide)] at i1
    rw [e1 18 _ _ (by decide) (by decide) (by decide)]
    exact n3 i i0 i1
  · rw [e1 3 _ _ (by decide) (by decide) (by decide)] at i1
    rw [e1 22 _ _ (by decide) (by decide) (by decide)]
    exact n4 i i0 i1
end
theorem sX12_init_15 {o : Nat} {a1 : Int} {a2 : Int} {N : jSh} {F : jFl} {A : jAr} (ho : jfn N 0 o = 1) : wqX12_init_15 o a1 a2 N F A (fun N' F' A' => N' = jpF (jpF N 3902 o a1) 3903 o a2 ∧ F' = F ∧ A' = A) := by
  unfold wqX12_init_15
  refine ⟨by exact ho, ?_⟩ -- s1: jfn N 0 o = 1
  intro N3 e3
  intro N8 e8
  -- l1: Q N8 F A
  exact ⟨by rw [e8, e3], rfl, rfl⟩

theorem sX14_init {o : Nat} {a1 : Int} {a2 : Int} {N : jSh} {F : jFl} {A : jAr} (ho : jfn N 0 o = 1) (hx : o < jnx N) : wqX14_init o a1 a2 N F A (fun N' F' A' => N' = jpF (jnew (jpF (jpF N 3902 o a1) 3903 o a2) 107 24 24 1) 4502 o (jnx N : Int) ∧ F' = nwF N F ∧ A' = nwA N 107 A) := by
  unfold wqX14_init
  refine ⟨_, sX12_init_15 ho, ?_⟩ -- call wqX12_init_15 o a1 a2 N F A P1
  intro N6 F4 A5 p1
  obtain ⟨i1, i2, i3⟩ := p1
  intro b11 N12 F13 A14 e11 e12 e13 e14
  refine ⟨by (rw [e12, i1, jnew_fno (by show o ≠ jnx N; omega), jpF_f (by decide), jpF_f (by decide)]; exact ho), ?_⟩ -- s1: jfn N12 0 o = 1
  intro N22 e22
  -- l1: Q N22 F13 A14
  exact ⟨by rw [e22, e12, e11, i1]; rfl, by rw [e13, i1, i2]; rfl, by rw [e14, i1, i3]; rfl⟩

/-- where a child's or street's own array is told by a word's value -/
theorem stN_eq {e : Int → Int} {m : Int} {q : Int → Int} {n : Int} {p : Int} {g : Int → Int} {v : Int} (k : (knF e m q n (tkAt q n p)).1 = 0) (gv : g (knV e m q n (tkAt q n p)) = -1) : stF e m q n p g = fb (asW 24947 q n (nx q n p)) (knF e m q n (tkAt q n (nxk q n p 2))) := by
  unfold stF
  rw [fb_ok k, if_pos gv, fb_ok (f := (0, 0)) rfl]
theorem stF_k {e : Int → Int} {m : Int} {q : Int → Int} {n : Int} {p : Int} {g : Int → Int} (k : (knF e m q n (tkAt q n p)).1 ≠ 0) : stF e m q n p g = knF e m q n (tkAt q n p) := by
  unfold stF
  rw [fb_no k, fb_no k, fb_no k]
theorem stF_3 {e : Int → Int} {m : Int} {q : Int → Int} {n : Int} {p : Int} {g : Int → Int} (k : (knF e m q n (tkAt q n p)).1 = 0) (gv : g (knV e m q n (tkAt q n p)) ≠ -1) : stF e m q n p g = (3, tkAt q n p) := by
  have ne : ((3 : Int), tkAt q n p).1 ≠ 0 := by show (3 : Int) ≠ 0; decide
  unfold stF
  rw [fb_ok k, if_neg gv, fb_no ne, fb_no ne]
set_option maxHeartbeats 4000000 in
theorem sX10_street {S : Nat → Nat} {o : Nat} {a1 : Int} {N : jSh} {F : jFl} {A : jAr} {u M k p : Int} {x h lo : Nat} {n : Int} {q : Int → Int} {W L : sTb} {wA sA cA lA : Int → Int} (hO : rdO S u N A o x h n q) (hU : rU F o q n p) (t : tRd u N F A h W L wA sA cA lA k) (ht : tOk W L) (g : gi S M N F) (hM : M ≤ 900000000) (hlo : lo ≤ o ∧ lo ≤ h ∧ lo ≤ jnx N) (hL : lLo lo N F h) (hC : loC lo W cA) {a : Int} (ha : a1 = a) {RR : smR} (hRR : RR = (if W 1 0 0 = 6 then ((5, a), a, W, L) else (fb (frF W q n p) (stA W q n p).1, (stA W q n p).2.1, stW W q n p, L))) {X : Nat → jSh → jFl → jAr → Prop} (hX : (smT q n RR).1 ≠ 0 → stX S n o N F A p (smT q n RR) X) : wqX10_street S o a1 N F A (fun N' F' A' => stP S u lo (M + 2) N F A o x h n q RR k p 2 27 N' F' A') (X) := by
  unfold wqX10_street
  have hnb := hO.2.1.1
  have tOo := hO.1.1
  have hp := hU.2.2.1
  have hoo := hO.2.1.2.1.1
  have hox := hnb o (by rw [tOo]; decide)
  have hhx : h + 6 < jnx N := hnb (h + 6) (by rw [t.2.2.1.2.2.2.2.2.1.1]; decide)
  have n1 := nxk_range (q := q) hp 1
  refine ⟨_, by exact hO.1.2.2.2.2, ?_⟩ -- d1: jfn N 3305 o = (b1 : Int)
  refine ⟨by exact t.1.1.1, ?_⟩ -- s1: jtg N b1 = 2
  refine ⟨_, by exact t.1.2.2.1, ?_⟩ -- d4: jfn N 620 b1 = (b4 : Int)
  refine ⟨by exact t.2.2.1.2.1.1.1, ?_⟩ -- s2: jtg N b4 = 20
  refine ⟨_, sJ2_size t.2.2.1.2.1, ?_⟩ -- call wqJ2_size b4 N F A P7
  intro z9 p7
  refine ⟨_, sX10_space (S := S) hnb (fun w b N' F' A' y1 y2 y3 y4 => by
    have full : W 1 0 0 = 6 := by omega
    rw [if_pos full] at hRR
    have e : smT q n RR = (5, a) := by rw [hRR]; exact fb_no (by show (5 : Int) ≠ 0; decide)
    rw [e] at hX
    rw [ha] at y1
    exact hX (by show (5 : Int) ≠ 0; decide) b N' F' A' y1 y2 (by omega)), ?_⟩ -- call wqX10_space o z9 6 a1 N F A P14 X
  intro p14
  have ns : W 1 0 0 ≠ 6 := fun w => p14 (by rw [p7]; exact w)
  rw [if_neg ns] at hRR
  have hT : smT q n RR = fb (fb (frF W q n p) (stA W q n p).1) (asS 59 q n (stA W q n p).2.1) := by rw [hRR]; rfl
  intro b21 N22 F23 e21 e22 e23
  have r22 : rfr S o N F A N22 F23 A := by rw [e22, e23]; exact (rfr.refl S o N F A).add (by decide) (by decide) (fun _ _ => rfl)
  have x22 : jnx N22 = jnx N + 1 := by rw [e22, jnewNx]
  have y22 : jsu N22 = jsu N + 3 := by rw [e22, jnewSu]
  have t22 : jtg N22 b21 = 15 := by rw [e22, e21, jnewTg]
  have o22 : jfn N22 0 b21 = 1 := by rw [e22, e21, jnew_f0]
  have bo : b21 ≠ o := by omega
  have F22 : ∀ f, F23 f o = F f o := fun f => by rw [e23, nwF_o (by omega)]
  have U22 : rU F23 o q n p := hU.of F22
  refine ⟨_, sX10_newName (c := p) (hO.go r22) ⟨hp, Or.inl ⟨U22, rfl⟩⟩ (t.go r22 tOo hnb) (fun w b N' F' A' y1 y2 y3 => by
    have e : smT q n RR = frF W q n p := by rw [hT]; simp only [fb_no w]
    rw [e] at hX
    exact hX w b N' F' A' y1 (r22.trans y2) (by unfold xB at y3; omega)), ?_⟩ -- call wqX10_newName S o N22 F23 A P29 X
  intro z31 N34 F32 A33 p29
  obtain ⟨f0, s34, U34, r34, k34, m34⟩ := p29
  obtain ⟨m1, m2⟩ := m34 rfl
  have f0' : (frF W q n p).1 = 0 := by rw [f0]
  have hT2 : smT q n RR = fb (stA W q n p).1 (asS 59 q n (stA W q n p).2.1) := by rw [hT, fb_ok f0']
  have R34 := r22.trans r34
  have t34 : jtg N34 b21 = 15 := by rw [(r34.1.2 b21 (by omega)).1]; exact t22
  have o34 : jfn N34 0 b21 = 1 := by rw [(r34.1.2 b21 (by omega)).2.2]; exact o22
  have nb34 := R34.2.2.2.2 hnb
  have T34 := t.go R34 tOo hnb
  have x34 : jnx N34 = b21 + 3 := by omega
  have v34 : jtg N34 (b21 + 2) = 108 := by rw [show b21 + 2 = jnx N22 + 1 by omega]; exact m2
  refine ⟨_, by exact (hO.go R34).1.2.2.2.2, ?_⟩ -- d40: jfn N34 3305 o = (b40 : Int)
  refine ⟨by exact T34.1.1.1, ?_⟩ -- s3: jtg N34 b40 = 2
  refine ⟨_, by exact T34.1.2.2.1, ?_⟩ -- d43: jfn N34 620 b40 = (b43 : Int)
  refine ⟨by exact T34.2.2.1.2.1.1.1, ?_⟩ -- s4: jtg N34 b43 = 20
  refine ⟨_, sJ2_size T34.2.2.1.2.1, ?_⟩ -- call wqJ2_size b43 N34 F32 A33 P46
  intro z48 p46
  refine ⟨_, sX14_init o34 (by omega), ?_⟩ -- call wqX14_init b21 z31 z48 N34 F32 A33 P54
  intro N59 F57 A58 p54
  obtain ⟨i1, i2, i3⟩ := p54
  have R59 : rfr S o N F A N59 F57 A58 := by
    rw [i1, i2, i3]
    exact (((((R34.put (by omega)).put (by omega)) : rfr S o N F A (jpF (jpF N34 3902 b21 z31) 3903 b21 z48) F32 A33).add (A2 := nwA N34 107 A33) (by decide) (by decide) (fun b hb => nwA_o hb)).put (by omega) : rfr S o N F A (jpF (jnew (jpF (jpF N34 3902 b21 z31) 3903 b21 z48) 107 24 24 1) 4502 b21 (jnx N34 : Int)) (nwF N34 F32) (nwA N34 107 A33))
  have x59 : jnx N59 = b21 + 4 := by rw [i1]; show jnx N34 + 1 = _; omega
  have y59 : jsu N59 = jsu N34 + 24 := by rw [i1]; rfl
  have t59 : ∀ a, a ≠ b21 + 3 → jtg N59 a = jtg N34 a := fun a ha => by rw [i1, jpF_tg, jnew_tgo (by show a ≠ jnx N34; omega)]; rfl
  have l59 : ∀ a, a ≠ b21 + 3 → jln N59 a = jln N34 a := fun a ha => by rw [i1, jpF_ln, jnew_lno (by show a ≠ jnx N34; omega)]; rfl
  have j59 : ∀ a f, a ≠ b21 + 3 → a ≠ b21 → jfn N59 f a = jfn N34 f a := fun a f ha hb => by rw [i1, jpF_a hb, jnew_fno (by show a ≠ jnx N34; omega), jpF_a hb, jpF_a hb]
  have g59 : ∀ f, f ≠ 4502 → f ≠ 3902 → f ≠ 3903 → jfn N59 f b21 = jfn N34 f b21 := fun f h1 h2 h3 => by rw [i1, jpF_f h1, jnew_fno (by show b21 ≠ jnx N34; omega), jpF_f h3, jpF_f h2]
  have b59 : jtg N59 b21 = 15 ∧ jfn N59 0 b21 = 1 ∧ jfn N59 3903 b21 = W 1 0 0 ∧ jfn N59 3902 b21 = z31 ∧ jfn N59 4502 b21 = ((b21 + 3 : Nat) : Int) := ⟨by rw [t59 _ (by omega)]; exact t34, by rw [g59 _ (by decide) (by decide) (by decide)]; exact o34, by rw [i1, jpF_f (by decide), jnew_fno (by show b21 ≠ jnx N34; omega), jpF_s]; exact p46, by rw [i1, jpF_f (by decide), jnew_fno (by show b21 ≠ jnx N34; omega), jpF_f (by decide), jpF_s], by rw [i1, jpF_s, x34]⟩
  have e3 : b21 + 3 = jnx (jpF (jpF N34 3902 b21 z31) 3903 b21 z48) := by show b21 + 3 = jnx N34; omega
  have c59 : jtg N59 (b21 + 3) = 107 ∧ jfn N59 0 (b21 + 3) = 1 ∧ jln N59 (b21 + 3) = 24 := ⟨by rw [i1, jpF_tg, e3, jnewTg], by rw [i1, jpF_a (by omega), e3, jnew_f0], by rw [i1, jpF_ln, e3, jnewLn]⟩
  have v59 : jtg N59 (b21 + 2) = 108 := by rw [t59 _ (by omega)]; exact v34
  have A59 : ∀ a, a ≠ b21 + 3 → A58 a = A33 a := fun a ha => by rw [i3, nwA_o (by omega)]
  have z59 : ∀ i, A58 (b21 + 3) i = -1 := fun i => by rw [i3, ← x34]; exact nwA_s _ _ _ _
  have F57e : ∀ f, F57 f o = F32 f o := fun f => by rw [i2, nwF_o (by omega)]
  have nb59 := R59.2.2.2.2 hnb
  have s59 : strIs N59 A58 u z31 (tkC q n (tkAt q n p)) := by
    obtain ⟨b, v, m, y1, ⟨y2, y3, y4⟩, ⟨y5, y6, y7⟩, y8, y9, y10⟩ := s34
    have lb := nb34 b (by rw [y2]; decide)
    have lv := nb34 v (by rw [y5]; decide)
    have bb : b ≠ b21 := fun w => by rw [w, t34] at y2; omega
    refine ⟨b, v, m, y1, ⟨by rw [t59 _ (by omega)]; exact y2, by rw [j59 _ _ (by omega) bb]; exact y3, by rw [j59 _ _ (by omega) bb]; exact y4⟩, ⟨by rw [t59 _ (by omega)]; exact y5, by rw [l59 _ (by omega)]; exact y6, y7⟩, y8, ?_, ?_⟩
    · rw [A59 _ (by omega)]; exact y9
    · rw [A59 _ (by omega)]; exact y10
  have K59 : (jnx N59 : Int) ≤ jnx N22 + 2 * (nx q n p - p) + 1 ∧ (jsu N59 : Int) ≤ jsu N22 + 10 * (nx q n p - p) + 24 := by
    have e : nxk q n p 1 = nx q n p := rfl
    unfold kB at k34; omega
  have hpn := (nx_range (q := q) hp)
  have t0 := ht.1
  have w17 : ∀ v : Int, 0 ≤ v → v < W 0 0 0 → 0 ≤ wA v := fun v v0 v1 => by
    obtain ⟨b, w1, -⟩ := t.2.2.2.1 v v0 v1
    omega
  refine ⟨fun (N64 : jSh) (F65 : jFl) (A66 : jAr) => ∃ (f : Nat) (pp : Int) (G : Int → Int), (stN (fun i => W 10 i 0) (W 0 0 0) q n f pp G = stA W q n p ∧ n ≤ pp + f) ∧ rU F65 o q n pp ∧ (nx q n p ≤ pp) ∧ rfr S o N F A N64 F65 A66 ∧ kB N59 N64 (nx q n p) pp ∧ nex N59 N64 ∧ (∀ a : Nat, a < jnx N59 → a ≠ b21 + 3 → A66 a = A58 a) ∧ (∀ w : Int, 0 ≤ w → w < 24 → A66 (b21 + 3) w = if G w = -1 then -1 else wA (G w)) ∧ ∀ w : Int, -1 ≤ G w ∧ G w < W 0 0 0, fun N64 F65 A66 => (n - F65 3306 o).toNat, ?_, ?_⟩ -- loop I69 I69 N59 F57 A58
  ·
    -- l1: I69 N59 F57 A58
    exact ⟨n.toNat, nx q n p, fun _ => -1, ⟨rfl, by omega⟩, U34.of F57e, Int.le_refl _, R59, by unfold kB; omega, nex.refl _, fun _ _ _ => rfl, fun w _ _ => by rw [z59, if_pos rfl], fun w => by show (-1 : Int) ≤ -1 ∧ (-1 : Int) < _; omega⟩
  intro N64 F65 A66 i69
  obtain ⟨f, pp, G, ⟨st1, st2⟩, U64, hpp, R64, K64, X64, A64, G64, g64⟩ := i69
  have hp2 := U64.2.2.1
  have np := nx_range (q := q) hp2
  have O64 := hO.go R64
  have T64 := t.go R64 tOo hnb
  have nb64 := R64.2.2.2.2 hnb
  have fuel : tkKd q n (tkAt q n pp) = 1 → ∃ f', f = f' + 1 := fun kk => by
    have := tkKd_lt (q := q) (n := n) (a := tkAt q n pp) (by omega)
    exact ⟨f - 1, by omega⟩
  refine ⟨_, sX10_see (c := pp) O64 ⟨hp2, Or.inl ⟨U64, rfl⟩⟩ (fun b N' F' A' w y1 y2 y3 => by
    have e : smT q n RR = (1, tkBad q n (tkAt q n pp)) := by
      by_cases kk : tkKd q n (tkAt q n pp) = 1
      · obtain ⟨f', ef⟩ := fuel kk
        subst ef
        have kb := knF_bad (e := fun i => W 10 i 0) (m := W 0 0 0) w
        have sb : stF (fun i => W 10 i 0) (W 0 0 0) q n pp G = (1, tkBad q n (tkAt q n pp)) := by rw [stF_k (by rw [kb]; exact ne10), kb]
        rw [hT2, ← st1, stN_bad kk (by rw [sb]; exact ne10), sb]
        exact fb_no ne10
      · rw [hT2, ← st1, stN_stop kk]
        exact (fb_ok rfl).trans (asF_bad w)
    rw [e] at hX
    exact hX ne10 b N' F' A' y1 (R64.trans y2) (by unfold xB at y3; unfold kB at K64; omega)), ?_⟩ -- call wqX10_see S o N64 F65 A66 P72 X
  intro z74 N77 F75 A76 p72
  obtain ⟨r1, r2, r3, r4, -⟩ := p72
  have R77 := R64.trans r3
  have O77 := hO.go R77
  have T77 := t.go R77 tOo hnb
  have nb77 := R77.2.2.2.2 hnb
  have X77 := X64.trans r3.1
  have lt64 : jnx N59 ≤ jnx N64 := X64.1
  have te := tkEnd_le (q := q) np.1.2
  have B77 : ∀ a, a < jnx N59 → jtg N77 a = jtg N59 a ∧ jln N77 a = jln N59 a ∧ ∀ f, jfn N77 f a = jfn N59 f a := X77.2
  have A77 : ∀ a, a < jnx N59 → A76 a = A66 a := fun a ha => r3.2.2.1 a (by omega)
  refine ⟨fun hc => ?_, fun hc => ?_⟩ -- c1
  · -- case (¬ z74 = 1)
    refine ⟨_, by exact O77.1.2.2.2.2, ?_⟩ -- d84: jfn N77 3305 o = (b84 : Int)
    refine ⟨by exact T77.1.1.1, ?_⟩ -- s5: jtg N77 b84 = 2
    refine ⟨_, by exact T77.1.2.2.1, ?_⟩ -- d87: jfn N77 620 b84 = (b87 : Int)
    refine ⟨by exact T77.2.2.1.2.1.1.1, ?_⟩ -- s6: jtg N77 b87 = 20
    have t77 : jtg N77 b21 = 15 := by rw [(B77 _ (by omega)).1]; exact b59.1
    refine ⟨_, sJ2_add T77.2.2.1.2.1 (R77.2.2.2.1 M g) (by omega) (by have := ht.2.1; omega) (jast_obj rfl t77 rfl jcob_15), ?_⟩ -- call wqJ2_add S b87 (b21 : Int) N77 F75 A76 P90
    intro z92 N95 F93 A94 p90
    -- l2: Q N95 F93 A94
    obtain ⟨l1, lp⟩ := p90
    have kk : tkKd q n (tkAt q n pp) ≠ 1 := by rw [← r1]; exact hc
    rw [stN_stop kk] at st1
    have g77 := R77.2.2.2.1 M g
    have hx77 : h + 6 < jnx N77 := by have := R77.1.1; omega
    have ls := R77.lists (lo := lo) tOo hnb t.2.2.1
    obtain ⟨a1, a2, a3, a4, a5, a6⟩ := lop.all (j := 2) (lo := lo) lp g77 (by decide) T77.2.2.1 hlo.2.1 hx77 (ls.2 hL)
    have e0 : ∀ i j, stW W q n p 1 i j = W 1 0 0 + 1 := fun _ _ => rfl
    have e1 : ∀ (k : Nat) (i j : Int), k ≠ 1 → k ≠ 16 → k ≠ 17 → stW W q n p k i j = W k i j := fun k i j k0 k1 k2 => by
      unfold stW
      rw [if_neg k0, if_neg (fun w => k1 w.2), if_neg (fun w => k2 w.2)]
    have e2 : ∀ (k : Nat) (i j : Int), k ≠ 1 → i ≠ W 1 0 0 → stW W q n p k i j = W k i j := fun k i j k0 i0 => by
      unfold stW
      rw [if_neg k0, if_neg (fun w => i0 w.1), if_neg (fun w => i0 w.1)]
    have s77 : strIs N77 A76 u (jfn N77 3902 b21) (stW W q n p 16 (W 1 0 0) 0) := by
      rw [(B77 b21 (by omega)).2.2, b59.2.2.2.1]
      have : stW W q n p 16 (W 1 0 0) 0 = tkC q n (tkAt q n p) := by simp [stW]
      rw [this]
      exact s59.kv nb59 X77 (fun a ha => (A77 a (nb59 a (by omega))).trans (A64 a (nb59 a (by omega)) (fun w => by rw [w, c59.1] at ha; omega))) (Or.inl rfl)
    have st77 : stIs N77 A76 (w24 (stW W q n p)) wA (W 1 0 0) b21 := by
      refine ⟨⟨t77, by rw [(B77 _ (by omega)).2.2]; exact b59.2.1, by rw [(B77 _ (by omega)).2.2]; exact b59.2.2.1, by rw [(B77 _ (by omega)).2.2]; exact b59.2.2.2.2, by rw [(B77 _ (by omega)).1]; exact c59.1, by rw [(B77 _ (by omega)).2.2]; exact c59.2.1, by rw [(B77 _ (by omega)).2.1]; exact c59.2.2, by rw [(B77 _ (by omega)).1]; exact v59⟩, fun w w0 w1 => ?_⟩
      have e17 : w24 (stW W q n p) 17 (W 1 0 0) w = G w := by
        have : w24 (stW W q n p) 17 (W 1 0 0) w = (stA W q n p).2.2 w := by simp [w24, stW]
        rw [this, ← st1]
      rw [e17, A77 _ (by omega)]
      exact G64 w w0 w1
    have ob : tOb u N77 F75 A76 (stW W q n p) L wA (upI sA (W 1 0 0) (b21 : Int)) cA lA := T77.2.2.2.street ht (e0 0 0) e1 e2 st77 s77
    have hf := (a1.at nb77 T77.1.1.1 (by decide)).1
    have hlo2 : ∀ f, F93 f o = F75 f o := fun f => lp.2.2.1 o (by have := R77.1.1; omega) (by
      intro w
      have := O77.1.1
      rw [w, T77.2.2.1.2.1.1.1] at this
      omega) f
    obtain ⟨t1, t2, t3, t4⟩ := T77
    subst hRR
    have sp : (stA W q n p).2.1 = pp := by rw [← st1]
    have s1 : (stA W q n p).1 = (0, 0) := by rw [← st1]
    refine ⟨?_, ⟨wA, upI sA (W 1 0 0) (b21 : Int), cA, lA, ⟨t1.ex nb77 lp.2.1, ?_, ⟨?_, l1, ?_, ?_, ?_, ?_⟩, ob.ug nb77 a1⟩, hC.of (e1 2 0 0 (by decide) (by decide) (by decide))⟩, O77.ug a1 lp.1.1, lp.1.mono (by omega) (by omega), a3, (R77.lf hlo.1 hlo.2.2).trans a4, tkEnd q n (tkAt q n pp), ?_, ?_, ?_, ?_⟩
    · show (fb (frF W q n p) (stA W q n p).1).1 = 0
      rw [f0, s1]
      rfl
    · exact (show tFl F93 h (stW W q n p) k from by
        unfold tFl at *
        rw [hf, hf, hf, hf, hf, e1 4 _ _ (by decide) (by decide) (by decide), e1 5 _ _ (by decide) (by decide) (by decide), e1 6 _ _ (by decide) (by decide) (by decide)]
        exact t2)
    · exact (show jli N95 F93 A94 (h + 1) (stW W q n p 0 0 0) wA from by rw [e1 0 _ _ (by decide) (by decide) (by decide)]; exact a2 1 _ _ (by omega) t3.1)
    · exact (show jli N95 F93 A94 (h + 3) (stW W q n p 2 0 0) cA from by rw [e1 2 _ _ (by decide) (by decide) (by decide)]; exact a2 3 _ _ (by omega) t3.2.2.1)
    · exact (show jli N95 F93 A94 (h + 4) (stW W q n p 3 0 0) lA from by rw [e1 3 _ _ (by decide) (by decide) (by decide)]; exact a2 4 _ _ (by omega) t3.2.2.2.1)
    · exact (show jli N95 F93 A94 (h + 5) (stW W q n p 3 0 0) lA from by rw [e1 3 _ _ (by decide) (by decide) (by decide)]; exact a2 5 _ _ (by omega) t3.2.2.2.2.1)
    · exact a2 6 _ _ (by omega) t3.2.2.2.2.2
    · exact (show rA N95 F93 A94 o q n (stA W q n p).2.1 (tkEnd q n (tkAt q n pp)) from by
        rw [sp]
        exact (rS.rA hp2 r2).ug nb77 a1 hlo2)
    · omega
    · unfold kB at K64 r4
      have := ls.1
      omega
    · unfold kB at K64 r4
      have := ls.1
      omega
  · -- case (z74 = 1)
    refine ⟨_, by exact O77.1.2.2.2.2, ?_⟩ -- d101: jfn N77 3305 o = (b101 : Int)
    refine ⟨by exact T77.1.1.1, ?_⟩ -- s7: jtg N77 b101 = 2
    have kk : tkKd q n (tkAt q n pp) = 1 := by rw [← r1]; exact hc
    obtain ⟨f', ef⟩ := fuel kk
    subst ef
    have SB : ∀ {z : Int × Int}, stF (fun i => W 10 i 0) (W 0 0 0) q n pp G = z → z.1 ≠ 0 → smT q n RR = z := fun {z} sz z0 => by
      rw [hT2, ← st1, stN_bad kk (by rw [sz]; exact z0), sz]
      exact fb_no z0
    have K77 : kB N59 N77 (nx q n p) (nx q n pp) := K64.trans r4
    have h1o : h + 1 ≠ o := fun w => by have := T77.2.2.1.1.1.1; rw [w, O77.1.1] at this; omega
    refine ⟨_, sX10_known (c := tkEnd q n (tkAt q n pp)) O77 (rS.rA hp2 r2) T77.src.1.2 T77.src.2.1 h1o (Or.inl rfl) T77.src.2.2 (fun w b N' F' A' y1 y2 y3 => by
      have e := SB (stF_k w) w
      rw [e] at hX
      have : nx q n pp = tkEnd q n (tkAt q n pp) := rfl
      exact hX w b N' F' A' y1 (R77.trans y2) (by unfold xB at y3; unfold kB at K77; omega)), ?_⟩ -- call wqX10_known S o (jfn N77 617 b101) N77 F75 A76 P104 X
    intro z106 N109 F107 A108 p104
    obtain ⟨k0, zk, U109, r109, k109, -, pl109⟩ := p104
    have k0' : (knF (fun i => W 10 i 0) (W 0 0 0) q n (tkAt q n pp)).1 = 0 := by rw [k0]
    have kv := (knV_ok hp2 t0.1 k0').2.2.2.1
    have R109 := R77.trans r109
    have O109 := hO.go R109
    have T109 := t.go R109 tOo hnb
    have X109 := X77.trans r109.1
    have lt77 := X77.1
    have K109 : kB N59 N109 (nx q n p) (nx q n pp) := by
      have : kB N77 N109 (tkEnd q n (tkAt q n pp)) (tkEnd q n (tkAt q n pp)) := k109
      exact K77.trans this
    obtain ⟨bw, w1, w2, w3, w4, -⟩ := T109.2.2.2.1 _ kv.1 kv.2
    have B109 : ∀ a, a < jnx N59 → jtg N109 a = jtg N59 a ∧ jln N109 a = jln N59 a ∧ ∀ f, jfn N109 f a = jfn N59 f a := X109.2
    have A109 : ∀ a, a < jnx N59 → A108 a = A66 a := fun a ha => (r109.2.2.1 a (by omega)).trans (A77 a ha)
    refine ⟨by exact jcst_word (zk.trans w1) w2, ?_⟩ -- s8: jcst N109 "ChildSays$Word" z106
    refine ⟨_, by exact zk.trans w1, ?_⟩ -- d116: z106 = (b116 : Int)
    refine ⟨by exact w2, ?_⟩ -- s9: jtg N109 b116 = 14
    refine ⟨_, by (rw [(B109 b21 (by omega)).2.2]; exact b59.2.2.2.2), ?_⟩ -- d119: jfn N109 4502 b21 = (b119 : Int)
    refine ⟨by (rw [(B109 _ (by omega)).1]; exact c59.1), ?_⟩ -- s10: jtg N109 b119 = 107
    refine ⟨by (rw [w4, (B109 _ (by omega)).2.1, c59.2.2]; omega), ?_⟩ -- s11: ((0 : Int) ≤ jfn N109 3903 b116 ∧ (jfn N109 3903 b116 : Int) < (jln N109 b119 : Int))
    have Gv : A108 (b21 + 3) (jfn N109 3903 bw) = if G (knV (fun i => W 10 i 0) (W 0 0 0) q n (tkAt q n pp)) = -1 then -1 else wA (G (knV (fun i => W 10 i 0) (W 0 0 0) q n (tkAt q n pp))) := by
      rw [w4, A109 _ (by omega)]
      exact G64 _ kv.1 (by omega)
    rw [Gv]
    refine ⟨fun hc => ?_, fun hc => ?_⟩ -- c2
    · -- case ((A108 b119 (jfn N109 3903 b116)) < 0)
      have gv : G (knV (fun i => W 10 i 0) (W 0 0 0) q n (tkAt q n pp)) = -1 := Classical.byContradiction (fun w => by
        rw [if_neg w] at hc
        have := g64 (knV (fun i => W 10 i 0) (W 0 0 0) q n (tkAt q n pp))
        have := w17 _ (by omega) this.2
        omega)
      have n2 := nx_range (q := q) np.2.2
      refine ⟨_, sX10_asks (c := nx q n pp) O109 ⟨np.2.2, Or.inl ⟨U109, rfl⟩⟩ ((O109.2.1.2.1.2.1 6 (by decide)).2) (fun w b N' F' A' y1 y2 y3 => by
        have w : (asW 24947 q n (nx q n pp)).1 ≠ 0 := w
        have e := SB ((stN_eq (v := 0) k0' gv).trans (fb_no w)) w
        rw [e] at hX
        exact hX w b N' F' A' y1 (R109.trans y2) (by unfold xB at y3; unfold kB at K109; omega)), ?_⟩ -- call wqX10_asks S o (S 7 : Int) N109 F107 A108 P125 X
      intro N130 F128 A129 p125
      obtain ⟨as0, U130, r130, k130⟩ := p125
      have as0 : asW 24947 q n (nx q n pp) = (0, 0) := as0
      have R130 := R109.trans r130
      have O130 := hO.go R130
      have T130 := t.go R130 tOo hnb
      have X130 := X109.trans r130.1
      have lt109 := X109.1
      have K130 : kB N59 N130 (nx q n p) (nxk q n pp 2) := K109.trans k130
      refine ⟨_, by exact O130.1.2.2.2.2, ?_⟩ -- d138: jfn N130 3305 o = (b138 : Int)
      refine ⟨by exact T130.1.1.1, ?_⟩ -- s12: jtg N130 b138 = 2
      refine ⟨_, sX10_known (c := nxk q n pp 2) O130 ⟨n2.2.2, Or.inl ⟨U130, rfl⟩⟩ T130.src.1.2 T130.src.2.1 h1o (Or.inl rfl) T130.src.2.2 (fun w b N' F' A' y1 y2 y3 => by
        have w : (knF (fun i => W 10 i 0) (W 0 0 0) q n (tkAt q n (nxk q n pp 2))).1 ≠ 0 := w
        have e := SB ((stN_eq (v := 0) k0' gv).trans (fb_ok (by rw [as0]))) w
        rw [e] at hX
        exact hX w b N' F' A' y1 (R130.trans y2) (by unfold xB at y3; unfold kB at K130; omega)), ?_⟩ -- call wqX10_known S o (jfn N130 617 b138) N130 F128 A129 P141 X
      intro z143 N146 F144 A145 p141
      obtain ⟨k2, zk2, U146, r146, k146, -, -⟩ := p141
      have k2 : knF (fun i => W 10 i 0) (W 0 0 0) q n (tkAt q n (nxk q n pp 2)) = (0, 0) := k2
      have zk2 : z143 = wA (knV (fun i => W 10 i 0) (W 0 0 0) q n (tkAt q n (nxk q n pp 2))) := zk2
      have U146 : rU F144 o q n (nxk q n pp 3) := U146
      have n3 := nx_range (q := q) n2.2.2
      have kv2 := (knV_ok (q := q) (e := fun i => W 10 i 0) n2.2.2 t0.1 (by rw [show nx q n (nx q n pp) = nxk q n pp 2 from rfl, k2])).2.2.2.1
      have kv2 : 0 ≤ knV (fun i => W 10 i 0) (W 0 0 0) q n (tkAt q n (nxk q n pp 2)) ∧ knV (fun i => W 10 i 0) (W 0 0 0) q n (tkAt q n (nxk q n pp 2)) < W 0 0 0 := kv2
      have R146 := R130.trans r146
      have T146 := t.go R146 tOo hnb
      have X146 := X130.trans r146.1
      have lt130 := X130.1
      have K146 : kB N59 N146 (nx q n p) (nxk q n pp 3) := K130.trans k146
      obtain ⟨bw2, w5, w6, -⟩ := T146.2.2.2.1 _ kv2.1 kv2.2
      have B146 : ∀ a, a < jnx N59 → jtg N146 a = jtg N59 a ∧ jln N146 a = jln N59 a ∧ ∀ f, jfn N146 f a = jfn N59 f a := X146.2
      have B130 : ∀ a, a < jnx N59 → ∀ f, jfn N130 f a = jfn N59 f a := fun a ha => (X130.2 a ha).2.2
      have A146 : ∀ a, a < jnx N59 → A145 a = A66 a := fun a ha => (r146.2.2.1 a (by omega)).trans ((r130.2.2.1 a (by omega)).trans (A109 a ha))
      have w130 : jfn N130 3903 bw = knV (fun i => W 10 i 0) (W 0 0 0) q n (tkAt q n pp) := by rw [(r130.1.2 bw (O109.2.1.1 bw (by rw [w2]; decide))).2.2]; exact w4
      refine ⟨by exact jcst_word (zk2.trans w5) w6, ?_⟩ -- s13: jcst N146 "ChildSays$Word" z143
      refine ⟨_, by (rw [B130 b21 (by omega)]; exact b59.2.2.2.2), ?_⟩ -- d152: jfn N130 4502 b21 = (b152 : Int)
      refine ⟨by (rw [(B146 _ (by omega)).1]; exact c59.1), ?_⟩ -- s14: jtg N146 b152 = 107
      refine ⟨by (rw [(B146 _ (by omega)).2.2]; exact c59.2.1), ?_⟩ -- s15: jfn N146 0 b152 = 1
      refine ⟨by (rw [w130, (B146 _ (by omega)).2.1, c59.2.2]; omega), ?_⟩ -- s16: ((0 : Int) ≤ jfn N130 3903 b116 ∧ (jfn N130 3903 b116 : Int) < (jln N146 b152 : Int))
      refine ⟨by exact jast_word (zk2.trans w5) w6, ?_⟩ -- s17: jast N146 "ChildSays$Word" z143
      intro A157 e157
      refine ⟨?_, ?_⟩ -- l3: I69 N146 F144 A157
      · have sf : (stF (fun i => W 10 i 0) (W 0 0 0) q n pp G).1 = 0 := by
          rw [stN_eq (v := 0) k0' gv, fb_ok (by rw [as0]), k2]
        rw [stN_go kk sf] at st1
        have lt0 := tkKd_lt (q := q) (n := n) (a := tkAt q n pp) (by omega)
        have lt1 := nx_lt (q := q) hp2 lt0
        have e3 : nxk q n pp 3 = nx q n (nx q n (nx q n pp)) := rfl
        refine ⟨f', nxk q n pp 3, _, ⟨st1, by omega⟩, U146, by omega, by rw [e157]; exact R146.upA (by omega), K146, X146, fun a ha hb => ?_, fun w w0 w1 => ?_, fun w => ?_⟩
        · rw [e157, upA_o hb, A146 a ha]
          exact A64 a ha hb
        · rw [e157, w130]
          by_cases y : w = knV (fun i => W 10 i 0) (W 0 0 0) q n (tkAt q n pp)
          · rw [y, upA_s, upv_s, if_neg (by omega)]
            exact zk2
          · rw [upA_i y, upv_n y, A146 _ (by omega)]
            exact G64 w w0 w1
        · by_cases y : w = knV (fun i => W 10 i 0) (W 0 0 0) q n (tkAt q n pp)
          · rw [y, upv_s]; omega
          · rw [upv_n y]; exact g64 w
      · dsimp only
        have lt0 := tkKd_lt (q := q) (n := n) (a := tkAt q n pp) (by omega)
        have lt1 := nx_lt (q := q) hp2 lt0
        have e3 : nxk q n pp 3 = nx q n (nx q n (nx q n pp)) := rfl
        rw [U146.2.1, U64.2.1]
        omega
    · -- case (¬ ((A108 b119 (jfn N109 3903 b116)) < 0))
      intro b160 N161 F162 e160 e161 e162
      refine ⟨_, sX11_init (jnew_flt e160 e161 e162), ?_⟩ -- call wqX11_init b160 3 (F162 3312 o) N161 F162 A108 P168
      intro N173 F171 A172 p168
      -- l4: X b160 N173 F171 A172
      obtain ⟨g1, g2, g3, g4⟩ := flt_new (S := S) (o := o) O109.2.1.1 e160 e161 e162 p168
      have gv : G (knV (fun i => W 10 i 0) (W 0 0 0) q n (tkAt q n pp)) ≠ -1 := fun w => by rw [if_pos w] at hc; exact hc (by decide)
      have ox := O109.2.1.1 o (by rw [O109.1.1]; decide)
      rw [e162, nwF_o (by omega), pl109] at g1
      have ne : ((3 : Int), tkAt q n pp).1 ≠ 0 := by show (3 : Int) ≠ 0; decide
      have e := SB (stF_3 k0' gv) ne
      rw [e] at hX
      exact hX ne _ _ _ _ g1 (R109.trans g2) (by unfold kB at K109; omega)

