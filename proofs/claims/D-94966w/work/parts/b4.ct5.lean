set_option maxRecDepth 100000
set_option linter.unusedVariables false
/-! the component's reader: laws; printed by gen/prove.py out of spec/b4.ct5.spec -/
section
variable {u : Int} {N : jSh} {F : jFl} {A : jAr} {W W' L L' : sTb} {wA sA cA lA : Int → Int}
/-- one law more -/
theorem tOb.law {b : Nat} (t : tOb u N F A W L wA sA cA lA) (e0 : W' 3 0 0 = W 3 0 0 + 1) (e1 : ∀ (k : Nat) (i j : Int), k ≠ 3 → k ≠ 22 → W' k i j = W k i j) (e2 : ∀ (k : Nat) (i j : Int), k ≠ 3 → i ≠ W 3 0 0 → W' k i j = W k i j) (eL : ∀ (k : Nat) (i j : Int), i ≠ W 3 0 0 → L' k i j = L k i j) (hb : lawOk N (W 3 0 0) b ∧ F 5103 b = L' 4 (W 3 0 0) 0 ∧ rowIs N F A wA (b + 3) (sRw L' (W 3 0 0))) (hs : strIs N A u (jfn N 3902 b) (W' 22 (W 3 0 0) 0)) : tOb u N F A W' L' wA sA cA (upI lA (W 3 0 0) (b : Int)) := by
  obtain ⟨h1, h2, h3, h4, ⟨n1, n2, n3, n4⟩, h6⟩ := t
  refine ⟨fun i i0 i1 => ?_, fun s s0 s1 => ?_, fun c c0 c1 => ?_, fun l l0 l1 => ?_, ⟨fun i i0 i1 => ?_, fun i i0 i1 => ?_, fun i i0 i1 => ?_, fun s s0 s1 => ?_⟩, h6⟩
  · rw [e1 0 _ _ (by decide) (by decide)] at i1
    rw [e1 11 _ _ (by decide) (by decide), e1 12 _ _ (by decide) (by decide), e1 13 _ _ (by decide) (by decide), e1 14 _ _ (by decide) (by decide), e1 15 _ _ (by decide) (by decide)]
    exact h1 i i0 i1
  · rw [e1 1 _ _ (by decide) (by decide)] at s1
    obtain ⟨b', y1, y2, y3⟩ := h2 s s0 s1
    refine ⟨b', y1, y2, fun v v0 v1 => ?_⟩
    have e17 : w24 W' 17 s v = w24 W 17 s v := e1 17 s v (by decide) (by decide)
    rw [e17]
    exact y3 v v0 v1
  · rw [e1 2 _ _ (by decide) (by decide)] at c1
    obtain ⟨b', y1, y2, y3, y4, y5, y6⟩ := h3 c c0 c1
    have e21 : ∀ v, W' 21 c v = W 21 c v := fun v => e1 _ _ _ (by decide) (by decide)
    exact ⟨b', y1, y2, by rw [e1 19 _ _ (by decide) (by decide)]; exact y3, by rw [e1 20 _ _ (by decide) (by decide)]; exact y4, by rw [y5]; exact (sKnown_congr rfl (fun v => (e21 v).symm)), fun v v0 v1 => by rw [e21]; exact y6 v v0 v1⟩
  · by_cases w : l = W 3 0 0
    · rw [w, upI_s]
      exact ⟨b, rfl, hb⟩
    · rw [upI_n w]
      obtain ⟨b', y1, y2, y3, y4⟩ := h4 l l0 (by omega)
      refine ⟨b', y1, y2, by rw [eL _ _ _ w]; exact y3, ?_⟩
      have : sRw L' l = sRw L l := by
        unfold sRw
        rw [eL _ _ _ w, eL _ _ _ w]
        congr 2
        funext k
        exact eL _ _ _ w
      rw [this]
      exact y4
  · rw [e1 0 _ _ (by decide) (by decide)] at i1
    rw [e1 10 _ _ (by decide) (by decide)]
    exact n1 i i0 i1
  · rw [e1 1 _ _ (by decide) (by decide)] at i1
    rw [e1 16 _ _ (by decide) (by decide)]
    exact n2 i i0 i1
  · rw [e1 2 _ _ (by decide) (by decide)] at i1
    rw [e1 18 _ _ (by decide) (by decide)]
    exact n3 i i0 i1
  · by_cases w : s = W 3 0 0
    · rw [w, upI_s]
      exact ⟨b, rfl, hb.1.1, hs⟩
    · rw [upI_n w, e2 _ _ _ (by decide) w]
      exact n4 s s0 (by omega)
end
section
variable {S : Nat → Nat} {M : Int} {lo h : Nat} {N N' : jSh} {F F' : jFl} {A A' : jAr}
/-- what an act on the list h + j leaves, whatever the lists hold -/
theorem lop.all5 {j : Nat} (p : lop S M N F A (h + j) N' F' A') {M0 : Int} (g : gi S M0 N F) (hj : 1 ≤ j ∧ j ≤ 5) (t : ∀ i : Nat, 1 ≤ i → i ≤ 5 → ∃ (m : Int) (e : Int → Int), jli N F A (h + i) m e) (hlo : lo ≤ h) (hx : h + 6 < jnx N) (q : lLo lo N F h) : ug N F A N' F' A' ∧ (∀ (i : Nat) (m : Int) (e : Int → Int), h + i ≠ h + j → jli N F A (h + i) m e → jli N' F' A' (h + i) m e) ∧ lLo lo N' F' h ∧ lf lo N F A N' F' A' ∧ (jnx N' + lsum N F h ≤ jnx N + lsum N' F' h ∧ jsu N' + 4 * lsum N F h ≤ jsu N + 4 * lsum N' F' h) := by
  have hl : isL N F (h + j) := by
    obtain ⟨m, e, w⟩ := t j hj.1 hj.2
    exact w.isL
  have k := p.kp
  have y : ∀ i : Nat, 1 ≤ i → i ≤ 5 → i ≠ j → lar F' (h + i) = lar F (h + i) ∧ lcp N' F' (h + i) = lcp N F (h + i) ∧ jln N' (lar F' (h + i)) = jln N (lar F (h + i)) := fun i i0 i1 hi => by
    obtain ⟨m, e, w⟩ := t i i0 i1
    exact w.same g.1 p.2.1 (p.2.2.1 _ (g.1 _ (by rw [w.1.1]; decide)) (by omega) _)
  obtain ⟨c1, c2, c3, c4, c5, ⟨c6, c7⟩, c8, c9, c10⟩ := id p
  refine ⟨k.ug hl, fun i m e hi hl' => k.jli g hl hl' hi, fun i i0 i1 => ?_, ⟨p.2.1, fun a ha => ⟨fun f => c3 a (by omega) (by omega) f, c5 a (by omega) ?_⟩⟩, ?_⟩
  · have qq := q i i0 i1
    by_cases w : i = j
    · subst w
      rcases c10 with w | w
      · rw [w]
        rcases qq with z | z
        · exact Or.inl z
        · refine Or.inr ?_
          rw [p.2.1.ln g.1 hl.2.2 (by decide)]; exact z
      · exact Or.inl (by omega)
    · rw [(y i i0 i1 w).2.2, (y i i0 i1 w).1]; exact qq
  · rcases q j hj.1 hj.2 with z | z
    · exact Or.inl (by omega)
    · by_cases w : a = lar F (h + j)
      · exact Or.inr (by rw [w]; exact z)
      · exact Or.inl w
  · unfold lsum
    have e : j = 1 ∨ j = 2 ∨ j = 3 ∨ j = 4 ∨ j = 5 := by omega
    rcases e with e | e | e | e | e <;> subst e
    · rw [(y 2 (by decide) (by decide) (by decide)).2.1, (y 3 (by decide) (by decide) (by decide)).2.1, (y 4 (by decide) (by decide) (by decide)).2.1, (y 5 (by decide) (by decide) (by decide)).2.1]; omega
    · rw [(y 1 (by decide) (by decide) (by decide)).2.1, (y 3 (by decide) (by decide) (by decide)).2.1, (y 4 (by decide) (by decide) (by decide)).2.1, (y 5 (by decide) (by decide) (by decide)).2.1]; omega
    · rw [(y 1 (by decide) (by decide) (by decide)).2.1, (y 2 (by decide) (by decide) (by decide)).2.1, (y 4 (by decide) (by decide) (by decide)).2.1, (y 5 (by decide) (by decide) (by decide)).2.1]; omega
    · rw [(y 1 (by decide) (by decide) (by decide)).2.1, (y 2 (by decide) (by decide) (by decide)).2.1, (y 3 (by decide) (by decide) (by decide)).2.1, (y 5 (by decide) (by decide) (by decide)).2.1]; omega
    · rw [(y 1 (by decide) (by decide) (by decide)).2.1, (y 2 (by decide) (by decide) (by decide)).2.1, (y 3 (by decide) (by decide) (by decide)).2.1, (y 4 (by decide) (by decide) (by decide)).2.1]; omega
theorem rfr.z {o r : Nat} {N1 : jSh} {F1 : jFl} {A1 : jAr} (h : rfr S o N F A N1 F1 A1) (f : rfz S o r N1 F1 A1 N' F' A') (hr : jnx N ≤ r) : rfr S o N F A N' F' A' := by
  have l := h.1.1
  exact ⟨h.1.trans f.1, fun a ha hao g => (f.2.1 a (by omega) hao (by omega) g).trans (h.2.1 a ha hao g), fun a ha => (f.2.2.1 a (by omega) (by omega)).trans (h.2.2.1 a ha), fun M g => f.2.2.2.1 M (h.2.2.2.1 M g), fun g => f.2.2.2.2 (h.2.2.2.2 g)⟩
end
theorem sX12_init_17 {o : Nat} {a1 : Int} {a2 : Int} {N : jSh} {F : jFl} {A : jAr} (ho : jfn N 0 o = 1) : wqX12_init_17 o a1 a2 N F A (fun N' F' A' => N' = jpF (jpF N 3902 o a1) 3903 o a2 ∧ F' = F ∧ A' = A) := by
  unfold wqX12_init_17
  refine ⟨by exact ho, ?_⟩ -- s1: jfn N 0 o = 1
  intro N3 e3
  intro N8 e8
  -- l1: Q N8 F A
  exact ⟨by rw [e8, e3], rfl, rfl⟩

theorem sX3_initE {o : Nat} {N : jSh} {F : jFl} {A : jAr} (h0 : jfn N 0 o = 1) (hx : o < jnx N) : wqX3_init o N F A (fun N' F' A' => N' = jpF (jnew N 107 12 12 1) 1202 o (jnx N : Int) ∧ F' = nwF N F ∧ A' = nwA N 107 A) := by
  unfold wqX3_init
  intro b1 N2 F3 A4 e1 e2 e3 e4
  refine ⟨by (rw [e2, jnew_fno (by omega)]; exact h0), ?_⟩ -- s1: jfn N2 0 o = 1
  intro N12 e12
  -- l1: Q N12 F3 A4
  exact ⟨by rw [e12, e2, e1], e3, e4⟩

theorem sX16_init {o : Nat} {a1 : Int} {a2 : Int} {N : jSh} {F : jFl} {A : jAr} (ho : jfn N 0 o = 1) (hx : o < jnx N) : wqX16_init o a1 a2 N F A (fun N' F' A' => N' = jpF (jpF (jnew (jnew (jpF (jpF N 3902 o a1) 3903 o a2) 4 0 3 1) 107 12 12 1) 1202 (jnx N) ((jnx N + 1 : Nat) : Int)) 5102 o (jnx N : Int) ∧ F' = nwF (jnew N 4 0 3 1) (nwF N F) ∧ A' = nwA (jnew N 4 0 3 1) 107 A) := by
  unfold wqX16_init
  refine ⟨_, sX12_init_17 ho, ?_⟩ -- call wqX12_init_17 o a1 a2 N F A P1
  intro N6 F4 A5 p1
  obtain ⟨i1, i2, i3⟩ := p1
  intro b11 N12 F13 e11 e12 e13
  refine ⟨_, sX3_initE (by rw [e12, e11]; exact jnew_f0 _ _ _ _ _) (by rw [e12, e11, jnewNx]; omega), ?_⟩ -- call wqX3_init b11 N12 F13 A5 P18
  intro N23 F21 A22 p18
  obtain ⟨k1, k2, k3⟩ := p18
  have x6 : jnx N6 = jnx N := by rw [i1]; rfl
  refine ⟨by (rw [k1, jpF_a (by omega), jnew_fno (by rw [e12, jnewNx]; omega), e12, jnew_fno (by omega), i1, jpF_f (by decide), jpF_f (by decide)]; exact ho), ?_⟩ -- s1: jfn N23 0 o = 1
  intro N31 e31
  -- l1: Q N31 F21 A22
  exact ⟨by rw [e31, k1, e12, e11, i1]; rfl, by rw [k2, e12, e13, i1, i2]; rfl, by rw [k3, e12, i1, i3]; rfl⟩

set_option maxHeartbeats 8000000 in
theorem sX10_law {S : Nat → Nat} {o : Nat} {a1 : Int} {N : jSh} {F : jFl} {A : jAr} {u M k p : Int} {x h lo : Nat} {n : Int} {q : Int → Int} {W L : sTb} {wA sA cA lA : Int → Int} (hO : rdO S u N A o x h n q) (hU : rU F o q n p) (t : tRd u N F A h W L wA sA cA lA k) (ht : tOk W L) (g : gi S M N F) (hM : M ≤ 900000000) (hlo : lo ≤ o ∧ lo ≤ h ∧ lo ≤ jnx N) (hL : lLo lo N F h) (hC : loC lo W cA) {a : Int} (ha : a1 = a) {RR : smR} (hRR : RR = (if W 3 0 0 = 12 then ((5, a), a, W, L) else (fb (lwH W q n p) (lwR W q n p).1, (lwR W q n p).2.2.1, lwW W q n p, lwL W L q n p))) {X : Nat → jSh → jFl → jAr → Prop} (hX : (smT q n RR).1 ≠ 0 → stX S n o N F A p (smT q n RR) X) : wqX10_law S o a1 N F A (fun N' F' A' => stP S u lo (M + 2) N F A o x h n q RR k p 3 19 N' F' A') (X) := by
  unfold wqX10_law
  have hnb := hO.2.1.1
  have tOo := hO.1.1
  have hp := hU.2.2.1
  have hoo := hO.2.1.2.1.1
  have hox := hnb o (by rw [tOo]; decide)
  have hhx : h + 6 < jnx N := hnb (h + 6) (by rw [t.2.2.1.2.2.2.2.2.1.1]; decide)
  have n1 := nx_range (q := q) hp
  have nn := nx_range (q := q) n1.2.2
  have op := opP_range (c := 1937075815) (q := q) n1.2.2
  have np : 0 ≤ opP 1937075815 q n (nx q n p) ∧ opP 1937075815 q n (nx q n p) ≤ n := by omega
  have n2 := nx_range (q := q) np
  refine ⟨_, by exact hO.1.2.2.2.2, ?_⟩ -- d1: jfn N 3305 o = (b1 : Int)
  refine ⟨by exact t.1.1.1, ?_⟩ -- s1: jtg N b1 = 2
  refine ⟨_, by exact t.1.2.2.2.2.1, ?_⟩ -- d4: jfn N 626 b1 = (b4 : Int)
  refine ⟨by exact t.2.2.1.2.2.2.1.1.1, ?_⟩ -- s2: jtg N b4 = 20
  refine ⟨_, sJ2_size t.2.2.1.2.2.2.1, ?_⟩ -- call wqJ2_size b4 N F A P7
  intro z9 p7
  refine ⟨_, sX10_space (S := S) hnb (fun w b N' F' A' y1 y2 y3 y4 => by
    have full : W 3 0 0 = 12 := by omega
    rw [if_pos full] at hRR
    have e : smT q n RR = (5, a) := by rw [hRR]; exact fb_no (by show (5 : Int) ≠ 0; decide)
    rw [e] at hX
    rw [ha] at y1
    exact hX (by show (5 : Int) ≠ 0; decide) b N' F' A' y1 y2 (by omega)), ?_⟩ -- call wqX10_space o z9 12 a1 N F A P14 X
  intro p14
  have ns : W 3 0 0 ≠ 12 := fun w => p14 (by rw [p7]; exact w)
  rw [if_neg ns] at hRR
  have hT : smT q n RR = fb (fb (lwH W q n p) (lwR W q n p).1) (asS 59 q n (lwR W q n p).2.2.1) := by rw [hRR]; rfl
  intro b21 N22 F23 e21 e22 e23
  have r22 : rfr S o N F A N22 F23 A := by rw [e22, e23]; exact (rfr.refl S o N F A).add (by decide) (by decide) (fun _ _ => rfl)
  have x22 : jnx N22 = jnx N + 1 := by rw [e22, jnewNx]
  have y22 : jsu N22 = jsu N + 4 := by rw [e22, jnewSu]
  have t22 : jtg N22 b21 = 17 := by rw [e22, e21, jnewTg]
  have o22 : jfn N22 0 b21 = 1 := by rw [e22, e21, jnew_f0]
  have bo : b21 ≠ o := by omega
  have F22 : ∀ f, F23 f o = F f o := fun f => by rw [e23, nwF_o (by omega)]
  have U22 : rU F23 o q n p := hU.of F22
  refine ⟨_, sX10_newName (c := p) (hO.go r22) ⟨hp, Or.inl ⟨U22, rfl⟩⟩ (t.go r22 tOo hnb) (fun w b N' F' A' y1 y2 y3 => by
    have e : smT q n RR = frF W q n p := by rw [hT]; unfold lwH; simp only [fb_no w]
    rw [e] at hX
    exact hX w b N' F' A' y1 (r22.trans y2) (by unfold xB at y3; omega)), ?_⟩ -- call wqX10_newName S o N22 F23 A P29 X
  intro z31 N34 F32 A33 p29
  obtain ⟨f0, s34, U34, r34, k34, m34⟩ := p29
  obtain ⟨m1, m2⟩ := m34 rfl
  have f0' : (frF W q n p).1 = 0 := by rw [f0]
  have R34 := r22.trans r34
  have t34 : jtg N34 b21 = 17 := by rw [(r34.1.2 b21 (by omega)).1]; exact t22
  have o34 : jfn N34 0 b21 = 1 := by rw [(r34.1.2 b21 (by omega)).2.2]; exact o22
  have nb34 := R34.2.2.2.2 hnb
  have T34 := t.go R34 tOo hnb
  have x34 : jnx N34 = b21 + 3 := by omega
  refine ⟨_, by exact (hO.go R34).1.2.2.2.2, ?_⟩ -- d40: jfn N34 3305 o = (b40 : Int)
  refine ⟨by exact T34.1.1.1, ?_⟩ -- s3: jtg N34 b40 = 2
  refine ⟨_, by exact T34.1.2.2.2.2.1, ?_⟩ -- d43: jfn N34 626 b40 = (b43 : Int)
  refine ⟨by exact T34.2.2.1.2.2.2.1.1.1, ?_⟩ -- s4: jtg N34 b43 = 20
  refine ⟨_, sJ2_size T34.2.2.1.2.2.2.1, ?_⟩ -- call wqJ2_size b43 N34 F32 A33 P46
  intro z48 p46
  refine ⟨_, sX16_init o34 (by omega), ?_⟩ -- call wqX16_init b21 z31 z48 N34 F32 A33 P54
  intro N59 F57 A58 p54
  obtain ⟨i1, i2, i3⟩ := p54
  have R59 : rfr S o N F A N59 F57 A58 := by
    rw [i1, i2, i3]
    have r1 : rfr S o N F A (jpF (jpF N34 3902 b21 z31) 3903 b21 z48) F32 A33 := (R34.put (by omega)).put (by omega)
    have r2 : rfr S o N F A (jnew (jpF (jpF N34 3902 b21 z31) 3903 b21 z48) 4 0 3 1) (nwF N34 F32) A33 := r1.add (A2 := A33) (by decide) (by decide) (fun _ _ => rfl)
    exact (((r2.add (A2 := nwA (jnew N34 4 0 3 1) 107 A33) (t := 107) (n := 12) (sl := 12) (ow := 1) (by decide) (by decide) (fun b hb => nwA_o hb)).put (by omega)).put (by omega) : rfr S o N F A (jpF (jpF (jnew (jnew (jpF (jpF N34 3902 b21 z31) 3903 b21 z48) 4 0 3 1) 107 12 12 1) 1202 (jnx N34) ((jnx N34 + 1 : Nat) : Int)) 5102 b21 (jnx N34 : Int)) (nwF (jnew N34 4 0 3 1) (nwF N34 F32)) (nwA (jnew N34 4 0 3 1) 107 A33))
  have x59 : jnx N59 = b21 + 5 := by rw [i1]; show jnx N34 + 1 + 1 = _; omega
  have y59 : jsu N59 = jsu N34 + 15 := by rw [i1]; show jsu N34 + 3 + 12 = _; omega
  have g1 : b21 ≠ jnx (jnew (jpF (jpF N34 3902 b21 z31) 3903 b21 z48) 4 0 3 1) := by show b21 ≠ jnx N34 + 1; omega
  have g2 : b21 ≠ jnx (jpF (jpF N34 3902 b21 z31) 3903 b21 z48) := by show b21 ≠ jnx N34; omega
  have t59 : ∀ a, a ≠ b21 + 3 → a ≠ b21 + 4 → jtg N59 a = jtg N34 a := fun a h1 h2 => by rw [i1, jpF_tg, jpF_tg, jnew_tgo (by show a ≠ jnx N34 + 1; omega), jnew_tgo (by show a ≠ jnx N34; omega)]; rfl
  have l59 : ∀ a, a ≠ b21 + 3 → a ≠ b21 + 4 → jln N59 a = jln N34 a := fun a h1 h2 => by rw [i1, jpF_ln, jpF_ln, jnew_lno (by show a ≠ jnx N34 + 1; omega), jnew_lno (by show a ≠ jnx N34; omega)]; rfl
  have j59 : ∀ a f, a ≠ b21 + 3 → a ≠ b21 + 4 → a ≠ b21 → jfn N59 f a = jfn N34 f a := fun a f h1 h2 hb => by rw [i1, jpF_a hb, jpF_a (by omega), jnew_fno (by show a ≠ jnx N34 + 1; omega), jnew_fno (by show a ≠ jnx N34; omega), jpF_a hb, jpF_a hb]
  have b59 : jtg N59 b21 = 17 ∧ jfn N59 0 b21 = 1 ∧ jfn N59 3903 b21 = W 3 0 0 ∧ jfn N59 3902 b21 = z31 ∧ jfn N59 5102 b21 = ((b21 + 3 : Nat) : Int) := by
    refine ⟨by rw [t59 _ (by omega) (by omega)]; exact t34, ?_, ?_, ?_, ?_⟩
    · rw [i1, jpF_f (by decide), jpF_f (by decide), jnew_fno g1, jnew_fno g2, jpF_f (by decide), jpF_f (by decide)]; exact o34
    · rw [i1, jpF_f (by decide), jpF_f (by decide), jnew_fno g1, jnew_fno g2, jpF_s]; exact p46
    · rw [i1, jpF_f (by decide), jpF_f (by decide), jnew_fno g1, jnew_fno g2, jpF_f (by decide), jpF_s]
    · rw [i1, jpF_s, x34]
  have e3 : b21 + 3 = jnx (jpF (jpF N34 3902 b21 z31) 3903 b21 z48) := by show b21 + 3 = jnx N34; omega
  have e4 : b21 + 3 + 1 = jnx (jnew (jpF (jpF N34 3902 b21 z31) 3903 b21 z48) 4 0 3 1) := by show b21 + 3 + 1 = jnx N34 + 1; omega
  have n34 : b21 + 3 ≠ jnx (jnew (jpF (jpF N34 3902 b21 z31) 3903 b21 z48) 4 0 3 1) := by show b21 + 3 ≠ jnx N34 + 1; omega
  have r59 : rowOk N59 (b21 + 3) := by
    refine ⟨?_, ?_, ?_, ?_, ?_, ?_⟩
    · rw [i1, jpF_tg, jpF_tg, jnew_tgo n34, e3, jnewTg]
    · rw [i1, jpF_f (by decide), jpF_f (by decide), jnew_fno n34, e3, jnew_f0]
    · rw [i1, jpF_f (by decide), show b21 + 3 = jnx N34 by omega, jpF_s]
    · rw [i1, jpF_tg, jpF_tg, e4, jnewTg]
    · rw [i1, jpF_f (by decide), jpF_f (by decide), e4, jnew_f0]
    · rw [i1, jpF_ln, jpF_ln, e4, jnewLn]
  have A59 : ∀ a, a ≠ b21 + 4 → A58 a = A33 a := fun a h2 => by rw [i3, nwA_o (by show a ≠ jnx N34 + 1; omega)]
  have F57e : ∀ f, F57 f o = F32 f o := fun f => by rw [i2, nwF_o (by show o ≠ jnx N34 + 1; omega), nwF_o (by omega)]
  have nb59 := R59.2.2.2.2 hnb
  have O59 := hO.go R59
  have U59 : rU F57 o q n (nx q n p) := U34.of F57e
  have s59 : strIs N59 A58 u z31 (tkC q n (tkAt q n p)) := by
    obtain ⟨b, v, m, y1, ⟨y2, y3, y4⟩, ⟨y5, y6, y7⟩, y8, y9, y10⟩ := s34
    have lb := nb34 b (by rw [y2]; decide)
    have lv := nb34 v (by rw [y5]; decide)
    have bb : b ≠ b21 := fun w => by rw [w, t34] at y2; omega
    refine ⟨b, v, m, y1, ⟨by rw [t59 _ (by omega) (by omega)]; exact y2, by rw [j59 _ _ (by omega) (by omega) bb]; exact y3, by rw [j59 _ _ (by omega) (by omega) bb]; exact y4⟩, ⟨by rw [t59 _ (by omega) (by omega)]; exact y5, by rw [l59 _ (by omega) (by omega)]; exact y6, y7⟩, y8, ?_, ?_⟩
    · rw [A59 _ (by omega)]; exact y9
    · rw [A59 _ (by omega)]; exact y10
  have K59 : (jnx N59 : Int) ≤ jnx N + 2 * (nx q n p - p) + 3 ∧ (jsu N59 : Int) ≤ jsu N + 10 * (nx q n p - p) + 19 := by unfold kB at k34; omega
  refine ⟨_, sX10_takes (c := nx q n p) O59 ⟨n1.2.2, Or.inl ⟨U59, rfl⟩⟩ ((O59.2.1.2.1.2.1 11 (by decide)).2) (fun w b N' F' A' y1 y2 y3 => by
    have nop : ¬ opW 1937075815 q n (nx q n p) := fun y => by have := y.1; omega
    have e : smT q n RR = (1, tkBad q n (tkAt q n (nx q n p))) := by
      have : lwH W q n p = (1, tkBad q n (tkAt q n (nx q n p))) := by unfold lwH; rw [fb_ok f0', (opW_no nop).1]; exact asF_bad w
      rw [hT, this, fb_no ne10, fb_no ne10]
    rw [e] at hX
    exact hX ne10 b N' F' A' y1 (R59.trans y2) (by unfold xB at y3; omega)), ?_⟩ -- call wqX10_takes S o (S 12 : Int) N59 F57 A58 P65 X
  intro z67 N70 F68 A69 p65
  obtain ⟨tk, r70, k70⟩ := p65
  have R70 := R59.trans r70
  have X70 := r70.1
  have lt59 := X70.1
  have t70 : jtg N70 b21 = 17 := by rw [(X70.2 b21 (by omega)).1]; exact b59.1
  intro F78 e78
  have R78 : rfr S o N F A N70 F78 A69 := by rw [e78]; exact R70.upF (by omega) (by rw [t70]; decide)
  have O78 := hO.go R78
  have nb70 := R78.2.2.2.2 hnb
  have zz : z67 = opV 1937075815 q n (nx q n p) ∧ rA N70 F78 A69 o q n (opP 1937075815 q n (nx q n p)) (nx q n (nx q n p)) := by
    rcases tk with ⟨w1, w2, w3, w4⟩ | ⟨w1, w2, w3⟩
    · have yes : opW 1937075815 q n (nx q n p) := ⟨w4, w2⟩
      rw [(opW_yes yes).1, (opW_yes yes).2]
      exact ⟨w1, nn.2.2, Or.inl ⟨(show rU F68 o q n (nx q n (nx q n p)) from w3).of (fun f => by rw [e78, upF_a (Ne.symm bo)]), rfl⟩⟩
    · by_cases bb : tkBad q n (tkAt q n (nx q n p)) = -1
      · have nop : ¬ opW 1937075815 q n (nx q n p) := fun y => w2 y.2
        rw [(opW_no nop).1, (opW_no nop).2]
        exact ⟨w1, n1.2.2, Or.inr ⟨w3.ex nb70 (nex.refl _) (fun _ _ => rfl) (fun f => by rw [e78, upF_a (Ne.symm bo)]), rfl⟩⟩
      · exact absurd w3.2.2.1 bb
  have k70 : kB N59 N70 (nx q n p) (nx q n (nx q n p)) := k70
  have g78 : F78 5103 b21 = opV 1937075815 q n (nx q n p) := by rw [e78, upF_s]; exact zz.1
  refine ⟨_, sX10_asks (c := nx q n (nx q n p)) O78 zz.2 ((O78.2.1.2.1.2.1 12 (by decide)).2) (fun w b N' F' A' y1 y2 y3 => by
    have w : (asW 1935767923 q n (opP 1937075815 q n (nx q n p))).1 ≠ 0 := w
    have e : smT q n RR = asW 1935767923 q n (opP 1937075815 q n (nx q n p)) := by
      have : lwH W q n p = asW 1935767923 q n (opP 1937075815 q n (nx q n p)) := by unfold lwH; rw [fb_ok f0']
      rw [hT, this, fb_no w, fb_no w]
    rw [e] at hX
    exact hX w b N' F' A' y1 (R78.trans y2) (by unfold xB at y3; unfold kB at k70; omega)), ?_⟩ -- call wqX10_asks S o (S 13 : Int) N70 F78 A69 P80 X
  intro N85 F83 A84 p80
  obtain ⟨f2, U85, r85, k85⟩ := p80
  have f2 : asW 1935767923 q n (opP 1937075815 q n (nx q n p)) = (0, 0) := f2
  have U85 : rU F83 o q n (nx q n (opP 1937075815 q n (nx q n p))) := U85
  have k85 : kB N70 N85 (nx q n (nx q n p)) (nx q n (opP 1937075815 q n (nx q n p))) := k85
  have h0 : (lwH W q n p).1 = 0 := by unfold lwH; rw [fb_ok f0', f2]
  have R85 := R78.trans r85
  have O85 := hO.go R85
  have T85 := t.go R85 tOo hnb
  have nb85 := R85.2.2.2.2 hnb
  have X85 := X70.trans r85.1
  have lt70 := r85.1.1
  have B85 : ∀ a, a < jnx N59 → jtg N85 a = jtg N59 a ∧ jln N85 a = jln N59 a ∧ ∀ f, jfn N85 f a = jfn N59 f a := X85.2
  have r85k : rowOk N85 (b21 + 3) := by
    obtain ⟨y1, y2, y3, y4, y5, y6⟩ := r59
    exact ⟨by rw [(B85 _ (by omega)).1]; exact y1, by rw [(B85 _ (by omega)).2.2]; exact y2, by rw [(B85 _ (by omega)).2.2]; exact y3, by rw [(B85 _ (by omega)).1]; exact y4, by rw [(B85 _ (by omega)).2.2]; exact y5, by rw [(B85 _ (by omega)).2.1]; exact y6⟩
  have hT2 : smT q n RR = fb (lwR W q n p).1 (asS 59 q n (lwR W q n p).2.2.1) := by rw [hT, fb_ok h0]
  have jr : jfn N85 5102 b21 = ((b21 + 3 : Nat) : Int) := by rw [(B85 _ (by omega)).2.2]; exact b59.2.2.2.2
  refine ⟨_, sX10_row O85 U85 T85.src jr r85k (fun w b N' F' A' y1 y2 y3 => by
    have w : (lwR W q n p).1.1 ≠ 0 := w
    have e : smT q n RR = (lwR W q n p).1 := by rw [hT2, fb_no w]
    rw [e] at hX
    exact hX w b N' F' A' y1 (R85.z y2 (by omega)) (by unfold xW at y3; unfold kB at k85 k70; omega)) (fun w w2 b N' F' A' y1 y2 y3 => by
    have w : (lwR W q n p).1.1 = 0 := w
    have w2 : 0 ≤ tkBad q n (tkAt q n (lwR W q n p).2.2.1) := w2
    have e : smT q n RR = (1, tkBad q n (tkAt q n (lwR W q n p).2.2.1)) := by rw [hT2, fb_ok w]; exact asF_bad w2
    rw [e] at hX
    exact hX ne10 b N' F' A' y1 (R85.z y2 (by omega)) (by unfold xW at y3; unfold kB at k85 k70; omega)), ?_⟩ -- call wqX10_row S o (jfn N85 5102 b21) N85 F83 A84 P92 X
  intro z94 N97 F95 A96 p92
  obtain ⟨w0, rw97, z97, c', cr, ra97, k97⟩ := p92
  have w0 : (lwR W q n p).1.1 = 0 := w0
  have rw97 : rowIs N97 F95 A96 wA (b21 + 3) (roW (lwR W q n p)) := rw97
  have ra97 : rA N97 F95 A96 o q n (lwR W q n p).2.2.1 c' := ra97
  have R97 := R85.z z97 (by omega)
  have O97 := hO.go R97
  have T97 := t.go R97 tOo hnb
  have nb97 := R97.2.2.2.2 hnb
  have X97 := X85.trans z97.1
  have lt85 := z97.1.1
  have B97 : ∀ a, a < jnx N59 → jtg N97 a = jtg N59 a ∧ jln N97 a = jln N59 a ∧ ∀ f, jfn N97 f a = jfn N59 f a := X97.2
  have g97 := R97.2.2.2.1 M g
  have t97 : jtg N97 b21 = 17 := by rw [(B97 _ (by omega)).1]; exact b59.1
  have s97 : F95 5103 b21 = opV 1937075815 q n (nx q n p) := by rw [z97.2.1 b21 (by omega) bo (by omega), r85.2.1 b21 (by omega) bo]; exact g78
  refine ⟨_, by exact O97.1.2.2.2.2, ?_⟩ -- d103: jfn N97 3305 o = (b103 : Int)
  refine ⟨by exact T97.1.1.1, ?_⟩ -- s5: jtg N97 b103 = 2
  refine ⟨_, by exact T97.1.2.2.2.2.1, ?_⟩ -- d106: jfn N97 626 b103 = (b106 : Int)
  refine ⟨by exact T97.2.2.1.2.2.2.1.1.1, ?_⟩ -- s6: jtg N97 b106 = 20
  refine ⟨_, sJ2_add T97.2.2.1.2.2.2.1 g97 (by omega) (by have := ht.2.2.2.1; omega) (jast_obj rfl t97 rfl jcob_17), ?_⟩ -- call wqJ2_add S b106 (b21 : Int) N97 F95 A96 P109
  intro z111 N114 F112 A113 p109
  obtain ⟨l1, lp⟩ := p109
  have hx97 : h + 6 < jnx N97 := by have := R97.1.1; omega
  have ls := R97.lists (lo := lo) tOo hnb t.2.2.1
  obtain ⟨a1, a2, a3, a4, a5, a6⟩ := lop.all (j := 4) (lo := lo) lp g97 (by decide) T97.2.2.1 hlo.2.1 hx97 (ls.2 hL)
  have u1 := a2 1 _ _ (by omega) T97.2.2.1.1
  have u2 := a2 2 _ _ (by omega) T97.2.2.1.2.1
  have u3 := a2 3 _ _ (by omega) T97.2.2.1.2.2.1
  have u5 := a2 5 _ _ (by omega) T97.2.2.1.2.2.2.2.1
  have u6 := a2 6 _ _ (by omega) T97.2.2.1.2.2.2.2.2
  have O114 := O97.ug a1 lp.1.1
  have T114 := T97.1.ex nb97 lp.2.1
  have lt97 := lp.2.1.1
  have g114 : gi S (M + 1) N114 F112 := lp.1
  have t114 : jtg N114 b21 = 17 := by rw [(lp.2.1.2 b21 (by omega)).1]; exact t97
  refine ⟨_, by exact O114.1.2.2.2.2, ?_⟩ -- d120: jfn N114 3305 o = (b120 : Int)
  refine ⟨by exact T114.1.1, ?_⟩ -- s7: jtg N114 b120 = 2
  refine ⟨_, by exact T114.2.2.2.2.2.1, ?_⟩ -- d123: jfn N114 629 b120 = (b123 : Int)
  refine ⟨by exact u5.1.1, ?_⟩ -- s8: jtg N114 b123 = 20
  refine ⟨_, sJ2_add u5 g114 (by omega) (by have := ht.2.2.2.1; omega) (jast_obj rfl t114 rfl jcob_17), ?_⟩ -- call wqJ2_add S b123 (b21 : Int) N114 F112 A113 P126
  intro z128 N131 F129 A130 p126
  -- l1: Q N131 F129 A130
  obtain ⟨m1, mp⟩ := p126
  have hx114 : h + 6 < jnx N114 := by omega
  obtain ⟨b1, b2, b3, b4, b5, b6⟩ := lop.all5 (j := 5) (lo := lo) mp g114 (by decide) (fun i i0 i1 => by
    have e : i = 1 ∨ i = 2 ∨ i = 3 ∨ i = 4 ∨ i = 5 := by omega
    rcases e with e | e | e | e | e <;> subst e
    · exact ⟨_, _, u1⟩
    · exact ⟨_, _, u2⟩
    · exact ⟨_, _, u3⟩
    · exact ⟨_, _, l1⟩
    · exact ⟨_, _, u5⟩) hlo.2.1 hx114 a3
  have e0 : ∀ i j, lwW W q n p 3 i j = W 3 0 0 + 1 := fun _ _ => rfl
  have e1 : ∀ (k : Nat) (i j : Int), k ≠ 3 → k ≠ 22 → lwW W q n p k i j = W k i j := fun k i j k0 k1 => by
    unfold lwW
    rw [if_neg k0, if_neg (fun w => k1 w.2)]
  have e2 : ∀ (k : Nat) (i j : Int), k ≠ 3 → i ≠ W 3 0 0 → lwW W q n p k i j = W k i j := fun k i j k0 i0 => by
    unfold lwW
    rw [if_neg k0, if_neg (fun w => i0 w.1)]
  have eL : ∀ (k : Nat) (i j : Int), i ≠ W 3 0 0 → lwL W L q n p k i j = L k i j := fun k i j i0 => by simp [lwL, i0]
  have s97' : strIs N97 A96 u (jfn N97 3902 b21) (lwW W q n p 22 (W 3 0 0) 0) := by
    rw [(B97 b21 (by omega)).2.2, b59.2.2.2.1]
    have : lwW W q n p 22 (W 3 0 0) 0 = tkC q n (tkAt q n p) := by simp [lwW]
    rw [this]
    exact s59.kv nb59 X97 (fun a ha => by
      have la := nb59 a (by omega)
      rw [z97.2.2.1 a (by omega) (fun w => by rw [w, r59.2.2.2.1] at ha; omega), r85.2.2.1 a (by omega), r70.2.2.1 a (by omega)]) (Or.inl rfl)
  have rL : sRw (lwL W L q n p) (W 3 0 0) = roW (lwR W q n p) := by simp [sRw, roW, lwL]
  have lw97 : lawOk N97 (W 3 0 0) b21 ∧ F95 5103 b21 = lwL W L q n p 4 (W 3 0 0) 0 ∧ rowIs N97 F95 A96 wA (b21 + 3) (sRw (lwL W L q n p) (W 3 0 0)) := by
    refine ⟨⟨t97, by rw [(B97 _ (by omega)).2.2]; exact b59.2.1, by rw [(B97 _ (by omega)).2.2]; exact b59.2.2.1, by rw [(B97 _ (by omega)).2.2]; exact b59.2.2.2.2, rw97.1⟩, ?_, by rw [rL]; exact rw97⟩
    rw [s97]
    simp [lwL]
  have ob : tOb u N97 F95 A96 (lwW W q n p) (lwL W L q n p) wA sA cA (upI lA (W 3 0 0) (b21 : Int)) := T97.2.2.2.law (e0 0 0) e1 e2 eL lw97 s97'
  have ab := a1.trans b1
  have hf := (ab.at nb97 T97.1.1.1 (by decide)).1
  have ol : ∀ j : Nat, jtg N97 (h + j) = 20 → o ≠ h + j := fun j hj w => by rw [← w, O97.1.1] at hj; omega
  have ol2 : ∀ j : Nat, jtg N114 (h + j) = 20 → o ≠ h + j := fun j hj w => by rw [← w, O114.1.1] at hj; omega
  have hlo2 : ∀ f, F129 f o = F95 f o := fun f => (mp.2.2.1 o (by have := R97.1.1; omega) (ol2 5 u5.1.1) f).trans (lp.2.2.1 o (by have := R97.1.1; omega) (ol 4 T97.2.2.1.2.2.2.1.1.1) f)
  obtain ⟨t1, t2, t3, t4⟩ := T97
  subst hRR
  refine ⟨?_, ⟨wA, sA, cA, upI lA (W 3 0 0) (b21 : Int), ⟨T114.ex g114.1 mp.2.1, ?_, ⟨?_, ?_, ?_, ?_, ?_, ?_⟩, ob.ug nb97 ab⟩, hC.of (e1 2 0 0 (by decide) (by decide))⟩, O114.ug b1 mp.1.1, mp.1.mono (by omega) (by omega), b3, (R97.lf hlo.1 hlo.2.2).trans (a4.trans b4), c', ?_, ?_, ?_, ?_⟩
  · show (fb (lwH W q n p) (lwR W q n p).1).1 = 0
    rw [fb_ok h0]
    exact w0
  · exact (show tFl F129 h (lwW W q n p) k from by
      unfold tFl at *
      rw [hf, hf, hf, hf, hf, e1 4 _ _ (by decide) (by decide), e1 5 _ _ (by decide) (by decide), e1 6 _ _ (by decide) (by decide)]
      exact t2)
  · exact (show jli N131 F129 A130 (h + 1) (lwW W q n p 0 0 0) wA from by rw [e1 0 _ _ (by decide) (by decide)]; exact b2 1 _ _ (by omega) u1)
  · exact (show jli N131 F129 A130 (h + 2) (lwW W q n p 1 0 0) sA from by rw [e1 1 _ _ (by decide) (by decide)]; exact b2 2 _ _ (by omega) u2)
  · exact (show jli N131 F129 A130 (h + 3) (lwW W q n p 2 0 0) cA from by rw [e1 2 _ _ (by decide) (by decide)]; exact b2 3 _ _ (by omega) u3)
  · exact (show jli N131 F129 A130 (h + 4) (lwW W q n p 3 0 0) (upI lA (W 3 0 0) (b21 : Int)) from b2 4 _ _ (by omega) l1)
  · exact (show jli N131 F129 A130 (h + 5) (lwW W q n p 3 0 0) (upI lA (W 3 0 0) (b21 : Int)) from m1)
  · exact b2 6 _ _ (by omega) u6
  · exact (show rA N131 F129 A130 o q n (lwR W q n p).2.2.1 c' from ra97.ug nb97 ab hlo2)
  · omega
  · unfold kW at k97
    unfold kB at k70 k85
    have := ls.1
    omega
  · unfold kW at k97
    unfold kB at k70 k85
    have := ls.1
    omega

