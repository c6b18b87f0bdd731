set_option maxRecDepth 100000
set_option linter.unusedVariables false
/-! the component's reader: children; printed by gen/prove.py out of spec/b3.ct4.spec -/
section
variable {u : Int} {N : jSh} {F : jFl} {A : jAr} {W W' L L' : sTb} {wA sA cA lA : Int → Int}
/-- one child more -/
theorem tOb.child {b : Nat} (t : tOb u N F A W L wA sA cA lA) (ht : tOk W L) (e0 : W' 2 0 0 = W 2 0 0 + 1) (e1 : ∀ (k : Nat) (i j : Int), k ≠ 2 → (k < 18 ∨ 21 < k) → W' k i j = W k i j) (e2 : ∀ (k : Nat) (i j : Int), k ≠ 2 → i ≠ W 2 0 0 → W' k i j = W k i j) (hb : chR N F A W' sA (W 2 0 0) b) (hs : strIs N A u (jfn N 3902 b) (W' 18 (W 2 0 0) 0)) : tOb u N F A W' L wA sA (upI cA (W 2 0 0) (b : Int)) lA := by
  obtain ⟨h1, h2, h3, h4, ⟨n1, n2, n3, n4⟩, h6⟩ := t
  refine ⟨fun i i0 i1 => ?_, fun s s0 s1 => ?_, fun c c0 c1 => ?_, fun l l0 l1 => ?_, ⟨fun i i0 i1 => ?_, fun i i0 i1 => ?_, fun s s0 s1 => ?_, fun i i0 i1 => ?_⟩, h6⟩
  · rw [e1 0 _ _ (by decide) (by decide)] at i1
    rw [e1 11 _ _ (by decide) (by decide), e1 12 _ _ (by decide) (by decide), e1 13 _ _ (by decide) (by decide), e1 14 _ _ (by decide) (by decide), e1 15 _ _ (by decide) (by decide)]
    exact h1 i i0 i1
  · rw [e1 1 _ _ (by decide) (by decide)] at s1
    obtain ⟨b', y1, y2, y3⟩ := h2 s s0 s1
    refine ⟨b', y1, y2, fun v v0 v1 => ?_⟩
    have e17 : w24 W' 17 s v = w24 W 17 s v := e1 17 s v (by decide) (by decide)
    rw [e17]
    exact y3 v v0 v1
  · by_cases w : c = W 2 0 0
    · rw [w, upI_s]
      exact ⟨b, rfl, hb⟩
    · rw [upI_n w]
      obtain ⟨b', y1, y2, y3, y4, y5, y6⟩ := h3 c c0 (by omega)
      have e21 : ∀ v, W' 21 c v = W 21 c v := fun v => e2 _ _ _ (by decide) w
      exact ⟨b', y1, y2, by rw [e2 19 _ _ (by decide) w]; exact y3, by rw [e2 20 _ _ (by decide) w]; exact y4, by rw [y5]; exact (sKnown_congr rfl (fun v => (e21 v).symm)), fun v v0 v1 => by rw [e21]; exact y6 v v0 v1⟩
  · rw [e1 3 _ _ (by decide) (by decide)] at l1
    exact h4 l l0 l1
  · rw [e1 0 _ _ (by decide) (by decide)] at i1
    rw [e1 10 _ _ (by decide) (by decide)]
    exact n1 i i0 i1
  · rw [e1 1 _ _ (by decide) (by decide)] at i1
    rw [e1 16 _ _ (by decide) (by decide)]
    exact n2 i i0 i1
  · by_cases w : s = W 2 0 0
    · rw [w, upI_s]
      exact ⟨b, rfl, hb.1.1, hs⟩
    · rw [upI_n w, e2 _ _ _ (by decide) w]
      exact n3 s s0 (by omega)
  · rw [e1 3 _ _ (by decide) (by decide)] at i1
    rw [e1 22 _ _ (by decide) (by decide)]
    exact n4 i i0 i1
end
/-- how many are known -/
def cntG (G : Int → Int) (m : Nat) : Int := it (fun w n => if G w = 1 then n + 1 else n) 0 m
theorem cntG_up {G : Int → Int} {v : Int} (hv : G v ≠ 1) : ∀ m : Nat, (0 ≤ v → v < m → cntG (upv G v 1) m = cntG G m + 1) ∧ ((m : Int) ≤ v → cntG (upv G v 1) m = cntG G m)
  | 0 => ⟨fun h h2 => by omega, fun _ => rfl⟩
  | m + 1 => by
    have ih := cntG_up hv m
    have e1 : cntG (upv G v 1) (m + 1) = (if upv G v 1 m = 1 then cntG (upv G v 1) m + 1 else cntG (upv G v 1) m) := rfl
    have e2 : cntG G (m + 1) = (if G m = 1 then cntG G m + 1 else cntG G m) := rfl
    refine ⟨fun h h2 => ?_, fun h => ?_⟩
    · rw [e1, e2]
      by_cases w : (m : Int) = v
      · rw [w, upv_s, if_pos rfl, if_neg hv, ih.2 (by omega)]
      · rw [upv_n w, ih.1 h (by omega)]
        split <;> omega
    · rw [e1, e2, upv_n (by omega), ih.2 (by omega)]
theorem cntG_range {G : Int → Int} (m : Nat) : 0 ≤ cntG G m ∧ cntG G m ≤ m := by
  have e := it_inv (f := fun w (n : Int) => if G w = 1 then n + 1 else n) (a := (0 : Int)) (n := m) (fun k n => 0 ≤ n ∧ n ≤ k) ⟨by decide, by decide⟩ (fun k k0 k1 n hn => by split <;> omega)
  exact e
theorem chF_k {e : Int → Int} {m : Int} {q : Int → Int} {n : Int} {p : Int} {g : Int → Int} (k : (knF e m q n (tkAt q n p)).1 ≠ 0) : chF e m q n p g = knF e m q n (tkAt q n p) := by
  unfold chF
  rw [fb_no k]
theorem chF_3 {e : Int → Int} {m : Int} {q : Int → Int} {n : Int} {p : Int} {g : Int → Int} (k : (knF e m q n (tkAt q n p)).1 = 0) (gv : g (knV e m q n (tkAt q n p)) = 1) : chF e m q n p g = (3, tkAt q n p) := by
  unfold chF
  rw [fb_ok k, if_pos gv]
theorem chF_ok {e : Int → Int} {m : Int} {q : Int → Int} {n : Int} {p : Int} {g : Int → Int} (k : (knF e m q n (tkAt q n p)).1 = 0) (gv : g (knV e m q n (tkAt q n p)) ≠ 1) : chF e m q n p g = (0, 0) := by
  unfold chF
  rw [fb_ok k, if_neg gv]
theorem sX12_init_16 {o : Nat} {a1 : Int} {a2 : Int} {N : jSh} {F : jFl} {A : jAr} (ho : jfn N 0 o = 1) : wqX12_init_16 o a1 a2 N F A (fun N' F' A' => N' = jpF (jpF N 3902 o a1) 3903 o a2 ∧ F' = F ∧ A' = A) := by
  unfold wqX12_init_16
  refine ⟨by exact ho, ?_⟩ -- s1: jfn N 0 o = 1
  intro N3 e3
  intro N8 e8
  -- l1: Q N8 F A
  exact ⟨by rw [e8, e3], rfl, rfl⟩

theorem sX15_init {o : Nat} {a1 : Int} {a2 : Int} {a3 : Int} {N : jSh} {F : jFl} {A : jAr} (ho : jfn N 0 o = 1) (hx : o < jnx N) : wqX15_init o a1 a2 a3 N F A (fun N' F' A' => N' = jpF (jpF (jnew (jpF (jnew (jpF (jpF N 3902 o a1) 3903 o a2) 105 24 24 1) 4811 o (jnx N : Int)) 107 24 24 1) 4814 o ((jnx N + 1 : Nat) : Int)) 4802 o a3 ∧ F' = nwF (jnew N 105 24 24 1) (nwF N F) ∧ A' = nwA (jnew N 105 24 24 1) 107 (nwA N 105 A)) := by
  unfold wqX15_init
  refine ⟨_, sX12_init_16 ho, ?_⟩ -- call wqX12_init_16 o a1 a2 N F A P1
  intro N6 F4 A5 p1
  obtain ⟨i1, i2, i3⟩ := p1
  intro b11 N12 F13 A14 e11 e12 e13 e14
  refine ⟨by (rw [e12, i1, jnew_fno (by show o ≠ jnx N; omega), jpF_f (by decide), jpF_f (by decide)]; exact ho), ?_⟩ -- s1: jfn N12 0 o = 1
  intro N22 e22
  intro b24 N25 F26 A27 e24 e25 e26 e27
  intro N35 e35
  intro N40 e40
  -- l1: Q N40 F26 A27
  exact ⟨by rw [e40, e35, e25, e24, e22, e12, e11, i1]; rfl, by rw [e26, e13, e22, e12, i1, i2]; rfl, by rw [e27, e14, e22, e12, i1, i3]; rfl⟩

set_option maxHeartbeats 8000000 in
theorem sX10_child {S : Nat → Nat} {o : Nat} {a1 : Int} {N : jSh} {F : jFl} {A : jAr} {u M k p : Int} {x h lo : Nat} {n : Int} {q : Int → Int} {W L : sTb} {wA sA cA lA : Int → Int} (hO : rdO S u N A o x h n q) (hU : rU F o q n p) (t : tRd u N F A h W L wA sA cA lA k) (ht : tOk W L) (g : gi S M N F) (hM : M ≤ 900000000) (hlo : lo ≤ o ∧ lo ≤ h ∧ lo ≤ jnx N) (hL : lLo lo N F h) (hC : loC lo W cA) {a : Int} (ha : a1 = a) {RR : smR} (hRR : RR = (if W 2 0 0 = 10 then ((5, a), a, W, L) else (fb (chH W q n p) (chA W q n p).1, (chA W q n p).2.1, chW W q n p, L))) {X : Nat → jSh → jFl → jAr → Prop} (hX : (smT q n RR).1 ≠ 0 → stX S n o N F A p (smT q n RR) X) : wqX10_child S o a1 N F A (fun N' F' A' => stP S u lo (M + 2) N F A o x h n q RR k p 3 55 N' F' A') (X) := by
  unfold wqX10_child
  have hnb := hO.2.1.1
  have tOo := hO.1.1
  have hp := hU.2.2.1
  have hoo := hO.2.1.2.1.1
  have hox := hnb o (by rw [tOo]; decide)
  have hhx : h + 6 < jnx N := hnb (h + 6) (by rw [t.2.2.1.2.2.2.2.2.1.1]; decide)
  have n1 := nxk_range (q := q) hp 1
  have n2 := nxk_range (q := q) hp 2
  have n3 := nxk_range (q := q) hp 3
  have n4 := nxk_range (q := q) hp 4
  have n5 := nxk_range (q := q) hp 5
  refine ⟨_, by exact hO.1.2.2.2.2, ?_⟩ -- d1: jfn N 3305 o = (b1 : Int)
  refine ⟨by exact t.1.1.1, ?_⟩ -- s1: jtg N b1 = 2
  refine ⟨_, by exact t.1.2.2.2.1, ?_⟩ -- d4: jfn N 623 b1 = (b4 : Int)
  refine ⟨by exact t.2.2.1.2.2.1.1.1, ?_⟩ -- s2: jtg N b4 = 20
  refine ⟨_, sJ2_size t.2.2.1.2.2.1, ?_⟩ -- call wqJ2_size b4 N F A P7
  intro z9 p7
  refine ⟨_, sX10_space (S := S) hnb (fun w b N' F' A' y1 y2 y3 y4 => by
    have full : W 2 0 0 = 10 := by omega
    rw [if_pos full] at hRR
    have e : smT q n RR = (5, a) := by rw [hRR]; exact fb_no (by show (5 : Int) ≠ 0; decide)
    rw [e] at hX
    rw [ha] at y1
    exact hX (by show (5 : Int) ≠ 0; decide) b N' F' A' y1 y2 (by omega)), ?_⟩ -- call wqX10_space o z9 10 a1 N F A P14 X
  intro p14
  have ns : W 2 0 0 ≠ 10 := fun w => p14 (by rw [p7]; exact w)
  rw [if_neg ns] at hRR
  have hT : smT q n RR = fb (fb (chH W q n p) (chA W q n p).1) (asS 59 q n (chA W q n p).2.1) := by rw [hRR]; rfl
  refine ⟨_, sX10_newName (c := p) hO ⟨hp, Or.inl ⟨hU, rfl⟩⟩ t (fun w b N' F' A' y1 y2 y3 => by
    have e : smT q n RR = frF W q n p := by rw [hT]; unfold chH; simp only [fb_no w]
    rw [e] at hX
    exact hX w b N' F' A' y1 y2 (by unfold xB at y3; omega)), ?_⟩ -- call wqX10_newName S o N F A P21 X
  intro z23 N26 F24 A25 p21
  obtain ⟨f0, s26, U26, R26, k26, -⟩ := p21
  have O26 := hO.go R26
  have K26 : kB N N26 p (nxk q n p 1) := k26
  refine ⟨_, sX10_asks (c := nxk q n p 1) O26 ⟨n1, Or.inl ⟨U26, rfl⟩⟩ ((O26.2.1.2.1.2.1 8 (by decide)).2) (fun w b N' F' A' y1 y2 y3 => by
    have w : (asW 28518 q n (nxk q n p 1)).1 ≠ 0 := w
    have f0' : (frF W q n p).1 = 0 := by rw [f0]
    have e : smT q n RR = asW 28518 q n (nxk q n p 1) := by rw [hT]; unfold chH; simp only [fb_ok f0', fb_no w]
    rw [e] at hX
    exact hX w b N' F' A' y1 (R26.trans y2) (by unfold xB at y3; unfold kB at K26; omega)), ?_⟩ -- call wqX10_asks S o (S 9 : Int) N26 F24 A25 P32 X
  intro N37 F35 A36 p32
  obtain ⟨f1, U37, r37, k37⟩ := p32
  have f1 : asW 28518 q n (nxk q n p 1) = (0, 0) := f1
  have R37 := R26.trans r37
  have K37 : kB N N37 p (nxk q n p 2) := K26.trans k37
  have nb37 := R37.2.2.2.2 hnb
  intro b42 N43 F44 e42 e43 e44
  have R43 : rfr S o N F A N43 F44 A36 := by rw [e43, e44]; exact R37.add (by decide) (by decide) (fun _ _ => rfl)
  have O43 := hO.go R43
  have T43 := t.go R43 tOo hnb
  have x43 : jnx N43 = b42 + 1 := by rw [e43, jnewNx]; omega
  have lt37 := R37.1.1
  have y43 : jsu N43 = jsu N37 + 7 := by rw [e43, jnewSu]
  have t43 : jtg N43 b42 = 16 := by rw [e43, e42, jnewTg]
  have o43 : jfn N43 0 b42 = 1 := by rw [e43, e42, jnew_f0]
  have bo : b42 ≠ o := by omega
  have F43o : ∀ f, F44 f o = F35 f o := fun f => by rw [e44, nwF_o (by omega)]
  have U43 : rU F44 o q n (nxk q n p 2) := (show rU F35 o q n (nxk q n p 2) from U37).of F43o
  have z43 : F44 4806 b42 = 0 := by rw [e44, e42]; exact nwF_s _ _ _
  refine ⟨_, by exact O43.1.2.2.2.2, ?_⟩ -- d50: jfn N43 3305 o = (b50 : Int)
  refine ⟨by exact T43.1.1.1, ?_⟩ -- s3: jtg N43 b50 = 2
  refine ⟨_, by exact T43.1.2.2.2.1, ?_⟩ -- d53: jfn N43 623 b50 = (b53 : Int)
  refine ⟨by exact T43.2.2.1.2.2.1.1.1, ?_⟩ -- s4: jtg N43 b53 = 20
  refine ⟨_, sJ2_size T43.2.2.1.2.2.1, ?_⟩ -- call wqJ2_size b53 N43 F44 A36 P56
  intro z58 p56
  have h2o : h + 2 ≠ o := fun w => by have := T43.2.2.1.2.1.1.1; rw [w, O43.1.1] at this; omega
  have f0' : (frF W q n p).1 = 0 := by rw [f0]
  have f1' : (asW 28518 q n (nxk q n p 1)).1 = 0 := by rw [f1]
  refine ⟨_, sX10_known (c := nxk q n p 2) (m := W 1 0 0) (e := sA) (nm := fun i => W 16 i 0) (k := 15) O43 ⟨n2, Or.inl ⟨U43, rfl⟩⟩ T43.1.2.2.1 T43.2.2.1.2.1 h2o (Or.inr (Or.inl rfl)) T43.2.2.2.2.2.2.2.1.2.1 (fun w b N' F' A' y1 y2 y3 => by
    have e : smT q n RR = knF (fun i => W 16 i 0) (W 1 0 0) q n (tkAt q n (nxk q n p 2)) := by rw [hT]; unfold chH; simp only [fb_ok f0', fb_ok f1', fb_no w]
    rw [e] at hX
    exact hX w b N' F' A' y1 (R43.trans y2) (by unfold xB at y3; unfold kB at K37; omega)), ?_⟩ -- call wqX10_known S o (jfn N43 620 b50) N43 F44 A36 P63 X
  intro z65 N68 F66 A67 p63
  obtain ⟨f2, zs, U68, r68, k68, m68, -⟩ := p63
  obtain ⟨m1, m2⟩ := m68 rfl
  have f2' : (knF (fun i => W 16 i 0) (W 1 0 0) q n (tkAt q n (nxk q n p 2))).1 = 0 := by rw [f2]
  have kvs := (knV_ok (q := q) (e := fun i => W 16 i 0) n2 ht.2.1.1 f2').2.2.2.1
  have R68 := R43.trans r68
  have T68 := t.go R68 tOo hnb
  have nb68 := R68.2.2.2.2 hnb
  have t68 : jtg N68 b42 = 16 := by rw [(r68.1.2 b42 (by omega)).1]; exact t43
  have o68 : jfn N68 0 b42 = 1 := by rw [(r68.1.2 b42 (by omega)).2.2]; exact o43
  have x68 : jnx N68 = b42 + 3 := by omega
  obtain ⟨bs, bs1, bs2, -⟩ := T68.2.2.2.2.1 _ kvs.1 kvs.2
  refine ⟨by exact jcst_at (zs.trans bs1) bs2.1 rfl rfl, ?_⟩ -- s5: jcst N68 "ChildSays$Street" z65
  refine ⟨_, sX15_init o68 (by omega), ?_⟩ -- call wqX15_init b42 z23 z58 z65 N68 F66 A67 P75
  intro N80 F78 A79 p75
  obtain ⟨i1, i2, i3⟩ := p75
  have R80 : rfr S o N F A N80 F78 A79 := by
    rw [i1, i2, i3]
    have r1 : rfr S o N F A (jpF (jpF N68 3902 b42 z23) 3903 b42 z58) F66 A67 := (R68.put (by omega)).put (by omega)
    have r2 : rfr S o N F A (jpF (jnew (jpF (jpF N68 3902 b42 z23) 3903 b42 z58) 105 24 24 1) 4811 b42 (jnx N68 : Int)) (nwF N68 F66) (nwA N68 105 A67) := (r1.add (A2 := nwA N68 105 A67) (by decide) (by decide) (fun b hb => nwA_o hb)).put (by omega)
    exact (((r2.add (A2 := nwA (jnew N68 105 24 24 1) 107 (nwA N68 105 A67)) (t := 107) (n := 24) (sl := 24) (ow := 1) (by decide) (by decide) (fun b hb => nwA_o hb)).put (by omega)).put (by omega) : rfr S o N F A (jpF (jpF (jnew (jpF (jnew (jpF (jpF N68 3902 b42 z23) 3903 b42 z58) 105 24 24 1) 4811 b42 (jnx N68 : Int)) 107 24 24 1) 4814 b42 ((jnx N68 + 1 : Nat) : Int)) 4802 b42 z65) (nwF (jnew N68 105 24 24 1) (nwF N68 F66)) (nwA (jnew N68 105 24 24 1) 107 (nwA N68 105 A67)))
  have x80 : jnx N80 = b42 + 5 := by rw [i1]; show jnx N68 + 1 + 1 = _; omega
  have y80 : jsu N80 = jsu N68 + 48 := by rw [i1]; show jsu N68 + 24 + 24 = _; omega
  have t80 : ∀ a, a ≠ b42 + 3 → a ≠ b42 + 4 → jtg N80 a = jtg N68 a := fun a h1 h2 => by rw [i1, jpF_tg, jpF_tg, jnew_tgo (by show a ≠ jnx N68 + 1; omega), jpF_tg, jnew_tgo (by show a ≠ jnx N68; omega)]; rfl
  have l80 : ∀ a, a ≠ b42 + 3 → a ≠ b42 + 4 → jln N80 a = jln N68 a := fun a h1 h2 => by rw [i1, jpF_ln, jpF_ln, jnew_lno (by show a ≠ jnx N68 + 1; omega), jpF_ln, jnew_lno (by show a ≠ jnx N68; omega)]; rfl
  have j80 : ∀ a f, a ≠ b42 + 3 → a ≠ b42 + 4 → a ≠ b42 → jfn N80 f a = jfn N68 f a := fun a f h1 h2 hb => by rw [i1, jpF_a hb, jpF_a hb, jnew_fno (by show a ≠ jnx N68 + 1; omega), jpF_a hb, jnew_fno (by show a ≠ jnx N68; omega), jpF_a hb, jpF_a hb]
  have g1 : b42 ≠ jnx (jpF (jnew (jpF (jpF N68 3902 b42 z23) 3903 b42 z58) 105 24 24 1) 4811 b42 (jnx N68 : Int)) := by show b42 ≠ jnx N68 + 1; omega
  have g2 : b42 ≠ jnx (jpF (jpF N68 3902 b42 z23) 3903 b42 z58) := by show b42 ≠ jnx N68; omega
  have b80 : jtg N80 b42 = 16 ∧ jfn N80 0 b42 = 1 ∧ jfn N80 3903 b42 = W 2 0 0 ∧ jfn N80 3902 b42 = z23 ∧ jfn N80 4811 b42 = ((b42 + 3 : Nat) : Int) ∧ jfn N80 4814 b42 = ((b42 + 4 : Nat) : Int) ∧ jfn N80 4802 b42 = z65 := by
    refine ⟨by rw [t80 _ (by omega) (by omega)]; exact t68, ?_, ?_, ?_, ?_, ?_, ?_⟩
    · rw [i1, jpF_f (by decide), jpF_f (by decide), jnew_fno g1, jpF_f (by decide), jnew_fno g2, jpF_f (by decide), jpF_f (by decide)]; exact o68
    · rw [i1, jpF_f (by decide), jpF_f (by decide), jnew_fno g1, jpF_f (by decide), jnew_fno g2, jpF_s]; exact p56
    · rw [i1, jpF_f (by decide), jpF_f (by decide), jnew_fno g1, jpF_f (by decide), jnew_fno g2, jpF_f (by decide), jpF_s]
    · rw [i1, jpF_f (by decide), jpF_f (by decide), jnew_fno g1, jpF_s, x68]
    · rw [i1, jpF_f (by decide), jpF_s, x68]
    · rw [i1, jpF_s]
  have e3 : b42 + 3 = jnx (jpF (jpF N68 3902 b42 z23) 3903 b42 z58) := by show b42 + 3 = jnx N68; omega
  have e4 : b42 + 4 = jnx (jpF (jnew (jpF (jpF N68 3902 b42 z23) 3903 b42 z58) 105 24 24 1) 4811 b42 (jnx N68 : Int)) := by show b42 + 4 = jnx N68 + 1; omega
  have n34 : b42 + 3 ≠ jnx (jpF (jnew (jpF (jpF N68 3902 b42 z23) 3903 b42 z58) 105 24 24 1) 4811 b42 (jnx N68 : Int)) := by show b42 + 3 ≠ jnx N68 + 1; omega
  have c80 : jtg N80 (b42 + 3) = 105 ∧ jfn N80 0 (b42 + 3) = 1 ∧ jln N80 (b42 + 3) = 24 := ⟨by rw [i1, jpF_tg, jpF_tg, jnew_tgo n34, jpF_tg, e3, jnewTg], by rw [i1, jpF_a (by omega), jpF_a (by omega), jnew_fno n34, jpF_a (by omega), e3, jnew_f0], by rw [i1, jpF_ln, jpF_ln, jnew_lno n34, jpF_ln, e3, jnewLn]⟩
  have d80 : jtg N80 (b42 + 4) = 107 ∧ jfn N80 0 (b42 + 4) = 1 ∧ jln N80 (b42 + 4) = 24 := ⟨by rw [i1, jpF_tg, jpF_tg, e4, jnewTg], by rw [i1, jpF_a (by omega), jpF_a (by omega), e4, jnew_f0], by rw [i1, jpF_ln, jpF_ln, e4, jnewLn]⟩
  have A80 : ∀ a, a ≠ b42 + 3 → a ≠ b42 + 4 → A79 a = A67 a := fun a h1 h2 => by rw [i3, nwA_o (by show a ≠ jnx N68 + 1; omega), nwA_o (by omega)]
  have z80 : ∀ i, A79 (b42 + 3) i = 0 := fun i => by rw [i3, nwA_o (by show b42 + 3 ≠ jnx N68 + 1; omega), ← x68]; exact nwA_s _ _ _ _
  have F80 : ∀ f a, a < jnx N68 → F78 f a = F66 f a := fun f a ha => by rw [i2, nwF_o (by show a ≠ jnx N68 + 1; omega), nwF_o (by omega)]
  have O80 := hO.go R80
  have nb80 := R80.2.2.2.2 hnb
  have lt43 := R43.1.1
  have U80 : rU F78 o q n (nxk q n p 3) := (show rU F66 o q n (nxk q n p 3) from U68).of (fun f => F80 f o (by omega))
  have z80' : F78 4806 b42 = 0 := by rw [F80 _ _ (by omega), r68.2.1 b42 (by omega) bo]; exact z43
  have s80 : strIs N80 A79 u z23 (tkC q n (tkAt q n p)) := by
    have s68 : strIs N68 A67 u z23 (tkC q n (tkAt q n p)) := s26.kv (R26.2.2.2.2 hnb) ((r37.1.trans (by rw [e43]; exact nex.new _ _ _ _ _)).trans r68.1) (fun a ha => by
      have l26 := R26.2.2.2.2 hnb a (by omega)
      have := r37.1.1
      rw [r68.2.2.1 a (by omega), r37.2.2.1 a (by omega)]) (Or.inl rfl)
    obtain ⟨b, v, m, y1, ⟨y2, y3, y4⟩, ⟨y5, y6, y7⟩, y8, y9, y10⟩ := s68
    have lb := nb68 b (by rw [y2]; decide)
    have lv := nb68 v (by rw [y5]; decide)
    have bb : b ≠ b42 := fun w => by rw [w, t68] at y2; omega
    refine ⟨b, v, m, y1, ⟨by rw [t80 _ (by omega) (by omega)]; exact y2, by rw [j80 _ _ (by omega) (by omega) bb]; exact y3, by rw [j80 _ _ (by omega) (by omega) bb]; exact y4⟩, ⟨by rw [t80 _ (by omega) (by omega)]; exact y5, by rw [l80 _ (by omega) (by omega)]; exact y6, y7⟩, y8, ?_, ?_⟩
    · rw [A80 _ (by omega) (by omega)]; exact y9
    · rw [A80 _ (by omega) (by omega)]; exact y10
  have K80 : (jnx N80 : Int) ≤ jnx N + 2 * (nxk q n p 3 - p) + 3 ∧ (jsu N80 : Int) ≤ jsu N + 10 * (nxk q n p 3 - p) + 55 := by
    have k68 : kB N43 N68 (nxk q n p 2) (nxk q n p 3) := k68
    unfold kB at k68 K37; omega
  refine ⟨_, sX10_asks (c := nxk q n p 3) O80 ⟨n3, Or.inl ⟨U80, rfl⟩⟩ ((O80.2.1.2.1.2.1 9 (by decide)).2) (fun w b N' F' A' y1 y2 y3 => by
    have w : (asW 448545973363 q n (nxk q n p 3)).1 ≠ 0 := w
    have e : smT q n RR = asW 448545973363 q n (nxk q n p 3) := by rw [hT]; unfold chH; simp only [fb_ok f0', fb_ok f1', fb_ok f2', fb_no w]
    rw [e] at hX
    exact hX w b N' F' A' y1 (R80.trans y2) (by unfold xB at y3; omega)), ?_⟩ -- call wqX10_asks S o (S 10 : Int) N80 F78 A79 P86 X
  intro N91 F89 A90 p86
  obtain ⟨f3, U91, r91, k91⟩ := p86
  have f3 : asW 448545973363 q n (nxk q n p 3) = (0, 0) := f3
  have f3' : (asW 448545973363 q n (nxk q n p 3)).1 = 0 := by rw [f3]
  have R91 := R80.trans r91
  have O91 := hO.go R91
  have k91 : kB N80 N91 (nxk q n p 3) (nxk q n p 4) := k91
  have hT2 : smT q n RR = fb (fb (nuF 1 60 q n (nxk q n p 4)) (chA W q n p).1) (asS 59 q n (chA W q n p).2.1) := by rw [hT]; unfold chH; simp only [fb_ok f0', fb_ok f1', fb_ok f2', fb_ok f3']
  refine ⟨_, sX10_number (c := nxk q n p 4) O91 ⟨n4, Or.inl ⟨U91, rfl⟩⟩ (fun w b N' F' A' y1 y2 y3 => by
    have e : smT q n RR = nuF 1 60 q n (nxk q n p 4) := by rw [hT2, fb_no w, fb_no w]
    rw [e] at hX
    exact hX w b N' F' A' y1 (R91.trans y2) (by unfold xB at y3; unfold kB at k91; omega)), ?_⟩ -- call wqX10_number S o 1 60 N91 F89 A90 P97 X
  intro z99 N102 F100 A101 p97
  obtain ⟨f4, v4, U102, r102, k102⟩ := p97
  have f4' : (nuF 1 60 q n (nxk q n p 4)).1 = 0 := by rw [f4]
  have hT3 : smT q n RR = fb (chA W q n p).1 (asS 59 q n (chA W q n p).2.1) := by rw [hT2, fb_ok f4']
  have R102 := R91.trans r102
  have lt80 := r91.1.1
  have lt91 := r102.1.1
  have k102 : kB N91 N102 (nxk q n p 4) (nxk q n p 5) := k102
  have K102 : (jnx N102 : Int) ≤ jnx N + 2 * (nxk q n p 5 - p) + 3 ∧ (jsu N102 : Int) ≤ jsu N + 10 * (nxk q n p 5 - p) + 55 := by unfold kB at k102 k91; omega
  have X102 : nex N80 N102 := r91.1.trans r102.1
  have t102 : jtg N102 b42 = 16 := by rw [(X102.2 b42 (by omega)).1]; exact b80.1
  have t0 := ht.1
  have hpn5 := nxk_mono (q := q) hp 5
  intro F110 e110
  have R110 : rfr S o N F A N102 F110 A101 := by rw [e110]; exact R102.upF (by omega) (by rw [t102]; decide)
  have U110 : rU F110 o q n (nxk q n p 5) := (show rU F100 o q n (nxk q n p 5) from U102).of (fun f => by rw [e110, upF_a (Ne.symm bo)])
  have h110 : F110 4803 b42 = z99 := by rw [e110, upF_s]
  have c110 : F110 4806 b42 = 0 := by
    rw [e110, upF_f (by decide), r102.2.1 b42 (by omega) bo, r91.2.1 b42 (by omega) bo]
    exact z80'
  have A110 : ∀ a, a < jnx N80 → A101 a = A79 a := fun a ha => (r102.2.2.1 a (by omega)).trans (r91.2.2.1 a ha)
  refine ⟨fun (N111 : jSh) (F112 : jFl) (A113 : jAr) => ∃ (f : Nat) (pp : Int) (G : Int → Int), (chN (fun i => W 10 i 0) (W 0 0 0) q n f pp G = chA W q n p ∧ n ≤ pp + f) ∧ rU F112 o q n pp ∧ (nxk q n p 5 ≤ pp) ∧ rfr S o N F A N111 F112 A113 ∧ kB N102 N111 (nxk q n p 5) pp ∧ nex N80 N111 ∧ jnx N102 ≤ jnx N111 ∧ (∀ a : Nat, a < jnx N80 → a ≠ b42 + 3 → A113 a = A79 a) ∧ (∀ w : Int, 0 ≤ w → w < 24 → A113 (b42 + 3) w = G w) ∧ (∀ w : Int, G w = 0 ∨ G w = 1) ∧ F112 4803 b42 = z99 ∧ F112 4806 b42 = cntG G 24, fun N111 F112 A113 => (n - F112 3306 o).toNat, ?_, ?_⟩ -- loop I116 I116 N102 F110 A101
  ·
    -- l1: I116 N102 F110 A101
    exact ⟨n.toNat, nxk q n p 5, fun _ => 0, ⟨rfl, by omega⟩, U110, Int.le_refl _, R110, by unfold kB; omega, X102, Nat.le_refl _, fun a ha _ => A110 a ha, fun w _ _ => by rw [A110 _ (by omega)]; exact z80 w, fun w => Or.inl rfl, h110, by rw [c110]; simp [cntG, it]⟩
  intro N111 F112 A113 i116
  obtain ⟨f, pp, G, ⟨st1, st2⟩, U111, hpp, R111, K111, X111, lx111, A111, G111, g111, h111, c111⟩ := i116
  have hp2 := U111.2.2.1
  have np := nx_range (q := q) hp2
  have O111 := hO.go R111
  have T111 := t.go R111 tOo hnb
  have nb111 := R111.2.2.2.2 hnb
  have fuel : tkKd q n (tkAt q n pp) = 1 → ∃ f', f = f' + 1 := fun kk => by
    have := tkKd_lt (q := q) (n := n) (a := tkAt q n pp) (by omega)
    exact ⟨f - 1, by omega⟩
  refine ⟨_, sX10_see (c := pp) O111 ⟨hp2, Or.inl ⟨U111, rfl⟩⟩ (fun b N' F' A' w y1 y2 y3 => by
    have e : smT q n RR = (1, tkBad q n (tkAt q n pp)) := by
      by_cases kk : tkKd q n (tkAt q n pp) = 1
      · obtain ⟨f', ef⟩ := fuel kk
        subst ef
        have kb := knF_bad (e := fun i => W 10 i 0) (m := W 0 0 0) w
        have sb : chF (fun i => W 10 i 0) (W 0 0 0) q n pp G = (1, tkBad q n (tkAt q n pp)) := by rw [chF_k (by rw [kb]; exact ne10), kb]
        rw [hT3, ← st1, chN_bad kk (by rw [sb]; exact ne10), sb]
        exact fb_no ne10
      · rw [hT3, ← st1, chN_stop kk]
        exact (fb_ok rfl).trans (asF_bad w)
    rw [e] at hX
    exact hX ne10 b N' F' A' y1 (R111.trans y2) (by unfold xB at y3; unfold kB at K111; omega)), ?_⟩ -- call wqX10_see S o N111 F112 A113 P119 X
  intro z121 N124 F122 A123 p119
  obtain ⟨r1, r2, r3, r4, -⟩ := p119
  have R124 := R111.trans r3
  have O124 := hO.go R124
  have T124 := t.go R124 tOo hnb
  have nb124 := R124.2.2.2.2 hnb
  have X124 := X111.trans r3.1
  have lt111 : jnx N80 ≤ jnx N111 := X111.1
  have te := tkEnd_le (q := q) np.1.2
  have B124 : ∀ a, a < jnx N80 → jtg N124 a = jtg N80 a ∧ jln N124 a = jln N80 a ∧ ∀ f, jfn N124 f a = jfn N80 f a := X124.2
  have A124 : ∀ a, a < jnx N80 → A123 a = A113 a := fun a ha => r3.2.2.1 a (by omega)
  have F124 : ∀ f, F122 f b42 = F112 f b42 := fun f => r3.2.1 b42 (by omega) bo f
  refine ⟨fun hc => ?_, fun hc => ?_⟩ -- c1
  · -- case (¬ z121 = 1)
    refine ⟨_, by exact O124.1.2.2.2.2, ?_⟩ -- d131: jfn N124 3305 o = (b131 : Int)
    refine ⟨by exact T124.1.1.1, ?_⟩ -- s6: jtg N124 b131 = 2
    refine ⟨_, by exact T124.1.2.2.2.1, ?_⟩ -- d134: jfn N124 623 b131 = (b134 : Int)
    refine ⟨by exact T124.2.2.1.2.2.1.1.1, ?_⟩ -- s7: jtg N124 b134 = 20
    have t124 : jtg N124 b42 = 16 := by rw [(B124 _ (by omega)).1]; exact b80.1
    refine ⟨_, sJ2_add T124.2.2.1.2.2.1 (R124.2.2.2.1 M g) (by omega) (by have := ht.2.2.1; omega) (jast_obj rfl t124 rfl jcob_16), ?_⟩ -- call wqJ2_add S b134 (b42 : Int) N124 F122 A123 P137
    intro z139 N142 F140 A141 p137
    -- l2: Q N142 F140 A141
    obtain ⟨l1, lp⟩ := p137
    have kk : tkKd q n (tkAt q n pp) ≠ 1 := by rw [← r1]; exact hc
    rw [chN_stop kk] at st1
    have g124 := R124.2.2.2.1 M g
    have hx124 : h + 6 < jnx N124 := by have := R124.1.1; omega
    have ls := R124.lists (lo := lo) tOo hnb t.2.2.1
    obtain ⟨a1, a2, a3, a4, a5, a6⟩ := lop.all (j := 3) (lo := lo) lp g124 (by decide) T124.2.2.1 hlo.2.1 hx124 (ls.2 hL)
    have e0 : ∀ i j, chW W q n p 2 i j = W 2 0 0 + 1 := fun _ _ => rfl
    have e1 : ∀ (k : Nat) (i j : Int), k ≠ 2 → (k < 18 ∨ 21 < k) → chW W q n p k i j = W k i j := fun k i j k0 k1 => by
      unfold chW
      rw [if_neg k0, if_neg (fun w => by omega), if_neg (fun w => by omega), if_neg (fun w => by omega), if_neg (fun w => by omega)]
    have e2 : ∀ (k : Nat) (i j : Int), k ≠ 2 → i ≠ W 2 0 0 → chW W q n p k i j = W k i j := fun k i j k0 i0 => by
      unfold chW
      rw [if_neg k0, if_neg (fun w => i0 w.1), if_neg (fun w => i0 w.1), if_neg (fun w => i0 w.1), if_neg (fun w => i0 w.1)]
    have s124 : strIs N124 A123 u (jfn N124 3902 b42) (chW W q n p 18 (W 2 0 0) 0) := by
      rw [(B124 b42 (by omega)).2.2, b80.2.2.2.1]
      have : chW W q n p 18 (W 2 0 0) 0 = tkC q n (tkAt q n p) := by simp [chW]
      rw [this]
      exact s80.kv nb80 X124 (fun a ha => (A124 a (nb80 a (by omega))).trans (A111 a (nb80 a (by omega)) (fun w => by rw [w, c80.1] at ha; omega))) (Or.inl rfl)
    have ch124 : chR N124 F122 A123 (chW W q n p) sA (W 2 0 0) b42 := by
      have e21 : ∀ w, chW W q n p 21 (W 2 0 0) w = G w := fun w => by
        have : chW W q n p 21 (W 2 0 0) w = (chA W q n p).2.2 w := by simp [chW]
        rw [this, ← st1]
      refine ⟨⟨t124, by rw [(B124 _ (by omega)).2.2]; exact b80.2.1, by rw [(B124 _ (by omega)).2.2]; exact b80.2.2.1, by rw [(B124 _ (by omega)).2.2]; exact b80.2.2.2.2.1, by rw [(B124 _ (by omega)).1]; exact c80.1, by rw [(B124 _ (by omega)).2.2]; exact c80.2.1, by rw [(B124 _ (by omega)).2.1]; exact c80.2.2, by rw [(B124 _ (by omega)).2.2]; exact b80.2.2.2.2.2.1, by rw [(B124 _ (by omega)).1]; exact d80.1, by rw [(B124 _ (by omega)).2.2]; exact d80.2.1, by rw [(B124 _ (by omega)).2.1]; exact d80.2.2⟩, ?_, ?_, ?_, fun w w0 w1 => ?_⟩
      · rw [(B124 _ (by omega)).2.2, b80.2.2.2.2.2.2, zs]
        have : chW W q n p 19 (W 2 0 0) 0 = knV (fun i => W 16 i 0) (W 1 0 0) q n (tkAt q n (nxk q n p 2)) := by simp [chW]
        rw [this]
      · rw [F124, h111, v4]
        have : chW W q n p 20 (W 2 0 0) 0 = tkV q n (tkAt q n (nxk q n p 4)) := by simp [chW]
        rw [this]
      · rw [F124, c111]
        unfold sKnown cntG
        show it _ _ 24 = it _ _ 24
        exact it_congr (fun w _ _ s => by
          have : w24 (chW W q n p) 21 (W 2 0 0) w = G w := e21 w
          rw [this])
      · rw [e21, A124 _ (by omega)]
        exact G111 w w0 w1
    have ob : tOb u N124 F122 A123 (chW W q n p) L wA sA (upI cA (W 2 0 0) (b42 : Int)) lA := T124.2.2.2.child ht (e0 0 0) e1 e2 ch124 s124
    have hf := (a1.at nb124 T124.1.1.1 (by decide)).1
    have hlo2 : ∀ f, F140 f o = F122 f o := fun f => lp.2.2.1 o (by have := R124.1.1; omega) (by
      intro w
      have := O124.1.1
      rw [w, T124.2.2.1.2.2.1.1.1] at this
      omega) f
    have hC124 : loC lo (chW W q n p) (upI cA (W 2 0 0) (b42 : Int)) := fun c c0 c1 => by
      rw [e0] at c1
      by_cases w : c = W 2 0 0
      · rw [w, upI_s]; omega
      · rw [upI_n w]; exact hC c c0 (by omega)
    obtain ⟨t1, t2, t3, t4⟩ := T124
    subst hRR
    have sp : (chA W q n p).2.1 = pp := by rw [← st1]
    have s1 : (chA W q n p).1 = (0, 0) := by rw [← st1]
    refine ⟨?_, ⟨wA, sA, upI cA (W 2 0 0) (b42 : Int), lA, ⟨t1.ex nb124 lp.2.1, ?_, ⟨?_, ?_, l1, ?_, ?_, ?_⟩, ob.ug nb124 a1⟩, hC124⟩, O124.ug a1 lp.1.1, lp.1.mono (by omega) (by omega), a3, (R124.lf hlo.1 hlo.2.2).trans a4, tkEnd q n (tkAt q n pp), ?_, ?_, ?_, ?_⟩
    · show (fb (chH W q n p) (chA W q n p).1).1 = 0
      rw [s1]
      have : (chH W q n p).1 = 0 := by unfold chH; rw [fb_ok (by rw [fb_ok (by rw [fb_ok (by rw [fb_ok f0']; exact f1')]; exact f2')]; exact f3')]; exact f4'
      rw [fb_ok this]
    · exact (show tFl F140 h (chW W q n p) k from by
        unfold tFl at *
        rw [hf, hf, hf, hf, hf, e1 4 _ _ (by decide) (by decide), e1 5 _ _ (by decide) (by decide), e1 6 _ _ (by decide) (by decide)]
        exact t2)
    · exact (show jli N142 F140 A141 (h + 1) (chW W q n p 0 0 0) wA from by rw [e1 0 _ _ (by decide) (by decide)]; exact a2 1 _ _ (by omega) t3.1)
    · exact (show jli N142 F140 A141 (h + 2) (chW W q n p 1 0 0) sA from by rw [e1 1 _ _ (by decide) (by decide)]; exact a2 2 _ _ (by omega) t3.2.1)
    · exact (show jli N142 F140 A141 (h + 4) (chW W q n p 3 0 0) lA from by rw [e1 3 _ _ (by decide) (by decide)]; exact a2 4 _ _ (by omega) t3.2.2.2.1)
    · exact (show jli N142 F140 A141 (h + 5) (chW W q n p 3 0 0) lA from by rw [e1 3 _ _ (by decide) (by decide)]; exact a2 5 _ _ (by omega) t3.2.2.2.2.1)
    · exact a2 6 _ _ (by omega) t3.2.2.2.2.2
    · exact (show rA N142 F140 A141 o q n (chA W q n p).2.1 (tkEnd q n (tkAt q n pp)) from by
        rw [sp]
        exact (rS.rA hp2 r2).ug nb124 a1 hlo2)
    · omega
    · unfold kB at K111 r4
      have := ls.1
      omega
    · unfold kB at K111 r4
      have := ls.1
      omega
  · -- case (z121 = 1)
    refine ⟨_, by exact O124.1.2.2.2.2, ?_⟩ -- d148: jfn N124 3305 o = (b148 : Int)
    refine ⟨by exact T124.1.1.1, ?_⟩ -- s8: jtg N124 b148 = 2
    have kk : tkKd q n (tkAt q n pp) = 1 := by rw [← r1]; exact hc
    obtain ⟨f', ef⟩ := fuel kk
    subst ef
    have SB : ∀ {z : Int × Int}, chF (fun i => W 10 i 0) (W 0 0 0) q n pp G = z → z.1 ≠ 0 → smT q n RR = z := fun {z} sz z0 => by
      rw [hT3, ← st1, chN_bad kk (by rw [sz]; exact z0), sz]
      exact fb_no z0
    have K124 : kB N102 N124 (nxk q n p 5) (nx q n pp) := K111.trans r4
    have h1o : h + 1 ≠ o := fun w => by have := T124.2.2.1.1.1.1; rw [w, O124.1.1] at this; omega
    refine ⟨_, sX10_known (c := tkEnd q n (tkAt q n pp)) O124 (rS.rA hp2 r2) T124.src.1.2 T124.src.2.1 h1o (Or.inl rfl) T124.src.2.2 (fun w b N' F' A' y1 y2 y3 => by
      have e := SB (chF_k w) w
      rw [e] at hX
      have : nx q n pp = tkEnd q n (tkAt q n pp) := rfl
      exact hX w b N' F' A' y1 (R124.trans y2) (by unfold xB at y3; unfold kB at K124; omega)), ?_⟩ -- call wqX10_known S o (jfn N124 617 b148) N124 F122 A123 P151 X
    intro z153 N156 F154 A155 p151
    obtain ⟨k0, zk, U156, r156, k156, -, pl156⟩ := p151
    have k0' : (knF (fun i => W 10 i 0) (W 0 0 0) q n (tkAt q n pp)).1 = 0 := by rw [k0]
    have kv := (knV_ok hp2 t0.1 k0').2.2.2.1
    have R156 := R124.trans r156
    have O156 := hO.go R156
    have T156 := t.go R156 tOo hnb
    have X156 := X124.trans r156.1
    have lt124 := X124.1
    have K156 : kB N102 N156 (nxk q n p 5) (nx q n pp) := by
      have : kB N124 N156 (tkEnd q n (tkAt q n pp)) (tkEnd q n (tkAt q n pp)) := k156
      exact K124.trans this
    obtain ⟨bw, w1, w2, w3, w4, -⟩ := T156.2.2.2.1 _ kv.1 kv.2
    have B156 : ∀ a, a < jnx N80 → jtg N156 a = jtg N80 a ∧ jln N156 a = jln N80 a ∧ ∀ f, jfn N156 f a = jfn N80 f a := X156.2
    have A156 : ∀ a, a < jnx N80 → A155 a = A113 a := fun a ha => (r156.2.2.1 a (by omega)).trans (A124 a ha)
    have F156 : ∀ f, F154 f b42 = F112 f b42 := fun f => (r156.2.1 b42 (by omega) bo f).trans (F124 f)
    refine ⟨by exact jcst_word (zk.trans w1) w2, ?_⟩ -- s9: jcst N156 "ChildSays$Word" z153
    refine ⟨_, by exact zk.trans w1, ?_⟩ -- d163: z153 = (b163 : Int)
    refine ⟨by exact w2, ?_⟩ -- s10: jtg N156 b163 = 14
    refine ⟨_, by (rw [(B156 b42 (by omega)).2.2]; exact b80.2.2.2.2.1), ?_⟩ -- d166: jfn N156 4811 b42 = (b166 : Int)
    refine ⟨by (rw [(B156 _ (by omega)).1]; exact c80.1), ?_⟩ -- s11: jtg N156 b166 = 105
    refine ⟨by (rw [w4, (B156 _ (by omega)).2.1, c80.2.2]; omega), ?_⟩ -- s12: ((0 : Int) ≤ jfn N156 3903 b163 ∧ (jfn N156 3903 b163 : Int) < (jln N156 b166 : Int))
    have Gv : A155 (b42 + 3) (jfn N156 3903 bw) = G (knV (fun i => W 10 i 0) (W 0 0 0) q n (tkAt q n pp)) := by
      rw [w4, A156 _ (by omega)]
      exact G111 _ kv.1 (by omega)
    rw [Gv]
    refine ⟨fun hc => ?_, fun hc => ?_⟩ -- c2
    · -- case ((A155 b166 (jfn N156 3903 b163)) = 0)
      refine ⟨by (rw [(B156 _ (by omega)).2.2]; exact c80.2.1), ?_⟩ -- s13: jfn N156 0 b166 = 1
      refine ⟨by (rw [w4, (B156 _ (by omega)).2.1, c80.2.2]; omega), ?_⟩ -- s14: ((0 : Int) ≤ jfn N156 3903 b163 ∧ (jfn N156 3903 b163 : Int) < (jln N156 b166 : Int))
      intro A173 e173
      refine ⟨by (rw [F156, c111]; have := cntG_range (G := G) 24; omega), ?_⟩ -- s15: jR ((F154 4806 b42) + 1)
      intro F178 e178
      refine ⟨?_, ?_⟩ -- l3: I116 N156 F178 A173
      · have gv : G (knV (fun i => W 10 i 0) (W 0 0 0) q n (tkAt q n pp)) ≠ 1 := by omega
        have sf : (chF (fun i => W 10 i 0) (W 0 0 0) q n pp G).1 = 0 := by rw [chF_ok k0' gv]
        rw [chN_go kk sf] at st1
        have lt0 := tkKd_lt (q := q) (n := n) (a := tkAt q n pp) (by omega)
        have lt1 := nx_lt (q := q) hp2 lt0
        have t156 : jtg N156 b42 = 16 := by rw [(B156 _ (by omega)).1]; exact b80.1
        have lx := r156.1.1
        have lx2 := r3.1.1
        refine ⟨f', nx q n pp, _, ⟨st1, by omega⟩, (show rU F154 o q n (nx q n pp) from U156).of (fun f => by rw [e178, upF_a (Ne.symm bo)]), by omega, by rw [e178, e173]; exact (R156.upF (by omega) (by rw [t156]; decide)).upA (by omega), K156, X156, by omega, fun a ha hb => ?_, fun w w0 w1 => ?_, fun w => ?_, ?_, ?_⟩
        · rw [e173, upA_o hb, A156 a ha]
          exact A111 a ha hb
        · rw [e173, w4]
          by_cases y : w = knV (fun i => W 10 i 0) (W 0 0 0) q n (tkAt q n pp)
          · rw [y, upA_s, upv_s]
          · rw [upA_i y, upv_n y, A156 _ (by omega)]
            exact G111 w w0 w1
        · by_cases y : w = knV (fun i => W 10 i 0) (W 0 0 0) q n (tkAt q n pp)
          · rw [y, upv_s]; exact Or.inr rfl
          · rw [upv_n y]; exact g111 w
        · rw [e178, upF_f (by decide), F156]; exact h111
        · rw [e178, upF_s, F156, c111]
          exact ((cntG_up gv 24).1 kv.1 (by show _ < ((24 : Nat) : Int); omega)).symm
      · dsimp only
        have lt0 := tkKd_lt (q := q) (n := n) (a := tkAt q n pp) (by omega)
        have lt1 := nx_lt (q := q) hp2 lt0
        have u6 : F178 3306 o = nx q n pp := by rw [e178, upF_a (Ne.symm bo)]; exact U156.2.1
        rw [u6, U111.2.1]
        omega
    · -- case (¬ ((A155 b166 (jfn N156 3903 b163)) = 0))
      intro b179 N180 F181 e179 e180 e181
      refine ⟨_, sX11_init (jnew_flt e179 e180 e181), ?_⟩ -- call wqX11_init b179 3 (F181 3312 o) N180 F181 A155 P187
      intro N192 F190 A191 p187
      -- l4: X b179 N192 F190 A191
      obtain ⟨g1, g2, g3, g4⟩ := flt_new (S := S) (o := o) O156.2.1.1 e179 e180 e181 p187
      have gv : G (knV (fun i => W 10 i 0) (W 0 0 0) q n (tkAt q n pp)) = 1 := by
        have := g111 (knV (fun i => W 10 i 0) (W 0 0 0) q n (tkAt q n pp))
        omega
      have ox := O156.2.1.1 o (by rw [O156.1.1]; decide)
      rw [e181, nwF_o (by omega), pl156] at g1
      have ne : ((3 : Int), tkAt q n pp).1 ≠ 0 := by show (3 : Int) ≠ 0; decide
      have e := SB (chF_3 k0' gv) ne
      rw [e] at hX
      exact hX ne _ _ _ _ g1 (R156.trans g2) (by unfold kB at K156; omega)

