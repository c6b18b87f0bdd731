set_option maxRecDepth 100000
set_option linter.unusedVariables false
/-! the component's reader: numbers, new names, what is more; printed by gen/prove.py out of spec/b0.ct1.spec -/
theorem sX10_number {S : Nat → Nat} {o : Nat} {a1 : Int} {a2 : Int} {N : jSh} {F : jFl} {A : jAr} {u : Int} {x h : Nat} {n p c : Int} {q : Int → Int} (hO : rdO S u N A o x h n q) (hA : rA N F A o q n p c) {X : Nat → jSh → jFl → jAr → Prop} (hX : (nuF a1 a2 q n p).1 ≠ 0 → rX S n o N F A c (nuF a1 a2 q n p) X) : wqX10_number S o a1 a2 N F A (fun z N' F' A' => nuF a1 a2 q n p = (0, 0) ∧ z = tkV q n (tkAt q n p) ∧ rU F' o q n (nx q n p) ∧ rfr S o N F A N' F' A' ∧ kB N N' c (nx q n p)) (X) := by
  unfold wqX10_number
  refine ⟨_, sX10_see hO hA (fun b N' F' A' h1 h2 h3 h4 => by rw [nuF_bad h1] at hX; exact hX ne10 b N' F' A' h2 h3 h4), ?_⟩ -- call wqX10_see S o N F A P1 X
  intro z3 N6 F4 A5 p1
  obtain ⟨r1, r2, r3, r4, -⟩ := p1
  have te := (tkEnd_le (q := q) r2.2.1.2)
  refine ⟨fun hc => ?_, fun hc => ?_⟩ -- c1
  · -- case (z3 = 2)
    refine ⟨_, sX0_isIn, ?_⟩ -- call wqX0_isIn (F4 3315 o) a1 a2 N6 F4 A5 P13
    intro z15 p13
    have k2 : tkKd q n (tkAt q n p) = 2 := by rw [← r1]; assumption
    have kv := r2.2.2.2.2.2.1 k2
    rw [kv] at p13
    refine ⟨fun hc => ?_, fun hc => ?_⟩ -- c2
    · -- case (¬ z15 = 0)
      refine ⟨by exact (hO.go r3).1.2.1, ?_⟩ -- s1: jfn N6 0 o = 1
      intro F23 e23
      -- l1: Q (F23 3315 o) N6 F23 A5
      obtain ⟨g1, g2, g3⟩ := r2.go (hO.go r3) e23
      refine ⟨nuF_ok r2.2.2.1 k2 ?_, by rw [e23, upF_f (by decide)]; exact kv, g2, r3.trans g1, r4⟩
      exact Classical.byContradiction (fun w => by rw [if_neg w] at p13; contradiction)
    · -- case (z15 = 0)
      intro b24 N25 F26 e24 e25 e26
      have no : ¬ (a1 ≤ tkV q n (tkAt q n p) ∧ tkV q n (tkAt q n p) ≤ a2) := fun w => by rw [if_pos w] at p13; omega
      rw [nuF_out r2.2.2.1 k2 no] at hX
      have hox := (hO.go r3).2.1.1 o (by rw [(hO.go r3).1.1]; decide)
      refine ⟨_, sX11_init (jnew_flt e24 e25 e26), ?_⟩ -- call wqX11_init b24 4 (F26 3312 o) N25 F26 A5 P32
      intro N37 F35 A36 p32
      -- l2: X b24 N37 F35 A36
      obtain ⟨g1, g2, g3, g4⟩ := flt_new (S := S) (o := o) (hO.go r3).2.1.1 e24 e25 e26 p32
      rw [e26, nwF_o (by omega), r2.1.2.1] at g1
      exact hX (by show (4 : Int) ≠ 0; decide) _ _ _ _ g1 (r3.trans g2) (by unfold kB at r4; unfold xB; omega)
  · -- case (¬ (z3 = 2))
    rw [nuF_no r2.2.2.1 (fun w => by omega)] at hX
    refine ⟨_, sX10_wrong (hO.go r3) r2.1.2.1, ?_⟩ -- call wqX10_wrong o N6 F4 A5 P45
    intro z47 N50 F48 A49 p45
    obtain ⟨b, g1, g2, g3, g4, g5⟩ := p45
    refine ⟨_, by exact g1, ?_⟩ -- d55: z47 = (b55 : Int)
    refine ⟨by exact g2.1, ?_⟩ -- s2: jtg N50 b55 = 12
    refine ⟨by exact g2.2.1, ?_⟩ -- s3: jfn N50 0 b55 = 1
    -- l3: X b55 N50 F48 A49
    exact hX ne10 _ _ _ _ g2 (r3.trans g3) (by unfold kB at r4; unfold xB; omega)

theorem sX10_isMoreR {o : Nat} {N : jSh} {F : jFl} {A : jAr} {S : Nat → Nat} {u : Int} {x h : Nat} {n p : Int} {q : Int → Int} (hO : rdO S u N A o x h n q) (hU : rU F o q n p) : wqX10_isMore o N F A (fun z F' A' => A' = A ∧ (z = (if n ≤ tkAt q n p then 0 else 1)) ∧ rU F' o q n (tkAt q n p) ∧ ∀ a, a ≠ o → ∀ f, F' f a = F f a) := by
  unfold wqX10_isMore
  obtain ⟨⟨o1, o2, o3, o4, o5⟩, ⟨hnb, how, hy⟩, hn, hq⟩ := id hO
  obtain ⟨u1, u2, u3, u4, u5⟩ := id hU
  have ta := tkAt_all (q := q) u3.2
  have hox := hnb o (by rw [o1]; decide)
  have tx0 : jtg N x = 1 := (hy.1 0 (by decide)).1
  have t1 : jtg N (x + 1) = 111 := (hy.1 1 (by decide)).1
  have l1600 : jln N (x + 1) = 1600 := hy.2.2 (1, 1600) (by decide)
  have al := alB_skip (q := q) u3.2 u4 u5
  rw [o3]
  refine ⟨fun (F1 : jFl) => ∃ v : Int, F1 3306 o = v ∧ (p ≤ v ∧ v ≤ n) ∧ tkAt q n v = tkAt q n p ∧ (∀ f, f ≠ 3306 → F1 f o = F f o) ∧ ∀ a, a ≠ o → ∀ f, F1 f a = F f a, fun F1 => (n - F1 3306 o).toNat, ?_, ?_⟩ -- loop I4 I4 F
  ·
    -- l1: I4 F
    exact ⟨p, u2, by omega, rfl, fun _ _ => rfl, fun _ _ _ => rfl⟩
  intro F1 i4
  obtain ⟨v, i1, i2, i3, i4, i5⟩ := i4
  rw [i1]
  refine ⟨tkAt q n p = v, ?_, ?_⟩ -- join K8
  · intro k8
    intro z12 e12
    -- l2: Q z12 F1 A
    refine ⟨rfl, by rw [e12, k8], ⟨by rw [i4 _ (by decide)]; exact u1, by rw [i1, k8], by omega, by rw [i4 _ (by decide)]; exact al.1, by rw [i4 _ (by decide)]; exact al.2⟩, i5⟩
  refine ⟨fun hc => ?_, fun hc => ?_⟩ -- c1
  · -- case ((jfn N 3300 o) ≤ (F1 3306 o))
    -- l3: K8
    rw [← i3]
    exact scn_end hc
  · -- case (¬ ((jfn N 3300 o) ≤ (F1 3306 o)))
    refine ⟨_, by exact o4, ?_⟩ -- d14: jfn N 3332 o = (b14 : Int)
    refine ⟨by exact tx0, ?_⟩ -- s1: jtg N b14 = 1
    refine ⟨_, by exact hy.p302, ?_⟩ -- d17: jfn N 302 b14 = (b17 : Int)
    refine ⟨by exact t1, ?_⟩ -- s2: jtg N b17 = 111
    refine ⟨by (rw [l1600]; omega), ?_⟩ -- s3: ((0 : Int) ≤ F1 3306 o ∧ (F1 3306 o : Int) < (jln N b17 : Int))
    refine ⟨fun hc => ?_, fun hc => ?_⟩ -- c2
    · -- case ((A b17 (F1 3306 o)) = 32)
      refine ⟨by exact o2, ?_⟩ -- s4: jfn N 0 o = 1
      refine ⟨by omega, ?_⟩ -- s5: jR ((F1 3306 o) + 1)
      intro F25 e25
      refine ⟨?_, ?_⟩ -- l4: I4 F25
      · have hv := hq v (by omega) (by omega)
        have go : tkAt q n v = tkAt q n (v + 1) := scn_go (P := fun i => isBl (q i)) (by omega) (Or.inl (by omega))
        exact ⟨v + 1, by rw [e25, upF_s], by omega, by rw [← go]; exact i3, fun f hf => by rw [e25, upF_f hf]; exact i4 f hf, fun a ha f => by rw [e25, upF_a ha]; exact i5 a ha f⟩
      · dsimp only
        rw [e25, upF_s]; omega
    · -- case (¬ ((A b17 (F1 3306 o)) = 32))
      refine ⟨by (rw [l1600]; omega), ?_⟩ -- s6: ((0 : Int) ≤ F1 3306 o ∧ (F1 3306 o : Int) < (jln N b17 : Int))
      refine ⟨fun hc => ?_, fun hc => ?_⟩ -- c3
      · -- case (¬ (A b17 (F1 3306 o)) = 10)
        -- l5: K8
        have hv := hq v (by omega) (by omega)
        rw [← i3]
        exact scn_no (P := fun i => isBl (q i)) (by omega) (fun w => by rcases w with w | w <;> omega)
      · -- case ((A b17 (F1 3306 o)) = 10)
        refine ⟨by exact o2, ?_⟩ -- s7: jfn N 0 o = 1
        refine ⟨by omega, ?_⟩ -- s8: jR ((F1 3306 o) + 1)
        intro F31 e31
        refine ⟨?_, ?_⟩ -- l6: I4 F31
        · have hv := hq v (by omega) (by omega)
          have go : tkAt q n v = tkAt q n (v + 1) := scn_go (P := fun i => isBl (q i)) (by omega) (Or.inr (by omega))
          exact ⟨v + 1, by rw [e31, upF_s], by omega, by rw [← go]; exact i3, fun f hf => by rw [e31, upF_f hf]; exact i4 f hf, fun a ha f => by rw [e31, upF_a ha]; exact i5 a ha f⟩
        · dsimp only
          rw [e31, upF_s]; omega

theorem sX10_space {o : Nat} {a1 : Int} {a2 : Int} {a3 : Int} {N : jSh} {F : jFl} {A : jAr} {S : Nat → Nat} (hn : nb N) {X : Nat → jSh → jFl → jAr → Prop} (hX : a1 = a2 → ∀ (b : Nat) (N' : jSh) (F' : jFl) (A' : jAr), flt N' b (5, a3) → rfr S o N F A N' F' A' → jnx N' = jnx N + 1 → jsu N' = jsu N + 8 → X b N' F' A') : wqX10_space o a1 a2 a3 N F A (a1 ≠ a2) (X) := by
  unfold wqX10_space
  refine ⟨fun hc => ?_, fun hc => ?_⟩ -- c1
  · -- case (¬ a1 = a2)
    -- l1: Q
    exact hc
  · -- case (a1 = a2)
    intro b2 N3 F4 e2 e3 e4
    refine ⟨_, sX11_init (jnew_flt e2 e3 e4), ?_⟩ -- call wqX11_init b2 5 a3 N3 F4 A P9
    intro N14 F12 A13 p9
    -- l2: X b2 N14 F12 A13
    obtain ⟨g1, g2, g3, g4⟩ := flt_new (S := S) (o := o) hn e2 e3 e4 p9
    exact hX hc _ _ _ _ g1 g2 g3 g4

/-! a town that is read, in the heap -/
def w24 (W : sTb) : sTb := fun k i j => if k = 0 then 24 else W k i j
def chR (N : jSh) (F : jFl) (A : jAr) (W : sTb) (sA : Int → Int) (c : Int) (b : Nat) : Prop := chOk N c b ∧ jfn N 4802 b = sA (W 19 c 0) ∧ F 4803 b = W 20 c 0 ∧ F 4806 b = sKnown (w24 W) c ∧ ∀ w : Int, 0 ≤ w → w < 24 → A (b + 3) w = W 21 c w
def tHd (N : jSh) (h : Nat) : Prop := (jtg N h = 2 ∧ jfn N 0 h = 1) ∧ jfn N 617 h = ((h + 1 : Nat) : Int) ∧ jfn N 620 h = ((h + 2 : Nat) : Int) ∧ jfn N 623 h = ((h + 3 : Nat) : Int) ∧ jfn N 626 h = ((h + 4 : Nat) : Int) ∧ jfn N 629 h = ((h + 5 : Nat) : Int) ∧ jfn N 632 h = ((h + 6 : Nat) : Int)
def tLs (N : jSh) (F : jFl) (A : jAr) (h : Nat) (W : sTb) (wA sA cA lA : Int → Int) : Prop := jli N F A (h + 1) (W 0 0 0) wA ∧ jli N F A (h + 2) (W 1 0 0) sA ∧ jli N F A (h + 3) (W 2 0 0) cA ∧ jli N F A (h + 4) (W 3 0 0) lA ∧ jli N F A (h + 5) (W 3 0 0) lA ∧ jli N F A (h + 6) 0 (fun _ => 0)
def tFl (F : jFl) (h : Nat) (W : sTb) (k : Int) : Prop := F 603 h = W 4 0 0 ∧ F 606 h = W 5 0 0 ∧ F 609 h = W 6 0 0 ∧ F 612 h = 0 ∧ F 600 h = k
def tOb (u : Int) (N : jSh) (F : jFl) (A : jAr) (W L : sTb) (wA sA cA lA : Int → Int) : Prop := wds N F W wA ∧ (∀ s : Int, 0 ≤ s → s < W 1 0 0 → ∃ b : Nat, sA s = (b : Int) ∧ stIs N A (w24 W) wA s b) ∧ (∀ c : Int, 0 ≤ c → c < W 2 0 0 → ∃ b : Nat, cA c = (b : Int) ∧ chR N F A W sA c b) ∧ lws N F A W L wA lA ∧ nms N A u W wA sA cA lA ∧ ∃ v : Nat, u = (v : Int) ∧ jtg N v = 108 ∧ 16 ≤ jln N v
/-- all but a reader, lists and their arrays stay -/
def ug (N : jSh) (F : jFl) (A : jAr) (N' : jSh) (F' : jFl) (A' : jAr) : Prop := nex N N' ∧ ∀ a : Nat, a < jnx N → jtg N a ≠ 11 → jtg N a ≠ 20 → jtg N a ≠ 104 → (∀ f, F' f a = F f a) ∧ A' a = A a
theorem rfr.ug {S : Nat → Nat} {o : Nat} {N N' : jSh} {F F' : jFl} {A A' : jAr} (h : rfr S o N F A N' F' A') (ho : jtg N o = 11) : ug N F A N' F' A' := ⟨h.1, fun a ha h1 _ _ => ⟨fun f => h.2.1 a ha (fun w => h1 (by rw [w, ho])) f, h.2.2.1 a ha⟩⟩
theorem kp.ug {o : Nat} {N N' : jSh} {F F' : jFl} {A A' : jAr} (h : kp N F A o N' F' A') (ho : isL N F o) : ug N F A N' F' A' := ⟨h.1, fun a ha h1 h2 h3 => ⟨fun f => h.2.1 a ha (fun w => h2 (by rw [w, ho.1])) f, h.2.2 a ha (fun w => h3 (by rw [w, ho.2.2]))⟩⟩
theorem ug.trans {N N' N'' : jSh} {F F' F'' : jFl} {A A' A'' : jAr} (h : ug N F A N' F' A') (h2 : ug N' F' A' N'' F'' A'') : ug N F A N'' F'' A'' := ⟨h.1.trans h2.1, fun a ha h1 h2' h3 => by
  have e := (h.1.2 a ha).1
  have l := h.1.1
  have x := h.2 a ha h1 h2' h3
  have y := h2.2 a (by omega) (by rw [e]; exact h1) (by rw [e]; exact h2') (by rw [e]; exact h3)
  exact ⟨fun f => (y.1 f).trans (x.1 f), y.2.trans x.2⟩⟩
section
variable {u : Int} {N N' : jSh} {F F' : jFl} {A A' : jAr} {W L : sTb} {wA sA cA lA : Int → Int} {h : Nat}
theorem ug.at (k : ug N F A N' F' A') (hn : nb N) {a t : Nat} (ht : jtg N a = t) (h0 : t ≠ 0 ∧ t ≠ 11 ∧ t ≠ 20 ∧ t ≠ 104) : (∀ f, F' f a = F f a) ∧ A' a = A a := k.2 a (hn a (by rw [ht]; exact h0.1)) (by rw [ht]; exact h0.2.1) (by rw [ht]; exact h0.2.2.1) (by rw [ht]; exact h0.2.2.2)
theorem ug.kv (k : ug N F A N' F' A') (hn : nb N) : kv u N A A' := fun a ha => by
  rcases ha with w | w
  · exact (k.at hn w.1 (by decide)).2
  · exact (k.at hn w (by decide)).2
theorem ug.row (k : ug N F A N' F' A') (hn : nb N) {r : Nat} {R : sRow} (h : rowIs N F A wA r R) : rowIs N' F' A' wA r R := h.ex hn k.1 ((k.at hn h.1.1 (by decide)).1 _) ((k.at hn h.1.1 (by decide)).1 _) (k.at hn h.1.2.2.2.1 (by decide)).2
theorem ug.ch (k : ug N F A N' F' A') (hn : nb N) {c : Int} {b : Nat} (h : chR N F A W sA c b) : chR N' F' A' W sA c b := by
  obtain ⟨⟨a1, a2, a3, a4, a5, a6, a7, a8, a9, a10, a11⟩, b1, b2, b3, b4⟩ := h
  have e := k.1
  have f := (k.at hn a1 (by decide)).1
  exact ⟨⟨e.tg hn a1 (by decide), by rw [e.fn hn a1 (by decide), a2], by rw [e.fn hn a1 (by decide), a3], by rw [e.fn hn a1 (by decide), a4], e.tg hn a5 (by decide), by rw [e.fn hn a5 (by decide), a6], by rw [e.ln hn a5 (by decide), a7], by rw [e.fn hn a1 (by decide), a8], e.tg hn a9 (by decide), by rw [e.fn hn a9 (by decide), a10], by rw [e.ln hn a9 (by decide), a11]⟩, by rw [e.fn hn a1 (by decide), b1], by rw [f, b2], by rw [f, b3], by rw [(k.at hn a5 (by decide)).2]; exact b4⟩
theorem ug.st (k : ug N F A N' F' A') (hn : nb N) {s : Int} {b : Nat} (h : stIs N A W wA s b) : stIs N' A' W wA s b := by
  have e : stIs N A' W wA s b := ⟨h.1, by rw [(k.at hn h.1.2.2.2.2.1 (by decide)).2]; exact h.2⟩
  exact e.ex hn k.1
theorem tOb.ug (h : tOb u N F A W L wA sA cA lA) (hn : nb N) (k : ug N F A N' F' A') : tOb u N' F' A' W L wA sA cA lA := by
  obtain ⟨h1, h2, h3, h4, h5, v, v1, v2, v3⟩ := h
  refine ⟨(h1.of (fun f b _ hb => (k.at hn hb (by decide)).1 f)).ex hn k.1, fun s s0 s1 => ?_, fun c c0 c1 => ?_, fun l l0 l1 => ?_, h5.kv hn k.1 (k.kv hn) (Or.inl rfl), v, v1, k.1.tg hn v2 (by decide), by rw [k.1.ln hn v2 (by decide)]; exact v3⟩
  · obtain ⟨b, e1, e2⟩ := h2 s s0 s1
    exact ⟨b, e1, k.st hn e2⟩
  · obtain ⟨b, e1, e2⟩ := h3 c c0 c1
    exact ⟨b, e1, k.ch hn e2⟩
  · obtain ⟨b, e1, e2, e3, e4⟩ := h4 l l0 l1
    exact ⟨b, e1, e2.ex hn k.1, by rw [(k.at hn e2.1 (by decide)).1, e3], k.row hn e4⟩
theorem tHd.ex (h' : tHd N h) (hn : nb N) (e : nex N N') : tHd N' h := by
  obtain ⟨⟨a1, a2⟩, a3, a4, a5, a6, a7, a8⟩ := h'
  exact ⟨⟨e.tg hn a1 (by decide), by rw [e.fn hn a1 (by decide), a2]⟩, by rw [e.fn hn a1 (by decide), a3], by rw [e.fn hn a1 (by decide), a4], by rw [e.fn hn a1 (by decide), a5], by rw [e.fn hn a1 (by decide), a6], by rw [e.fn hn a1 (by decide), a7], by rw [e.fn hn a1 (by decide), a8]⟩
theorem rfr.jliS {S : Nat → Nat} {o l : Nat} {n : Int} {e : Int → Int} (k : rfr S o N F A N' F' A') (ho : jtg N o = 11) (hn : nb N) (hl : jli N F A l n e) : jli N' F' A' l n e := by
  have hll := hn l (by rw [hl.1.1]; decide)
  have hlo : l ≠ o := fun w => by have := hl.1.1; rw [w, ho] at this; omega
  exact hl.moved hn k.1 (k.2.1 l hll hlo _) (k.2.1 l hll hlo _) (fun _ => by
    obtain ⟨-, -, -, b9, z4, z5, -⟩ := hl
    have : lar F l = b9 := by show (F 6002 l).toNat = b9; rw [z4]; rfl
    rw [this]
    exact k.2.2.1 b9 (hn b9 (by rw [z5]; decide)))
theorem rfr.tLsS {S : Nat → Nat} {o : Nat} (k : rfr S o N F A N' F' A') (ho : jtg N o = 11) (hn : nb N) (h' : tLs N F A h W wA sA cA lA) : tLs N' F' A' h W wA sA cA lA :=
  ⟨k.jliS ho hn h'.1, k.jliS ho hn h'.2.1, k.jliS ho hn h'.2.2.1, k.jliS ho hn h'.2.2.2.1, k.jliS ho hn h'.2.2.2.2.1, k.jliS ho hn h'.2.2.2.2.2⟩
end
theorem strIs.ofTxt {N : jSh} {A : jAr} {u : Int} {b v n : Nat} {g : Int → Int} (h : txt N A b v g n) (hn : 1 ≤ n ∧ n ≤ 6) (hu : ∃ v : Nat, u = (v : Int) ∧ jtg N v = 108 ∧ 16 ≤ jln N v) : strIs N A u (b : Int) (sCode g n) := by
  obtain ⟨h1, ⟨h2, h3, h4⟩, h5⟩ := h
  obtain ⟨v', e1, e2, e3⟩ := hu
  exact ⟨b, v, n, rfl, h1, ⟨h2, h3, fun w => by
    have : v = v' := by omega
    rw [this] at h3; omega⟩, hn, sCode_congr n (fun i i0 i1 => (h5 i i0 i1).1.symm), fun i i0 i1 => by rw [(h5 i i0 i1).1]; exact (h5 i i0 i1).2⟩
/-- a town that is read, all in all -/
def tRd (u : Int) (N : jSh) (F : jFl) (A : jAr) (h : Nat) (W L : sTb) (wA sA cA lA : Int → Int) (k : Int) : Prop := tHd N h ∧ tFl F h W k ∧ tLs N F A h W wA sA cA lA ∧ tOb u N F A W L wA sA cA lA
theorem tRd.go {S : Nat → Nat} {u : Int} {N N' : jSh} {F F' : jFl} {A A' : jAr} {W L : sTb} {wA sA cA lA : Int → Int} {h o : Nat} {k : Int} (t : tRd u N F A h W L wA sA cA lA k) (f : rfr S o N F A N' F' A') (ho : jtg N o = 11) (hn : nb N) : tRd u N' F' A' h W L wA sA cA lA k := by
  obtain ⟨t1, t2, t3, t4⟩ := t
  have hf := ((f.ug ho).at hn t1.1.1 (by decide)).1
  exact ⟨t1.ex hn f.1, by unfold tFl at *; rw [hf, hf, hf, hf, hf]; exact t2, f.tLsS ho hn t3, t4.ug hn (f.ug ho)⟩
theorem tRd.src {u : Int} {N : jSh} {F : jFl} {A : jAr} {W L : sTb} {wA sA cA lA : Int → Int} {h : Nat} {k : Int} (t : tRd u N F A h W L wA sA cA lA k) : wSrc u N F A h (h + 1) (W 0 0 0) wA (fun i => W 10 i 0) := ⟨⟨t.1.1.1, t.1.2.1⟩, t.2.2.1.1, t.2.2.2.2.2.2.2.1.1⟩
theorem sX1_knows {S : Nat → Nat} {o : Nat} {a1 : Int} {N : jSh} {F : jFl} {A : jAr} {u : Int} {W L : sTb} {wA sA cA lA : Int → Int} {k : Int} {b v n : Nat} {g : Int → Int} (t : tRd u N F A o W L wA sA cA lA k) (h2 : a1 = (b : Int)) (ht : txt N A b v g n) (hn : n ≤ 6) : wqX1_knows S o a1 N F A (fun z => (z = 0 ∧ ¬ kn4 W (sCode g n)) ∨ (z = 1 ∧ kn4 W (sCode g n))) := by
  unfold wqX1_knows
  obtain ⟨⟨-, d1, d2, d3, d4, -⟩, -, ⟨l1, l2, l3, l4, -⟩, -, -, -, -, ⟨n1, n2, n3, n4⟩, -⟩ := t
  have c1 := nmd_cases (e := fun i => W 10 i 0) (c := sCode g n) l1.2.2.1.1
  have c2 := nmd_cases (e := fun i => W 16 i 0) (c := sCode g n) l2.2.2.1.1
  have c3 := nmd_cases (e := fun i => W 18 i 0) (c := sCode g n) l3.2.2.1.1
  have c4 := nmd_cases (e := fun i => W 22 i 0) (c := sCode g n) l4.2.2.1.1
  refine ⟨_, sX0_named d1 h2 l1 (Or.inl rfl) n1 ht hn, ?_⟩ -- call wqX0_named S (jfn N 617 o) a1 N F A P1
  intro z3 p1
  have s1 : z3 < 0 ↔ nmd (fun i => W 10 i 0) (W 0 0 0) (sCode g n) = -1 := by
    rw [p1]
    constructor
    · intro w
      rcases c1 with y | y
      · exact y.1
      · rw [if_neg (by omega)] at w
        obtain ⟨b9, w9, -⟩ := n1 _ y.1.1 y.1.2
        omega
    · intro w
      rw [if_pos w]; decide
  refine ⟨fun hc => ?_, fun hc => ?_⟩ -- c1
  · -- case (¬ z3 < 0)
    -- l1: Q 1
    exact Or.inr ⟨rfl, Or.inl (fun w => hc (s1.mpr w))⟩
  · -- case (z3 < 0)
    refine ⟨_, sX0_named d2 h2 l2 (Or.inr (Or.inl rfl)) n2 ht hn, ?_⟩ -- call wqX0_named S (jfn N 620 o) a1 N F A P9
    intro z11 p9
    have s2 : z11 < 0 ↔ nmd (fun i => W 16 i 0) (W 1 0 0) (sCode g n) = -1 := by
      rw [p9]
      constructor
      · intro w
        rcases c2 with y | y
        · exact y.1
        · rw [if_neg (by omega)] at w
          obtain ⟨b9, w9, -⟩ := n2 _ y.1.1 y.1.2
          omega
      · intro w
        rw [if_pos w]; decide
    refine ⟨fun hc => ?_, fun hc => ?_⟩ -- c2
    · -- case (¬ z11 < 0)
      -- l2: Q 1
      exact Or.inr ⟨rfl, Or.inr (Or.inl (fun w => hc (s2.mpr w)))⟩
    · -- case (z11 < 0)
      refine ⟨_, sX0_named d3 h2 l3 (Or.inr (Or.inr (Or.inl rfl))) n3 ht hn, ?_⟩ -- call wqX0_named S (jfn N 623 o) a1 N F A P17
      intro z19 p17
      have s3 : z19 < 0 ↔ nmd (fun i => W 18 i 0) (W 2 0 0) (sCode g n) = -1 := by
        rw [p17]
        constructor
        · intro w
          rcases c3 with y | y
          · exact y.1
          · rw [if_neg (by omega)] at w
            obtain ⟨b9, w9, -⟩ := n3 _ y.1.1 y.1.2
            omega
        · intro w
          rw [if_pos w]; decide
      refine ⟨fun hc => ?_, fun hc => ?_⟩ -- c3
      · -- case (¬ z19 < 0)
        -- l3: Q 1
        exact Or.inr ⟨rfl, Or.inr (Or.inr (Or.inl (fun w => hc (s3.mpr w))))⟩
      · -- case (z19 < 0)
        refine ⟨_, sX0_named d4 h2 l4 (Or.inr (Or.inr (Or.inr rfl))) n4 ht hn, ?_⟩ -- call wqX0_named S (jfn N 626 o) a1 N F A P25
        intro z27 p25
        have s4 : z27 < 0 ↔ nmd (fun i => W 22 i 0) (W 3 0 0) (sCode g n) = -1 := by
          rw [p25]
          constructor
          · intro w
            rcases c4 with y | y
            · exact y.1
            · rw [if_neg (by omega)] at w
              obtain ⟨b9, w9, -⟩ := n4 _ y.1.1 y.1.2
              omega
          · intro w
            rw [if_pos w]; decide
        intro z33 e33
        -- l4: Q z33
        by_cases w : z27 < 0
        · refine Or.inl ⟨by rw [e33, if_pos w], ?_⟩
          rintro (y | y | y | y)
          · exact y (s1.mp (by assumption))
          · exact y (s2.mp (by assumption))
          · exact y (s3.mp (by assumption))
          · exact y (s4.mp w)
        · exact Or.inr ⟨by rw [e33, if_neg w], Or.inr (Or.inr (Or.inr (fun y => w (s4.mpr y))))⟩

theorem sX10_newName {S : Nat → Nat} {o : Nat} {N : jSh} {F : jFl} {A : jAr} {u k : Int} {x h : Nat} {n p c : Int} {q : Int → Int} {W L : sTb} {wA sA cA lA : Int → Int} (hO : rdO S u N A o x h n q) (hA : rA N F A o q n p c) (t : tRd u N F A h W L wA sA cA lA k) {X : Nat → jSh → jFl → jAr → Prop} (hX : (frF W q n p).1 ≠ 0 → rX S n o N F A c (frF W q n p) X) : wqX10_newName S o N F A (fun z N' F' A' => frF W q n p = (0, 0) ∧ strIs N' A' u z (tkC q n (tkAt q n p)) ∧ rU F' o q n (nx q n p) ∧ rfr S o N F A N' F' A' ∧ kB N N' c (nx q n p) ∧ (c = p → nm2 N N')) (X) := by
  unfold wqX10_newName
  refine ⟨_, sX10_name hO hA (fun w => by
    by_cases b : 0 ≤ tkBad q n (tkAt q n p)
    · rw [asF_bad b]; rw [frF_bad b] at hX; exact hX ne10
    · have bd : tkBad q n (tkAt q n p) = -1 := by
        rcases tkBad_two (q := q) hA.1 with y | y
        · exact y
        · exact absurd y b
      have np : ¬ (tkKd q n (tkAt q n p) = 1 ∧ ¬ sOwn (tkC q n (tkAt q n p))) := fun y => w (by rw [asF_ok bd y])
      rw [asF_no bd np]
      rw [frF_no bd (by
        by_cases y : tkKd q n (tkAt q n p) = 1
        · exact Or.inr (Classical.byContradiction (fun z => np ⟨y, z⟩))
        · exact Or.inl y)] at hX
      exact hX ne10), ?_⟩ -- call wqX10_name S o N F A P1 X
  intro z3 N6 F4 A5 p1
  obtain ⟨⟨r1, r2, r3⟩, r4, r5, r6, r7, r8⟩ := p1
  have te := (tkEnd_le (q := q) r5.2.1.2)
  obtain ⟨b, v, y1, y2⟩ := r5.2.2.2.2.1 r2
  have cc := tk_code r5.2.1 r2 r1
  have hnb := hO.2.1.1
  have t6 := t.go r6 hO.1.1 hnb
  refine ⟨_, by exact (hO.go r6).1.2.2.2.2, ?_⟩ -- d12: jfn N6 3305 o = (b12 : Int)
  refine ⟨by exact t6.1.1.1, ?_⟩ -- s1: jtg N6 b12 = 2
  refine ⟨_, sX1_knows t6 (r4.trans y1) y2 (by omega), ?_⟩ -- call wqX1_knows S b12 z3 N6 F4 A5 P15
  intro z17 p15
  rw [cc.2] at p15
  refine ⟨fun hc => ?_, fun hc => ?_⟩ -- c1
  · -- case (z17 = 0)
    refine ⟨by exact (hO.go r6).1.2.1, ?_⟩ -- s2: jfn N6 0 o = 1
    intro F25 e25
    -- l1: Q z3 N6 F25 A5
    obtain ⟨g1, g2, g3⟩ := r5.go (hO.go r6) e25
    have nk : ¬ kn4 W (tkC q n (tkAt q n p)) := by
      rcases p15 with w | w
      · exact w.2
      · omega
    refine ⟨frF_ok r1 r2 r3 nk, ?_, g2, r6.trans g1, r7, r8⟩
    rw [r4, y1, ← cc.2]
    exact strIs.ofTxt y2 (by omega) t6.2.2.2.2.2.2.2.2
  · -- case (¬ (z17 = 0))
    intro b26 N27 F28 e26 e27 e28
    have kn : kn4 W (tkC q n (tkAt q n p)) := by
      rcases p15 with w | w
      · exact absurd w.1 hc
      · exact w.2
    rw [frF_kn r1 r2 r3 kn] at hX
    have hox := (hO.go r6).2.1.1 o (by rw [(hO.go r6).1.1]; decide)
    refine ⟨_, sX11_init (jnew_flt e26 e27 e28), ?_⟩ -- call wqX11_init b26 2 (F28 3312 o) N27 F28 A5 P34
    intro N39 F37 A38 p34
    -- l2: X b26 N39 F37 A38
    obtain ⟨g1, g2, g3, g4⟩ := flt_new (S := S) (o := o) (hO.go r6).2.1.1 e26 e27 e28 p34
    rw [e28, nwF_o (by omega), r5.1.2.1] at g1
    exact hX (by show (2 : Int) ≠ 0; decide) _ _ _ _ g1 (r6.trans g2) (by unfold kB at r7; unfold xB; omega)

