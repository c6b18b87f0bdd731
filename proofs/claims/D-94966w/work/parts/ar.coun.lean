set_option maxRecDepth 100000
set_option linter.unusedVariables false
/-! the component's council; printed by gen/prove.py out of spec/ar.coun.spec -/
set_option maxHeartbeats 2000000 in
theorem sX0_keepsR {S : Nat → Nat} {o : Nat} {N : jSh} {F : jFl} {A : jAr} {M : Int} {t : Nat} {W L : sTb} {B : sBk} {U : sUn} {wA sA cA lA : Int → Int} (h : cst S M N F A o t W L B U wA sA cA lA) (hs19 : s19 S N) (h9 : L 9 0 0 = 0) (hM : M ≤ 800000000) : wqX0_keeps S o N F A (fun N' F' A' => cst S (M + 102) N' F' A' o t W L B (sKeep U (L, B)) wA sA cA lA ∧ nex N N' ∧ kq o N F A F' A' ∧ jnx N' ≤ jnx N + 400 ∧ jsu N' ≤ jsu N + 1700 ∧ ∀ r R, rowIs N F A wA r R → rowIs N' F' A' wA r R) := by
  unfold wqX0_keeps
  have hy := h.1.2.1
  have hx := h.hx
  obtain ⟨hU, ue, ul, uw⟩ := id h.2.2.2
  refine ⟨_, by exact hy.p323, ?_⟩ -- d1: jfn N 323 o = (b1 : Int)
  refine ⟨by exact ul.1.1, ?_⟩ -- s1: jtg N b1 = 20
  refine ⟨_, sJ2_size ul, ?_⟩ -- call wqJ2_size b1 N F A P4
  intro z6 p4
  refine ⟨fun (F12 : jFl) (A13 : jAr) => ∃ U1 : sUn, cst S (M + 1) N F12 A13 o t W L B U1 wA sA cA lA ∧ U1.1 ≤ 19 ∧ sKeep U (L, B) = (U1.1 + 1, upI U1.2 U1.1 (L, B)) ∧ kq o N F A F12 A13 ∧ ∀ r R, rowIs N F A wA r R → rowIs N F12 A13 wA r R, ?_, ?_⟩ -- join K16
  · intro F12 A13 k16
    obtain ⟨U1, k1, k2, k3, k4, k5⟩ := k16
    intro b19 N20 F21 e19 e20 e21
    refine ⟨_, sX17_init k1 hs19 h9 (by omega) rfl e19 e20 e21, ?_⟩ -- call wqX17_init S b19 (o : Int) N20 F21 A13 P26
    intro N31 F29 A30 p26
    obtain ⟨q1, q2, q3, q4, q5, q6⟩ := p26
    have hc2 := k1.gr q2 q3
    obtain ⟨hU2, ue2, ul2, uw2⟩ := id hc2.2.2.2
    refine ⟨_, sJ2_add ul2 q3 (by omega) (by omega) (jast_was rfl q4), ?_⟩ -- call wqJ2_add S b1 (b19 : Int) N31 F29 A30 P37
    intro z39 N42 F40 A41 p37
    obtain ⟨r1, r2⟩ := p37
    have hA : acs N42 F40 A41 o W wA lA (sKeep U (L, B)) := by
      rw [k3]
      refine ⟨by dsimp only; omega, _, r1, fun i i0 i1 => ?_⟩
      dsimp only at i1 ⊢
      by_cases w : i = U1.1
      · rw [w, upI_s, upI_s]
        exact ⟨b19, rfl, r2.kp.was q3 ul2.isL q1 (hc2.w10 _ q1.1.1.2.1)⟩
      · rw [upI_n w, upI_n w]
        obtain ⟨z, z1, z2⟩ := uw2 i i0 (by omega)
        exact ⟨z, z1, r2.kp.was q3 ul2.isL z2 (hc2.w10 _ z2.1.1.2.1)⟩
    -- l1: Q N42 F40 A41
    refine ⟨by rw [show M + 102 = M + 1 + 100 + 1 by omega]; exact hc2.acts r2.kp r2.1 hA, q2.1.trans r2.2.1, (k4.trans (q2.kq k1.1.1.1 k1.hx) h.1.1.1 (nex.refl _)).trans (r2.kp.kq q3 ul2.isL hc2.1.2.1 hc2.hx) h.1.1.1 q2.1, ?_, ?_, fun r R hr => r2.kp.row q3 ul2.isL ((q2.kp (o + 10)).row k1.1.1 (by obtain ⟨-, e9, u9, -⟩ := id k1.2.2.2; exact u9.isL) (k5 r R hr))⟩
    · obtain ⟨-, -, -, -, -, x1, x2, x3, -⟩ := r2; omega
    · obtain ⟨-, -, -, -, -, x1, x2, x3, -⟩ := r2; omega
  refine ⟨fun hc => ?_, fun hc => ?_⟩ -- c1
  · -- case (¬ z6 = 20)
    -- l2: K16 F A
    refine ⟨U, ⟨⟨h.1.1.mono (by omega) (by omega), h.1.2⟩, h.2⟩, by omega, ?_, kq.refl _ _ _ _, fun _ _ h => h⟩
    unfold sKeep; rw [if_neg (by omega)]
  · -- case (z6 = 20)
    refine ⟨_, sJ2_remove ul h.1.1 (by omega) (by omega), ?_⟩ -- call wqJ2_remove b1 0 N F A P47
    intro z49 F50 A51 p47
    obtain ⟨r0, r1, r2, r3, r4⟩ := p47
    have hkp : kp N F A (o + 10) N F50 A51 := ⟨nex.refl _, fun a _ hao f => by rw [r3, upF_a hao, upF_a hao], fun a _ hao => r4 a hao⟩
    have e19 : U.1 - 1 = 19 := by omega
    rw [e19] at r1
    -- l3: K16 F50 A51
    refine ⟨(19, fun i => U.2 (i + 1)), h.acts hkp r2 ⟨by dsimp only; omega, _, r1, fun i i0 i1 => ?_⟩, by dsimp only; omega, ?_, hkp.kq h.1.1 ul.isL hy hx, fun r R hr => hkp.row h.1.1 ul.isL hr⟩
    · dsimp only at i1 ⊢
      rw [if_neg (by omega)]
      obtain ⟨z, z1, z2⟩ := uw (i + 1) (by omega) (by omega)
      exact ⟨z, z1, hkp.was h.1.1 ul.isL z2 (h.w10 _ z2.1.1.2.1)⟩
    · unfold sKeep; rw [if_pos (by omega)]; rfl

theorem sX10_init {o : Nat} {a1 : Int} {a2 : Int} {a3 : Int} {N : jSh} {F : jFl} {A : jAr} (ho : jfn N 0 o = 1) : wqX10_init o a1 a2 a3 N F A (fun N' F' A' => A' = A ∧ N' = jpF (jpF (jpF N 3332 o a1) 3300 o a2) 3305 o a3 ∧ F' = upF F 3309 o (-1)) := by
  unfold wqX10_init
  refine ⟨by exact ho, ?_⟩ -- s1: jfn N 0 o = 1
  intro N3 e3
  intro F8 e8
  intro N10 e10
  intro N15 e15
  -- l1: Q N15 F8 A
  exact ⟨rfl, by rw [e15, e10, e3], e8⟩

theorem sX0_isRight {o : Nat} {N : jSh} {F : jFl} {A : jAr} (ho : jfn N 0 o = 1) : wqX0_isRight o N F A (fun F' A' => A' = A ∧ F' = upF (upF F 312 o 0) 315 o (-1)) := by
  unfold wqX0_isRight
  refine ⟨by exact ho, ?_⟩ -- s1: jfn N 0 o = 1
  intro F3 e3
  intro F5 e5
  -- l1: Q F5 A
  exact ⟨rfl, by rw [e5, e3]⟩

theorem cMi.flt {R : Int} {x : Nat} {F : jFl} {A : jAr} {Q : sMi} (h : cMi R x F A Q) (r : Int × Int) : cMi R x (upF (upF F 312 x r.1) 315 x r.2) A (qFlt Q r) := by
  obtain ⟨h1, h2, h3, h4, h5, h6⟩ := h
  have e : ∀ f, f ≠ 312 → f ≠ 315 → upF (upF F 312 x r.1) 315 x r.2 f x = F f x := fun f a b => by rw [upF_f b, upF_f a]
  exact ⟨by rw [e _ (by decide) (by decide)]; exact h1, h2, h3, ⟨by rw [upF_f (by decide), upF_s]; rfl, upF_s⟩, by rw [e _ (by decide) (by decide)]; exact h5, by rw [e _ (by decide) (by decide)]; exact h6⟩
theorem sX0_wrong {o : Nat} {a1 : Int} {a2 : Int} {N : jSh} {F : jFl} {A : jAr} {R : Int} {Q : sMi} {b : Nat} {r : Int × Int} (hy : lay N o) (ho : jfn N 0 o = 1) (h : cMi R o F A Q) (hR : R < 1000000000) (h1 : a1 = (b : Int)) (hf : flt N b r) (h2 : 0 ≤ a2 ∧ a2 < 6) : wqX0_wrong o a1 a2 N F A (fun z F' A' => z = -1 ∧ cMi (R + 1) o F' A' (qRef (qFlt Q r) a2) ∧ F' = upF (upF F 312 o r.1) 315 o r.2 ∧ ∀ b, b ≠ o + 2 → A' b = A b) := by
  unfold wqX0_wrong
  refine ⟨_, by exact h1, ?_⟩ -- d1: a1 = (b1 : Int)
  refine ⟨by exact hf.1, ?_⟩ -- s1: jtg N b1 = 12
  refine ⟨by exact ho, ?_⟩ -- s2: jfn N 0 o = 1
  intro F6 e6
  intro F8 e8
  have e8b : F8 = upF (upF F 312 o r.1) 315 o r.2 := by rw [e8, e6, hf.2.2.1, hf.2.2.2]
  subst e8b
  refine ⟨_, sX0_refused hy (h.flt r) hR h2, ?_⟩ -- call wqX0_refused o a2 N F8 A P9
  intro z11 F12 A13 p9
  -- l1: Q z11 F12 A13
  exact p9

/-- the whole state in a larger heap -/
theorem xst.gr {S : Nat → Nat} {M R : Int} {N N' : jSh} {F F' : jFl} {A A' : jAr} {x : Nat} {W L : sTb} {B : sBk} {U : sUn} {Q : sMi} (h : xst S M R N F A x W L B U Q) (k : gr N F A N' F' A') (g : ∀ M, gi S M N F → gi S M N' F') : xst S M R N' F' A' x W L B U Q := by
  obtain ⟨t, wA, sA, cA, lA, c0, h9, h19, hQ, hX⟩ := h
  have hn := c0.1.1.1
  have hhx := c0.hx
  exact ⟨t, wA, sA, cA, lA, c0.gr k (g M c0.1.1), h9, h19.ex hn k.1, hQ.of (fun f _ => k.2.1 x (by omega) f) (k.2.2 _ (by omega)) (k.2.2 _ (by omega)), hX.kw hn k.1 (fun a ha => by
    have : a < jnx N := by
      rcases ha with w | w | w
      · exact hn a (by omega)
      · exact hn a (by omega)
      · omega
    exact ⟨k.2.1 a this, k.2.2 a this⟩)⟩
theorem gr.kz {x : Nat} {N N' : jSh} {F F' : jFl} {A A' : jAr} (k : gr N F A N' F' A') (hn : nb N) : kz x N F A F' A' := fun a _ hb => ⟨k.2.1 a (hn a (by omega)), k.2.2 a (hn a (by omega))⟩
/-- a row of one's own: what is read into it, from without -/
theorem rfz.gr {S : Nat → Nat} {o r : Nat} {N N1 N' : jSh} {F F1 F' : jFl} {A A1 A' : jAr} (h : gr N F A N1 F1 A1) (f : rfz S o r N1 F1 A1 N' F' A') (ho : jnx N ≤ o) (hr : jnx N ≤ r) : gr N F A N' F' A' := ⟨h.1.trans f.1, fun a ha g => (f.2.1 a (by have := h.1.1; omega) (by omega) (by omega) g).trans (h.2.1 a ha g), fun a ha => (f.2.2.1 a (by have := h.1.1; omega) (by omega)).trans (h.2.2 a ha)⟩
theorem qFlt_o {Q : sMi} {r : Int × Int} {k : Nat} (h3 : k ≠ 3) (h4 : k ≠ 4) : qFlt Q r k = Q k := funext fun i => by simp [qFlt, h3, h4]
theorem gi.ext {S : Nat → Nat} {M : Int} {N N' : jSh} {F F' : jFl} (g : gi S M N F) (e : nex N N') (hn : nb N') (ht : ∀ a : Nat, jnx N ≤ a → jtg N' a ≠ 20 ∧ jtg N' a ≠ 104) (hF : ∀ l : Nat, jtg N l = 20 → F' 6002 l = F 6002 l ∧ F' 6900 l = F 6900 l) : gi S M N' F' := by
  obtain ⟨g1, g2, g3, g4, g5⟩ := g
  have old : ∀ {a k : Nat}, jtg N' a = k → (k = 20 ∨ k = 104) → a < jnx N ∧ jtg N a = k := fun {a k} h hk => by
    by_cases w : a < jnx N
    · exact ⟨w, by rw [← (e.2 a w).1]; exact h⟩
    · have := ht a (by omega)
      omega
  refine ⟨hn, fun b hb hz => ?_, fun l hl => ?_, fun l l' hl hl' hne he h0 => ?_, g5⟩
  · obtain ⟨w, w2⟩ := old hb (Or.inr rfl)
    rw [(e.2 b w).2.1] at hz
    exact g2 b w2 hz
  · obtain ⟨w, w2⟩ := old hl (Or.inl rfl)
    rw [(hF l w2).1, (hF l w2).2]
    have := g3 l w2
    have := e.1
    omega
  · obtain ⟨w, w2⟩ := old hl (Or.inl rfl)
    obtain ⟨y, y2⟩ := old hl' (Or.inl rfl)
    rw [(hF l w2).1] at he h0 ⊢
    rw [(hF l' y2).1] at he
    have q := g4 l l' w2 y2 hne he h0
    have := g3 l w2
    rw [(e.2 _ (by omega)).2.1]
    exact q
set_option maxHeartbeats 4000000 in
theorem sX0_council {S : Nat → Nat} {o : Nat} {a1 : Int} {N : jSh} {F : jFl} {A : jAr} {M R : Int} {W L : sTb} {B : sBk} {U : sUn} {Q : sMi} (h : xst S M R N F A o W L B U Q) (hM : M ≤ 700000000) (hR : R < 1000000000) : wqX0_council S o a1 N F A (fun z N' F' A' => ((¬ (0 ≤ a1 ∧ a1 < W 3 0 0) → z = -1 ∧ xst S (M + 1000000) (R + 1) N' F' A' o W L B U (qRef (qLen Q 0) 2)) ∧ ((0 ≤ a1 ∧ a1 < W 3 0 0) → ((sCoF W Q).1 ≠ 0 → z = -1 ∧ xst S (M + 1000000) (R + 1) N' F' A' o W L B U (qRef (qFlt (qLen Q 0) (sCoF W Q)) 2)) ∧ ((sCoF W Q).1 = 0 → z = (sCo W Q).2.1.1 + (sCo W Q).2.1.2 ∧ xst S (M + 1000000) (R + 1) N' F' A' o W (sLset L a1 (roW (sCo W Q))) B (sKeep U (L, B)) (qFlt (qLen Q 0) (0, -1))))) ∧ xrs o N F A N' F' A') := by
  unfold wqX0_council
  obtain ⟨t, wA, sA, cA, lA, c0, h9, h19, hQ, hX⟩ := h
  have hn := c0.1.1.1
  have hy := c0.1.2.1
  have hhx := c0.hx
  have hx := c0.2.1
  have tx : jtg N o = 1 := hx.tx
  have hll : (0 ≤ a1 ∧ a1 < W 3 0 0) → 0 ≤ lA a1 := fun h => by obtain ⟨b, u1, -⟩ := hx.lw h; omega
  obtain ⟨q1, q2, q3⟩ := hQ.1
  intro v1 e1
  refine ⟨_, sX0_lawOf hx, ?_⟩ -- call wqX0_lawOf o a1 N F A P2
  intro z4 p2
  refine ⟨by exact hx.1.2.1, ?_⟩ -- s1: jfn N 0 o = 1
  intro F11 e11
  have f11 : ∀ (f a : Nat), (a = o → f ≠ 303) → F11 f a = F f a := fun f a ha => by
    rw [e11]
    by_cases w : a = o
    · rw [w]; exact upF_f (ha w)
    · exact upF_a w
  have Q11 : cMi R o F11 A (qLen Q 0) := by rw [e11]; exact hQ.len ⟨Int.le_refl 0, q2⟩
  have c11 : cst S M N F11 A o t W L B U wA sA cA lA := by rw [e11]; exact c0.seed (by decide)
  have X11 : xtr S o N F11 A W (qLen Q 0) wA sA cA lA := (hX.kw hn (nex.refl _) (fun a ha => ⟨fun f => f11 f a (fun w => by rw [w, tx] at ha; omega), rfl⟩)).q rfl rfl
  have h11 : xst S M R N F11 A o W L B U (qLen Q 0) := ⟨t, wA, sA, cA, lA, c11, h9, h19, Q11, X11⟩
  have kz11 : kz o N F A F11 A := fun a ha hb => ⟨fun f => f11 f a (by omega), rfl⟩
  refine ⟨fun hc => ?_, fun hc => ?_⟩ -- c1
  · -- case (¬ z4 < 0)
    intro b13 N14 F15 e13 e14 e15
    have law : 0 ≤ a1 ∧ a1 < W 3 0 0 := Classical.byContradiction (fun w => by rw [if_neg w] at p2; omega)
    rw [if_pos law] at p2
    subst e13
    refine ⟨_, sX3_init (by rw [e14, jnewTg]) (by rw [e14, jnew_f0]) (by rw [e14, jnewNx]), ?_⟩ -- call wqX3_init b13 N14 F15 A P20
    intro N25 F23 A24 p20
    obtain ⟨rk, n25, s25, t25, f25, a25⟩ := p20
    have x14 : jnx N14 = jnx N + 1 := by rw [e14, jnewNx]
    have y14 : jsu N14 = jsu N + 3 := by rw [e14, jnewSu]
    have o14 : ∀ a : Nat, a < jnx N → jtg N14 a = jtg N a ∧ jln N14 a = jln N a ∧ ∀ f, jfn N14 f a = jfn N f a := fun a ha => by rw [e14]; exact ⟨jnew_tgo (by omega), jnew_lno (by omega), fun f => jnew_fno (by omega)⟩
    have nb14 : nb N14 := by rw [e14]; exact hn.new
    have ex25 : nex N N25 := ⟨by omega, fun a ha => by
      obtain ⟨w1, w2, w3⟩ := t25 a (by omega) (by omega)
      obtain ⟨v1, v2, v3⟩ := o14 a ha
      exact ⟨w1.trans v1, w2.trans v2, fun f => (w3 f).trans (v3 f)⟩⟩
    have nb25 : nb N25 := fun a ha => by
      by_cases w : a = jnx N ∨ a = jnx N + 1
      · omega
      · rw [(t25 a (by omega) (by omega)).1] at ha
        have := nb14 a ha
        omega
    have gr25 : gr N F11 A N25 F23 A24 := ⟨ex25, fun a ha f => by rw [f25 a (by omega), e15, nwF_o (by omega)], fun a ha => a25 a (by omega)⟩
    intro b30 N31 F32 e30 e31 e32
    subst e30
    refine ⟨_, sX10_init (by rw [e31, jnew_f0]), ?_⟩ -- call wqX10_init b30 (o : Int) v1 (F32 311 o) N31 F32 A24 P38
    intro N43 F41 A42 p38
    obtain ⟨d1, d2, d3⟩ := p38
    subst d1
    have x31 : jnx N31 = jnx N25 + 1 := by rw [e31, jnewNx]
    have y31 : jsu N31 = jsu N25 + 11 := by rw [e31, jnewSu]
    have x43 : jnx N43 = jnx N + 3 := by rw [d2, jpF_nx, jpF_nx, jpF_nx]; omega
    have y43 : jsu N43 = jsu N + 26 := by rw [d2, jpF_su, jpF_su, jpF_su]; omega
    have g2543 : gr N25 F23 A42 N43 F32 A42 := by rw [d2, e31, e32]; exact (((gr.add N25 F23 11 0 11 1 (fun _ _ => rfl)).put (Nat.le_refl _)).put (Nat.le_refl _)).put (Nat.le_refl _)
    have gr43 : gr N F11 A N43 F41 A42 := by
      have g := gr25.trans g2543
      exact ⟨g.1, fun a ha f => by rw [d3, upF_a (by omega)]; exact g.2.1 a ha f, g.2.2⟩
    have nb43 : nb N43 := by rw [d2]; exact (by rw [e31]; exact nb25.new : nb N31)
    have tag43 : jtg N43 (jnx N25) = 11 := by rw [d2, jpF_tg, jpF_tg, jpF_tg, e31, jnewTg]
    have g43 : ∀ M, gi S M N F11 → gi S M N43 F41 := fun M g => g.ext gr43.1 nb43 (fun a ha => by
      by_cases w : a = jnx N25
      · rw [w, tag43]; decide
      · have e : jtg N43 a = jtg N25 a := by rw [d2, jpF_tg, jpF_tg, jpF_tg, e31, jnew_tgo w]
        rw [e]
        by_cases w2 : a = jnx N
        · rw [w2, rk.1]; decide
        · by_cases w3 : a = jnx N + 1
          · rw [w3, rk.2.2.2.1]; decide
          · have z : jtg N25 a = 0 := Classical.byContradiction (fun y => by have := nb25 a y; omega)
            rw [z]; decide) (fun l hl => by
      have := hn l (by rw [hl]; decide)
      exact ⟨gr43.2.1 l this _, gr43.2.1 l this _⟩)
    have c43 := c11.gr gr43 (g43 M c11.1.1)
    have h43 := h11.gr gr43 g43
    have X43 : nms N43 A42 (F 7202 (o + 140)) W wA sA cA lA ∧ own S N43 A42 (F 7202 (o + 140)) := ⟨hX.1.kv hn gr43.1 (fun a ha => gr43.2.2 a (hn a (by omega))) (Or.inl rfl), hX.2.1.kv hn gr43.1 (fun a ha => gr43.2.2 a (hn a (by omega))) (Or.inl rfl)⟩
    have f32 : F32 311 o = (t : Int) := by rw [e32, nwF_o (by omega), gr25.2.1 o (by omega)]; exact c11.2.1.ft
    have rd : rdO S (F 7202 (o + 140)) N43 A42 (jnx N25) o t (Q 0 0) (Q 1) := by
      refine ⟨⟨tag43, ?_, ?_, ?_, ?_⟩, ⟨nb43, X43.2, hy.ex hn gr43.1 hhx⟩, ⟨q2, q3⟩, fun i i0 i1 => ?_⟩
      · rw [d2, jpF_f (by decide), jpF_f (by decide), jpF_f (by decide), e31, jnew_f0]
      · rw [d2, jpF_f (by decide), jpF_s, e1]; exact q1
      · rw [d2, jpF_f (by decide), jpF_f (by decide), jpF_s]
      · rw [d2, jpF_s]; exact f32
      · rw [gr43.2.2 _ (by omega)]; exact hQ.2.1 i i0 i1
    have U0 : rU F41 (jnx N25) (Q 1) (Q 0 0) 0 := by
      refine ⟨by rw [d3, upF_f (by decide), e32, nwF_s]; rfl, by rw [d3, upF_f (by decide), e32, nwF_s]; rfl, ⟨Int.le_refl 0, q2⟩, by rw [d3, upF_s]; decide, ?_⟩
      rw [d3, upF_s]
      exact ⟨fun w => absurd w (by decide), fun w => by have := w.1; omega⟩
    have src : wSrc (F 7202 (o + 140)) N43 F41 A42 t (t + 1) (W 0 0 0) wA (fun w => W 10 w 0) := ⟨⟨c43.2.1.tt, c43.2.1.nW⟩, c43.2.1.lW, X43.1.1⟩
    have ro43 : rowOk N43 (jnx N) := rk.ex nb25 g2543.1
    refine ⟨_, _, sX10_rowAlone (X := fun b N' F' A' => (sCoF W Q).1 ≠ 0 ∧ flt N' b (sCoF W Q) ∧ rfz S (jnx N25) (jnx N) N43 F41 A42 N' F' A' ∧ xW (Q 0 0) N43 N' 0) rd U0 src rfl ro43 (fun w b N' F' A' z1 z2 z3 => ⟨w, z1, z2, z3⟩), ?_, ?_⟩ -- call wqX10_rowAlone S b30 (b13 : Int) N43 F41 A42 P49 X52
    · intro q59 N60 F61 A62 x52
      obtain ⟨w1, w2, w3, w4⟩ := x52
      have gr60 := w3.gr gr43 (by omega) (Nat.le_refl _)
      have g60 : ∀ M, gi S M N F11 → gi S M N60 F61 := fun M g => w3.2.2.2.1 M (g43 M g)
      have h60 := h11.gr gr60 g60
      have c60 := c11.gr gr60 (g60 M c11.1.1)
      have Q60 : cMi R o F61 A62 (qLen Q 0) := Q11.of (fun f _ => gr60.2.1 o (by omega) f) (gr60.2.2 _ (by omega)) (gr60.2.2 _ (by omega))
      refine ⟨_, sX0_wrong c60.1.2.1 c60.2.1.1.2.1 Q60 hR rfl w2 (by decide), ?_⟩ -- call wqX0_wrong o (q59 : Int) 2 N60 F61 A62 P68
      intro z70 F71 A72 p68
      -- l1: Q z70 N60 F71 A72
      obtain ⟨y1, y2, y3, y4⟩ := p68
      have g := h60.mi (by omega) y2 (fun f b hb => by
        rw [y3]
        by_cases w : b = o
        · have := hb w
          rw [w, upF_f (by omega), upF_f (by omega)]
        · rw [upF_a w, upF_a w]) (fun b _ hb => y4 b hb) (by rw [qRef_6 (by decide), qFlt_o (by decide) (by decide)]) (by rw [qRef_6 (by decide), qFlt_o (by decide) (by decide)])
      have nzz : jnx N60 ≤ jnx N + 18000 ∧ jsu N60 ≤ jsu N + 80000 := by unfold xW at w4; omega
      exact ⟨⟨fun w => absurd law w, fun _ => ⟨fun _ => ⟨y1, g.1⟩, fun w => absurd w w1⟩⟩, gr60.1, (kz11.trans (gr60.kz hn) hn (nex.refl _)).trans g.2.2.1 hn gr60.1, nzz.1, nzz.2⟩
    intro z51 N55 F53 A54 p49
    obtain ⟨y0, y1, y2, y3, y4⟩ := p49
    have gr55 := y3.gr gr43 (by omega) (Nat.le_refl _)
    have g55 : ∀ M, gi S M N F11 → gi S M N55 F53 := fun M g => y3.2.2.2.1 M (g43 M g)
    have c55 := c11.gr gr55 (g55 M c11.1.1)
    have hn55 := c55.1.1.1
    have hy55 := c55.1.2.1
    have tx55 : jtg N55 o = 1 := c55.2.1.tx
    refine ⟨_, sX0_isRight c55.2.1.1.2.1, ?_⟩ -- call wqX0_isRight o N55 F53 A54 P80
    intro F83 A84 p80
    obtain ⟨d4, d5⟩ := p80
    subst d4
    have c83 : cst S M N55 F83 A84 o t W L B U wA sA cA lA := by rw [d5]; exact (c55.seed (by decide)).seed (by decide)
    have Q55 : cMi R o F53 A84 (qLen Q 0) := Q11.of (fun f _ => gr55.2.1 o (by omega) f) (gr55.2.2 _ (by omega)) (gr55.2.2 _ (by omega))
    have Q83 : cMi R o F83 A84 (qFlt (qLen Q 0) (0, -1)) := by rw [d5]; exact Q55.flt (0, -1)
    have f83 : ∀ a : Nat, a ≠ o → ∀ f, F83 f a = F53 f a := fun a ha f => by rw [d5, upF_a ha, upF_a ha]
    have f83o : ∀ f, f ≠ 312 → f ≠ 315 → F83 f o = F53 f o := fun f h1 h2 => by rw [d5, upF_f h2, upF_f h1]
    have kw55 : kw o N F11 A F53 A84 := fun a ha => by
      have : a < jnx N := by
        rcases ha with w | w | w
        · exact hn a (by omega)
        · exact hn a (by omega)
        · omega
      exact ⟨gr55.2.1 a this, gr55.2.2 a this⟩
    have X55 := X11.kw hn gr55.1 kw55
    have X83 : xtr S o N55 F83 A84 W (qFlt (qLen Q 0) (0, -1)) wA sA cA lA := (X55.kw hn55 (nex.refl _) (fun a ha => ⟨fun f => f83 a (fun w => by rw [w, tx55] at ha; omega) f, rfl⟩)).q (by rw [qFlt_o (by decide) (by decide)]) (by rw [qFlt_o (by decide) (by decide)])
    have r83 : rowIs N55 F83 A84 wA (jnx N) (roW (sCo W Q)) := y2.of (f83 _ (by omega) _) (f83 _ (by omega) _) rfl
    refine ⟨_, sX0_keepsR c83 (h19.ex hn gr55.1) h9 (by omega), ?_⟩ -- call wqX0_keeps S o N55 F83 A84 P89
    intro N94 F92 A93 p89
    obtain ⟨c94, e94, k94, b94, s94, rw94⟩ := p89
    have r94 := rw94 _ _ r83
    obtain ⟨b, u1, u2, -⟩ := hx.lw law
    have hbx := hn (b + 3 + 1) (by rw [u2.2.2.2.2.2.2.2.1]; decide)
    have ek := gr55.1.trans e94
    have u2' := u2.ex hn ek
    have hoS : sRok (W 0 0 0) (roW (sCo W Q)) := by
      obtain ⟨z1, z2, -, -, z5⟩ := roS_ok (e := fun w => W 10 w 0) (q := Q 1) hx.oW.1.1 (⟨Int.le_refl 0, q2⟩ : (0 : Int) ≤ 0 ∧ 0 ≤ Q 0 0) (show (roS (fun w => W 10 w 0) (W 0 0 0) (Q 1) (Q 0 0) 0).1.1 = 0 from y1)
      exact ⟨⟨by show 0 ≤ (sCo W Q).2.1.1; have : 1 ≤ (sCo W Q).2.1.1 := z1.1; omega, z1.2⟩, z2, z5⟩
    have hoS1 : sRo1 (roW (sCo W Q)) := fun w => by
      obtain ⟨z1, -⟩ := roS_ok (e := fun w => W 10 w 0) (q := Q 1) hx.oW.1.1 (⟨Int.le_refl 0, q2⟩ : (0 : Int) ≤ 0 ∧ 0 ≤ Q 0 0) (show (roS (fun w => W 10 w 0) (W 0 0 0) (Q 1) (Q 0 0) 0).1.1 = 0 from y1)
      have z1 : 1 ≤ (sCo W Q).2.1.1 := z1.1
      have w : (sCo W Q).2.1.1 = 0 := w
      omega
    refine ⟨_, by exact p2.trans u1, ?_⟩ -- d99: z4 = (b99 : Int)
    refine ⟨by exact u2'.1, ?_⟩ -- s2: jtg N94 b99 = 17
    refine ⟨_, by exact u2'.2.2.2.1, ?_⟩ -- d102: jfn N94 5102 b99 = (b102 : Int)
    refine ⟨by exact u2'.2.2.2.2.1, ?_⟩ -- s3: jtg N94 b102 = 4
    refine ⟨_, sX3_like rfl u2'.2.2.2.2 r94 hoS c94.2.1.wd (by omega) (by omega) (by omega), ?_⟩ -- call wqX3_like b102 (b13 : Int) N94 F92 A93 P105
    intro z107 F108 A109 p105
    obtain ⟨z1, z2, z3⟩ := p105
    have c108 := c94.law law u1 z3 z2 hoS hoS1
    have r108 : rowIs N94 F108 A109 wA (jnx N) (roW (sCo W Q)) := r94.of ((z3 (jnx N) (by omega)).1 _) ((z3 (jnx N) (by omega)).1 _) (z3 (jnx N + 1) (by omega)).2
    refine ⟨_, sX3_size r108 hoS, ?_⟩ -- call wqX3_size b13 N94 F108 A109 P115
    intro z117 p115
    -- l2: Q z117 N94 F108 A109
    have t1 := u2'.2.2.2.2.1
    have t2 := u2'.2.2.2.2.2.2.2.1
    have hn94 := c94.1.1.1
    have hy94 := c94.1.2.1
    have tb94 := u2'.1
    have out : b + 4 < o + 11 ∨ o + 141 ≤ b := hy94.scr.out3 (by omega)
    have kq5 : kq o N94 F92 A93 F108 A109 := fun a ha => z3 a (by
      rcases ha with w | w
      · by_cases w1 : a = b + 3
        · rw [w1, t1] at w; omega
        · by_cases w2 : a = b + 3 + 1
          · rw [w2, t2] at w; omega
          · omega
      · omega)
    have kq8 := k94.trans kq5 hn55 e94
    have kz83 : kz o N55 F53 A84 F83 A84 := fun a ha hb => ⟨fun f => f83 a (by omega) f, rfl⟩
    refine ⟨⟨fun w => absurd law w, fun _ => ⟨fun w => absurd y0 w, fun _ => ⟨p115, t, wA, sA, cA, lA, c108.mono (by omega) (by omega), ?_, (h19.ex hn gr55.1).ex hn55 e94, (Q83.kq hy55 kq8).mono (by omega), X83.kw hn55 e94 kq8.kw⟩⟩⟩, ek, ((kz11.trans (gr55.kz hn) hn (nex.refl _)).trans kz83 hn gr55.1).trans kq8.kz hn gr55.1, ?_, ?_⟩
    · simp [sLset]; exact h9
    · unfold kW at y4; omega
    · unfold kW at y4; omega
  · -- case (z4 < 0)
    refine ⟨_, sX0_refused hy Q11 hR (by decide), ?_⟩ -- call wqX0_refused o 2 N F11 A P122
    intro z124 F125 A126 p122
    -- l3: Q z124 N F125 A126
    have g := h11.ref (by omega) p122.2.1 p122.2.2.1 p122.2.2.2
    exact ⟨⟨fun _ => ⟨p122.1, g.1⟩, fun w => by rw [if_pos w] at p2; have := hll w; omega⟩, nex.refl _, kz11.trans g.2.2.1 hn (nex.refl _), by omega, by omega⟩

