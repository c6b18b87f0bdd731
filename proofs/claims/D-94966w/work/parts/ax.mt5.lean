set_option maxRecDepth 100000
set_option linter.unusedVariables false
/-! the model's reader: laws, what is set, statements; printed by gen/prove.py out of spec/ax.mt5.spec -/
theorem mrR.law {o : Nat} {A A' : jAr} {b : Int} {W L : sTb} {q : Int → Int} {n p : Int} (h : mrR o A b W L) (hm : 0 ≤ (lwR W q n p).2.1.1 + (lwR W q n p).2.1.2 ∧ (lwR W q n p).2.1.1 + (lwR W q n p).2.1.2 ≤ 12) (hLk : ∀ l : Int, 0 ≤ l → l < W 3 0 0 → L 2 l 0 + L 3 l 0 ≤ 12) (h1 : ∀ a, (a < o + 17 ∨ o + 22 < a) → a ≠ o + 26 → A' a = A a) (h2 : A' (o + 17) b = W 3 0 0 + 1) (h3 : A' (o + 18) (12 * b + W 3 0 0) = tkC q n (tkAt q n p) ∧ A' (o + 19) (12 * b + W 3 0 0) = opV 1937075815 q n (nx q n p) ∧ A' (o + 20) (12 * b + W 3 0 0) = (lwR W q n p).2.1.1 ∧ A' (o + 21) (12 * b + W 3 0 0) = (lwR W q n p).2.1.2) (h4 : ∀ i : Int, i ≠ 12 * b + W 3 0 0 → A' (o + 18) i = A (o + 18) i ∧ A' (o + 19) i = A (o + 19) i ∧ A' (o + 20) i = A (o + 20) i ∧ A' (o + 21) i = A (o + 21) i) (h5 : ∀ k : Int, 0 ≤ k → k < (lwR W q n p).2.1.1 + (lwR W q n p).2.1.2 → A' (o + 22) (12 * (12 * b + W 3 0 0) + k) = (lwR W q n p).2.2.2 k) (h6 : ∀ i : Int, (i < 12 * (12 * b + W 3 0 0) ∨ 12 * (12 * b + W 3 0 0) + 12 ≤ i) → A' (o + 22) i = A (o + 22) i) : mrR o A' b (lwW W q n p) (lwL W L q n p) := by
  obtain ⟨⟨⟨a1, a2, a3, a4⟩, a5, a6, a7⟩, g1, g2, g3, g4⟩ := h
  have e0 : ∀ i j, lwW W q n p 3 i j = W 3 0 0 + 1 := fun _ _ => rfl
  have e : ∀ (k : Nat) (i j : Int), k ≠ 3 → k ≠ 22 → lwW W q n p k i j = W k i j := fun k i j k0 k1 => by
    unfold lwW
    rw [if_neg k0, if_neg (fun w => k1 w.2)]
  refine ⟨⟨⟨?_, ?_, ?_, by rw [h2, e0]⟩, ?_, ?_, ?_⟩, ?_, ?_, ?_, fun s x y => ?_⟩
  · rw [h1 _ (by omega) (by omega), e 0 _ _ (by decide) (by decide)]; exact a1
  · rw [h1 _ (by omega) (by omega), e 1 _ _ (by decide) (by decide)]; exact a2
  · rw [h1 _ (by omega) (by omega), e 2 _ _ (by decide) (by decide)]; exact a3
  · rw [h1 _ (by omega) (by omega), e 4 _ _ (by decide) (by decide)]; exact a5
  · rw [h1 _ (by omega) (by omega), e 5 _ _ (by decide) (by decide)]; exact a6
  · rw [h1 _ (by omega) (by omega), e 6 _ _ (by decide) (by decide)]; exact a7
  · rw [e 0 _ _ (by decide) (by decide)]
    exact g1.of (fun k k0 k1 => h1 _ (by omega) (by omega)) (fun k k0 k1 i => e _ _ _ (by omega) (by omega))
  · rw [e 1 _ _ (by decide) (by decide)]
    exact g2.of ⟨h1 _ (by omega) (by omega), h1 _ (by omega) (by omega)⟩ (fun i j => ⟨e _ _ _ (by omega) (by omega), e _ _ _ (by omega) (by omega)⟩)
  · rw [e 2 _ _ (by decide) (by decide)]
    exact g3.of (fun k k0 k1 => h1 _ (by omega) (by omega)) (fun k k0 k1 i j => e _ _ _ (by omega) (by omega))
  · rw [e0] at y
    by_cases z : s = W 3 0 0
    · subst z
      have l2 : lwL W L q n p 2 (W 3 0 0) 0 = (lwR W q n p).2.1.1 := by simp [lwL]
      have l3 : lwL W L q n p 3 (W 3 0 0) 0 = (lwR W q n p).2.1.2 := by simp [lwL]
      have l4 : lwL W L q n p 4 (W 3 0 0) 0 = opV 1937075815 q n (nx q n p) := by simp [lwL]
      rw [l2, l3, l4, h3.1, h3.2.1, h3.2.2.1, h3.2.2.2]
      refine ⟨by simp [lwW], rfl, rfl, rfl, fun k k0 k1 => ?_⟩
      rw [h5 k k0 k1]
      simp [lwL]
    · have hh := h4 (12 * b + s) (by omega)
      rw [hh.1, hh.2.1, hh.2.2.1, hh.2.2.2]
      have xx : ∀ (k : Nat) (j : Int), lwL W L q n p k s j = L k s j := fun k j => by simp [lwL, z]
      have x22 : lwW W q n p 22 s 0 = W 22 s 0 := by simp [lwW, z]
      rw [xx, xx, xx, x22]
      have t := g4 s x (by omega)
      refine ⟨t.1, t.2.1, t.2.2.1, t.2.2.2.1, fun k k0 k1 => ?_⟩
      have := hLk s x (by omega)
      rw [xx, h6 _ (by omega)]
      exact t.2.2.2.2 k k0 k1
theorem mWs.of {o : Nat} {A A' : jAr} {g : Int → Int} {k : Int} (h : mWs o A g k) (hA : A' (o + 26) = A (o + 26)) : mWs o A' g k := fun i i0 i1 => by rw [hA]; exact h i i0 i1
set_option maxHeartbeats 2000000 in
theorem sX9_lawing {o : Nat} {F : jFl} {A : jAr} {q : Int → Int} {n p b : Int} {W L : sTb} (hT : mTp o F A q n) (hG : mG o q n (0, 0) p F) (hb : F 3114 o = b) (hb2 : 0 ≤ b ∧ b < 2) (hR : mrR o A b W L) (ht : tOk W L) : wpX9_lawing o F A (fun F' A' => ∀ R : smR, R = (if W 3 0 0 = 12 then ((5, tkAt q n p), p, W, L) else (fb (lwH W q n (nx q n p)) (lwR W q n (nx q n p)).1, (lwR W q n (nx q n p)).2.2.1, lwW W q n (nx q n p), lwL W L q n (nx q n p))) → smP o q n b F A F' A' R) := by
  unfold wpX9_lawing
  have m0 : A (o + 17) b = W 3 0 0 := hR.1.1.2.2.2
  have t0 := ht.2.2.2.1
  have tw := ht.1
  obtain ⟨g1, g2, g3⟩ := hG.2.1 rfl
  have r1 := nx_range (q := q) g3
  have r2 := nx_range (q := q) r1.2.2
  refine ⟨by (rw [hb]; exact hb2), ?_⟩ -- s1: (0 ≤ F 3114 o ∧ F 3114 o < 2)
  intro z3 e3
  rw [hb, m0] at e3
  refine ⟨_, sX9_counts hT hG, ?_⟩ -- call wpX9_counts o z3 F A P5
  intro z7 F8 A9 p5
  obtain ⟨u1, u2, u3, u4⟩ := p5
  subst u1
  refine ⟨fun hc => ?_, fun hc => ?_⟩ -- c1
  · -- case (¬ z7 = 0)
    have ns : W 3 0 0 ≠ 12 := fun w => by
      have := (u3 (by rw [e3, if_neg (fun y => y w)]; decide)).1
      omega
    obtain ⟨-, G8⟩ := u4 (by rw [e3, if_pos ns])
    have b8 : F8 3114 o = b := by rw [u2 _ _ (fun _ => by decide)]; exact hb
    refine ⟨by (rw [u2 _ _ (fun _ => by decide), hb]; exact hb2), ?_⟩ -- s2: (0 ≤ F8 3114 o ∧ F8 3114 o < 2)
    refine ⟨by (rw [b8, m0]; omega), ?_⟩ -- s3: jR ((12 * (F8 3114 o)) + (A9 (o + 17) (F8 3114 o)))
    intro v16 e16
    rw [b8, m0] at e16
    have vr : 12 * b ≤ v16 ∧ v16 < 12 * b + 12 := by omega
    have v24 : 0 ≤ v16 ∧ v16 < 24 := by omega
    have T8 := hT.of u2 rfl
    have N8 := (hR.nm ht b8 hb2) 0 (by decide) (by decide)
    refine ⟨_, sX9_fresh (W := W) T8 G8 (hR.nm ht b8 hb2), ?_⟩ -- call wpX9_fresh o F8 A9 P17
    intro z19 F20 A21 p17
    obtain ⟨y1, y2, y3, y4⟩ := p17
    subst y1
    rw [fb_ok rfl] at y3
    have y4 := y4 rfl
    have gg := u2.trans y2
    refine ⟨by exact v24, ?_⟩ -- s4: (0 ≤ v16 ∧ v16 < 24)
    intro A26 e26
    refine ⟨by exact v24, ?_⟩ -- s5: (0 ≤ v16 ∧ v16 < 24)
    intro A29 e29
    refine ⟨fun (F32 : jFl) (A33 : jAr) => mgF o F F32 ∧ mG o q n (frF W q n (nx q n p)) (opP 1937075815 q n (nx q n (nx q n p))) F32 ∧ ∃ z, A33 = upA (upA A21 (o + 18) v16 z19) (o + 19) v16 z ∧ ((frF W q n (nx q n p)).1 = 0 → z = opV 1937075815 q n (nx q n (nx q n p))), ?_, ?_⟩ -- join K35
    · intro F32 A33 k35
      obtain ⟨k1, k2, zs, k3, k4⟩ := k35
      have T33 : mTp o F32 A33 q n := hT.of k1 (by rw [k3, upA_o (by omega), upA_o (by omega)])
      have m33 : mfB o b A21 A33 := by
        rw [k3]
        exact ((mfB.refl o b A21).up (k := 18) (by decide) vr).up (k := 19) (by decide) vr
      have a33 : ∀ a, a ≠ o + 18 → a ≠ o + 19 → A33 a = A21 a := fun a h1 h2 => by rw [k3, upA_o h2, upA_o h1]
      have opr := opP_range (c := 1937075815) (q := q) r2.2.2
      have r3 := nx_range (q := q) (n := n) (p := opP 1937075815 q n (nx q n (nx q n p))) (by omega)
      obtain ⟨RR, hRR⟩ : ∃ RR, RR = lwR W q n (nx q n p) := ⟨_, rfl⟩
      refine ⟨_, sX9_must T33 k2, ?_⟩ -- call wpX9_must o 1935767923 F32 A33 P38
      intro F41 A42 p38
      obtain ⟨a1, a2, a3⟩ := p38
      subst a1
      have T42 := T33.of a2 rfl
      have gk := k1.trans a2
      have a3 : mG o q n (lwH W q n (nx q n p)) (nx q n (opP 1937075815 q n (nx q n (nx q n p)))) F41 := a3
      refine ⟨fun (F47 : jFl) (A48 : jAr) => mgF o F F47 ∧ (∀ a, a ≠ o + 26 → A48 a = A42 a) ∧ ∃ c : Int × Int, mG o q n c RR.2.2.1 F47 ∧ ((c.1 ≠ 0 ∧ (c = fb (lwH W q n (nx q n p)) RR.1 ∨ ((fb (lwH W q n (nx q n p)) RR.1).1 = 0 ∧ c = (1, tkAt q n RR.2.2.1) ∧ tkKd q n (tkAt q n RR.2.2.1) = 1 ∧ tkBad q n (tkAt q n RR.2.2.1) = -1))) ∨ (c = (0, 0) ∧ (lwH W q n (nx q n p)).1 = 0 ∧ RR.1.1 = 0 ∧ F47 3120 o = RR.2.1.1 ∧ F47 3123 o = RR.2.1.2 ∧ mWs o A48 RR.2.2.2 (RR.2.1.1 + RR.2.1.2))), ?_, ?_⟩ -- join K50
      · intro F47 A48 k50
        obtain ⟨x1, x2, c, x3, x4⟩ := k50
        refine ⟨fun hc => ?_, fun hc => ?_⟩ -- c2
        · -- case ((F47 3024 o) ≤ 0)
          obtain ⟨w1, w2, w3, w4, w5, w6⟩ : c = (0, 0) ∧ (lwH W q n (nx q n p)).1 = 0 ∧ RR.1.1 = 0 ∧ F47 3120 o = RR.2.1.1 ∧ F47 3123 o = RR.2.1.2 ∧ mWs o A48 RR.2.2.2 (RR.2.1.1 + RR.2.1.2) := by
            rcases x4 with ⟨w1, w2⟩ | w
            · exfalso
              have := x3.1
              omega
            · exact w
          have b47 : F47 3114 o = b := by rw [x1 _ _ (fun _ => by decide)]; exact hb
          have okr := roS_ok (e := fun i => W 10 i 0) (m := W 0 0 0) (q := q) (n := n) (p := nx q n (opP 1937075815 q n (nx q n (nx q n p)))) tw.1 r3.2.2 (by rw [hRR] at w3; exact w3)
          obtain ⟨ok1, ok2, -, -, -⟩ := okr
          have ok1 : 1 ≤ RR.2.1.1 ∧ RR.2.1.1 ≤ 8 := by rw [hRR]; exact ok1
          have ok2 : 0 ≤ RR.2.1.2 ∧ RR.2.1.2 ≤ 4 := by rw [hRR]; exact ok2
          rw [w4, w5]
          refine ⟨by exact v24, ?_⟩ -- s6: (0 ≤ v16 ∧ v16 < 24)
          intro A55 e55
          refine ⟨by exact v24, ?_⟩ -- s7: (0 ≤ v16 ∧ v16 < 24)
          intro A58 e58
          refine ⟨fun (v60 : Int) (A61 : jAr) => (0 ≤ v60 ∧ v60 ≤ RR.2.1.1 + RR.2.1.2) ∧ (∀ a, a ≠ o + 22 → A61 a = A58 a) ∧ (∀ i : Int, (i < 12 * v16 ∨ 12 * v16 + 12 ≤ i) → A61 (o + 22) i = A58 (o + 22) i) ∧ ∀ k : Int, 0 ≤ k → k < v60 → A61 (o + 22) (12 * v16 + k) = RR.2.2.2 k, fun v60 A61 => (RR.2.1.1 + RR.2.1.2 - v60).toNat, ?_, ?_⟩ -- loop I63 I63 0 A58
          ·
            -- l1: I63 0 A58
            exact ⟨by omega, fun _ _ => rfl, fun _ _ => rfl, fun k k0 k1 => by omega⟩
          intro v60 A61 i63
          obtain ⟨i1, i2, i3, i4⟩ := i63
          have m58 : mfB o b A21 A58 := by
            rw [e58, e55]
            exact ((m33.trans (mfB.r26 x2)).up (k := 20) (by decide) vr).up (k := 21) (by decide) vr
          have m61 : mfB o b A21 A61 := m58.blk (k := 22) (lo := 12 * v16) (hi := 12 * v16 + 12) (by decide) i2 i3 (by show 144 * b ≤ 12 * v16 ∧ 12 * v16 + 12 ≤ 144 * b + 144; omega)
          have a58 : ∀ a, (a < o + 18 ∨ o + 21 < a) → a ≠ o + 26 → A58 a = A21 a := fun a h1 h2 => by rw [e58, upA_o (by omega), e55, upA_o (by omega), x2 _ h2, a33 _ (by omega) (by omega)]
          have c61 : A61 (o + 17) b = W 3 0 0 := by rw [i2 _ (by omega), a58 _ (by omega) (by omega)]; exact m0
          refine ⟨by omega, ?_⟩ -- s8: jR ((F47 3120 o) + (F47 3123 o))
          refine ⟨fun hc => ?_, fun hc => ?_⟩ -- c3
          · -- case (((F47 3120 o) + (F47 3123 o)) ≤ v60)
            refine ⟨by (rw [b47]; exact hb2), ?_⟩ -- s9: (0 ≤ F47 3114 o ∧ F47 3114 o < 2)
            refine ⟨by (rw [b47]; exact hb2), ?_⟩ -- s10: (0 ≤ F47 3114 o ∧ F47 3114 o < 2)
            refine ⟨by (rw [b47, c61]; omega), ?_⟩ -- s11: jR ((A61 (o + 17) (F47 3114 o)) + 1)
            intro A70 e70
            -- l2: Q F47 A70
            intro R hR'
            rw [if_neg ns, ← hRR] at hR'
            subst hR'
            rw [b47, c61] at e70
            rw [w1] at x3
            refine ⟨x1, by rw [e70]; exact m61.up (k := 17) (by decide) (by show 1 * b ≤ b ∧ b < 1 * b + 1; omega), _, x3.z (g := fb (lwH W q n (nx q n p)) RR.1) rfl (by rw [fb_ok w2]; exact w3), fun _ => ?_, Or.inl rfl⟩
            · have v60M : v60 = RR.2.1.1 + RR.2.1.2 := by omega
              have q0 := (fb_0 w2).1
              have z1 : z19 = tkC q n (tkAt q n (nx q n p)) := y4 q0
              have z2 := k4 q0
              rw [e70]
              refine hR.law (by rw [← hRR]; omega) (fun l l0 l1 => by have := ht.2.2.2.2.2.2.2.2.2.2.2.2.1 l l0 l1; omega) (fun a h1 h2 => ?_) upA_s ?_ (fun i hi => ?_) (fun k k0 k1 => ?_) (fun i hi => ?_)
              · rw [upA_o (by omega), i2 _ (by omega), a58 _ (by omega) h2]
              · rw [upA_o (by omega), upA_o (by omega), upA_o (by omega), upA_o (by omega), i2 _ (by omega), i2 _ (by omega), i2 _ (by omega), i2 _ (by omega), ← e16, ← hRR]
                refine ⟨?_, ?_, ?_, by rw [e58, upA_s]⟩
                · rw [e58, upA_o (by omega), e55, upA_o (by omega), x2 _ (by omega), k3, upA_o (by omega), upA_s, z1]
                · rw [e58, upA_o (by omega), e55, upA_o (by omega), x2 _ (by omega), k3, upA_s, z2]
                · rw [e58, upA_o (by omega), e55, upA_s]
              · rw [upA_o (by omega), upA_o (by omega), upA_o (by omega), upA_o (by omega), i2 _ (by omega), i2 _ (by omega), i2 _ (by omega), i2 _ (by omega)]
                refine ⟨?_, ?_, ?_, ?_⟩
                · rw [e58, upA_o (by omega), e55, upA_o (by omega), x2 _ (by omega), k3, upA_o (by omega), upA_i (by omega)]
                · rw [e58, upA_o (by omega), e55, upA_o (by omega), x2 _ (by omega), k3, upA_i (by omega), upA_o (by omega)]
                · rw [e58, upA_o (by omega), e55, upA_i (by omega), x2 _ (by omega), a33 _ (by omega) (by omega)]
                · rw [e58, upA_i (by omega), e55, upA_o (by omega), x2 _ (by omega), a33 _ (by omega) (by omega)]
              · rw [upA_o (by omega), ← e16, ← hRR]
                exact i4 k k0 (by rw [← hRR] at k1; omega)
              · rw [upA_o (by omega), i3 _ (by omega), a58 _ (by omega) (by omega)]
          · -- case ¬ (((F47 3120 o) + (F47 3123 o)) ≤ v60)
            refine ⟨by omega, ?_⟩ -- s12: (0 ≤ v60 ∧ v60 < 12)
            refine ⟨by omega, ?_⟩ -- s13: (0 ≤ (12 * v16) + v60 ∧ (12 * v16) + v60 < 288)
            intro A74 e74
            refine ⟨by omega, ?_⟩ -- s14: jR (v60 + 1)
            refine ⟨?_, ?_⟩ -- l3: I63 (v60 + 1) A74
            · refine ⟨by omega, fun a ha => by rw [e74, upA_o ha]; exact i2 a ha, fun i hi => by rw [e74, upA_i (by omega)]; exact i3 i hi, fun k k0 k1 => ?_⟩
              by_cases y : k = v60
              · rw [y, e74, upA_s, i2 _ (by omega), e58, upA_o (by omega), e55, upA_o (by omega)]; exact w6 _ (by omega) (by omega)
              · rw [e74, upA_i (by omega)]; exact i4 k k0 (by omega)
            · dsimp only; omega
        · -- case ¬ ((F47 3024 o) ≤ 0)
          -- l4: Q F47 A48
          intro R hR'
          rw [if_neg ns, ← hRR] at hR'
          subst hR'
          rcases x4 with ⟨w1, w2⟩ | ⟨w1, -⟩
          · exact ⟨x1, m33.trans (mfB.r26 x2), c, x3, fun w => absurd w w1, w2⟩
          · exfalso
            rw [w1] at x3
            apply hc
            rw [x3.1.1]
            exact Int.le_refl 0
      refine ⟨fun hc => ?_, fun hc => ?_⟩ -- c4
      · -- case (¬ (F41 3024 o) = 0)
        -- l5: K50 F41 A42
        have nz : (lwH W q n (nx q n p)).1 ≠ 0 := by rw [← a3.1.1]; exact hc
        exact ⟨gk, fun _ _ => rfl, _, a3.any nz, Or.inl ⟨nz, Or.inl (fb_no nz).symm⟩⟩
      · -- case ¬ (¬ (F41 3024 o) = 0)
        have q0 : (lwH W q n (nx q n p)).1 = 0 := by rw [← a3.1.1]; omega
        obtain ⟨d1, d2, d3⟩ := a3.2.1 q0
        refine ⟨_, sX9_rowing (e := fun i => W 10 i 0) (m := W 0 0 0) (by omega) d2 (nx_range (q := q) r3.2.2).1 (tkAt_tkAt r3.2.2.2) (N8.w (by rw [gk _ _ (fun _ => by decide), b8]; exact hb) (by rw [a33 _ (by omega) (by omega)]) (by rw [a33 _ (by omega) (by omega)])) T42.1 T42.2.1 T42.2.2, ?_⟩ -- call wpX9_rowing o F41 A42 P77
        intro F80 A81 p77
        rw [roS_tkAt r3.2.2.2, show roS (fun i => W 10 i 0) (W 0 0 0) q n (nx q n (opP 1937075815 q n (nx q n (nx q n p)))) = RR from hRR.symm] at p77
        obtain ⟨o1, o2, o3, o4⟩ := p77
        -- l6: K50 F80 A81
        refine ⟨gk.trans o1, o2, ?_⟩
        by_cases w : (roF q n RR).1 = 0
        · obtain ⟨v1, v2, v3, v4, v5, v6⟩ := o4 w
          have rr0 := roF_0 w
          have okr := (roS_ok (e := fun i => W 10 i 0) (m := W 0 0 0) (q := q) (n := n) (p := nx q n (opP 1937075815 q n (nx q n (nx q n p)))) tw.1 r3.2.2 (by rw [hRR] at rr0; exact rr0)).2.2.1
          have okr : nx q n (opP 1937075815 q n (nx q n (nx q n p))) ≤ RR.2.2.1 ∧ RR.2.2.1 ≤ n := by rw [hRR]; exact okr
          exact ⟨(0, 0), ⟨⟨v1, Int.le_refl 0⟩, fun _ => ⟨by rw [v2]; exact d1, v3, by omega⟩, fun y => absurd rfl y⟩, Or.inr ⟨rfl, q0, rr0, v4, v5, v6⟩⟩
        · obtain ⟨v1, v2, v3⟩ := o3 w
          refine ⟨roF q n RR, ⟨⟨v2, by omega⟩, fun y => absurd y w, fun _ => v3⟩, Or.inl ⟨w, ?_⟩⟩
          by_cases y : RR.1.1 = 0
          · have k1' : tkKd q n (tkAt q n RR.2.2.1) = 1 := Classical.byContradiction (fun z => w (by rw [roF_ok y z]))
            refine Or.inr ⟨by rw [fb_ok q0]; exact y, roF_word y k1', k1', ?_⟩
            have := roS_end (e := fun i => W 10 i 0) (m := W 0 0 0) (q := q) (n := n) (p := nx q n (opP 1937075815 q n (nx q n (nx q n p)))) tw.1 r3.2.2 (by rw [hRR] at y; exact y) (by rw [hRR] at k1'; exact k1')
            rw [hRR]; exact this
          · exact Or.inl (by rw [fb_ok q0]; exact roF_ne y)
    refine ⟨fun hc => ?_, fun hc => ?_⟩ -- c5
    · -- case (¬ (F20 3024 o) = 0)
      -- l7: K35 F20 A29
      have nz : (frF W q n (nx q n p)).1 ≠ 0 := by rw [← y3.1.1]; exact hc
      exact ⟨gg, y3.any nz, _, by rw [e29, e26], fun w => absurd w nz⟩
    · -- case ¬ (¬ (F20 3024 o) = 0)
      have q0 : (frF W q n (nx q n p)).1 = 0 := by rw [← y3.1.1]; omega
      obtain ⟨v1, v2, v3⟩ := y3.2.1 q0
      refine ⟨fun hc => ?_, fun hc => ?_⟩ -- c6
      · -- case (¬ (F20 3036 o) = (-1))
        -- l8: K35 F20 A29
        have nop : ¬ opW 1937075815 q n (nx q n (nx q n p)) := fun w => hc (by rw [v2.2.2.2.1]; exact w.1)
        exact ⟨gg, by rw [(opW_no nop).1]; exact y3, _, by rw [e29, e26], fun _ => (opW_no nop).2.symm⟩
      · -- case ¬ (¬ (F20 3036 o) = (-1))
        refine ⟨_, sX9_isWord, ?_⟩ -- call wpX9_isWord o 1937075815 F20 A29 P86
        intro z88 p86
        have bd : tkBad q n (tkAt q n (nx q n (nx q n p))) = -1 := by rw [← v2.2.2.2.1]; omega
        have iw : z88 ≠ 0 ↔ opW 1937075815 q n (nx q n (nx q n p)) := by
          rw [p86, v2.2.2.1]
          constructor
          · intro w
            by_cases y : tkKd q n (tkAt q n (nx q n (nx q n p))) = 1 ∧ F20 3022 o = 1937075815
            · exact ⟨bd, y.1, by rw [← v2.2.2.2.2.1 y.1]; exact y.2⟩
            · rw [if_neg y] at w; exact absurd rfl w
          · intro w
            rw [if_pos ⟨w.2.1, by rw [v2.2.2.2.2.1 w.2.1]; exact w.2.2⟩]
            decide
        refine ⟨fun hc => ?_, fun hc => ?_⟩ -- c7
        · -- case (z88 = 0)
          -- l9: K35 F20 A29
          have nop : ¬ opW 1937075815 q n (nx q n (nx q n p)) := fun w => (iw.mpr w) hc
          exact ⟨gg, by rw [(opW_no nop).1]; exact y3, _, by rw [e29, e26], fun _ => (opW_no nop).2.symm⟩
        · -- case ¬ (z88 = 0)
          refine ⟨by exact v24, ?_⟩ -- s15: (0 ≤ v16 ∧ v16 < 24)
          intro A93 e93
          have T93 : mTp o F20 A93 q n := hT.of gg (by rw [e93, upA_o (by omega), e29, upA_o (by omega), e26, upA_o (by omega)])
          refine ⟨_, sX9_ahead (q := q) (n := n) (p := nx q n (nx q n (nx q n p))) T93.1 T93.2.1 T93.2.2 v2.2.1 (nx_range (q := q) r2.2.2).2.2, ?_⟩ -- call wpX9_ahead o F20 A93 P95
          intro F98 A99 p95
          -- l10: K35 F98 A99
          obtain ⟨o1, o2, o3⟩ := p95
          subst o1
          have yop := iw.mp (by assumption)
          exact ⟨gg.trans o3.mgF, by rw [(opW_yes yop).1]; exact y3.go q0 q0 o2 o3, 1, by rw [e93, e29, e26]; exact upA_upA, fun _ => (opW_yes yop).2.symm⟩
  · -- case ¬ (¬ z7 = 0)
    -- l11: Q F8 A9
    intro R hR'
    have full : W 3 0 0 = 12 := Classical.byContradiction (fun w => by
      have := (u4 (by rw [e3, if_pos w])).1
      omega)
    rw [if_pos full] at hR'
    subst hR'
    exact ⟨u2, mfB.refl o b _, _, (u3 (by rw [e3, if_neg (fun w => w full)]; decide)).2, fun w => absurd w (by show ¬ (5 : Int) = 0; decide), Or.inl rfl⟩

