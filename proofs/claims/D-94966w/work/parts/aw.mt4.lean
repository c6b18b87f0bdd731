set_option maxRecDepth 100000
set_option linter.unusedVariables false
/-! the model's reader: children; printed by gen/prove.py out of spec/aw.mt4.spec -/
theorem mNm.w1 {o : Nat} {F F' : jFl} {A A' : jAr} {e : Int → Int} {m : Int} (h : mNm o F A 1 e m) (hF : F' 3114 o = F 3114 o) (h2 : A' (o + 9) = A (o + 9)) (h3 : A' (o + 10) = A (o + 10)) : mNm o F' A' 1 e m := by
  obtain ⟨h0, h1, h⟩ := h
  unfold mNm
  rw [hF]
  rcases h with ⟨w, -⟩ | w | ⟨w, -⟩ | ⟨w, -⟩
  · omega
  · rw [h2, h3]; exact ⟨h0, h1, Or.inr (Or.inl w)⟩
  · omega
  · omega
theorem mrR.child {o : Nat} {A A' : jAr} {b : Int} {W L : sTb} {q : Int → Int} {n p : Int} (h : mrR o A b W L) (h1 : ∀ a, (a < o + 12 ∨ o + 16 < a) → A' a = A a) (h2 : A' (o + 12) b = W 2 0 0 + 1) (h3 : A' (o + 13) (10 * b + W 2 0 0) = tkC q n (tkAt q n p) ∧ A' (o + 14) (10 * b + W 2 0 0) = knV (fun i => W 16 i 0) (W 1 0 0) q n (tkAt q n (nxk q n p 2)) ∧ A' (o + 15) (10 * b + W 2 0 0) = tkV q n (tkAt q n (nxk q n p 4))) (h4 : ∀ i : Int, i ≠ 10 * b + W 2 0 0 → A' (o + 13) i = A (o + 13) i ∧ A' (o + 14) i = A (o + 14) i ∧ A' (o + 15) i = A (o + 15) i) (h5 : ∀ w : Int, 0 ≤ w → w < 24 → A' (o + 16) (24 * (10 * b + W 2 0 0) + w) = (chA W q n p).2.2 w) (h6 : ∀ i : Int, (i < 24 * (10 * b + W 2 0 0) ∨ 24 * (10 * b + W 2 0 0) + 24 ≤ i) → A' (o + 16) i = A (o + 16) i) : mrR o A' b (chW W q n p) L := by
  obtain ⟨⟨⟨a1, a2, a3, a4⟩, a5, a6, a7⟩, g1, g2, g3, g4⟩ := h
  have e0 : ∀ i j, chW W q n p 2 i j = W 2 0 0 + 1 := fun _ _ => rfl
  have e : ∀ (k : Nat) (i j : Int), k ≠ 2 → (k < 18 ∨ 21 < k) → chW W q n p k i j = W k i j := fun k i j k0 k1 => by
    unfold chW
    rw [if_neg k0, if_neg (fun w => by omega), if_neg (fun w => by omega), if_neg (fun w => by omega), if_neg (fun w => by omega)]
  refine ⟨⟨⟨?_, ?_, by rw [h2, e0], ?_⟩, ?_, ?_, ?_⟩, ?_, ?_, fun s x y => ?_, ?_⟩
  · rw [h1 _ (by omega), e 0 _ _ (by decide) (by decide)]; exact a1
  · rw [h1 _ (by omega), e 1 _ _ (by decide) (by decide)]; exact a2
  · rw [h1 _ (by omega), e 3 _ _ (by decide) (by decide)]; exact a4
  · rw [h1 _ (by omega), e 4 _ _ (by decide) (by decide)]; exact a5
  · rw [h1 _ (by omega), e 5 _ _ (by decide) (by decide)]; exact a6
  · rw [h1 _ (by omega), e 6 _ _ (by decide) (by decide)]; exact a7
  · rw [e 0 _ _ (by decide) (by decide)]
    exact g1.of (fun k k0 k1 => h1 _ (by omega)) (fun k k0 k1 i => e _ _ _ (by omega) (by omega))
  · rw [e 1 _ _ (by decide) (by decide)]
    exact g2.of ⟨h1 _ (by omega), h1 _ (by omega)⟩ (fun i j => ⟨e _ _ _ (by omega) (by omega), e _ _ _ (by omega) (by omega)⟩)
  · rw [e0] at y
    by_cases z : s = W 2 0 0
    · subst z
      refine ⟨by rw [h3.1]; simp [chW], by rw [h3.2.1]; simp [chW], by rw [h3.2.2]; simp [chW], fun w x2 y2 => ?_⟩
      rw [h5 w x2 y2]
      simp [chW]
    · have hh := h4 (10 * b + s) (by omega)
      rw [hh.1, hh.2.1, hh.2.2]
      have xx : ∀ (k : Nat) (j : Int), k ≠ 2 → chW W q n p k s j = W k s j := fun k j k2 => by simp [chW, z, k2]
      rw [xx _ _ (by decide), xx _ _ (by decide), xx _ _ (by decide)]
      have t := g3 s x (by omega)
      refine ⟨t.1, t.2.1, t.2.2.1, fun w x2 y2 => ?_⟩
      rw [xx _ _ (by decide), h6 _ (by omega)]
      exact t.2.2.2 w x2 y2
  · rw [e 3 _ _ (by decide) (by decide)]
    exact g4.of (fun k k0 k1 => h1 _ (by omega)) (fun i => e _ _ _ (by decide) (by decide))
/-- amid a child: v its row, A1 the arrays ahead of it -/
def chI (o : Nat) (q : Int → Int) (n : Int) (W : sTb) (p v : Int) (F0 : jFl) (A1 : jAr) (F : jFl) (A : jAr) : Prop := mgF o F0 F ∧ (∀ a, a ≠ o + 16 → A a = A1 a) ∧ (∀ i : Int, (i < 24 * v ∨ 24 * v + 24 ≤ i) → A (o + 16) i = A1 (o + 16) i) ∧ ∃ c : Int × Int, ((c.1 ≠ 0 ∧ c = fb (chH W q n p) (chA W q n p).1 ∧ mG o q n c p F) ∨ ((chH W q n p).1 = 0 ∧ c = (0, 0) ∧ ∃ (p1 : Int) (f : Nat) (g : Int → Int), mG o q n (0, 0) p1 F ∧ n - p1 ≤ f ∧ chA W q n p = chN (fun i => W 10 i 0) (W 0 0 0) q n f p1 g ∧ ∀ w : Int, 0 ≤ w → w < 24 → A (o + 16) (24 * v + w) = g w))
section
variable {o : Nat} {q : Int → Int} {n : Int} {W : sTb} {p v : Int} {F0 : jFl} {A1 : jAr} {F F' : jFl} {A A' : jAr} {p1 : Int} {f : Nat} {g : Int → Int}
theorem chI.bad {p' : Int} (h1 : mgF o F0 F) (h2 : ∀ a, a ≠ o + 16 → A a = A1 a) (h3 : ∀ i : Int, (i < 24 * v ∨ 24 * v + 24 ≤ i) → A (o + 16) i = A1 (o + 16) i) (c1 : (chH W q n p).1 = 0) (c5 : chA W q n p = chN (fun i => W 10 i 0) (W 0 0 0) q n (f + 1) p1 g) (kd : tkKd q n (tkAt q n p1) = 1) (ne : (chF (fun i => W 10 i 0) (W 0 0 0) q n p1 g).1 ≠ 0) (hF : mgF o F F') (hm : mG o q n (chF (fun i => W 10 i 0) (W 0 0 0) q n p1 g) p' F') : chI o q n W p v F0 A1 F' A :=
  ⟨h1.trans hF, h2, h3, _, Or.inl ⟨ne, by rw [fb_ok c1, c5, chN_bad kd ne], hm.any ne⟩⟩
theorem chI.go {z : Int} {f2 : Int × Int} (h1 : mgF o F0 F) (h2 : ∀ a, a ≠ o + 16 → A a = A1 a) (h3 : ∀ i : Int, (i < 24 * v ∨ 24 * v + 24 ≤ i) → A (o + 16) i = A1 (o + 16) i) (c1 : (chH W q n p).1 = 0) (c5 : chA W q n p = chN (fun i => W 10 i 0) (W 0 0 0) q n (f + 1) p1 g) (c6 : ∀ w : Int, 0 ≤ w → w < 24 → A (o + 16) (24 * v + w) = g w) (kd : tkKd q n (tkAt q n p1) = 1) (hp : 0 ≤ p1 ∧ p1 ≤ n) (hf : n - (p1 + 1) ≤ (f : Int)) (ne : (chF (fun i => W 10 i 0) (W 0 0 0) q n p1 g).1 = 0) (hF : mgF o F F') (hm : mG o q n f2 (nx q n p1) F') (h0 : f2.1 = 0) (e : A' = upA A (o + 16) (24 * v + z) 1) (hz : z = knV (fun i => W 10 i 0) (W 0 0 0) q n (tkAt q n p1)) (zr : 0 ≤ z ∧ z < 24) : chI o q n W p v F0 A1 F' A' := by
  have l := nx_lt hp (tkKd_lt (by rw [kd]; decide))
  refine ⟨h1.trans hF, fun a ha => by rw [e, upA_o ha]; exact h2 a ha, fun i hi => by rw [e, upA_i (by omega)]; exact h3 i hi, _, Or.inr ⟨c1, rfl, _, f, _, hm.z h0 rfl, by omega, by rw [c5, chN_go kd ne], fun w w0 w1 => ?_⟩⟩
  rw [← hz]
  by_cases y : w = z
  · rw [y, e, upA_s, upv_s]
  · rw [e, upA_i (by omega), upv_n y]; exact c6 w w0 w1
end
set_option maxHeartbeats 2000000 in
theorem sX9_childing {o : Nat} {F : jFl} {A : jAr} {q : Int → Int} {n p b : Int} {W L : sTb} (hT : mTp o F A q n) (hG : mG o q n (0, 0) p F) (hb : F 3114 o = b) (hb2 : 0 ≤ b ∧ b < 2) (hR : mrR o A b W L) (ht : tOk W L) : wpX9_childing o F A (fun F' A' => ∀ R : smR, R = (if W 2 0 0 = 10 then ((5, tkAt q n p), p, W, L) else (fb (chH W q n (nx q n p)) (chA W q n (nx q n p)).1, (chA W q n (nx q n p)).2.1, chW W q n (nx q n p), L)) → smP o q n b F A F' A' R) := by
  unfold wpX9_childing
  have m0 : A (o + 12) b = W 2 0 0 := hR.1.1.2.2.1
  have t0 := ht.2.2.1
  have ts := ht.2.1
  have tw := ht.1
  obtain ⟨g1, g2, g3⟩ := hG.2.1 rfl
  have r1 := nx_range (q := q) g3
  have r2 := nx_range (q := q) r1.2.2
  refine ⟨by (rw [hb]; omega), ?_⟩ -- s1: (0 ≤ F 3114 o ∧ F 3114 o < 2)
  intro z3 e3
  rw [hb, m0] at e3
  refine ⟨_, sX9_counts hT hG, ?_⟩ -- call wpX9_counts o z3 F A P5
  intro z7 F8 A9 p5
  obtain ⟨u1, u2, u3, u4⟩ := p5
  subst u1
  refine ⟨fun hc => ?_, fun hc => ?_⟩ -- c1
  · -- case (¬ z7 = 0)
    have ns : W 2 0 0 ≠ 10 := fun w => by
      have := (u3 (by rw [e3, if_neg (fun y => y w)]; decide)).1
      omega
    obtain ⟨-, G8⟩ := u4 (by rw [e3, if_pos ns])
    have b8 : F8 3114 o = b := by rw [u2 _ _ (fun _ => by decide)]; exact hb
    refine ⟨by (rw [u2 _ _ (fun _ => by decide), hb]; omega), ?_⟩ -- s2: (0 ≤ F8 3114 o ∧ F8 3114 o < 2)
    refine ⟨by (rw [b8, m0]; omega), ?_⟩ -- s3: jR ((10 * (F8 3114 o)) + (A9 (o + 12) (F8 3114 o)))
    intro v16 e16
    rw [b8, m0] at e16
    have vr : 10 * b ≤ v16 ∧ v16 < 10 * b + 10 := by omega
    have T8 := hT.of u2 rfl
    have N8 := (hR.nm ht b8 hb2) 0 (by decide) (by decide)
    have N81 := (hR.nm ht b8 hb2) 1 (by decide) (by decide)
    have v20 : 0 ≤ v16 ∧ v16 < 20 := by omega
    refine ⟨_, sX9_fresh (W := W) T8 G8 (hR.nm ht b8 hb2), ?_⟩ -- call wpX9_fresh o F8 A9 P17
    intro z19 F20 A21 p17
    obtain ⟨y1, y2, y3, y4⟩ := p17
    subst y1
    rw [fb_ok rfl] at y3
    have y4 := y4 rfl
    refine ⟨by exact v20, ?_⟩ -- s4: (0 ≤ v16 ∧ v16 < 20)
    intro A26 e26
    have T26 : mTp o F20 A26 q n := (T8.of y2 rfl).of (mgF.refl o _) (by rw [e26, upA_o (by omega)])
    refine ⟨_, sX9_must T26 y3, ?_⟩ -- call wpX9_must o 28518 F20 A26 P28
    intro F31 A32 p28
    obtain ⟨a1, a2, a3⟩ := p28
    subst a1
    have T32 := T26.of a2 rfl
    have g31 := y2.trans a2
    have k2r := nxk_range (q := q) r1.2.2 2
    have pos3 := a3.1.2
    refine ⟨_, sX9_asked (e := fun i => W 16 i 0) (m := W 1 0 0) (q := q) (n := n) (a := tkAt q n (nxk q n (nx q n p) 2)) (by rw [a3.1.1]; exact pos3) (fun w => (a3.2.1 (by rw [← a3.1.1]; exact w)).2.1) (nx_range (q := q) k2r).1 (N81.w1 (g31 _ _ (fun _ => by decide)) (by rw [e26, upA_o (by omega)]) (by rw [e26, upA_o (by omega)])) T32.1 T32.2.1 T32.2.2, ?_⟩ -- call wpX9_asked o 1 F31 A32 P36
    intro z38 F39 A40 p36
    obtain ⟨c1, c2, c3⟩ := p36
    subst c1
    obtain ⟨d1, d2, d3⟩ := mG.asked (p := nxk q n (nx q n p) 2) a3 c2 c3
    refine ⟨by exact v20, ?_⟩ -- s5: (0 ≤ v16 ∧ v16 < 20)
    intro A45 e45
    have T45 : mTp o F39 A45 q n := (T32.of d1 rfl).of (mgF.refl o _) (by rw [e45, upA_o (by omega)])
    refine ⟨_, sX9_must T45 d2, ?_⟩ -- call wpX9_must o 448545973363 F39 A45 P47
    intro F50 A51 p47
    obtain ⟨f1, f2, f3⟩ := p47
    subst f1
    have T51 := T45.of f2 rfl
    refine ⟨_, sX9_number T51 f3, ?_⟩ -- call wpX9_number o 1 60 F50 A51 P55
    intro z57 F58 A59 p55
    obtain ⟨h1, h2, h3, h4⟩ := p55
    subst h1
    have kw : mG o q n (chH W q n (nx q n p)) (nxk q n (nx q n p) 5) F58 := h3
    have gg : mgF o F F58 := ((((u2.trans y2).trans a2).trans d1).trans f2).trans h2
    refine ⟨by exact v20, ?_⟩ -- s6: (0 ≤ v16 ∧ v16 < 20)
    intro A64 e64
    have e3x : ∀ a, (a < o + 13 ∨ o + 15 < a) → A64 a = A21 a := fun a ha => by rw [e64, upA_o (by omega), e45, upA_o (by omega), e26, upA_o (by omega)]
    have e3i : ∀ (a : Nat) (i : Int), i ≠ v16 → A64 a i = A21 a i := fun a i hi => by rw [e64, upA_i hi, e45, upA_i hi, e26, upA_i hi]
    have e3v : A64 (o + 13) v16 = z19 ∧ A64 (o + 14) v16 = z38 ∧ A64 (o + 15) v16 = z57 := ⟨by rw [e64, upA_o (by omega), e45, upA_o (by omega), e26, upA_s], by rw [e64, upA_o (by omega), e45, upA_s], by rw [e64, upA_s]⟩
    have m64 : mfB o b A21 A64 := by
      rw [e64, e45, e26]
      exact (((mfB.refl o b A21).up (k := 13) (by decide) vr).up (k := 14) (by decide) vr).up (k := 15) (by decide) vr
    have n5 := nxk_range (q := q) r1.2.2 5
    have c20 : 0 ≤ (nxk q n (nx q n p) 5) := n5.1
    refine ⟨fun (v66 : Int) (A67 : jAr) => (0 ≤ v66 ∧ v66 ≤ 24) ∧ (∀ a, a ≠ o + 16 → A67 a = A64 a) ∧ (∀ i : Int, (i < 24 * v16 ∨ 24 * v16 + 24 ≤ i) → A67 (o + 16) i = A64 (o + 16) i) ∧ ∀ w : Int, 0 ≤ w → w < v66 → A67 (o + 16) (24 * v16 + w) = 0, fun v66 A67 => (24 - v66).toNat, ?_, ?_⟩ -- loop I69 I69 0 A64
    ·
      -- l1: I69 0 A64
      exact ⟨by omega, fun _ _ => rfl, fun _ _ => rfl, fun w w0 w1 => by omega⟩
    intro v66 A67 i69
    obtain ⟨x1, x2, x3, x4⟩ := i69
    refine ⟨fun hc => ?_, fun hc => ?_⟩ -- c2
    · -- case (24 ≤ v66)
      refine ⟨fun (F72 : jFl) (A73 : jAr) => chI o q n W (nx q n p) v16 F A64 F72 A73, fun F72 A73 => if F72 3024 o = 0 then (n + 1 - F72 3012 o).toNat else 0, ?_, ?_⟩ -- loop I75 I75 F58 A67
      ·
        -- l2: I75 F58 A67
        refine ⟨gg, x2, x3, ?_⟩
        by_cases w : (chH W q n (nx q n p)).1 = 0
        · exact ⟨_, Or.inr ⟨w, rfl, nxk q n (nx q n p) 5, n.toNat, fun _ => 0, kw.z w rfl, by omega, rfl, fun w w0 w1 => x4 w w0 (by omega)⟩⟩
        · exact ⟨_, Or.inl ⟨w, (fb_no w).symm, kw.any w⟩⟩
      intro F72 A73 i75
      obtain ⟨j1, j2, j3, c, j4⟩ := i75
      have b34 : F72 3114 o = b := by rw [j1 _ _ (fun _ => by decide)]; exact hb
      have mf : mfB o b A21 A73 := m64.blk (k := 16) (lo := 24 * v16) (hi := 24 * v16 + 24) (by decide) j2 j3 (by show 240 * b ≤ 24 * v16 ∧ 24 * v16 + 24 ≤ 240 * b + 240; omega)
      have T34 : mTp o F72 A73 q n := hT.of j1 (by rw [j2 _ (by omega), e3x _ (by omega)])
      have J4 : F72 3024 o = 0 → (chH W q n (nx q n p)).1 = 0 ∧ c = (0, 0) ∧ ∃ (p1 : Int) (f : Nat) (g : Int → Int), mG o q n (0, 0) p1 F72 ∧ n - p1 ≤ f ∧ chA W q n (nx q n p) = chN (fun i => W 10 i 0) (W 0 0 0) q n f p1 g ∧ ∀ w : Int, 0 ≤ w → w < 24 → A73 (o + 16) (24 * v16 + w) = g w := fun y => by
        rcases j4 with ⟨c1, c2, c3⟩ | w
        · exact absurd (by rw [← c3.1.1]; exact y) c1
        · exact w
      refine ⟨F72 3024 o ≠ 0 ∨ F72 3009 o ≠ 1, ?_, ?_⟩ -- join K78
      · intro k78
        refine ⟨fun hc => ?_, fun hc => ?_⟩ -- c3
        · -- case (¬ (F72 3024 o) = 0)
          -- l3: Q F72 A73
          intro R hR'
          rw [if_neg ns] at hR'
          subst hR'
          rcases j4 with ⟨c1, c2, c3⟩ | ⟨c1, c2, p1, f, g, c3, -⟩
          · exact ⟨j1, mf, c, c3.any c1, fun w => absurd w c1, Or.inl c2⟩
          · exact absurd c3.1.1 hc
        · -- case ¬ (¬ (F72 3024 o) = 0)
          obtain ⟨c1, c2, p1, f, g, c3, c4, c5, c6⟩ := J4 (by omega)
          obtain ⟨d1, d2, d3'⟩ := c3.2.1 rfl
          have kd : tkKd q n (tkAt q n p1) ≠ 1 := by
            rw [← d2.2.2.1]
            rcases k78 with w | w
            · exact absurd w hc
            · exact w
          have c35 : A73 (o + 12) b = W 2 0 0 := by rw [j2 _ (by omega), e3x _ (by omega)]; exact m0
          refine ⟨by (rw [b34]; exact hb2), ?_⟩ -- s7: (0 ≤ F72 3114 o ∧ F72 3114 o < 2)
          refine ⟨by (rw [b34]; exact hb2), ?_⟩ -- s8: (0 ≤ F72 3114 o ∧ F72 3114 o < 2)
          refine ⟨by (rw [b34, c35]; omega), ?_⟩ -- s9: jR ((A73 (o + 12) (F72 3114 o)) + 1)
          intro A85 e85
          -- l4: Q F72 A85
          intro R hR'
          rw [if_neg ns] at hR'
          subst hR'
          rw [chN_stop kd] at c5
          rw [b34, c35] at e85
          refine ⟨j1, by rw [e85]; exact mf.up (k := 12) (by decide) (by show 1 * b ≤ b ∧ b < 1 * b + 1; omega), (0, 0), by rw [c5]; exact c3, fun _ => ?_, Or.inl (by rw [fb_ok c1, c5])⟩
          obtain ⟨k1, k2, k3, k4, k5⟩ := chH_0 c1
          have f1' : (fb (frF W q n (nx q n p)) (asW 28518 q n (nxk q n (nx q n p) 1))).1 = 0 := by rw [fb_ok k1]; exact k2
          have f2' : (fb (fb (frF W q n (nx q n p)) (asW 28518 q n (nxk q n (nx q n p) 1))) (knF (fun i => W 16 i 0) (W 1 0 0) q n (tkAt q n (nxk q n (nx q n p) 2)))).1 = 0 := by rw [fb_ok f1']; exact k3
          have f3' : (fb (fb (fb (frF W q n (nx q n p)) (asW 28518 q n (nxk q n (nx q n p) 1))) (knF (fun i => W 16 i 0) (W 1 0 0) q n (tkAt q n (nxk q n (nx q n p) 2)))) (asW 448545973363 q n (nxk q n (nx q n p) 3))).1 = 0 := by rw [fb_ok f2']; exact k4
          have x1 : z19 = tkC q n (tkAt q n (nx q n p)) := y4 k1
          have x2 : z38 = knV (fun i => W 16 i 0) (W 1 0 0) q n (tkAt q n (nxk q n (nx q n p) 2)) := d3 f1' k3
          have x3 : z57 = tkV q n (tkAt q n (nxk q n (nx q n p) 4)) := h4 f3' k5
          rw [e85]
          refine hR.child (fun a h1 => by rw [upA_o (by omega), j2 _ (by omega), e3x _ (by omega)]) upA_s ?_ (fun i hi => ?_) (fun w w0 w1 => ?_) (fun i hi => ?_)
          · rw [upA_o (by omega), upA_o (by omega), upA_o (by omega), j2 _ (by omega), j2 _ (by omega), j2 _ (by omega), ← e16, ← x1, ← x2, ← x3]
            exact e3v
          · rw [upA_o (by omega), upA_o (by omega), upA_o (by omega), j2 _ (by omega), j2 _ (by omega), j2 _ (by omega)]
            exact ⟨e3i _ _ (by omega), e3i _ _ (by omega), e3i _ _ (by omega)⟩
          · rw [upA_o (by omega), c5, ← e16]
            exact c6 w w0 w1
          · rw [upA_o (by omega), j3 _ (by omega), e3x _ (by omega)]
      refine ⟨fun hc => ?_, fun hc => ?_⟩ -- c4
      · -- case (¬ (F72 3024 o) = 0)
        -- l5: K78
        exact Or.inl hc
      · -- case ¬ (¬ (F72 3024 o) = 0)
        refine ⟨fun hc => ?_, fun hc => ?_⟩ -- c5
        · -- case (¬ (F72 3009 o) = 1)
          -- l6: K78
          exact Or.inr hc
        · -- case ¬ (¬ (F72 3009 o) = 1)
          obtain ⟨c1, c2, p1, f, g, c3, c4, c5, c6⟩ := J4 (by omega)
          obtain ⟨d1, d2, d3'⟩ := c3.2.1 rfl
          have kd : tkKd q n (tkAt q n p1) = 1 := by rw [← d2.2.2.1]; omega
          obtain ⟨f', ef, c7, c8⟩ := fuel_go d3' c4 (by rw [kd]; decide)
          subst ef
          have N34 : mNm o F72 A73 0 (fun i => W 10 i 0) (W 0 0 0) := N8.w (by rw [b34, b8]) (by rw [j2 _ (by omega), e3x _ (by omega)]) (by rw [j2 _ (by omega), e3x _ (by omega)])
          have rp := nx_range (q := q) d3'
          have kp := knF_pos (e := fun i => W 10 i 0) (m := W 0 0 0) (q := q) (n := n) (a := tkAt q n p1)
          have meas0 : 0 < (if F72 3024 o = 0 then (n + 1 - F72 3012 o).toNat else 0) := by
            rw [if_pos (by omega), d2.1]; omega
          refine ⟨_, sX9_looked (q := q) (n := n) (a := tkAt q n p1) (by omega) (fun _ => d2) rp.1 N34, ?_⟩ -- call wpX9_looked o 0 F72 A73 P88
          intro z90 F91 A92 p88
          obtain ⟨e1, -, e2⟩ := p88
          subst e1
          have e2 := e2 (by omega)
          have K1 : F91 3024 o ≠ 0 → (knF (fun i => W 10 i 0) (W 0 0 0) q n (tkAt q n p1)).1 ≠ 0 ∧ F91 = mfl o F72 (knF (fun i => W 10 i 0) (W 0 0 0) q n (tkAt q n p1)) := fun y => by
            by_cases w : (knF (fun i => W 10 i 0) (W 0 0 0) q n (tkAt q n p1)).1 = 0
            · rw [(e2.1 w).2] at y; omega
            · exact ⟨w, (e2.2 w).2⟩
          have K0 : F91 3024 o = 0 → (knF (fun i => W 10 i 0) (W 0 0 0) q n (tkAt q n p1)).1 = 0 ∧ z90 = knV (fun i => W 10 i 0) (W 0 0 0) q n (tkAt q n p1) ∧ F91 = F72 := fun y => by
            by_cases w : (knF (fun i => W 10 i 0) (W 0 0 0) q n (tkAt q n p1)).1 = 0
            · exact ⟨w, e2.1 w⟩
            · rw [(e2.2 w).2, mfl_k] at y; exact absurd y w
          refine ⟨fun hc => ?_, fun hc => ?_⟩ -- c6
          · -- case (¬ (F91 3024 o) = 0)
            refine ⟨fun hc => ?_, fun hc => ?_⟩ -- c7
            · -- case (¬ (F91 3024 o) = 0)
              refine ⟨fun hc => ?_, fun hc => ?_⟩ -- c8
              · -- case (¬ (F91 3024 o) = 0)
                refine ⟨?_, ?_⟩ -- l7: I75 F91 A92
                · obtain ⟨k1, k2⟩ := K1 (by assumption)
                  have sf : chF (fun i => W 10 i 0) (W 0 0 0) q n p1 g = knF (fun i => W 10 i 0) (W 0 0 0) q n (tkAt q n p1) := by unfold chF; rw [fb_no k1]
                  exact chI.bad (p' := p1) j1 j2 j3 c1 c5 kd (by rw [sf]; exact k1) (by rw [k2]; exact mfl_g) (by rw [sf, k2]; exact mG.fl (by omega))
                · dsimp only
                  rw [if_neg (by assumption)]
                  exact meas0
              · -- case ¬ (¬ (F91 3024 o) = 0)
                (exfalso; omega)
            · -- case ¬ (¬ (F91 3024 o) = 0)
              (exfalso; omega)
          · -- case ¬ (¬ (F91 3024 o) = 0)
            obtain ⟨k1, k2, k3⟩ := K0 (by omega)
            subst k3
            have kv := (knV_ok d3' tw.1 k1).2.2.2.1
            have zr : 0 ≤ z90 ∧ z90 < 24 := by rw [k2]; omega
            refine ⟨by exact idx24 vr (Or.inr ⟨rfl, rfl⟩) hb2 zr, ?_⟩ -- s11: (0 ≤ (24 * v16) + z90 ∧ (24 * v16) + z90 < 480)
            refine ⟨fun hc => ?_, fun hc => ?_⟩ -- c9
            · -- case (¬ (A92 (o + 16) ((24 * v16) + z90)) = 1)
              refine ⟨fun hc => ?_, fun hc => ?_⟩ -- c10
              · -- case (¬ (F91 3024 o) = 0)
                refine ⟨fun hc => ?_, fun hc => ?_⟩ -- c11
                · -- case (¬ (F91 3024 o) = 0)
                  refine ⟨?_, ?_⟩ -- l8: I75 F91 A92
                  · (exfalso; omega)
                  · (exfalso; omega)
                · -- case ¬ (¬ (F91 3024 o) = 0)
                  (exfalso; omega)
              · -- case ¬ (¬ (F91 3024 o) = 0)
                have gm1 : g (knV (fun i => W 10 i 0) (W 0 0 0) q n (tkAt q n p1)) ≠ 1 := fun y => by
                  rw [← c6 _ (by omega) (by omega), ← k2] at y
                  contradiction
                have sf : chF (fun i => W 10 i 0) (W 0 0 0) q n p1 g = (0, 0) := by unfold chF; rw [fb_ok k1, if_neg gm1]
                refine ⟨_, sX9_ahead (q := q) (n := n) (p := nx q n p1) T34.1 T34.2.1 T34.2.2 d2.2.1 rp.2.2, ?_⟩ -- call wpX9_ahead o F91 A92 P121
                intro F124 A125 p121
                obtain ⟨o1, o2, o3⟩ := p121
                subst o1
                have G124 : mG o q n (0, 0) (nx q n p1) F124 := c3.go rfl rfl o2 o3
                refine ⟨fun hc => ?_, fun hc => ?_⟩ -- c12
                · -- case (¬ (F124 3024 o) = 0)
                  refine ⟨?_, ?_⟩ -- l9: I75 F124 A125
                  · exact absurd G124.1.1 hc
                  · exact absurd G124.1.1 hc
                · -- case ¬ (¬ (F124 3024 o) = 0)
                  refine ⟨by exact idx24 vr (Or.inr ⟨rfl, rfl⟩) hb2 zr, ?_⟩ -- s13: (0 ≤ (24 * v16) + z90 ∧ (24 * v16) + z90 < 480)
                  intro A131 e131
                  refine ⟨?_, ?_⟩ -- l10: I75 F124 A131
                  · exact chI.go j1 j2 j3 c1 c5 c6 kd d3' c7 (by rw [sf]) o3.mgF G124 rfl e131 k2 zr
                  · dsimp only
                    have tl := tk_cases q n (tkAt q n p1) rp.1.2
                    have lt : tkAt q n p1 < nx q n p1 := by unfold nx; omega
                    have tk3 := nx_range (q := q) rp.2.2
                    have dd := G124.2.1 rfl
                    rw [if_pos (show F124 3024 o = 0 by omega), if_pos (show F91 3024 o = 0 by omega), dd.2.1.1, d2.1]
                    omega
            · -- case ¬ (¬ (A92 (o + 16) ((24 * v16) + z90)) = 1)
              refine ⟨_, sX9_blame, ?_⟩ -- call wpX9_blame o 3 (F91 3012 o) F91 A92 P133
              intro F136 A137 p133
              obtain ⟨v1, v2, -⟩ := p133
              subst v1
              have v2 := v2 (by omega)
              rw [d2.1] at v2
              have gm1 : g (knV (fun i => W 10 i 0) (W 0 0 0) q n (tkAt q n p1)) = 1 := by
                rw [← c6 _ (by omega) (by omega), ← k2]
                exact Classical.byContradiction (fun y => by contradiction)
              have sf : chF (fun i => W 10 i 0) (W 0 0 0) q n p1 g = (3, tkAt q n p1) := by unfold chF; rw [fb_ok k1, if_pos gm1]
              have k31 : ((3 : Int), tkAt q n p1).1 ≠ 0 := by show (3 : Int) ≠ 0; decide
              refine ⟨fun hc => ?_, fun hc => ?_⟩ -- c13
              · -- case (¬ (F136 3024 o) = 0)
                refine ⟨fun hc => ?_, fun hc => ?_⟩ -- c14
                · -- case (¬ (F136 3024 o) = 0)
                  refine ⟨?_, ?_⟩ -- l11: I75 F136 A137
                  · exact chI.bad (p' := p1) j1 j2 j3 c1 c5 kd (by rw [sf]; exact k31) (by rw [v2]; exact mfl_g) (by rw [sf, v2]; exact mG.fl (by show (0 : Int) < 3; decide))
                  · dsimp only
                    rw [if_neg (by assumption)]
                    exact meas0
                · -- case ¬ (¬ (F136 3024 o) = 0)
                  (exfalso; omega)
              · -- case ¬ (¬ (F136 3024 o) = 0)
                (exfalso; rw [v2, mfl_k] at hc; exact hc k31)
    · -- case ¬ (24 ≤ v66)
      refine ⟨by exact idx24 vr (Or.inr ⟨rfl, rfl⟩) hb2 (by omega), ?_⟩ -- s15: (0 ≤ (24 * v16) + v66 ∧ (24 * v16) + v66 < 480)
      intro A159 e159
      refine ⟨by omega, ?_⟩ -- s16: jR (v66 + 1)
      refine ⟨?_, ?_⟩ -- l12: I69 (v66 + 1) A159
      · refine ⟨by omega, fun a ha => by rw [e159, upA_o ha]; exact x2 a ha, fun i hi => by rw [e159, upA_i (by omega)]; exact x3 i hi, fun w w0 w1 => ?_⟩
        by_cases y : w = v66
        · rw [y, e159, upA_s]
        · rw [e159, upA_i (by omega)]; exact x4 w w0 (by omega)
      · dsimp only; omega
  · -- case ¬ (¬ z7 = 0)
    -- l13: Q F8 A9
    intro R hR'
    have full : W 2 0 0 = 10 := Classical.byContradiction (fun w => by
      have := (u4 (by rw [e3, if_pos w])).1
      omega)
    rw [if_pos full] at hR'
    subst hR'
    exact ⟨u2, mfB.refl o b _, _, (u3 (by rw [e3, if_neg (fun w => w full)]; decide)).2, fun w => absurd w (by show ¬ (5 : Int) = 0; decide), Or.inl rfl⟩

