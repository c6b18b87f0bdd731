set_option maxRecDepth 100000
set_option linter.unusedVariables false
/-! the model's reader: streets; printed by gen/prove.py out of spec/av.mt3.spec -/
section
variable {o : Nat} {F F' : jFl} {A A' : jAr} {q : Int → Int} {n p : Int} {f : Int × Int} {e : Int → Int} {m z : Int}
theorem mG.asked (hG : mG o q n f p F) (h1 : 0 < F 3024 o → z = 0 ∧ F' = F) (h2 : F 3024 o = 0 → (((knF e m q n (tkAt q n p)).1 = 0 → z = knV e m q n (tkAt q n p) ∧ F' 3024 o = 0 ∧ mTk o F' q n (tkAt q n (tkEnd q n (tkAt q n p))) ∧ mhF o F F') ∧ ((knF e m q n (tkAt q n p)).1 ≠ 0 → z = 0 ∧ F' = mfl o F (knF e m q n (tkAt q n p))))) : mgF o F F' ∧ mG o q n (fb f (knF e m q n (tkAt q n p))) (nx q n p) F' ∧ (f.1 = 0 → (knF e m q n (tkAt q n p)).1 = 0 → z = knV e m q n (tkAt q n p)) := by
  by_cases w : f.1 = 0
  · obtain ⟨y1, y2⟩ := h2 (by rw [hG.1.1]; exact w)
    rw [fb_ok w]
    by_cases k : (knF e m q n (tkAt q n p)).1 = 0
    · obtain ⟨k1, k2, k3, k4⟩ := y1 k
      exact ⟨k4.mgF, hG.go w k k3 k4, fun _ _ => k1⟩
    · obtain ⟨k1, k2⟩ := y2 k
      have := knF_pos (e := e) (m := m) (q := q) (n := n) (a := tkAt q n p)
      rw [k2]
      exact ⟨mfl_g, mG.fl (by omega), fun _ x => absurd x k⟩
  · obtain ⟨y1, y2⟩ := h1 (by have := hG.1; omega)
    rw [fb_no w, y2]
    exact ⟨mgF.refl o F, hG.any w, fun x => absurd x w⟩
end
theorem mfB.blk {o : Nat} {b lo hi : Int} {A A1 A' : jAr} {k : Nat} (h : mfB o b A A1) (hk : 2 ≤ k ∧ k ≤ 25) (h1 : ∀ a, a ≠ o + k → A' a = A1 a) (h2 : ∀ i : Int, (i < lo ∨ hi ≤ i) → A' (o + k) i = A1 (o + k) i) (hr : bsz k * b ≤ lo ∧ hi ≤ bsz k * b + bsz k) : mfB o b A A' := h.trans ⟨fun a ha => h1 a (by omega), fun k' k0 k1 i hi' => by
    by_cases w : k' = k
    · subst w; exact h2 i (by omega)
    · rw [h1 _ (by omega)]⟩
theorem mNm.w {o : Nat} {F F' : jFl} {A A' : jAr} {e : Int → Int} {m : Int} (h : mNm o F A 0 e m) (hF : F' 3114 o = F 3114 o) (h2 : A' (o + 2) = A (o + 2)) (h3 : A' (o + 3) = A (o + 3)) : mNm o F' A' 0 e m := by
  obtain ⟨h0, h1, h⟩ := h
  unfold mNm
  rw [hF]
  rcases h with w | ⟨w, -⟩ | ⟨w, -⟩ | ⟨w, -⟩
  · rw [h2, h3]; exact ⟨h0, h1, Or.inl w⟩
  · omega
  · omega
  · omega
theorem mrR.street {o : Nat} {A A' : jAr} {b : Int} {W L : sTb} {q : Int → Int} {n p : Int} (h : mrR o A b W L) (h1 : ∀ a, a ≠ o + 9 → a ≠ o + 10 → a ≠ o + 11 → A' a = A a) (h2 : A' (o + 9) b = W 1 0 0 + 1) (h3 : A' (o + 10) (6 * b + W 1 0 0) = tkC q n (tkAt q n p)) (h4 : ∀ i : Int, i ≠ 6 * b + W 1 0 0 → A' (o + 10) i = A (o + 10) i) (h5 : ∀ w : Int, 0 ≤ w → w < 24 → A' (o + 11) (24 * (6 * b + W 1 0 0) + w) = (stA W q n p).2.2 w) (h6 : ∀ i : Int, (i < 24 * (6 * b + W 1 0 0) ∨ 24 * (6 * b + W 1 0 0) + 24 ≤ i) → A' (o + 11) i = A (o + 11) i) : mrR o A' b (stW W q n p) L := by
  obtain ⟨⟨⟨a1, a2, a3, a4⟩, a5, a6, a7⟩, g1, g2, g3, g4⟩ := h
  have e0 : ∀ i j, stW W q n p 1 i j = W 1 0 0 + 1 := fun _ _ => rfl
  have e : ∀ (k : Nat) (i j : Int), k ≠ 1 → k ≠ 16 → k ≠ 17 → stW W q n p k i j = W k i j := fun k i j k0 k1 k2 => by
    unfold stW
    rw [if_neg k0, if_neg (fun w => k1 w.2), if_neg (fun w => k2 w.2)]
  refine ⟨⟨⟨?_, by rw [h2, e0], ?_, ?_⟩, ?_, ?_, ?_⟩, ?_, fun s x y => ?_, ?_, ?_⟩
  · rw [h1 _ (by omega) (by omega) (by omega), e 0 _ _ (by decide) (by decide) (by decide)]; exact a1
  · rw [h1 _ (by omega) (by omega) (by omega), e 2 _ _ (by decide) (by decide) (by decide)]; exact a3
  · rw [h1 _ (by omega) (by omega) (by omega), e 3 _ _ (by decide) (by decide) (by decide)]; exact a4
  · rw [h1 _ (by omega) (by omega) (by omega), e 4 _ _ (by decide) (by decide) (by decide)]; exact a5
  · rw [h1 _ (by omega) (by omega) (by omega), e 5 _ _ (by decide) (by decide) (by decide)]; exact a6
  · rw [h1 _ (by omega) (by omega) (by omega), e 6 _ _ (by decide) (by decide) (by decide)]; exact a7
  · rw [e 0 _ _ (by decide) (by decide) (by decide)]
    exact g1.of (fun k k0 k1 => h1 _ (by omega) (by omega) (by omega)) (fun k k0 k1 i => e _ _ _ (by omega) (by omega) (by omega))
  · rw [e0] at y
    by_cases z : s = W 1 0 0
    · subst z
      refine ⟨by rw [h3]; simp [stW], fun w x2 y2 => ?_⟩
      rw [h5 w x2 y2]
      simp [stW]
    · rw [h4 _ (by omega)]
      have x16 : stW W q n p 16 s 0 = W 16 s 0 := by simp [stW, z]
      have x17 : ∀ w, stW W q n p 17 s w = W 17 s w := fun w => by simp [stW, z]
      rw [x16]
      refine ⟨(g2 s x (by omega)).1, fun w x2 y2 => ?_⟩
      rw [x17, h6 _ (by omega)]
      exact (g2 s x (by omega)).2 w x2 y2
  · rw [e 2 _ _ (by decide) (by decide) (by decide)]
    exact g3.of (fun k k0 k1 => h1 _ (by omega) (by omega) (by omega)) (fun k k0 k1 i j => e _ _ _ (by omega) (by omega) (by omega))
  · rw [e 3 _ _ (by decide) (by decide) (by decide)]
    exact g4.of (fun k k0 k1 => h1 _ (by omega) (by omega) (by omega)) (fun i => e _ _ _ (by decide) (by decide) (by decide))
theorem fuel_go {q : Int → Int} {n p : Int} {f : Nat} (hp : 0 ≤ p ∧ p ≤ n) (h : n - p ≤ (f : Int)) (k : tkKd q n (tkAt q n p) ≠ 0) : ∃ f', f = f' + 1 ∧ n - (p + 1) ≤ (f' : Int) ∧ tkAt q n p < n := by
  have l := tkKd_lt k
  have r := nx_range (q := q) hp
  cases f with
  | zero => omega
  | succ f => exact ⟨f, rfl, by omega, l⟩
theorem mG.z {o : Nat} {q : Int → Int} {n p : Int} {f g : Int × Int} {F : jFl} (h : mG o q n f p F) (hf : f.1 = 0) (hg : g.1 = 0) : mG o q n g p F := ⟨⟨by rw [hg, ← hf]; exact h.1.1, by omega⟩, fun _ => h.2.1 hf, fun w => absurd hg w⟩
/-- amid a street: v its row, A1 the arrays ahead of it -/
def stI (o : Nat) (q : Int → Int) (n : Int) (W : sTb) (p v : Int) (F0 : jFl) (A1 : jAr) (F : jFl) (A : jAr) : Prop := mgF o F0 F ∧ (∀ a, a ≠ o + 11 → A a = A1 a) ∧ (∀ i : Int, (i < 24 * v ∨ 24 * v + 24 ≤ i) → A (o + 11) i = A1 (o + 11) i) ∧ ∃ c : Int × Int, ((c.1 ≠ 0 ∧ c = fb (frF W q n p) (stA W q n p).1 ∧ mG o q n c p F) ∨ ((frF W q n p).1 = 0 ∧ c = (0, 0) ∧ ∃ (p1 : Int) (f : Nat) (g : Int → Int), mG o q n (0, 0) p1 F ∧ n - p1 ≤ f ∧ stA W q n p = stN (fun i => W 10 i 0) (W 0 0 0) q n f p1 g ∧ ∀ w : Int, 0 ≤ w → w < 24 → A (o + 11) (24 * v + w) = g w))
section
variable {o : Nat} {q : Int → Int} {n : Int} {W : sTb} {p v : Int} {F0 : jFl} {A1 : jAr} {F F' : jFl} {A A' : jAr} {p1 : Int} {f : Nat} {g : Int → Int}
theorem stI.bad {p' : Int} (h1 : mgF o F0 F) (h2 : ∀ a, a ≠ o + 11 → A a = A1 a) (h3 : ∀ i : Int, (i < 24 * v ∨ 24 * v + 24 ≤ i) → A (o + 11) i = A1 (o + 11) i) (c1 : (frF W q n p).1 = 0) (c5 : stA W q n p = stN (fun i => W 10 i 0) (W 0 0 0) q n (f + 1) p1 g) (kd : tkKd q n (tkAt q n p1) = 1) (ne : (stF (fun i => W 10 i 0) (W 0 0 0) q n p1 g).1 ≠ 0) (hF : mgF o F F') (hm : mG o q n (stF (fun i => W 10 i 0) (W 0 0 0) q n p1 g) p' F') : stI o q n W p v F0 A1 F' A :=
  ⟨h1.trans hF, h2, h3, _, Or.inl ⟨ne, by rw [fb_ok c1, c5, stN_bad kd ne], hm.any ne⟩⟩
theorem stI.go {z z2 : Int} {f2 : Int × Int} (h1 : mgF o F0 F) (h2 : ∀ a, a ≠ o + 11 → A a = A1 a) (h3 : ∀ i : Int, (i < 24 * v ∨ 24 * v + 24 ≤ i) → A (o + 11) i = A1 (o + 11) i) (c1 : (frF W q n p).1 = 0) (c5 : stA W q n p = stN (fun i => W 10 i 0) (W 0 0 0) q n (f + 1) p1 g) (c6 : ∀ w : Int, 0 ≤ w → w < 24 → A (o + 11) (24 * v + w) = g w) (kd : tkKd q n (tkAt q n p1) = 1) (hp : 0 ≤ p1 ∧ p1 ≤ n) (hf : n - (p1 + 1) ≤ (f : Int)) (ne : (stF (fun i => W 10 i 0) (W 0 0 0) q n p1 g).1 = 0) (hF : mgF o F F') (hm : mG o q n f2 (nxk q n p1 3) F') (h0 : f2.1 = 0) (e : A' = upA A (o + 11) (24 * v + z) z2) (hz : z = knV (fun i => W 10 i 0) (W 0 0 0) q n (tkAt q n p1)) (hz2 : z2 = knV (fun i => W 10 i 0) (W 0 0 0) q n (tkAt q n (nxk q n p1 2))) (zr : 0 ≤ z ∧ z < 24) : stI o q n W p v F0 A1 F' A' := by
  have l := nx_lt hp (tkKd_lt (by rw [kd]; decide))
  have l2 := nxk_mono (q := q) (nxk_range (q := q) hp 1) 2
  have e3 : nxk q n p1 3 = nxk q n (nxk q n p1 1) 2 := rfl
  have e1 : nxk q n p1 1 = nx q n p1 := rfl
  refine ⟨h1.trans hF, fun a ha => by rw [e, upA_o ha]; exact h2 a ha, fun i hi => by rw [e, upA_i (by omega)]; exact h3 i hi, _, Or.inr ⟨c1, rfl, _, f, _, hm.z h0 rfl, by omega, by rw [c5, stN_go kd ne], fun w w0 w1 => ?_⟩⟩
  rw [← hz, ← hz2]
  by_cases y : w = z
  · rw [y, e, upA_s, upv_s]
  · rw [e, upA_i (by omega), upv_n y]; exact c6 w w0 w1
end
theorem idx24 {b v z k s : Int} (h : k * b ≤ v ∧ v < k * b + k) (hk : k = 6 ∧ s = 288 ∨ k = 10 ∧ s = 480) (hb : 0 ≤ b ∧ b < 2) (hz : 0 ≤ z ∧ z < 24) : 0 ≤ 24 * v + z ∧ 24 * v + z < s := by
  rcases hk with ⟨x, y⟩ | ⟨x, y⟩ <;> subst x y <;> omega
set_option maxHeartbeats 2000000 in
theorem sX9_streeting {o : Nat} {F : jFl} {A : jAr} {q : Int → Int} {n p b : Int} {W L : sTb} (hT : mTp o F A q n) (hG : mG o q n (0, 0) p F) (hb : F 3114 o = b) (hb2 : 0 ≤ b ∧ b < 2) (hR : mrR o A b W L) (ht : tOk W L) : wpX9_streeting o F A (fun F' A' => ∀ R : smR, R = (if W 1 0 0 = 6 then ((5, tkAt q n p), p, W, L) else (fb (frF W q n (nx q n p)) (stA W q n (nx q n p)).1, (stA W q n (nx q n p)).2.1, stW W q n (nx q n p), L)) → smP o q n b F A F' A' R) := by
  unfold wpX9_streeting
  have m0 : A (o + 9) b = W 1 0 0 := hR.1.1.2.1
  have t0 := ht.2.1
  have tw := ht.1
  obtain ⟨g1, g2, g3⟩ := hG.2.1 rfl
  have r1 := nx_range (q := q) g3
  have r2 := nx_range (q := q) r1.2.2
  refine ⟨by (rw [hb]; omega), ?_⟩ -- s1: (0 ≤ F 3114 o ∧ F 3114 o < 2)
  intro z3 e3
  rw [hb, m0] at e3
  refine ⟨_, sX9_counts hT hG, ?_⟩ -- call wpX9_counts o z3 F A P5
  intro z7 F8 A9 p5
  obtain ⟨u1, u2, u3, u4⟩ := p5
  subst u1
  refine ⟨fun hc => ?_, fun hc => ?_⟩ -- c1
  · -- case (¬ z7 = 0)
    have ns : W 1 0 0 ≠ 6 := fun w => by
      have := (u3 (by rw [e3, if_neg (fun y => y w)]; decide)).1
      omega
    obtain ⟨-, G8⟩ := u4 (by rw [e3, if_pos ns])
    have b8 : F8 3114 o = b := by rw [u2 _ _ (fun _ => by decide)]; exact hb
    refine ⟨by (rw [u2 _ _ (fun _ => by decide), hb]; omega), ?_⟩ -- s2: (0 ≤ F8 3114 o ∧ F8 3114 o < 2)
    refine ⟨by (rw [b8, m0]; omega), ?_⟩ -- s3: jR ((6 * (F8 3114 o)) + (A9 (o + 9) (F8 3114 o)))
    intro v16 e16
    rw [b8, m0] at e16
    have vr : 6 * b ≤ v16 ∧ v16 < 6 * b + 6 := by omega
    have T8 := hT.of u2 rfl
    have N8 := (hR.nm ht b8 hb2) 0 (by decide) (by decide)
    refine ⟨_, sX9_fresh (W := W) T8 G8 (hR.nm ht b8 hb2), ?_⟩ -- call wpX9_fresh o F8 A9 P17
    intro z19 F20 A21 p17
    obtain ⟨y1, y2, y3, y4⟩ := p17
    subst y1
    rw [fb_ok rfl] at y3
    have y4 := y4 rfl
    have gg := u2.trans y2
    refine ⟨by omega, ?_⟩ -- s4: (0 ≤ v16 ∧ v16 < 12)
    intro A26 e26
    refine ⟨fun (v28 : Int) (A29 : jAr) => (0 ≤ v28 ∧ v28 ≤ 24) ∧ (∀ a, a ≠ o + 11 → A29 a = A26 a) ∧ (∀ i : Int, (i < 24 * v16 ∨ 24 * v16 + 24 ≤ i) → A29 (o + 11) i = A26 (o + 11) i) ∧ ∀ w : Int, 0 ≤ w → w < v28 → A29 (o + 11) (24 * v16 + w) = -1, fun v28 A29 => (24 - v28).toNat, ?_, ?_⟩ -- loop I31 I31 0 A26
    ·
      -- l1: I31 0 A26
      exact ⟨by omega, fun _ _ => rfl, fun _ _ => rfl, fun w w0 w1 => by omega⟩
    intro v28 A29 i31
    obtain ⟨x1, x2, x3, x4⟩ := i31
    refine ⟨fun hc => ?_, fun hc => ?_⟩ -- c2
    · -- case (24 ≤ v28)
      refine ⟨fun (F34 : jFl) (A35 : jAr) => stI o q n W (nx q n p) v16 F A26 F34 A35, fun F34 A35 => if F34 3024 o = 0 then (n + 1 - F34 3012 o).toNat else 0, ?_, ?_⟩ -- loop I37 I37 F20 A29
      ·
        -- l2: I37 F20 A29
        refine ⟨gg, x2, x3, ?_⟩
        by_cases w : (frF W q n (nx q n p)).1 = 0
        · exact ⟨_, Or.inr ⟨w, rfl, nx q n (nx q n p), n.toNat, fun _ => -1, y3.z w rfl, by omega, rfl, fun w w0 w1 => x4 w w0 (by omega)⟩⟩
        · exact ⟨_, Or.inl ⟨w, (fb_no w).symm, y3.any w⟩⟩
      intro F34 A35 i37
      obtain ⟨j1, j2, j3, c, j4⟩ := i37
      have b34 : F34 3114 o = b := by rw [j1 _ _ (fun _ => by decide)]; exact hb
      have mf : mfB o b A21 A35 := ((mfB.refl o b A21).up (k := 10) (i := v16) (z := z19) (by decide) (by show 6 * b ≤ v16 ∧ v16 < 6 * b + 6; omega)).blk (k := 11) (lo := 24 * v16) (hi := 24 * v16 + 24) (by decide) (fun a ha => by rw [j2 a ha, e26]) (fun i hi => by rw [j3 i hi, e26]) (by show 144 * b ≤ 24 * v16 ∧ 24 * v16 + 24 ≤ 144 * b + 144; omega)
      have T34 : mTp o F34 A35 q n := hT.of j1 (by rw [j2 _ (by omega), e26, upA_o (by omega)])
      have J4 : F34 3024 o = 0 → (frF W q n (nx q n p)).1 = 0 ∧ c = (0, 0) ∧ ∃ (p1 : Int) (f : Nat) (g : Int → Int), mG o q n (0, 0) p1 F34 ∧ n - p1 ≤ f ∧ stA W q n (nx q n p) = stN (fun i => W 10 i 0) (W 0 0 0) q n f p1 g ∧ ∀ w : Int, 0 ≤ w → w < 24 → A35 (o + 11) (24 * v16 + w) = g w := fun y => by
        rcases j4 with ⟨c1, c2, c3⟩ | w
        · exact absurd (by rw [← c3.1.1]; exact y) c1
        · exact w
      refine ⟨F34 3024 o ≠ 0 ∨ F34 3009 o ≠ 1, ?_, ?_⟩ -- join K40
      · intro k40
        refine ⟨fun hc => ?_, fun hc => ?_⟩ -- c3
        · -- case (¬ (F34 3024 o) = 0)
          -- l3: Q F34 A35
          intro R hR'
          rw [if_neg ns] at hR'
          subst hR'
          rcases j4 with ⟨c1, c2, c3⟩ | ⟨c1, c2, p1, f, g, c3, -⟩
          · exact ⟨j1, mf, c, c3.any c1, fun w => absurd w c1, Or.inl c2⟩
          · exact absurd c3.1.1 hc
        · -- case ¬ (¬ (F34 3024 o) = 0)
          obtain ⟨c1, c2, p1, f, g, c3, c4, c5, c6⟩ := J4 (by omega)
          obtain ⟨d1, d2, d3⟩ := c3.2.1 rfl
          have kd : tkKd q n (tkAt q n p1) ≠ 1 := by
            rw [← d2.2.2.1]
            rcases k40 with w | w
            · exact absurd w hc
            · exact w
          have c35 : A35 (o + 9) b = W 1 0 0 := by rw [j2 _ (by omega), e26, upA_o (by omega)]; exact m0
          refine ⟨by (rw [b34]; omega), ?_⟩ -- s5: (0 ≤ F34 3114 o ∧ F34 3114 o < 2)
          refine ⟨by (rw [b34]; omega), ?_⟩ -- s6: (0 ≤ F34 3114 o ∧ F34 3114 o < 2)
          refine ⟨by (rw [b34, c35]; omega), ?_⟩ -- s7: jR ((A35 (o + 9) (F34 3114 o)) + 1)
          intro A47 e47
          -- l4: Q F34 A47
          intro R hR'
          rw [if_neg ns] at hR'
          subst hR'
          rw [stN_stop kd] at c5
          rw [b34, c35] at e47
          refine ⟨j1, by rw [e47]; exact mf.up (k := 9) (by decide) (by show 1 * b ≤ b ∧ b < 1 * b + 1; omega), (0, 0), by rw [c5]; exact c3, fun _ => ?_, Or.inl (by rw [fb_ok c1, c5])⟩
          rw [e47]
          refine hR.street (fun a h1 h2 h3 => by rw [upA_o h1, j2 _ h3, e26, upA_o h2]) upA_s ?_ (fun i hi => ?_) (fun w w0 w1 => ?_) (fun i hi => ?_)
          · rw [upA_o (by omega), j2 _ (by omega), e26, ← e16, upA_s]
            exact y4 c1
          · rw [upA_o (by omega), j2 _ (by omega), e26, upA_i (by omega)]
          · rw [upA_o (by omega), c5, ← e16]
            exact c6 w w0 w1
          · rw [upA_o (by omega), j3 _ (by omega), e26, upA_o (by omega)]
      refine ⟨fun hc => ?_, fun hc => ?_⟩ -- c4
      · -- case (¬ (F34 3024 o) = 0)
        -- l5: K40
        exact Or.inl hc
      · -- case ¬ (¬ (F34 3024 o) = 0)
        refine ⟨fun hc => ?_, fun hc => ?_⟩ -- c5
        · -- case (¬ (F34 3009 o) = 1)
          -- l6: K40
          exact Or.inr hc
        · -- case ¬ (¬ (F34 3009 o) = 1)
          obtain ⟨c1, c2, p1, f, g, c3, c4, c5, c6⟩ := J4 (by omega)
          obtain ⟨d1, d2, d3⟩ := c3.2.1 rfl
          have kd : tkKd q n (tkAt q n p1) = 1 := by rw [← d2.2.2.1]; omega
          obtain ⟨f', ef, c7, c8⟩ := fuel_go d3 c4 (by rw [kd]; decide)
          subst ef
          have N34 : mNm o F34 A35 0 (fun i => W 10 i 0) (W 0 0 0) := N8.w (by rw [b34, b8]) (by rw [j2 _ (by omega), e26, upA_o (by omega)]) (by rw [j2 _ (by omega), e26, upA_o (by omega)])
          have rp := nx_range (q := q) d3
          have nk2 := nxk_range (q := q) d3 2
          have nr2 := nx_range (q := q) nk2
          have kp := knF_pos (e := fun i => W 10 i 0) (m := W 0 0 0) (q := q) (n := n) (a := tkAt q n p1)
          have meas0 : 0 < (if F34 3024 o = 0 then (n + 1 - F34 3012 o).toNat else 0) := by
            rw [if_pos (by omega), d2.1]; omega
          refine ⟨_, sX9_looked (q := q) (n := n) (a := tkAt q n p1) (by omega) (fun _ => d2) rp.1 N34, ?_⟩ -- call wpX9_looked o 0 F34 A35 P50
          intro z52 F53 A54 p50
          obtain ⟨e1, -, e2⟩ := p50
          subst e1
          have e2 := e2 (by omega)
          have K1 : F53 3024 o ≠ 0 → (knF (fun i => W 10 i 0) (W 0 0 0) q n (tkAt q n p1)).1 ≠ 0 ∧ F53 = mfl o F34 (knF (fun i => W 10 i 0) (W 0 0 0) q n (tkAt q n p1)) := fun y => by
            by_cases w : (knF (fun i => W 10 i 0) (W 0 0 0) q n (tkAt q n p1)).1 = 0
            · rw [(e2.1 w).2] at y; omega
            · exact ⟨w, (e2.2 w).2⟩
          have K0 : F53 3024 o = 0 → (knF (fun i => W 10 i 0) (W 0 0 0) q n (tkAt q n p1)).1 = 0 ∧ z52 = knV (fun i => W 10 i 0) (W 0 0 0) q n (tkAt q n p1) ∧ F53 = F34 := fun y => by
            by_cases w : (knF (fun i => W 10 i 0) (W 0 0 0) q n (tkAt q n p1)).1 = 0
            · exact ⟨w, e2.1 w⟩
            · rw [(e2.2 w).2, mfl_k] at y; exact absurd y w
          refine ⟨fun hc => ?_, fun hc => ?_⟩ -- c6
          · -- case (¬ (F53 3024 o) = 0)
            refine ⟨fun hc => ?_, fun hc => ?_⟩ -- c7
            · -- case (¬ (F53 3024 o) = 0)
              obtain ⟨k1, k2⟩ := K1 (by assumption)
              have G53 : mG o q n (knF (fun i => W 10 i 0) (W 0 0 0) q n (tkAt q n p1)) (nx q n p1) F53 := by rw [k2]; exact mG.fl (by omega)
              have g53 : mgF o F34 F53 := by rw [k2]; exact mfl_g
              have sf : stF (fun i => W 10 i 0) (W 0 0 0) q n p1 g = knF (fun i => W 10 i 0) (W 0 0 0) q n (tkAt q n p1) := by unfold stF; rw [fb_no k1, fb_no k1, fb_no k1]
              refine ⟨_, sX9_must (T34.of g53 rfl) G53, ?_⟩ -- call wpX9_must o 24947 F53 A54 P60
              intro F63 A64 p60
              obtain ⟨v1, v2, v3⟩ := p60
              subst v1
              rw [fb_no k1] at v3
              have g63 := g53.trans v2
              refine ⟨_, sX9_asked (e := fun i => W 10 i 0) (m := W 0 0 0) (q := q) (n := n) (a := tkAt q n (nxk q n p1 2)) (by rw [v3.1.1]; omega) (fun w => absurd (by rw [← v3.1.1]; exact w) k1) nr2.1 (N34.w (g63 _ _ (fun _ => by decide)) rfl rfl) (T34.of g63 rfl).1 (T34.of g63 rfl).2.1 (T34.of g63 rfl).2.2, ?_⟩ -- call wpX9_asked o 0 F63 A64 P68
              intro z70 F71 A72 p68
              obtain ⟨w1, w2, w3⟩ := p68
              subst w1
              obtain ⟨q1, q2, -⟩ := (v3.any (p' := nxk q n p1 2) k1).asked w2 w3
              rw [fb_no k1] at q2
              refine ⟨fun hc => ?_, fun hc => ?_⟩ -- c8
              · -- case (¬ (F71 3024 o) = 0)
                refine ⟨?_, ?_⟩ -- l7: I37 F71 A72
                · exact stI.bad j1 j2 j3 c1 c5 kd (by rw [sf]; exact k1) (g63.trans q1) (by rw [sf]; exact q2)
                · dsimp only
                  rw [if_neg (show ¬ F71 3024 o = 0 by rw [q2.1.1]; exact k1)]
                  exact meas0
              · -- case ¬ (¬ (F71 3024 o) = 0)
                (exfalso; exact absurd (by rw [← q2.1.1]; omega) k1)
            · -- case ¬ (¬ (F53 3024 o) = 0)
              (exfalso; omega)
          · -- case ¬ (¬ (F53 3024 o) = 0)
            obtain ⟨k1, k2, k3⟩ := K0 (by omega)
            subst k3
            have kv := (knV_ok d3 tw.1 k1).2.2.2.1
            have zr : 0 ≤ z52 ∧ z52 < 24 := by rw [k2]; omega
            refine ⟨by exact idx24 vr (Or.inl ⟨rfl, rfl⟩) hb2 zr, ?_⟩ -- s9: (0 ≤ (24 * v16) + z52 ∧ (24 * v16) + z52 < 288)
            refine ⟨fun hc => ?_, fun hc => ?_⟩ -- c9
            · -- case ((A54 (o + 11) ((24 * v16) + z52)) = (-1))
              refine ⟨fun hc => ?_, fun hc => ?_⟩ -- c10
              · -- case (¬ (F53 3024 o) = 0)
                (exfalso; omega)
              · -- case ¬ (¬ (F53 3024 o) = 0)
                have gm1 : g (knV (fun i => W 10 i 0) (W 0 0 0) q n (tkAt q n p1)) = -1 := by
                  rw [← c6 _ (by omega) (by omega), ← k2]
                  assumption
                have sf : stF (fun i => W 10 i 0) (W 0 0 0) q n p1 g = fb (asW 24947 q n (nx q n p1)) (knF (fun i => W 10 i 0) (W 0 0 0) q n (tkAt q n (nxk q n p1 2))) := by unfold stF; rw [fb_ok k1, if_pos gm1, fb_ok (f := (0, 0)) rfl]
                refine ⟨_, sX9_ahead (q := q) (n := n) (p := nx q n p1) T34.1 T34.2.1 T34.2.2 d2.2.1 rp.2.2, ?_⟩ -- call wpX9_ahead o F53 A54 P131
                intro F134 A135 p131
                obtain ⟨o1, o2, o3⟩ := p131
                subst o1
                have G134 : mG o q n (0, 0) (nx q n p1) F134 := c3.go rfl rfl o2 o3
                refine ⟨_, sX9_must (T34.of o3.mgF rfl) G134, ?_⟩ -- call wpX9_must o 24947 F134 A135 P139
                intro F142 A143 p139
                obtain ⟨v1, v2, v3⟩ := p139
                subst v1
                rw [fb_ok rfl] at v3
                have g142 := o3.mgF.trans v2
                have ap := asF_pos (P := tkKd q n (tkAt q n (nx q n p1)) = 1 ∧ tkC q n (tkAt q n (nx q n p1)) = 24947) (q := q) (n := n) (a := tkAt q n (nx q n p1))
                refine ⟨_, sX9_asked (e := fun i => W 10 i 0) (m := W 0 0 0) (q := q) (n := n) (a := tkAt q n (nxk q n p1 2)) (by rw [v3.1.1]; exact ap) (fun w => (v3.2.1 (by rw [← v3.1.1]; exact w)).2.1) nr2.1 (N34.w (g142 _ _ (fun _ => by decide)) rfl rfl) (T34.of g142 rfl).1 (T34.of g142 rfl).2.1 (T34.of g142 rfl).2.2, ?_⟩ -- call wpX9_asked o 0 F142 A143 P147
                intro z149 F150 A151 p147
                obtain ⟨w1, w2, w3⟩ := p147
                subst w1
                obtain ⟨q1, q2, q3⟩ := mG.asked (p := nxk q n p1 2) v3 w2 w3
                rw [← sf] at q2
                refine ⟨fun hc => ?_, fun hc => ?_⟩ -- c11
                · -- case (¬ (F150 3024 o) = 0)
                  refine ⟨?_, ?_⟩ -- l8: I37 F150 A151
                  · exact stI.bad j1 j2 j3 c1 c5 kd (by rw [← q2.1.1]; exact hc) (g142.trans q1) q2
                  · dsimp only
                    rw [if_neg hc]
                    exact meas0
                · -- case ¬ (¬ (F150 3024 o) = 0)
                  refine ⟨by exact idx24 vr (Or.inl ⟨rfl, rfl⟩) hb2 zr, ?_⟩ -- s10: (0 ≤ (24 * v16) + z52 ∧ (24 * v16) + z52 < 288)
                  intro A157 e157
                  refine ⟨?_, ?_⟩ -- l9: I37 F150 A157
                  · have sf0 : (stF (fun i => W 10 i 0) (W 0 0 0) q n p1 g).1 = 0 := by rw [← q2.1.1]; omega
                    obtain ⟨z1, z2⟩ := fb_0 (by rw [← sf]; exact sf0)
                    exact stI.go j1 j2 j3 c1 c5 c6 kd d3 c7 sf0 (g142.trans q1) q2 sf0 e157 k2 (q3 z1 z2) (by omega)
                  · dsimp only
                    have sf0 : (stF (fun i => W 10 i 0) (W 0 0 0) q n p1 g).1 = 0 := by rw [← q2.1.1]; omega
                    have dd := (q2.2.1 sf0)
                    have l2 := nxk_mono (q := q) (nxk_range (q := q) d3 1) 2
                    have e3 : nx q n (nxk q n p1 2) = nxk q n (nx q n p1) 2 := rfl
                    have l2 : nx q n p1 ≤ nxk q n (nx q n p1) 2 := l2
                    have tk3 := nx_range (q := q) dd.2.2
                    have tl := tk_cases q n (tkAt q n p1) rp.1.2
                    have lt : tkAt q n p1 < nx q n p1 := by unfold nx; omega
                    rw [if_pos (show F150 3024 o = 0 by omega), if_pos (show F53 3024 o = 0 by omega), dd.2.1.1, d2.1]
                    omega
            · -- case ¬ ((A54 (o + 11) ((24 * v16) + z52)) = (-1))
              refine ⟨_, sX9_blame, ?_⟩ -- call wpX9_blame o 3 (F53 3012 o) F53 A54 P159
              intro F162 A163 p159
              obtain ⟨v1, v2, -⟩ := p159
              subst v1
              have v2 := v2 (by omega)
              rw [d2.1] at v2
              have gm1 : g (knV (fun i => W 10 i 0) (W 0 0 0) q n (tkAt q n p1)) ≠ -1 := fun y => by
                rw [← c6 _ (by omega) (by omega), ← k2] at y
                contradiction
              have sf : stF (fun i => W 10 i 0) (W 0 0 0) q n p1 g = (3, tkAt q n p1) := by
                unfold stF; rw [fb_ok k1, if_neg gm1, fb_no (f := (3, tkAt q n p1)) (by show (3 : Int) ≠ 0; decide), fb_no (f := (3, tkAt q n p1)) (by show (3 : Int) ≠ 0; decide)]
              have k31 : ((3 : Int), tkAt q n p1).1 ≠ 0 := by show (3 : Int) ≠ 0; decide
              have G162 : mG o q n (3, tkAt q n p1) (nx q n p1) F162 := by rw [v2]; exact mG.fl (by show (0 : Int) < 3; decide)
              have g162 : mgF o F53 F162 := by rw [v2]; exact mfl_g
              refine ⟨fun hc => ?_, fun hc => ?_⟩ -- c12
              · -- case (¬ (F162 3024 o) = 0)
                refine ⟨_, sX9_must (T34.of g162 rfl) G162, ?_⟩ -- call wpX9_must o 24947 F162 A163 P168
                intro F171 A172 p168
                obtain ⟨v1, v4, v3⟩ := p168
                subst v1
                rw [fb_no k31] at v3
                have g171 := g162.trans v4
                refine ⟨_, sX9_asked (e := fun i => W 10 i 0) (m := W 0 0 0) (q := q) (n := n) (a := tkAt q n (nxk q n p1 2)) (by rw [v3.1.1]; show (0 : Int) ≤ 3; decide) (fun w => absurd (by rw [← v3.1.1]; exact w) k31) nr2.1 (N34.w (g171 _ _ (fun _ => by decide)) rfl rfl) (T34.of g171 rfl).1 (T34.of g171 rfl).2.1 (T34.of g171 rfl).2.2, ?_⟩ -- call wpX9_asked o 0 F171 A172 P176
                intro z178 F179 A180 p176
                obtain ⟨w1, w2, w3⟩ := p176
                subst w1
                obtain ⟨q1, q2, -⟩ := (v3.any (p' := nxk q n p1 2) k31).asked w2 w3
                rw [fb_no k31] at q2
                refine ⟨fun hc => ?_, fun hc => ?_⟩ -- c13
                · -- case (¬ (F179 3024 o) = 0)
                  refine ⟨?_, ?_⟩ -- l10: I37 F179 A180
                  · exact stI.bad j1 j2 j3 c1 c5 kd (by rw [sf]; exact k31) (g171.trans q1) (by rw [sf]; exact q2)
                  · dsimp only
                    rw [if_neg hc]
                    exact meas0
                · -- case ¬ (¬ (F179 3024 o) = 0)
                  (exfalso; exact absurd (by rw [← q2.1.1]; omega) k31)
              · -- case ¬ (¬ (F162 3024 o) = 0)
                (exfalso; rw [v2, mfl_k] at hc; exact hc k31)
    · -- case ¬ (24 ≤ v28)
      refine ⟨by omega, ?_⟩ -- s12: (0 ≤ (24 * v16) + v28 ∧ (24 * v16) + v28 < 288)
      intro A217 e217
      refine ⟨by omega, ?_⟩ -- s13: jR (v28 + 1)
      refine ⟨?_, ?_⟩ -- l11: I31 (v28 + 1) A217
      · refine ⟨by omega, fun a ha => by rw [e217, upA_o ha]; exact x2 a ha, fun i hi => by rw [e217, upA_i (by omega)]; exact x3 i hi, fun w w0 w1 => ?_⟩
        by_cases y : w = v28
        · rw [y, e217, upA_s]
        · rw [e217, upA_i (by omega)]; exact x4 w w0 (by omega)
      · dsimp only; omega
  · -- case ¬ (¬ z7 = 0)
    -- l12: Q F8 A9
    intro R hR'
    have full : W 1 0 0 = 6 := Classical.byContradiction (fun w => by
      have := (u4 (by rw [e3, if_pos w])).1
      omega)
    rw [if_pos full] at hR'
    subst hR'
    exact ⟨u2, mfB.refl o b _, _, (u3 (by rw [e3, if_neg (fun w => w full)]; decide)).2, fun w => absurd w (by show ¬ (5 : Int) = 0; decide), Or.inl rfl⟩

