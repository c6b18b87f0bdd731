set_option maxRecDepth 100000
set_option linter.unusedVariables false
/-! the model's on; printed by gen/prove.py out of spec/a9.mon2.spec -/
theorem sAtL_succ {W : sTb} {q : Int → Int} {e : Int} {l : Int} (h : 0 ≤ l) : sAtL W q e (l + 1).toNat = (if sAtL W q e l.toNat = -1 then -1 else sLwOn W q (sAtL W q e l.toNat) e) := it_succ (sAtF W q e) (3 + W 3 0 0) h
theorem sAtL_ok {W : sTb} {q : Int → Int} {n : Int} (hk : 0 ≤ W 3 0 0) (hq : ∀ i : Int, 0 ≤ i → i < n → 0 ≤ q i ∧ q i ≤ 255) (h : sIsImg W q n) {l : Int} (h0 : 0 ≤ l) (h1 : l < W 3 0 0) : sLwB W q (sAtL W q (n - 1) l.toNat) (n - 1) ∧ sAtL W q (n - 1) (l + 1).toNat = sAtL W q (n - 1) l.toNat + 3 + q (sAtL W q (n - 1) l.toNat + 1) + q (sAtL W q (n - 1) l.toNat + 2) := by
  obtain ⟨g1, -, -, -, -, -, -, g8⟩ := h
  have ng : sAtL W q (n - 1) (l + 1).toNat ≠ -1 := fun w => by
    have := sAtL_gone w ((W 3 0 0).toNat - (l + 1).toNat)
    rw [show (l + 1).toNat + ((W 3 0 0).toNat - (l + 1).toNat) = (W 3 0 0).toNat by omega] at this
    omega
  have e := sAtL_succ (W := W) (q := q) (e := n - 1) h0
  rw [e] at ng
  by_cases w : sAtL W q (n - 1) l.toNat = -1
  · rw [if_pos w] at ng; exact absurd rfl ng
  · rw [if_neg w] at ng e
    by_cases b : sLwB W q (sAtL W q (n - 1) l.toNat) (n - 1)
    · exact ⟨b, by rw [e]; exact cif_pos b⟩
    · exact absurd (cif_neg b) ng
theorem sAtL_range {W : sTb} {q : Int → Int} {n : Int} (hk : 0 ≤ W 3 0 0) (hq : ∀ i : Int, 0 ≤ i → i < n → 0 ≤ q i ∧ q i ≤ 255) (h : sIsImg W q n) : ∀ k : Nat, (k : Int) ≤ W 3 0 0 → 0 ≤ sAtL W q (n - 1) k ∧ sAtL W q (n - 1) k ≤ n - 1
  | 0, _ => by show 0 ≤ 3 + W 3 0 0 ∧ 3 + W 3 0 0 ≤ n - 1; have := h.2.2.2.1; omega
  | k + 1, hk1 => by
    have ih := sAtL_range hk hq h k (by omega)
    obtain ⟨b, e⟩ := sAtL_ok hk hq h (l := (k : Int)) (by omega) (by omega)
    rw [show ((k : Int) + 1).toNat = k + 1 by omega, show ((k : Int)).toNat = k by omega] at e
    rw [show ((k : Int)).toNat = k by omega] at b
    have q1 := hq (sAtL W q (n - 1) k + 1) (by omega) (by have := b.1; omega)
    have q2 := hq (sAtL W q (n - 1) k + 2) (by omega) (by have := b.1; omega)
    have := b.2.2.2.2.2.1
    omega
noncomputable def sOnL (W L : sTb) (q : Int → Int) (n : Int) : sTb := fun k i j => if k = 0 then 256 * q 0 + q 1 else if k = 1 then q (3 + i) else if k = 2 then q (sAtL W q (n - 1) i.toNat + 1) else if k = 3 then q (sAtL W q (n - 1) i.toNat + 2) else if k = 4 then q (sAtL W q (n - 1) i.toNat) else if k = 5 then q (sAtL W q (n - 1) i.toNat + 3 + j) else L k i j
theorem sOnL_ok {W L : sTb} {q : Int → Int} {n : Int} (hk : 0 ≤ W 3 0 0) (hq : ∀ i : Int, 0 ≤ i → i < n → 0 ≤ q i ∧ q i ≤ 255) (h : sIsImg W q n) : sLok W (sOnL W L q n) := by
  have g := h
  obtain ⟨g1, g2, g3, g4, g5, g6, g7, g8⟩ := h
  refine ⟨?_, fun p p0 p1 => g6 p p0 p1, fun p p' p0 p1 p2 p3 _ e => ?_, fun l l0 l1 => ?_, fun l k l0 l1 k0 k1 => ?_⟩
  · show 0 ≤ 256 * q 0 + q 1 ∧ 256 * q 0 + q 1 ≤ 9999
    have := hq 0 (by decide) (by omega)
    have := hq 1 (by decide) (by omega)
    omega
  · have e : q (3 + p) = q (3 + p') := e
    by_cases w : p < p'
    · exact absurd e (g7 p' p p0 w p3)
    · by_cases w2 : p' < p
      · exact absurd e.symm (g7 p p' p2 w2 p1)
      · omega
  · obtain ⟨b, -⟩ := sAtL_ok hk hq g l0 l1
    have r := sAtL_range hk hq g l.toNat (by omega)
    have q0 := hq (sAtL W q (n - 1) l.toNat) (by omega) (by have := b.1; omega)
    have q1 := hq (sAtL W q (n - 1) l.toNat + 1) (by omega) (by have := b.1; omega)
    have q2 := hq (sAtL W q (n - 1) l.toNat + 2) (by omega) (by have := b.1; omega)
    obtain ⟨b1, b2, b3, b4, b5, b6, b7⟩ := b
    refine ⟨⟨q1.1, b3⟩, ⟨q2.1, b4⟩, fun w => ?_, ?_⟩
    · have := b5 w
      show q (sAtL W q (n - 1) l.toNat + 2) = 0
      omega
    · show q (sAtL W q (n - 1) l.toNat) = 0 ∨ q (sAtL W q (n - 1) l.toNat) = 1
      omega
  · obtain ⟨b, -⟩ := sAtL_ok hk hq g l0 l1
    have k1 : k < q (sAtL W q (n - 1) l.toNat + 1) + q (sAtL W q (n - 1) l.toNat + 2) := k1
    exact b.2.2.2.2.2.2 (sAtL W q (n - 1) l.toNat + 3 + k) (by omega) (by omega)
/-- only layer 0 -/
def lfO (o : Nat) (A A' : jAr) : Prop := (∀ b, (b < o + 28 ∨ o + 33 < b) → A' b = A b) ∧ (∀ i : Int, i ≠ 0 → A' (o + 28) i = A (o + 28) i) ∧ (∀ (b : Nat) (i : Int), (o + 29 ≤ b ∧ b ≤ o + 32) → (i < 0 ∨ 12 ≤ i) → A' b i = A b i) ∧ ∀ i : Int, (i < 0 ∨ 144 ≤ i) → A' (o + 33) i = A (o + 33) i
theorem lfO.refl (o : Nat) (A : jAr) : lfO o A A := ⟨fun _ _ => rfl, fun _ _ => rfl, fun _ _ _ _ => rfl, fun _ _ => rfl⟩
theorem lfO.up {o : Nat} {A A' : jAr} {b : Nat} {i z : Int} (h : lfO o A A') (hb : (b = o + 28 ∧ i = 0) ∨ ((o + 29 ≤ b ∧ b ≤ o + 32) ∧ 0 ≤ i ∧ i < 12) ∨ (b = o + 33 ∧ 0 ≤ i ∧ i < 144)) : lfO o A (upA A' b i z) := by
  obtain ⟨h1, h2, h3, h4⟩ := h
  refine ⟨fun c hc => by rw [upA_o (by omega)]; exact h1 c hc, fun j hj => ?_, fun c j hc hj => ?_, fun j hj => ?_⟩
  · by_cases w : b = o + 28
    · rw [upA_i (by omega)]; exact h2 j hj
    · rw [upA_a (fun x => w x.symm)]; exact h2 j hj
  · by_cases w : c = b
    · rw [upA_i (by omega)]; exact h3 c j hc hj
    · rw [upA_a w]; exact h3 c j hc hj
  · by_cases w : b = o + 33
    · rw [upA_i (by omega)]; exact h4 j hj
    · rw [upA_a (fun x => w x.symm)]; exact h4 j hj
theorem lfO.mlf {o : Nat} {A A' A'' : jAr} (h : lfO o A A') (h2 : ∀ b, b ≠ o + 34 → A'' b = A' b) (h3 : ∀ i : Int, i ≠ 0 → A'' (o + 34) i = A' (o + 34) i) : mlf o 0 A A'' := by
  obtain ⟨g1, g2, g3, g4⟩ := h
  refine ⟨fun i hi => ⟨by rw [h2 _ (by omega)]; exact g2 i hi, by rw [h3 i hi, g1 _ (by omega)]⟩, fun i hi => ⟨by rw [h2 _ (by omega)]; exact g3 _ i (by omega) (by omega), by rw [h2 _ (by omega)]; exact g3 _ i (by omega) (by omega), by rw [h2 _ (by omega)]; exact g3 _ i (by omega) (by omega), by rw [h2 _ (by omega)]; exact g3 _ i (by omega) (by omega)⟩, fun i hi => by rw [h2 _ (by omega)]; exact g4 i (by omega), fun i hi => by rw [h2 _ (by omega), g1 _ (by omega)]⟩
/-- the first l laws of an image lie there -/
def lawsO (o : Nat) (A : jAr) (L : sTb) (l : Int) : Prop := ∀ m : Int, 0 ≤ m → m < l → A (o + 30) m = L 2 m 0 ∧ A (o + 31) m = L 3 m 0 ∧ A (o + 32) m = L 4 m 0 ∧ ∀ k : Int, 0 ≤ k → k < L 2 m 0 + L 3 m 0 → A (o + 33) (12 * m + k) = L 5 m k
theorem lawsO.of {o : Nat} {A A' : jAr} {L : sTb} {l : Int} (h : lawsO o A L l) (hb : ∀ m : Int, 0 ≤ m → m < l → L 2 m 0 + L 3 m 0 ≤ 12) (h1 : ∀ (b : Nat) (m : Int), o + 30 ≤ b ∧ b ≤ o + 32 → m < l → A' b m = A b m) (h2 : ∀ i : Int, i < 12 * l → A' (o + 33) i = A (o + 33) i) : lawsO o A' L l := fun m m0 m1 => by
  obtain ⟨g1, g2, g3, g4⟩ := h m m0 m1
  have := hb m m0 m1
  exact ⟨by rw [h1 _ _ (by omega) m1]; exact g1, by rw [h1 _ _ (by omega) m1]; exact g2, by rw [h1 _ _ (by omega) m1]; exact g3, fun k k0 k1 => by rw [h2 _ (by omega)]; exact g4 k k0 k1⟩
set_option maxHeartbeats 1000000 in
theorem sX9_on {o : Nat} {F : jFl} {A : jAr} {R : Int} {W L : sTb} {B : sBk} {U : sUn} {Q : sMi} (h : mst R o F A W L B U Q) (hR : R < 1000000000) : wpX9_on o F A (fun z F' A' => (sIsImg W (Q 1) (Q 0 0) → z = 1 ∧ mst (R + 1) o F' A' W (sOnL W L (Q 1) (Q 0 0)) (0, B.2) (0, U.2) (qLen Q 0)) ∧ (¬ sIsImg W (Q 1) (Q 0 0) → z = 0 ∧ mst (R + 1) o F' A' W L B U (qRef (qLen Q 0) 5))) := by
  unfold wpX9_on
  have h0 := h
  obtain ⟨⟨⟨⟨hk, hLk⟩, hW, hL, hh, hv⟩, h9⟩, hB, hU, hM⟩ := h
  have w3 := hk.2.2.2.1
  have hb := hW.1
  obtain ⟨m1, m2, -⟩ := id hM
  have h17 : A (o + 17) (F 3039 o) = W 3 0 0 := hW.2.1.2.2.2
  have hq : ∀ i : Int, 0 ≤ i → i < Q 0 0 → 0 ≤ Q 1 i ∧ Q 1 i ≤ 255 := fun i i0 i1 => (m2 i i0 i1).2
  intro v1 e1
  intro F2 e2
  rw [m1.1] at e1
  subst e1
  have f2 : ∀ f b, (b = o → f ≠ 3003) → F2 f b = F f b := fun f b hb => by
    rw [e2]
    by_cases w : b = o
    · rw [w, upF_f (hb w)]
    · rw [upF_a w]
  have f39 : F2 3039 o = F 3039 o := f2 _ _ (fun _ => by decide)
  have hW2 : mrW o F2 A W := hW.of f39 (fun k _ _ => rfl)
  have hM2 : mMi R o F2 A (qLen Q 0) := by rw [e2]; exact hM.len ⟨Int.le_refl 0, m1.2.1⟩
  refine ⟨_, sX9_isImage (q := Q 1) hk hW2 (fun i i0 i1 => m2 i i0 i1) ⟨m1.2.1, m1.2.2⟩, ?_⟩ -- call wpX9_isImage o v1 F2 A P4
  intro z6 p4
  refine ⟨fun hc => ?_, fun hc => ?_⟩ -- c1
  · -- case (¬ z6 = 0)
    have yI : sIsImg W (Q 1) (Q 0 0) := by
      by_cases w : sIsImg W (Q 1) (Q 0 0)
      · exact w
      · rw [cif_neg w] at p4; exact absurd p4 hc
    obtain ⟨LL, hLL⟩ : ∃ LL : sTb, LL = sOnL W L (Q 1) (Q 0 0) := ⟨_, rfl⟩
    have oLL : sLok W LL := by rw [hLL]; exact sOnL_ok w3.1 hq yI
    have n4 := yI.1
    have n5 := yI.2.2.2.1
    obtain ⟨t0, t1, t2⟩ := m2 0 (by decide) (by omega)
    obtain ⟨u0, u1, u2⟩ := m2 1 (by decide) (by omega)
    rw [t0, u0, jor_256 t1 ⟨u1, u2⟩, show (2 : Int) ^ 8 = 256 from rfl]
    refine ⟨by omega, ?_⟩ -- s1: ((0 : Int) ≤ 8 ∧ (8 : Int) < 32)
    refine ⟨by omega, ?_⟩ -- s2: (((0 : Int) ≤ (A (o + 1) 0) * 2 ^ 8 ∧ ((A (o + 1) 0) * 2 ^ 8 : Int) ≤ 2147483647) ∧ ((0 : Int) ≤ A (o + 1) 1 ∧ (A (o + 1) 1 : Int) ≤ 2147483647))
    refine ⟨by (have := yI.2.1; omega), ?_⟩ -- s3: jR (jor ((A (o + 1) 0) * 2 ^ 8) (A (o + 1) 1))
    intro A16 e16
    have g1 : lfO o A A16 := by rw [e16]; exact (lfO.refl o A).up (Or.inl ⟨rfl, rfl⟩)
    refine ⟨fun (v18 : Int) (A19 : jAr) => (0 ≤ v18 ∧ v18 ≤ W 3 0 0) ∧ (∀ p : Int, 0 ≤ p → p < v18 → A19 (o + 29) p = LL 1 p 0) ∧ A19 (o + 28) 0 = LL 0 0 0 ∧ lfO o A A19, fun v18 A19 => (W 3 0 0 - v18).toNat, ?_, ?_⟩ -- loop I21 I21 0 A16
    ·
      -- l1: I21 0 A16
      exact ⟨by omega, fun p p0 p1 => by omega, by rw [e16, upA_s, hLL]; rfl, g1⟩
    intro v18 A19 i21
    obtain ⟨i1, i2, i3, i4⟩ := i21
    have n17 : A19 (o + 17) (F2 3039 o) = W 3 0 0 := by rw [f39, i4.1 _ (by omega)]; exact h17
    refine ⟨by (rw [f39]; exact hb), ?_⟩ -- s4: (0 ≤ F2 3039 o ∧ F2 3039 o < 2)
    rw [n17]
    refine ⟨fun hc => ?_, fun hc => ?_⟩ -- c2
    · -- case ((A19 (o + 17) (F2 3039 o)) ≤ v18)
      refine ⟨by (rw [f39]; exact hb), ?_⟩ -- s5: (0 ≤ F2 3039 o ∧ F2 3039 o < 2)
      refine ⟨by omega, ?_⟩ -- s6: jR (3 + (A19 (o + 17) (F2 3039 o)))
      intro v27 e27
      refine ⟨fun (v28 : Int) (v29 : Int) (A30 : jAr) => (0 ≤ v29 ∧ v29 ≤ W 3 0 0) ∧ v28 = sAtL W (Q 1) (Q 0 0 - 1) v29.toNat ∧ lawsO o A30 LL v29 ∧ (∀ p : Int, 0 ≤ p → p < W 3 0 0 → A30 (o + 29) p = LL 1 p 0) ∧ A30 (o + 28) 0 = LL 0 0 0 ∧ lfO o A A30, fun v28 v29 A30 => (W 3 0 0 - v29).toNat, ?_, ?_⟩ -- loop I32 I32 v27 0 A19
      ·
        -- l2: I32 v27 0 A19
        exact ⟨by omega, by rw [e27]; rfl, fun m m0 m1 => by omega, fun p p0 p1 => i2 p p0 (by omega), i3, i4⟩
      intro v28 v29 A30 i32
      obtain ⟨j1, j2, j3, j4, j5, j6⟩ := i32
      have r17 : A30 (o + 17) (F2 3039 o) = W 3 0 0 := by rw [f39, j6.1 _ (by omega)]; exact h17
      refine ⟨by (rw [f39]; exact hb), ?_⟩ -- s7: (0 ≤ F2 3039 o ∧ F2 3039 o < 2)
      rw [r17]
      refine ⟨fun hc => ?_, fun hc => ?_⟩ -- c3
      · -- case ((A30 (o + 17) (F2 3039 o)) ≤ v29)
        intro A37 e37
        intro F39 e39
        -- l3: Q 1 F39 A37
        have a37 : ∀ b, b ≠ o + 34 → A37 b = A30 b := fun b hb => by rw [e37, upA_o hb]
        have lf : mlf o 0 A A37 := j6.mlf a37 (fun i hi => by rw [e37, upA_i hi])
        have aa : ∀ b, (b < o + 28 ∨ o + 34 < b) → A37 b = A b := fun b hb => by rw [a37 b (by omega)]; exact j6.1 b (by omega)
        have ff : ∀ f, f ≠ 3156 → f ≠ 3003 → F39 f o = F f o := fun f h1 h2 => by rw [e39, upF_f h1]; exact f2 _ _ (fun _ => h2)
        have ev : v29 = W 3 0 0 := by omega
        rw [ev] at j3
        refine ⟨fun _ => ⟨rfl, ?_⟩, fun w => absurd yI w⟩
        rw [← hLL]
        refine ⟨⟨⟨⟨hk, oLL⟩, hW.of (ff _ (by decide) (by decide)) (fun k _ _ => aa _ (by omega)), ⟨by rw [a37 _ (by omega)]; exact j5, fun p p0 p1 => ?_, fun l l0 l1 => ?_⟩, by rw [ff _ (by decide) (by decide)]; exact hh, hv⟩, by rw [hLL]; exact h9⟩, ⟨by rw [e37, upA_s], ⟨Int.le_refl 0, (by decide : (0 : Int) ≤ 100)⟩, fun k j k0 k1 => by have k1 : k < 0 := k1; omega⟩, ⟨⟨Int.le_refl 0, (by decide : (0 : Int) ≤ 20)⟩, by rw [e39, upF_s], by rw [ff _ (by decide) (by decide)]; exact hU.2.2.1, fun i i0 i1 => by have i1 : i < 0 := i1; omega⟩, ?_⟩
        · rw [a37 _ (by omega), show 12 * 0 + p = p by omega]; exact j4 p p0 p1
        · obtain ⟨y1, y2, y3, y4⟩ := j3 l l0 l1
          rw [a37 _ (by omega), a37 _ (by omega), a37 _ (by omega), a37 _ (by omega), show 12 * 0 + l = l by omega]
          exact ⟨y1, y2, y3, y4⟩
        · refine (hM2.mono (by omega)).of (fun f hf => ?_) (aa _ (by omega)) (aa _ (by omega)) (aa _ (by omega))
          rw [e39, upF_f (by omega)]
      · -- case ¬ ((A30 (o + 17) (F2 3039 o)) ≤ v29)
        have hv29 : 0 ≤ v29 ∧ v29 < W 3 0 0 := by omega
        obtain ⟨bb, be⟩ := sAtL_ok w3.1 hq yI hv29.1 hv29.2
        have rg := sAtL_range w3.1 hq yI v29.toNat (by omega)
        rw [← j2] at bb be rg
        have b1 := bb.1
        have oo := oLL.2.2.2.1 v29 hv29.1 hv29.2
        have L2 : LL 2 v29 0 = Q 1 (v28 + 1) := by rw [hLL, j2]; rfl
        have L3 : LL 3 v29 0 = Q 1 (v28 + 2) := by rw [hLL, j2]; rfl
        have L4 : LL 4 v29 0 = Q 1 v28 := by rw [hLL, j2]; rfl
        have tp : ∀ {A' : jAr}, lfO o A A' → ∀ i : Int, 0 ≤ i → i < Q 0 0 → A' (o + 1) i = Q 1 i := fun g i i0 i1 => by rw [g.1 _ (by omega)]; exact (m2 i i0 i1).1
        refine ⟨by omega, ?_⟩ -- s8: (0 ≤ v28 ∧ v28 < 1800)
        refine ⟨by omega, ?_⟩ -- s9: (0 ≤ v29 ∧ v29 < 264)
        intro A43 e43
        have g2 : lfO o A A43 := by rw [e43]; exact j6.up (Or.inr (Or.inl ⟨by omega, by omega⟩))
        refine ⟨by omega, ?_⟩ -- s10: (0 ≤ v28 + 1 ∧ v28 + 1 < 1800)
        refine ⟨by omega, ?_⟩ -- s11: (0 ≤ v29 ∧ v29 < 264)
        intro A47 e47
        have g3 : lfO o A A47 := by rw [e47]; exact g2.up (Or.inr (Or.inl ⟨by omega, by omega⟩))
        refine ⟨by omega, ?_⟩ -- s12: (0 ≤ v28 + 2 ∧ v28 + 2 < 1800)
        refine ⟨by omega, ?_⟩ -- s13: (0 ≤ v29 ∧ v29 < 264)
        intro A51 e51
        have g4 : lfO o A A51 := by rw [e51]; exact g3.up (Or.inr (Or.inl ⟨by omega, by omega⟩))
        rw [tp j6 v28 (by omega) (by omega)] at e43
        rw [tp g2 (v28 + 1) (by omega) (by omega)] at e47
        rw [tp g3 (v28 + 2) (by omega) (by omega)] at e51
        have x30 : A51 (o + 30) v29 = LL 2 v29 0 := by rw [e51, upA_a (by omega), e47, upA_s, L2]
        have x31 : A51 (o + 31) v29 = LL 3 v29 0 := by rw [e51, upA_s, L3]
        have x32 : A51 (o + 32) v29 = LL 4 v29 0 := by rw [e51, upA_a (by omega), e47, upA_a (by omega), e43, upA_s, L4]
        have xo : ∀ (b : Nat) (m : Int), m ≠ v29 → A51 b m = A30 b m := fun b m hm => by rw [e51, upA_i hm, e47, upA_i hm, e43, upA_i hm]
        have x3 : ∀ b, b ≠ o + 30 → b ≠ o + 31 → b ≠ o + 32 → A51 b = A30 b := fun b h1 h2 h3 => by rw [e51, upA_o h2, e47, upA_o h1, e43, upA_o h3]
        have ol : ∀ m : Int, 0 ≤ m → m < v29 → LL 2 m 0 + LL 3 m 0 ≤ 12 := fun m m0 m1 => by have := oLL.2.2.2.1 m m0 (by omega); omega
        have k3 := j3.of (A' := A51) ol (fun b m _ hm => xo b m (by omega)) (fun i _ => by rw [x3 _ (by omega) (by omega) (by omega)])
        refine ⟨fun (v53 : Int) (A54 : jAr) => (0 ≤ v53 ∧ v53 ≤ LL 2 v29 0 + LL 3 v29 0) ∧ (∀ k : Int, 0 ≤ k → k < v53 → A54 (o + 33) (12 * v29 + k) = LL 5 v29 k) ∧ (∀ b, b ≠ o + 33 → A54 b = A51 b) ∧ (∀ i : Int, i < 12 * v29 → A54 (o + 33) i = A51 (o + 33) i) ∧ lfO o A A54, fun v53 A54 => (LL 2 v29 0 + LL 3 v29 0 - v53).toNat, ?_, ?_⟩ -- loop I56 I56 0 A51
        ·
          -- l4: I56 0 A51
          exact ⟨by omega, fun k k0 k1 => by omega, fun _ _ => rfl, fun _ _ => rfl, g4⟩
        intro v53 A54 i56
        obtain ⟨n1, n2, n3, n4', n5'⟩ := i56
        rw [n3 _ (by omega), n3 _ (by omega), x30, x31]
        refine ⟨by omega, ?_⟩ -- s14: (0 ≤ v29 ∧ v29 < 264)
        refine ⟨by omega, ?_⟩ -- s15: (0 ≤ v29 ∧ v29 < 264)
        refine ⟨by omega, ?_⟩ -- s16: jR ((A54 (o + 30) v29) + (A54 (o + 31) v29))
        refine ⟨fun hc => ?_, fun hc => ?_⟩ -- c4
        · -- case (((A54 (o + 30) v29) + (A54 (o + 31) v29)) ≤ v53)
          refine ⟨by omega, ?_⟩ -- s17: (0 ≤ v29 ∧ v29 < 264)
          refine ⟨by omega, ?_⟩ -- s18: (0 ≤ v29 ∧ v29 < 264)
          refine ⟨by omega, ?_⟩ -- s19: jR (v28 + ((3 + (A54 (o + 30) v29)) + (A54 (o + 31) v29)))
          intro v65 e65
          refine ⟨by omega, ?_⟩ -- s20: jR (v29 + 1)
          refine ⟨?_, ?_⟩ -- l5: I32 v65 (v29 + 1) A54
          · refine ⟨by omega, ?_, fun m m0 m1 => ?_, fun p p0 p1 => ?_, ?_, n5'⟩
            · rw [be, e65, L2, L3]; omega
            · by_cases w : m = v29
              · rw [w]
                exact ⟨by rw [n3 _ (by omega)]; exact x30, by rw [n3 _ (by omega)]; exact x31, by rw [n3 _ (by omega)]; exact x32, fun k k0 k1 => n2 k k0 (by omega)⟩
              · exact (k3.of (A' := A54) ol (fun b m hb _ => by rw [n3 _ (by omega)]) (fun i hi => n4' i hi)) m m0 (by omega)
            · rw [n3 _ (by omega), x3 _ (by omega) (by omega) (by omega)]; exact j4 p p0 p1
            · rw [n3 _ (by omega), x3 _ (by omega) (by omega) (by omega)]; exact j5
          · dsimp only; omega
        · -- case ¬ (((A54 (o + 30) v29) + (A54 (o + 31) v29)) ≤ v53)
          refine ⟨by (have := bb.2.2.2.2.2.1; omega), ?_⟩ -- s21: (0 ≤ (v28 + 3) + v53 ∧ (v28 + 3) + v53 < 1800)
          refine ⟨by omega, ?_⟩ -- s22: (0 ≤ (12 * v29) + v53 ∧ (12 * v29) + v53 < 3168)
          intro A69 e69
          refine ⟨by omega, ?_⟩ -- s23: jR (v53 + 1)
          refine ⟨?_, ?_⟩ -- l6: I56 (v53 + 1) A69
          · have g6 : lfO o A A69 := by rw [e69]; exact n5'.up (Or.inr (Or.inr ⟨rfl, by omega, by omega⟩))
            rw [tp n5' (v28 + 3 + v53) (by omega) (by have := bb.2.2.2.2.2.1; omega)] at e69
            have L5 : LL 5 v29 v53 = Q 1 (v28 + 3 + v53) := by rw [hLL, j2]; rfl
            refine ⟨by omega, fun k k0 k1 => ?_, fun b hb => by rw [e69, upA_o hb]; exact n3 b hb, fun i hi => by rw [e69, upA_i (by omega)]; exact n4' i hi, g6⟩
            by_cases w : k = v53
            · rw [w, e69, upA_s, L5]
            · rw [e69, upA_i (by omega)]; exact n2 k k0 (by omega)
          · dsimp only; omega
    · -- case ¬ ((A19 (o + 17) (F2 3039 o)) ≤ v18)
      refine ⟨by omega, ?_⟩ -- s24: (0 ≤ 3 + v18 ∧ 3 + v18 < 1800)
      refine ⟨by omega, ?_⟩ -- s25: (0 ≤ v18 ∧ v18 < 264)
      intro A74 e74
      refine ⟨by omega, ?_⟩ -- s26: jR (v18 + 1)
      refine ⟨?_, ?_⟩ -- l7: I21 (v18 + 1) A74
      · refine ⟨by omega, fun p p0 p1 => ?_, ?_, ?_⟩
        · rw [e74, i4.1 (o + 1) (by omega), (m2 (3 + v18) (by omega) (by omega)).1]
          by_cases w : p = v18
          · rw [w, upA_s, hLL]; rfl
          · rw [upA_i w]; exact i2 p p0 (by omega)
        · rw [e74, upA_a (by omega)]; exact i3
        · rw [e74]; exact i4.up (Or.inr (Or.inl ⟨by omega, by omega⟩))
      · dsimp only; omega
  · -- case ¬ (¬ z6 = 0)
    have nI : ¬ sIsImg W (Q 1) (Q 0 0) := fun w => by rw [cif_pos w] at p4; omega
    have h2 : mst R o F2 A W L B U (qLen Q 0) := ⟨⟨⟨⟨hk, hLk⟩, hW2, hL, by rw [f2 _ _ (fun _ => by decide)]; exact hh, hv⟩, h9⟩, hB, hU.lf hk (f2 _ _ (fun _ => by decide)) (f2 _ _ (fun _ => by decide)) (mlf.refl o 0 A) (by decide), hM2⟩
    refine ⟨_, sX9_refuses h2 hR (by decide), ?_⟩ -- call wpX9_refuses o 5 F2 A P77
    intro z79 F80 A81 p77
    intro z86 e86
    -- l8: Q z86 F80 A81
    exact ⟨fun w => absurd w nI, fun _ => ⟨by rw [e86, p77.1]; rfl, p77.2⟩⟩

