set_option maxRecDepth 100000
set_option linter.unusedVariables false
/-! the model's acts are kept and undone; printed by gen/prove.py out of spec/90.ms6.spec -/
abbrev sMi : Type := Nat → Int → Int
def mrU (o : Nat) (F : jFl) (A : jAr) (W : sTb) (U : sUn) : Prop := (0 ≤ U.1 ∧ U.1 ≤ 20) ∧ F 3156 o = U.1 ∧ (0 ≤ F 3153 o ∧ F 3153 o < 20) ∧ ∀ i : Int, 0 ≤ i → i < U.1 → mrL o A (2 + (F 3153 o + i) % 20) (W 3 0 0) (U.2 i).1 ∧ mrB o A (2 + (F 3153 o + i) % 20) (U.2 i).2 ∧ (sLok W (U.2 i).1 ∧ (U.2 i).1 9 0 0 = 0)
/-- one more is refused -/
def qRef (Q : sMi) (r : Int) : sMi := fun k i => if k = 2 ∧ i = r then Q 2 r + 1 else Q k i
/-- tape, refusals, fault, seed, image -/
def mMi (R : Int) (o : Nat) (F : jFl) (A : jAr) (Q : sMi) : Prop := (F 3003 o = Q 0 0 ∧ 0 ≤ Q 0 0 ∧ Q 0 0 ≤ 1600) ∧ (∀ i : Int, 0 ≤ i → i < Q 0 0 → A (o + 1) i = Q 1 i ∧ 0 ≤ Q 1 i ∧ Q 1 i ≤ 255) ∧ (∀ r : Int, 0 ≤ r → r < 6 → A (o + 27) r = Q 2 r ∧ 0 ≤ Q 2 r ∧ Q 2 r ≤ R) ∧ (F 3030 o = Q 3 0 ∧ F 3033 o = Q 4 0) ∧ (F 3160 o = Q 5 0 ∧ 0 ≤ Q 5 0 ∧ Q 5 0 < 2147483648) ∧ (F 3237 o = Q 6 0 ∧ 0 ≤ Q 6 0 ∧ Q 6 0 ≤ 210) ∧ ∀ k : Int, 0 ≤ k → k < Q 6 0 → A (o + 48) k = Q 7 k
def mst (R : Int) (o : Nat) (F : jFl) (A : jAr) (W L : sTb) (B : sBk) (U : sUn) (Q : sMi) : Prop := (mct o F A 0 W L ∧ L 9 0 0 = 0) ∧ mrB o A 0 B ∧ mrU o F A W U ∧ mMi R o F A Q
theorem mrU.of {o : Nat} {F F' : jFl} {A A' : jAr} {W : sTb} {U : sUn} (h : mrU o F A W U) (h1 : F' 3156 o = F 3156 o) (h2 : F' 3153 o = F 3153 o) (hA : ∀ v : Int, 2 ≤ v → v < 22 → ∀ L B, mrL o A v (W 3 0 0) L → sLok W L → mrB o A v B → mrL o A' v (W 3 0 0) L ∧ mrB o A' v B) : mrU o F' A' W U := by
  obtain ⟨a1, a2, a3, a4⟩ := h
  refine ⟨a1, by rw [h1, a2], by rw [h2]; exact a3, fun i i0 i1 => ?_⟩
  rw [h2]
  obtain ⟨b1, b2, b3⟩ := a4 i i0 i1
  have := hA (2 + (F 3153 o + i) % 20) (by omega) (by omega) _ _ b1 b3.1 b2
  exact ⟨this.1, this.2, b3⟩
theorem mrU.lf {o : Nat} {F F' : jFl} {A A' : jAr} {W : sTb} {U : sUn} {v : Int} (h : mrU o F A W U) (hW : sWok W) (h1 : F' 3156 o = F 3156 o) (h2 : F' 3153 o = F 3153 o) (hl : mlf o v A A') (hv : v < 2) : mrU o F' A' W U := h.of h1 h2 (fun w w0 w1 L B q1 q2 q3 => ⟨q1.other hl (by have := hW.2.2.2.1; omega) (by omega) (fun l l0 l1 => by have := q2.2.2.2.1 l l0 l1; omega), q3.other hl (by omega)⟩)
theorem mrU.fr {o : Nat} {F F' : jFl} {A A' : jAr} {W : sTb} {U : sUn} (h : mrU o F A W U) (hW : sWok W) (h1 : F' 3156 o = F 3156 o) (h2 : F' 3153 o = F 3153 o) (hA : ∀ k : Nat, 28 ≤ k → k ≤ 35 → A' (o + k) = A (o + k)) : mrU o F' A' W U := h.lf hW h1 h2 (mlf.eq (v := 0) hA) (by decide)
theorem mMi.of {R : Int} {o : Nat} {F F' : jFl} {A A' : jAr} {Q : sMi} (h : mMi R o F A Q) (hF : ∀ f, f = 3003 ∨ f = 3030 ∨ f = 3033 ∨ f = 3160 ∨ f = 3237 → F' f o = F f o) (h1 : A' (o + 1) = A (o + 1)) (h2 : A' (o + 27) = A (o + 27)) (h3 : A' (o + 48) = A (o + 48)) : mMi R o F' A' Q := by
  unfold mMi at *
  rw [hF 3003 (by decide), hF 3030 (by decide), hF 3033 (by decide), hF 3160 (by decide), hF 3237 (by decide), h1, h2, h3]
  exact h
theorem mMi.mono {R R' : Int} {o : Nat} {F : jFl} {A : jAr} {Q : sMi} (h : mMi R o F A Q) (hr : R ≤ R') : mMi R' o F A Q := ⟨h.1, h.2.1, fun r r0 r1 => by have := h.2.2.1 r r0 r1; exact ⟨this.1, this.2.1, by omega⟩, h.2.2.2⟩
theorem sX9_refuses {o : Nat} {a1 : Int} {F : jFl} {A : jAr} {R : Int} {W L : sTb} {B : sBk} {U : sUn} {Q : sMi} (h : mst R o F A W L B U Q) (hR : R < 1000000000) (h1 : 0 ≤ a1 ∧ a1 < 6) : wpX9_refuses o a1 F A (fun z F' A' => z = -1 ∧ mst (R + 1) o F' A' W L B U (qRef Q a1)) := by
  unfold wpX9_refuses
  have q := h.2.2.2.2.2.1 a1 h1.1 h1.2
  rw [q.1]
  refine ⟨by omega, ?_⟩ -- s1: (0 ≤ a1 ∧ a1 < 6)
  refine ⟨by omega, ?_⟩ -- s2: (0 ≤ a1 ∧ a1 < 6)
  refine ⟨by omega, ?_⟩ -- s3: jR ((A (o + 27) a1) + 1)
  intro A4 e4
  -- l1: Q (-1) F A4
  have fo : ∀ b, b ≠ o + 27 → A4 b = A b := fun b hb => by rw [e4, upA_o hb]
  obtain ⟨⟨⟨hk, hW, hL, hh, hv⟩, h9⟩, hB, hU, hM⟩ := h
  refine ⟨rfl, ⟨⟨hk, hW.of rfl (fun k _ _ => fo _ (by omega)), hL.of (fun k _ _ => fo _ (by omega)), hh, hv⟩, h9⟩, hB.of (fo _ (by omega)) (fo _ (by omega)), hU.fr hk.1 rfl rfl (fun k _ _ => fo _ (by omega)), ?_⟩
  obtain ⟨m1, m2, m3, m4, m5, m6, m7⟩ := hM
  refine ⟨m1, fun i i0 i1 => by rw [fo _ (by omega)]; exact m2 i i0 i1, fun r r0 r1 => ?_, m4, m5, m6, fun k k0 k1 => by rw [fo _ (by omega)]; exact m7 k k0 k1⟩
  have := m3 r r0 r1
  simp only [qRef]
  rw [e4]
  by_cases w : r = a1
  · rw [w, upA_s]; simp; omega
  · rw [upA_i w]; simp [w]; exact ⟨this.1, this.2.1, by omega⟩

theorem sX9_ring {o : Nat} {a1 : Int} {F : jFl} {A : jAr} (h1 : 0 ≤ F 3153 o ∧ F 3153 o < 20) (h2 : 0 ≤ a1 ∧ a1 ≤ 20) : wpX9_ring o a1 F A (fun z => z = 2 + (F 3153 o + a1) % 20) := by
  unfold wpX9_ring
  refine ⟨by omega, ?_⟩ -- s1: (((0 : Int) ≤ (F 3153 o) + a1 ∧ ((F 3153 o) + a1 : Int) ≤ 2147483647) ∧ ((0 : Int) < 20 ∧ (20 : Int) ≤ 2147483647))
  refine ⟨by omega, ?_⟩ -- s2: jR (2 + (((F 3153 o) + a1) % 20))
  -- l1: Q (2 + (((F 3153 o) + a1) % 20))
  rfl

set_option maxHeartbeats 2000000 in
theorem sX9_keeps {o : Nat} {F : jFl} {A : jAr} {R : Int} {W L : sTb} {B : sBk} {U : sUn} {Q : sMi} (h : mst R o F A W L B U Q) : wpX9_keeps o F A (fun F' A' => mst R o F' A' W L B (sKeep U (L, B)) Q ∧ (∀ f b, (b = o → f ≠ 3153 ∧ f ≠ 3156) → F' f b = F f b) ∧ ∀ b, (b < o + 28 ∨ o + 35 < b) → A' b = A b) := by
  unfold wpX9_keeps
  obtain ⟨⟨⟨⟨hk, hLk⟩, hW, hL, hh, hv⟩, h9⟩, hB, hU, hM⟩ := h
  have hU0 := hU
  obtain ⟨u1, u2, u3, u4⟩ := hU
  have w3 := hk.2.2.2.1
  refine ⟨fun (F2 : jFl) => ∃ U1 : sUn, mrU o F2 A W U1 ∧ U1.1 ≤ 19 ∧ sKeep U (L, B) = (U1.1 + 1, upI U1.2 U1.1 (L, B)) ∧ ∀ f b, (b = o → f ≠ 3153 ∧ f ≠ 3156) → F2 f b = F f b, ?_, ?_⟩ -- join K4
  · intro F2 k4
    obtain ⟨U1, k1, k2, k3, k5⟩ := k4
    have k10 := k1
    obtain ⟨v1, v2, v3, v4⟩ := k1
    refine ⟨_, sX9_ring v3 (by omega), ?_⟩ -- call wpX9_ring o (F2 3156 o) F2 A P7
    intro z9 p7
    rw [v2] at p7
    refine ⟨_, sX9_copies (nl := W 3 0 0) (L := L) (B := B) (by omega) (by omega) (by omega) hL (by omega) (fun l l0 l1 => by have := hLk.2.2.2.1 l l0 l1; omega) hB, ?_⟩ -- call wpX9_copies o z9 0 F2 A P12
    intro F15 A16 p12
    obtain ⟨c1, c2, c3, c4, c5⟩ := p12
    subst c1
    have e56 := v2
    refine ⟨by omega, ?_⟩ -- s1: jR ((F15 3156 o) + 1)
    intro F21 e21
    -- l1: Q F21 A16
    refine ⟨⟨⟨⟨⟨hk, hLk⟩, hW.of (by rw [e21, upF_f (by decide), k5 _ _ (fun _ => by decide)]) (fun k _ _ => c5 _ (by omega)), hL.other c4 (by omega) (by omega) (fun l l0 l1 => by have := hLk.2.2.2.1 l l0 l1; omega), by rw [e21, upF_f (by decide), k5 _ _ (fun _ => by decide)]; exact hh, hv⟩, h9⟩, hB.other c4 (by omega), ?_, hM.of (fun f hf => by rw [e21, upF_f (by omega), k5 _ _ (fun _ => by omega)]) (c5 _ (by omega)) (c5 _ (by omega)) (c5 _ (by omega))⟩, fun f b hf => ?_, fun b hb => c5 b (by omega)⟩
    · rw [k3]
      refine ⟨by dsimp only; omega, by rw [e21, upF_s, v2], by rw [e21, upF_f (by decide)]; exact v3, fun i i0 i1 => ?_⟩
      rw [e21, upF_f (by decide)]
      dsimp only at i1 ⊢
      by_cases w : i = U1.1
      · rw [w, upI_s, ← p7]
        exact ⟨c2, c3, hLk, h9⟩
      · obtain ⟨y1, y2, y3⟩ := v4 i i0 (by omega)
        rw [upI_n w]
        exact ⟨y1.other c4 (by omega) (by omega) (fun l l0 l1 => by have := y3.1.2.2.2.1 l l0 l1; omega), y2.other c4 (by omega), y3⟩
    · rw [← k5 f b hf, e21]
      by_cases w : b = o
      · exact upF_f (hf w).2
      · exact upF_a w
  refine ⟨fun hc => ?_, fun hc => ?_⟩ -- c1
  · -- case (¬ (F 3156 o) = 20)
    -- l2: K4 F
    refine ⟨U, hU0, by omega, ?_, fun _ _ _ => rfl⟩
    unfold sKeep; rw [if_neg (by omega)]
  · -- case ¬ (¬ (F 3156 o) = 20)
    refine ⟨by omega, ?_⟩ -- s2: (((0 : Int) ≤ (F 3153 o) + 1 ∧ ((F 3153 o) + 1 : Int) ≤ 2147483647) ∧ ((0 : Int) < 20 ∧ (20 : Int) ≤ 2147483647))
    refine ⟨by omega, ?_⟩ -- s3: jR (((F 3153 o) + 1) % 20)
    intro F25 e25
    refine ⟨by (rw [e25, upF_f (by decide)]; omega), ?_⟩ -- s4: jR ((F25 3156 o) - 1)
    intro F28 e28
    have f53 : F28 3153 o = (F 3153 o + 1) % 20 := by rw [e28, upF_f (by decide), e25, upF_s]
    have f56 : F28 3156 o = 19 := by rw [e28, upF_s, e25, upF_f (by decide)]; omega
    -- l3: K4 F28
    refine ⟨(19, fun i => U.2 (i + 1)), ⟨by dsimp only; omega, f56, by rw [f53]; omega, fun i i0 i1 => ?_⟩, by dsimp only; omega, ?_, fun f b hf => ?_⟩
    · dsimp only at i1 ⊢
      rw [f53, show 2 + ((F 3153 o + 1) % 20 + i) % 20 = 2 + (F 3153 o + (i + 1)) % 20 by omega]
      exact u4 (i + 1) (by omega) (by omega)
    · unfold sKeep; rw [if_pos (by omega)]; rfl
    · rw [e28, e25]
      by_cases w : b = o
      · rw [upF_f (hf w).2, upF_f (hf w).1]
      · rw [upF_a w, upF_a w]

set_option maxHeartbeats 2000000 in
theorem sX9_undo {o : Nat} {F : jFl} {A : jAr} {R : Int} {W L : sTb} {B : sBk} {U : sUn} {Q : sMi} (h : mst R o F A W L B U Q) (hR : R < 1000000000) : wpX9_undo o F A (fun z F' A' => z = (if U.1 = 0 then 0 else 1) ∧ (if U.1 = 0 then mst (R + 1) o F' A' W L B U (qRef Q 4) else mst (R + 1) o F' A' W (U.2 (U.1 - 1)).1 (U.2 (U.1 - 1)).2 (U.1 - 1, U.2) Q)) := by
  unfold wpX9_undo
  have h0 := h
  obtain ⟨⟨⟨⟨hk, hLk⟩, hW, hL, hh, hv⟩, h9⟩, hB, hU, hM⟩ := h
  obtain ⟨u1, u2, u3, u4⟩ := hU
  have w3 := hk.2.2.2.1
  refine ⟨fun hc => ?_, fun hc => ?_⟩ -- c1
  · -- case (¬ (F 3156 o) = 0)
    refine ⟨by omega, ?_⟩ -- s1: jR ((F 3156 o) - 1)
    intro F3 e3
    have f56 : F3 3156 o = U.1 - 1 := by rw [e3, upF_s, u2]
    have f53 : F3 3153 o = F 3153 o := by rw [e3, upF_f (by decide)]
    refine ⟨_, sX9_ring (by rw [f53]; exact u3) (by omega), ?_⟩ -- call wpX9_ring o (F3 3156 o) F3 A P5
    intro z7 p5
    rw [f56, f53] at p5
    obtain ⟨y1, y2, y3⟩ := u4 (U.1 - 1) (by omega) (by omega)
    rw [← p5] at y1 y2
    refine ⟨_, sX9_copies (nl := W 3 0 0) (L := (U.2 (U.1 - 1)).1) (B := (U.2 (U.1 - 1)).2) (by omega) (by omega) (by omega) y1 (by omega) (fun l l0 l1 => by have := y3.1.2.2.2.1 l l0 l1; omega) y2, ?_⟩ -- call wpX9_copies o 0 z7 F3 A P10
    intro F13 A14 p10
    obtain ⟨c1, c2, c3, c4, c5⟩ := p10
    subst c1
    -- l1: Q 1 F13 A14
    have ne : ¬ U.1 = 0 := by omega
    rw [if_neg ne, if_neg ne]
    refine ⟨rfl, ⟨⟨⟨hk, y3.1⟩, hW.of (by rw [e3, upF_f (by decide)]) (fun k _ _ => c5 _ (by omega)), c2, by rw [e3, upF_f (by decide)]; exact hh, hv⟩, y3.2⟩, c3, ⟨by dsimp only; omega, f56, by rw [f53]; exact u3, fun i i0 i1 => ?_⟩, (hM.of (fun f hf => by rw [e3, upF_f (by omega)]) (c5 _ (by omega)) (c5 _ (by omega)) (c5 _ (by omega))).mono (by omega)⟩
    dsimp only at i1 ⊢
    rw [f53]
    obtain ⟨x1, x2, x3⟩ := u4 i i0 (by omega)
    exact ⟨x1.other c4 (by omega) (by omega) (fun l l0 l1 => by have := x3.1.2.2.2.1 l l0 l1; omega), x2.other c4 (by omega), x3⟩
  · -- case ¬ (¬ (F 3156 o) = 0)
    refine ⟨_, sX9_refuses h0 hR (by omega), ?_⟩ -- call wpX9_refuses o 4 F A P18
    intro z20 F21 A22 p18
    obtain ⟨q1, q2⟩ := p18
    intro z27 e27
    -- l2: Q z27 F21 A22
    have ne : U.1 = 0 := by omega
    rw [if_pos ne, if_pos ne]
    exact ⟨by rw [e27, q1]; rfl, q2⟩

