set_option maxRecDepth 100000
set_option linter.unusedVariables false
/-! the image: what it is; the model's; printed by gen/prove.py out of spec/a5.mimg.spec -/
abbrev sOc : Type := Int × (Int → Int)
def sAp (p : sOc) (v : Int) : sOc := (p.1 + 1, upI p.2 p.1 v)
def sOck (p : sOc) (m : Int) : Prop := (0 ≤ p.1 ∧ p.1 ≤ m) ∧ ∀ k : Int, 0 ≤ k → k < p.1 → 0 ≤ p.2 k ∧ p.2 k ≤ 255
theorem sAp_ok {p : sOc} {m v : Int} (h : sOck p m) (hv : 0 ≤ v ∧ v ≤ 255) : sOck (sAp p v) (m + 1) := by
  obtain ⟨h1, h2⟩ := h
  refine ⟨by show 0 ≤ p.1 + 1 ∧ p.1 + 1 ≤ m + 1; omega, fun k k0 k1 => ?_⟩
  have k1 : k < p.1 + 1 := k1
  show 0 ≤ upI p.2 p.1 v k ∧ upI p.2 p.1 v k ≤ 255
  by_cases w : k = p.1
  · rw [w, upI_s]; exact hv
  · rw [upI_n w]; exact h2 k k0 (by omega)
theorem sOck.mono {p : sOc} {m m' : Int} (h : sOck p m) (hm : m ≤ m') : sOck p m' := ⟨by have := h.1; omega, h.2⟩
def sIm1 (W L : sTb) : sOc := sAp (sAp (sAp (0, fun _ => 0) (L 0 0 0 / 256)) (L 0 0 0 % 256)) (W 3 0 0)
def sIm2 (W L : sTb) (k : Nat) : sOc := it (fun i p => sAp p (L 1 i 0)) (sIm1 W L) k
def sImR (L : sTb) (l : Int) (p : sOc) (k : Nat) : sOc := it (fun i p => sAp p (L 5 l i)) (sAp (sAp (sAp p (L 4 l 0)) (L 2 l 0)) (L 3 l 0)) k
def sIm3 (W L : sTb) (k : Nat) : sOc := it (fun l p => sImR L l p (L 2 l 0 + L 3 l 0).toNat) (sIm2 W L (W 3 0 0).toNat) k
def sSum (q : Int → Int) (n : Nat) : Int := it (fun k c => (3 * c + q k) % 253) 71 n
def sImg (W L : sTb) : sOc := sAp (sIm3 W L (W 3 0 0).toNat) (sSum (sIm3 W L (W 3 0 0).toNat).2 (sIm3 W L (W 3 0 0).toNat).1.toNat)
def qImg (Q : sMi) (p : sOc) : sMi := fun k i => if k = 6 then p.1 else if k = 7 then p.2 i else Q k i
theorem sSum_range {q : Int → Int} {n : Nat} : 0 ≤ sSum q n ∧ sSum q n ≤ 252 := by
  cases n with
  | zero => show (0 : Int) ≤ 71 ∧ (71 : Int) ≤ 252; decide
  | succ n => show 0 ≤ (3 * sSum q n + q n) % 253 ∧ (3 * sSum q n + q n) % 253 ≤ 252; omega
theorem sSum_congr {q q' : Int → Int} {n : Nat} (h : ∀ k : Int, 0 ≤ k → k < n → q k = q' k) : sSum q n = sSum q' n := it_congr (fun k k0 k1 s => by rw [h k k0 k1])
def mOc (o : Nat) (F : jFl) (A : jAr) (p : sOc) : Prop := F 3237 o = p.1 ∧ ∀ k : Int, 0 ≤ k → k < p.1 → A (o + 48) k = p.2 k
def mfi (o : Nat) (F : jFl) (A : jAr) (F' : jFl) (A' : jAr) : Prop := (∀ f b, (b = o → f ≠ 3237) → F' f b = F f b) ∧ ∀ b, b ≠ o + 48 → A' b = A b
theorem mfi.trans {o : Nat} {F F' F'' : jFl} {A A' A'' : jAr} (h : mfi o F A F' A') (h2 : mfi o F' A' F'' A'') : mfi o F A F'' A'' := ⟨fun f b hb => (h2.1 f b hb).trans (h.1 f b hb), fun b hb => (h2.2 b hb).trans (h.2 b hb)⟩
theorem mst.img {R : Int} {o : Nat} {F F' : jFl} {A A' : jAr} {W L : sTb} {B : sBk} {U : sUn} {Q : sMi} {p : sOc} (h : mst R o F A W L B U Q) (hf : mfi o F A F' A') (hp : mOc o F' A' p) (hk : sOck p 210) : mst R o F' A' W L B U (qImg Q p) := by
  obtain ⟨⟨⟨⟨hW0, hLk⟩, hW, hL, hh, hv⟩, h9⟩, hB, hU, hM⟩ := h
  obtain ⟨hF, hA⟩ := hf
  have w3 := hW0.2.2.2.1
  have hl : mlf o 1 A A' := ⟨fun i _ => ⟨by rw [hA _ (by omega)], by rw [hA _ (by omega)]⟩, fun i _ => ⟨by rw [hA _ (by omega)], by rw [hA _ (by omega)], by rw [hA _ (by omega)], by rw [hA _ (by omega)]⟩, fun i _ => by rw [hA _ (by omega)], fun i _ => by rw [hA _ (by omega)]⟩
  refine ⟨⟨⟨⟨hW0, hLk⟩, hW.of (hF _ _ (fun _ => by decide)) (fun k k0 k1 => hA _ (by omega)), hL.other hl (by omega) (by decide) (fun l l0 l1 => by have := hLk.2.2.2.1 l l0 l1; omega), by rw [hF _ _ (fun _ => by decide)]; exact hh, hv⟩, h9⟩, hB.other hl (by decide), hU.lf hW0 (hF _ _ (fun _ => by decide)) (hF _ _ (fun _ => by decide)) hl (by decide), ?_⟩
  obtain ⟨m1, m2, m3, ⟨m4, m44⟩, m5, m6, m7⟩ := hM
  refine ⟨by rw [hF _ _ (fun _ => by decide)]; exact m1, fun i i0 i1 => by rw [hA _ (by omega)]; exact m2 i i0 i1, fun r r0 r1 => by rw [hA _ (by omega)]; exact m3 r r0 r1, ⟨by rw [hF _ _ (fun _ => by decide)]; exact m4, by rw [hF _ _ (fun _ => by decide)]; exact m44⟩, by rw [hF _ _ (fun _ => by decide)]; exact m5, ⟨hp.1, hk.1⟩, hp.2⟩
theorem sX9_writes {o : Nat} {a1 : Int} {F : jFl} {A : jAr} {p : sOc} (h : mOc o F A p) (hp : 0 ≤ p.1 ∧ p.1 < 210) : wpX9_writes o a1 F A (fun F' A' => mOc o F' A' (sAp p (a1 % 256)) ∧ mfi o F A F' A') := by
  unfold wpX9_writes
  obtain ⟨h1, h2⟩ := h
  rw [h1]
  refine ⟨by omega, ?_⟩ -- s1: (0 ≤ F 3237 o ∧ F 3237 o < 210)
  intro A2 e2
  refine ⟨by omega, ?_⟩ -- s2: jR ((F 3237 o) + 1)
  intro F5 e5
  -- l1: Q F5 A2
  refine ⟨⟨by rw [e5, upF_s]; rfl, fun k k0 k1 => ?_⟩, ⟨fun f b hb => ?_, fun b hb => by rw [e2, upA_o hb]⟩⟩
  · have k1 : k < p.1 + 1 := k1
    show A2 (o + 48) k = upI p.2 p.1 (a1 % 256) k
    rw [e2]
    by_cases w : k = p.1
    · rw [w, upA_same, upI_s]
    · rw [upA_i w, upI_n w]; exact h2 k k0 (by omega)
  · rw [e5]
    by_cases w : b = o
    · rw [w, upF_f (hb w)]
    · rw [upF_a w]

set_option maxHeartbeats 1000000 in
theorem sX9_image {o : Nat} {F : jFl} {A : jAr} {R : Int} {W L : sTb} {B : sBk} {U : sUn} {Q : sMi} (h : mst R o F A W L B U Q) : wpX9_image o F A (fun z F' A' => z = (sImg W L).1 ∧ mst R o F' A' W L B U (qImg Q (sImg W L))) := by
  unfold wpX9_image
  have hM := h
  obtain ⟨⟨⟨⟨hk, hLk⟩, hW, hL, hh, hv⟩, h9⟩, hB, hU, -⟩ := h
  have w0 := hk.1
  have w3 := hk.2.2.2.1
  have hb := hW.1
  have hn : A (o + 17) (F 3039 o) = W 3 0 0 := hW.2.1.2.2.2
  have y0 : A (o + 28) 0 = L 0 0 0 := hL.1
  have ky := hLk.1
  have k0 : sOck ((0 : Int), fun _ => (0 : Int)) 0 := ⟨by decide, fun k k0 k1 => by have k1 : k < 0 := k1; omega⟩
  have mF : ∀ {F' : jFl} {A' : jAr}, mfi o F A F' A' → F' 3039 o = F 3039 o ∧ ∀ b, b ≠ o + 48 → A' b = A b := fun m => ⟨m.1 _ _ (fun _ => by decide), m.2⟩
  intro F1 e1
  have m1 : mfi o F A F1 A := ⟨fun f b hb => by
    rw [e1]
    by_cases w : b = o
    · rw [w, upF_f (hb w)]
    · rw [upF_a w], fun _ _ => rfl⟩
  have o1 : mOc o F1 A ((0 : Int), fun _ => (0 : Int)) := ⟨by rw [e1, upF_s], fun k k0 k1 => by have k1 : k < 0 := k1; omega⟩
  refine ⟨by omega, ?_⟩ -- s1: ((0 : Int) ≤ 8 ∧ (8 : Int) < 32)
  refine ⟨_, sX9_writes o1 (by decide), ?_⟩ -- call wpX9_writes o ((A (o + 28) 0) / 2 ^ 8) F1 A P5
  intro F8 A9 p5
  obtain ⟨o2, m2⟩ := p5
  rw [y0, show L 0 0 0 / 2 ^ 8 % 256 = L 0 0 0 / 256 by rw [show (2 : Int) ^ 8 = 256 from rfl]; omega] at o2
  have m2 := m1.trans m2
  refine ⟨_, sX9_writes o2 (by show (0 : Int) ≤ 0 + 1 ∧ (0 : Int) + 1 < 210; decide), ?_⟩ -- call wpX9_writes o (A9 (o + 28) 0) F8 A9 P14
  intro F17 A18 p14
  obtain ⟨o3, m3⟩ := p14
  rw [m2.2 _ (by omega), y0] at o3
  have m3 := m2.trans m3
  refine ⟨by (rw [(mF m3).1]; exact hb), ?_⟩ -- s2: (0 ≤ F17 3039 o ∧ F17 3039 o < 2)
  refine ⟨_, sX9_writes o3 (by show (0 : Int) ≤ 0 + 1 + 1 ∧ (0 : Int) + 1 + 1 < 210; decide), ?_⟩ -- call wpX9_writes o (A18 (o + 17) (F17 3039 o)) F17 A18 P23
  intro F26 A27 p23
  obtain ⟨o4, m4⟩ := p23
  rw [(mF m3).1, m3.2 _ (by omega), hn, show W 3 0 0 % 256 = W 3 0 0 by omega] at o4
  have m4 := m3.trans m4
  have k1 : sOck (sIm1 W L) 3 := sAp_ok (sAp_ok (sAp_ok k0 (by omega)) (by omega)) (by omega)
  refine ⟨fun (v31 : Int) (F32 : jFl) (A33 : jAr) => (0 ≤ v31 ∧ v31 ≤ W 3 0 0) ∧ mOc o F32 A33 (sIm2 W L v31.toNat) ∧ sOck (sIm2 W L v31.toNat) (3 + v31) ∧ mfi o F A F32 A33, fun v31 F32 A33 => (W 3 0 0 - v31).toNat, ?_, ?_⟩ -- loop I35 I35 0 F26 A27
  ·
    -- l1: I35 0 F26 A27
    exact ⟨by omega, o4, k1.mono (by omega), m4⟩
  intro v31 F32 A33 i35
  obtain ⟨i1, i2, i3, i4⟩ := i35
  have q39 := (mF i4).1
  have q17 : A33 (o + 17) (F32 3039 o) = W 3 0 0 := by rw [q39, i4.2 _ (by omega)]; exact hn
  refine ⟨by (rw [q39]; exact hb), ?_⟩ -- s3: (0 ≤ F32 3039 o ∧ F32 3039 o < 2)
  rw [q17]
  refine ⟨fun hc => ?_, fun hc => ?_⟩ -- c1
  · -- case ((A33 (o + 17) (F32 3039 o)) ≤ v31)
    have ev : v31 = W 3 0 0 := by omega
    rw [ev] at i2 i3
    refine ⟨fun (v39 : Int) (F40 : jFl) (A41 : jAr) => (0 ≤ v39 ∧ v39 ≤ W 3 0 0) ∧ mOc o F40 A41 (sIm3 W L v39.toNat) ∧ sOck (sIm3 W L v39.toNat) (15 + 15 * v39) ∧ mfi o F A F40 A41, fun v39 F40 A41 => (W 3 0 0 - v39).toNat, ?_, ?_⟩ -- loop I43 I43 0 F32 A33
    ·
      -- l2: I43 0 F32 A33
      exact ⟨by omega, i2, i3.mono (by omega), i4⟩
    intro v39 F40 A41 i43
    obtain ⟨j1, j2, j3, j4⟩ := i43
    have r39 := (mF j4).1
    have r17 : A41 (o + 17) (F40 3039 o) = W 3 0 0 := by rw [r39, j4.2 _ (by omega)]; exact hn
    refine ⟨by (rw [r39]; exact hb), ?_⟩ -- s4: (0 ≤ F40 3039 o ∧ F40 3039 o < 2)
    rw [r17]
    refine ⟨fun hc => ?_, fun hc => ?_⟩ -- c2
    · -- case ((A41 (o + 17) (F40 3039 o)) ≤ v39)
      have ew : v39 = W 3 0 0 := by omega
      rw [ew] at j2 j3
      have jn := j3.1
      rw [j2.1]
      refine ⟨fun (v47 : Int) (v48 : Int) => (0 ≤ v48 ∧ v48 ≤ (sIm3 W L (W 3 0 0).toNat).1) ∧ v47 = sSum (sIm3 W L (W 3 0 0).toNat).2 v48.toNat, fun v47 v48 => ((sIm3 W L (W 3 0 0).toNat).1 - v48).toNat, ?_, ?_⟩ -- loop I49 I49 71 0
      ·
        -- l3: I49 71 0
        exact ⟨by omega, rfl⟩
      intro v47 v48 i49
      obtain ⟨g1, g2⟩ := i49
      have gr := sSum_range (q := (sIm3 W L (W 3 0 0).toNat).2) (n := v48.toNat)
      rw [← g2] at gr
      skip
      refine ⟨fun hc => ?_, fun hc => ?_⟩ -- c3
      · -- case ((F40 3237 o) ≤ v48)
        refine ⟨_, sX9_writes j2 (by omega), ?_⟩ -- call wpX9_writes o v47 F40 A41 P52
        intro F55 A56 p52
        obtain ⟨o5, m5⟩ := p52
        have eg : v48 = (sIm3 W L (W 3 0 0).toNat).1 := by omega
        rw [show v47 % 256 = v47 by omega, g2, eg] at o5
        -- l4: Q (F55 3237 o) F55 A56
        have oo : mOc o F55 A56 (sImg W L) := o5
        have kk : sOck (sImg W L) 210 := (sAp_ok j3 (by have := sSum_range (q := (sIm3 W L (W 3 0 0).toNat).2) (n := (sIm3 W L (W 3 0 0).toNat).1.toNat); omega)).mono (by omega)
        exact ⟨oo.1, hM.img (j4.trans m5) oo kk⟩
      · -- case ¬ ((F40 3237 o) ≤ v48)
        refine ⟨by omega, ?_⟩ -- s5: (0 ≤ v48 ∧ v48 < 210)
        refine ⟨by (rw [j2.2 v48 g1.1 (by omega)]; have := j3.2 v48 g1.1 (by omega); omega), ?_⟩ -- s6: (((0 : Int) ≤ (3 * v47) + (A41 (o + 48) v48) ∧ ((3 * v47) + (A41 (o + 48) v48) : Int) ≤ 2147483647) ∧ ((0 : Int) < 253 ∧ (253 : Int) ≤ 2147483647))
        refine ⟨by omega, ?_⟩ -- s7: jR (((3 * v47) + (A41 (o + 48) v48)) % 253)
        intro v63 e63
        refine ⟨by omega, ?_⟩ -- s8: jR (v48 + 1)
        refine ⟨?_, ?_⟩ -- l5: I49 v63 (v48 + 1)
        · refine ⟨by omega, ?_⟩
          rw [e63, j2.2 v48 g1.1 (by omega), g2]
          exact (it_succ (fun k c => (3 * c + (sIm3 W L (W 3 0 0).toNat).2 k) % 253) 71 g1.1).symm
        · dsimp only; omega
    · -- case ¬ ((A41 (o + 17) (F40 3039 o)) ≤ v39)
      refine ⟨by omega, ?_⟩ -- s9: (0 ≤ v39 ∧ v39 < 264)
      have hv39 : 0 ≤ v39 ∧ v39 < W 3 0 0 := by omega
      obtain ⟨x30, x31, x32, x33⟩ := hL.2.2 v39 hv39.1 hv39.2
      rw [show 12 * 0 + v39 = v39 by omega] at x30 x31 x32 x33
      have rr := hLk.2.2.2.1 v39 hv39.1 hv39.2
      have rk := sRw_ok hLk hv39
      have jn := j3.1
      refine ⟨_, sX9_writes j2 (by omega), ?_⟩ -- call wpX9_writes o (A41 (o + 32) v39) F40 A41 P66
      intro F69 A70 p66
      obtain ⟨o5, m5⟩ := p66
      rw [j4.2 _ (by omega), x32, show L 4 v39 0 % 256 = L 4 v39 0 by omega] at o5
      have m5 := j4.trans m5
      refine ⟨by omega, ?_⟩ -- s10: (0 ≤ v39 ∧ v39 < 264)
      refine ⟨_, sX9_writes o5 (by show 0 ≤ (sIm3 W L v39.toNat).1 + 1 ∧ (sIm3 W L v39.toNat).1 + 1 < 210; omega), ?_⟩ -- call wpX9_writes o (A70 (o + 30) v39) F69 A70 P75
      intro F78 A79 p75
      obtain ⟨o6, m6⟩ := p75
      rw [m5.2 _ (by omega), x30, show L 2 v39 0 % 256 = L 2 v39 0 by omega] at o6
      have m6 := m5.trans m6
      refine ⟨by omega, ?_⟩ -- s11: (0 ≤ v39 ∧ v39 < 264)
      refine ⟨_, sX9_writes o6 (by show 0 ≤ (sIm3 W L v39.toNat).1 + 1 + 1 ∧ (sIm3 W L v39.toNat).1 + 1 + 1 < 210; omega), ?_⟩ -- call wpX9_writes o (A79 (o + 31) v39) F78 A79 P84
      intro F87 A88 p84
      obtain ⟨o7, m7⟩ := p84
      rw [m6.2 _ (by omega), x31, show L 3 v39 0 % 256 = L 3 v39 0 by omega] at o7
      have m7 := m6.trans m7
      refine ⟨fun (v92 : Int) (F93 : jFl) (A94 : jAr) => (0 ≤ v92 ∧ v92 ≤ L 2 v39 0 + L 3 v39 0) ∧ mOc o F93 A94 (sImR L v39 (sIm3 W L v39.toNat) v92.toNat) ∧ sOck (sImR L v39 (sIm3 W L v39.toNat) v92.toNat) (15 + 15 * v39 + 3 + v92) ∧ mfi o F A F93 A94, fun v92 F93 A94 => (L 2 v39 0 + L 3 v39 0 - v92).toNat, ?_, ?_⟩ -- loop I96 I96 0 F87 A88
      ·
        -- l6: I96 0 F87 A88
        exact ⟨by omega, o7, (sAp_ok (sAp_ok (sAp_ok j3 (by omega)) (by omega)) (by omega)).mono (by omega), m7⟩
      intro v92 F93 A94 i96
      obtain ⟨g1, g2, g3, g4⟩ := i96
      rw [g4.2 _ (by omega), g4.2 _ (by omega), x30, x31]
      have gn := g3.1
      refine ⟨by omega, ?_⟩ -- s12: (0 ≤ v39 ∧ v39 < 264)
      refine ⟨by omega, ?_⟩ -- s13: (0 ≤ v39 ∧ v39 < 264)
      refine ⟨by omega, ?_⟩ -- s14: jR ((A94 (o + 30) v39) + (A94 (o + 31) v39))
      refine ⟨fun hc => ?_, fun hc => ?_⟩ -- c4
      · -- case (((A94 (o + 30) v39) + (A94 (o + 31) v39)) ≤ v92)
        refine ⟨by omega, ?_⟩ -- s15: jR (v39 + 1)
        refine ⟨?_, ?_⟩ -- l7: I43 (v39 + 1) F93 A94
        · have es : sIm3 W L (v39 + 1).toNat = sImR L v39 (sIm3 W L v39.toNat) v92.toNat := by
            have := it_succ (fun l p => sImR L l p (L 2 l 0 + L 3 l 0).toNat) (sIm2 W L (W 3 0 0).toNat) j1.1
            rw [show v92 = L 2 v39 0 + L 3 v39 0 by omega]
            exact this
          refine ⟨by omega, by rw [es]; exact g2, by rw [es]; exact g3.mono (by omega), g4⟩
        · dsimp only; omega
      · -- case ¬ (((A94 (o + 30) v39) + (A94 (o + 31) v39)) ≤ v92)
        refine ⟨by omega, ?_⟩ -- s16: (0 ≤ (12 * v39) + v92 ∧ (12 * v39) + v92 < 3168)
        have ru := rk.2.2 v92 g1.1 (by show v92 < L 2 v39 0 + L 3 v39 0; omega)
        have ru : 0 ≤ L 5 v39 v92 ∧ L 5 v39 v92 < W 0 0 0 := ru
        refine ⟨_, sX9_writes g2 (by omega), ?_⟩ -- call wpX9_writes o (A94 (o + 33) ((12 * v39) + v92)) F93 A94 P104
        intro F107 A108 p104
        obtain ⟨o8, m8⟩ := p104
        rw [g4.2 _ (by omega), x33 v92 g1.1 (by omega), show L 5 v39 v92 % 256 = L 5 v39 v92 by omega] at o8
        refine ⟨by omega, ?_⟩ -- s17: jR (v92 + 1)
        refine ⟨?_, ?_⟩ -- l8: I96 (v92 + 1) F107 A108
        · have es : sImR L v39 (sIm3 W L v39.toNat) (v92 + 1).toNat = sAp (sImR L v39 (sIm3 W L v39.toNat) v92.toNat) (L 5 v39 v92) := it_succ _ _ g1.1
          exact ⟨by omega, by rw [es]; exact o8, by rw [es]; exact (sAp_ok g3 (by omega)).mono (by omega), g4.trans m8⟩
        · dsimp only; omega
  · -- case ¬ ((A33 (o + 17) (F32 3039 o)) ≤ v31)
    refine ⟨by omega, ?_⟩ -- s18: (0 ≤ v31 ∧ v31 < 264)
    have hp := hLk.2.1 v31 i1.1 (by omega)
    have gn := i3.1
    refine ⟨_, sX9_writes i2 (by omega), ?_⟩ -- call wpX9_writes o (A33 (o + 29) v31) F32 A33 P114
    intro F117 A118 p114
    obtain ⟨o8, m8⟩ := p114
    rw [i4.2 _ (by omega)] at o8
    refine ⟨by omega, ?_⟩ -- s19: jR (v31 + 1)
    refine ⟨?_, ?_⟩ -- l9: I35 (v31 + 1) F117 A118
    · have es : sIm2 W L (v31 + 1).toNat = sAp (sIm2 W L v31.toNat) (L 1 v31 0) := it_succ _ _ i1.1
      have e29 : A (o + 29) v31 % 256 = L 1 v31 0 := by
        have := hL.2.1 v31 i1.1 (by omega)
        rw [show 12 * 0 + v31 = v31 by omega] at this
        omega
      rw [e29] at o8
      exact ⟨by omega, by rw [es]; exact o8, by rw [es]; exact (sAp_ok i3 (by omega)).mono (by omega), i4.trans m8⟩
    · dsimp only; omega

