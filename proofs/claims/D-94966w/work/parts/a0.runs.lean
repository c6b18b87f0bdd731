set_option maxRecDepth 100000
set_option linter.unusedVariables false
/-! runs on both sides; printed by gen/prove.py out of spec/a0.runs.spec -/
theorem sYears_9 {W L : sTb} {B : sBk} {s n : Int} : (sYears W (L, B, s) n).1 9 0 0 = L 9 0 0 := by
  unfold sYears
  exact it_inv (f := fun _ p => sYear W p) (fun _ (p : sTb × sBk × Int) => p.1 9 0 0 = L 9 0 0) rfl (fun k k0 k1 p hp => by
    obtain ⟨p1, p2, p3⟩ := p
    exact sYear_9.trans hp)
theorem sYears_0 {W L : sTb} {B : sBk} {s n : Int} (h : 0 ≤ n) : (sYears W (L, B, s) n).1 0 0 0 = L 0 0 0 + n := by
  have e := it_inv (f := fun _ p => sYear W p) (a := (L, B, s)) (n := n.toNat) (fun k (p : sTb × sBk × Int) => p.1 0 0 0 = L 0 0 0 + k) (by show L 0 0 0 = L 0 0 0 + 0; omega) (fun k k0 k1 p hp => by
    obtain ⟨p1, p2, p3⟩ := p
    have e := sYear_0 (W := W) (L := p1) (B := p2) (s := p3)
    have hp : p1 0 0 0 = L 0 0 0 + k := hp
    show (sYear W (p1, p2, p3)).1 0 0 0 = _
    rw [e, hp]; omega)
  rw [show ((n.toNat : Nat) : Int) = n by omega] at e
  exact e
theorem sRenew_B {W L : sTb} {c : Int} {B B' : sBk} : (sRenew W L c B).1 = (sRenew W L c B').1 := by
  unfold sRenew
  generalize sSits W L c (sSeats L (W 3 0 0)).2 (sSeats L (W 3 0 0)).1.toNat = SS
  generalize (sSeats L (W 3 0 0)).1.toNat = n
  induction n with
  | zero => rfl
  | succ n ih =>
    generalize hp : it (sRenewF c SS (sSeats L (W 3 0 0)).2) (L, B) n = p at ih
    generalize hq : it (sRenewF c SS (sSeats L (W 3 0 0)).2) (L, B') n = q at ih
    show (sRenewF c _ _ (n : Int) (it _ (L, B) n)).1 = (sRenewF c _ _ (n : Int) (it _ (L, B') n)).1
    rw [hp, hq]
    obtain ⟨p1, p2⟩ := p
    obtain ⟨q1, q2⟩ := q
    have ih : p1 = q1 := ih
    subst ih
    exact sBecome_1
theorem sYear_B {W L : sTb} {B B' : sBk} {s : Int} : (sYear W (L, B, s)).1 = (sYear W (L, B', s)).1 ∧ (sYear W (L, B, s)).2.2 = (sYear W (L, B', s)).2.2 := by
  unfold sYear
  by_cases w : (L 0 0 0 + 1) % 9 = 0 ∧ 0 < W 2 0 0
  · rw [if_pos w, if_pos w]
    exact ⟨sRenew_B, rfl⟩
  · rw [if_neg w, if_neg w]
    exact ⟨rfl, rfl⟩
def sRnM (L : sTb) : Int := if 9999 - L 0 0 0 < 45 then 9999 - L 0 0 0 else 45
noncomputable def sRnA (W L : sTb) (B : sBk) (l s m : Int) : Int := it (fun j a => cif (sAlike (sRw (sYears W (L, B, s) (j + 1)).1 l) (sRw L l)) (a + 1) a) 0 m.toNat
theorem sRnA_range {W L : sTb} {B : sBk} {l s m : Int} (h : 0 ≤ m) : 0 ≤ sRnA W L B l s m ∧ sRnA W L B l s m ≤ m := by
  have e := it_inv (f := fun j a => cif (sAlike (sRw (sYears W (L, B, s) (j + 1)).1 l) (sRw L l)) (a + 1) a) (a := (0 : Int)) (n := m.toNat) (fun k a => 0 ≤ a ∧ a ≤ k) (by omega) (fun k k0 k1 a ha => by
    by_cases w : sAlike (sRw (sYears W (L, B, s) (k + 1)).1 l) (sRw L l)
    · rw [cif_pos w]; omega
    · rw [cif_neg w]; omega)
  unfold sRnA
  omega
theorem sRnA_succ {W L : sTb} {B : sBk} {l s m : Int} (h : 0 ≤ m) : sRnA W L B l s (m + 1) = cif (sAlike (sRw (sYears W (L, B, s) (m + 1)).1 l) (sRw L l)) (sRnA W L B l s m + 1) (sRnA W L B l s m) := it_succ _ _ h
abbrev sRnT : Type := Int × Int × Int × Int
noncomputable def sRnF (W L : sTb) (B : sBk) (l m : Int) : Int → sRnT → sRnT := fun _ st => (st.1 + cif (sAlike (sRw (sYears W (L, B, st.2.2.2) m).1 l) (sRw L l)) 1 0, st.2.1 + (if 0 < (sYears W (L, B, st.2.2.2) m).1 2 l 0 then 0 else 1), st.2.2.1 + sRnA W L B l st.2.2.2 m, (sYears W (L, B, st.2.2.2) m).2.2)
noncomputable def sRns (W L : sTb) (B : sBk) (l s n : Int) : sRnT := it (sRnF W L B l (sRnM L)) (0, 0, 0, s) n.toNat
theorem sRns_succ {W L : sTb} {B : sBk} {l s n : Int} (h : 0 ≤ n) : sRns W L B l s (n + 1) = sRnF W L B l (sRnM L) n (sRns W L B l s n) := it_succ _ _ h
def rRunsC (W L : sTb) (n l k : Int) : Prop := (1 ≤ n ∧ n ≤ 20) ∧ (0 ≤ l ∧ l < W 3 0 0 ∧ 0 < L 2 l 0) ∧ (0 ≤ k ∧ k ≤ 2)
noncomputable def rRuns (W L : sTb) (B : sBk) (s n l k : Int) : Int := cif (rRunsC W L n l k) (if k = 0 then (sRns W L B l s n).1 else if k = 1 then (sRns W L B l s n).2.1 else (sRns W L B l s n).2.2.1) (-1)
noncomputable def rRunsQ (W L : sTb) (B : sBk) (Q : sMi) (n l k : Int) : sMi := cif (rRunsC W L n l k) (qSeed Q (sRns W L B l (Q 5 0) n).2.2.2) Q
theorem qSeed_qSeed {Q : sMi} {s s' : Int} : qSeed (qSeed Q s) s' = qSeed Q s' := by
  funext k i
  unfold qSeed
  split <;> rfl
/-- layer 1, scratch, the seed may be others -/
theorem mst.l1 {R s : Int} {o : Nat} {F F' : jFl} {A A' : jAr} {W L : sTb} {B : sBk} {U : sUn} {Q : sMi} (h : mst R o F A W L B U Q) (hl : mlf o 1 A A') (hF : ∀ f b, (b = o → (f < 3165 ∨ 3183 < f) ∧ f ≠ 3192 ∧ f ≠ 3160) → F' f b = F f b) (hA : ∀ b, (b < o + 28 ∨ o + 42 < b) → A' b = A b) (hs : F' 3160 o = s) (h0 : 0 ≤ s ∧ s < 2147483648) : mst R o F' A' W L B U (qSeed Q s) := by
  obtain ⟨⟨⟨⟨hk, hLk⟩, hW, hL, hh, hv⟩, h9⟩, hB, hU, hM⟩ := h
  have w3 := hk.2.2.2.1
  refine ⟨⟨⟨⟨hk, hLk⟩, hW.of (hF _ _ (fun _ => by decide)) (fun k k0 k1 => hA _ (by omega)), hL.other hl (by omega) (by decide) (fun l l0 l1 => by have := hLk.2.2.2.1 l l0 l1; omega), by rw [hF _ _ (fun _ => by decide)]; exact hh, hv⟩, h9⟩, hB.other hl (by decide), hU.lf hk (hF _ _ (fun _ => by decide)) (hF _ _ (fun _ => by decide)) hl (by decide), (hM.seed h0).of (fun f hf => ?_) (hA _ (by omega)) (hA _ (by omega)) (hA _ (by omega))⟩
  by_cases w : f = 3160
  · rw [w, hs, upF_s]
  · rw [upF_f w]; exact hF f o (fun _ => by omega)
theorem sX9_isAsNow {o : Nat} {a1 : Int} {a2 : Int} {F : jFl} {A : jAr} {L Lv : sTb} {W : sTb} (hk : sWok W) (hLk : sLok W L) (hLv : sLok W Lv) (hL : mrL o A 0 (W 3 0 0) L) (hV : mrL o A a1 (W 3 0 0) Lv) (h1 : 0 ≤ a1 ∧ a1 < 22) (h2 : 0 ≤ a2 ∧ a2 < W 3 0 0) : wpX9_isAsNow o a1 a2 F A (fun z => z = cif (sAlike (sRw Lv a2) (sRw L a2)) 1 0) := by
  unfold wpX9_isAsNow
  have w3 := hk.2.2.2.1
  obtain ⟨x1, x2, -, x4⟩ := hL.2.2 a2 h2.1 h2.2
  obtain ⟨y1, y2, -, y4⟩ := hV.2.2 a2 h2.1 h2.2
  rw [show 12 * 0 + a2 = a2 by omega] at x1 x2 x4
  have r1 := hLk.2.2.2.1 a2 h2.1 h2.2
  refine ⟨by omega, ?_⟩ -- s1: jR ((12 * a1) + a2)
  intro v2 e2
  subst e2
  rw [x1, x2, y1, y2]
  refine ⟨by omega, ?_⟩ -- s2: (0 ≤ v2 ∧ v2 < 264)
  refine ⟨by omega, ?_⟩ -- s3: (0 ≤ a2 ∧ a2 < 264)
  refine ⟨fun hc => ?_, fun hc => ?_⟩ -- c1
  · -- case (¬ (A (o + 30) v2) = (A (o + 30) a2))
    -- l1: Q 0
    exact (cif_neg (fun w => hc w.1)).symm
  · -- case ¬ (¬ (A (o + 30) v2) = (A (o + 30) a2))
    refine ⟨by omega, ?_⟩ -- s4: (0 ≤ v2 ∧ v2 < 264)
    refine ⟨by omega, ?_⟩ -- s5: (0 ≤ a2 ∧ a2 < 264)
    refine ⟨fun hc => ?_, fun hc => ?_⟩ -- c2
    · -- case ((A (o + 31) v2) = (A (o + 31) a2))
      refine ⟨fun (v9 : Int) => (0 ≤ v9 ∧ v9 ≤ L 2 a2 0 + L 3 a2 0) ∧ ∀ k : Int, 0 ≤ k → k < v9 → Lv 5 a2 k = L 5 a2 k, fun v9 => (L 2 a2 0 + L 3 a2 0 - v9).toNat, ?_, ?_⟩ -- loop I10 I10 0
      ·
        -- l2: I10 0
        exact ⟨by omega, fun k k0 k1 => by omega⟩
      intro v9 i10
      obtain ⟨i1, i2⟩ := i10
      refine ⟨by omega, ?_⟩ -- s6: (0 ≤ a2 ∧ a2 < 264)
      refine ⟨by omega, ?_⟩ -- s7: (0 ≤ a2 ∧ a2 < 264)
      refine ⟨by omega, ?_⟩ -- s8: jR ((A (o + 30) a2) + (A (o + 31) a2))
      refine ⟨fun hc => ?_, fun hc => ?_⟩ -- c3
      · -- case (((A (o + 30) a2) + (A (o + 31) a2)) ≤ v9)
        -- l3: Q 1
        refine (cif_pos ⟨by show Lv 2 a2 0 = L 2 a2 0; omega, by show Lv 3 a2 0 = L 3 a2 0; omega, fun k k0 k1 => ?_⟩).symm
        have k1 : k < Lv 2 a2 0 + Lv 3 a2 0 := k1
        exact i2 k k0 (by omega)
      · -- case ¬ (((A (o + 30) a2) + (A (o + 31) a2)) ≤ v9)
        refine ⟨by omega, ?_⟩ -- s9: (0 ≤ (12 * v2) + v9 ∧ (12 * v2) + v9 < 3168)
        refine ⟨by omega, ?_⟩ -- s10: (0 ≤ (12 * a2) + v9 ∧ (12 * a2) + v9 < 3168)
        rw [y4 v9 i1.1 (by omega), x4 v9 i1.1 (by omega)]
        refine ⟨fun hc => ?_, fun hc => ?_⟩ -- c4
        · -- case ((A (o + 33) ((12 * v2) + v9)) = (A (o + 33) ((12 * a2) + v9)))
          refine ⟨by omega, ?_⟩ -- s11: jR (v9 + 1)
          refine ⟨?_, ?_⟩ -- l4: I10 (v9 + 1)
          · refine ⟨by omega, fun k k0 k1 => ?_⟩
            by_cases w : k = v9
            · rw [w]; exact hc
            · exact i2 k k0 (by omega)
          · dsimp only; omega
        · -- case ¬ ((A (o + 33) ((12 * v2) + v9)) = (A (o + 33) ((12 * a2) + v9)))
          -- l5: Q 0
          exact (cif_neg (fun w => hc (w.2.2 v9 i1.1 (by show v9 < Lv 2 a2 0 + Lv 3 a2 0; omega)))).symm
    · -- case ¬ ((A (o + 31) v2) = (A (o + 31) a2))
      -- l6: Q 0
      exact (cif_neg (fun w => hc w.2.1)).symm

set_option maxHeartbeats 2000000 in
theorem sX9_runs {o : Nat} {a1 : Int} {a2 : Int} {a3 : Int} {F : jFl} {A : jAr} {R : Int} {W L : sTb} {B : sBk} {U : sUn} {Q : sMi} (h : mst R o F A W L B U Q) : wpX9_runs o a1 a2 a3 F A (fun z F' A' => z = rRuns W L B (Q 5 0) a1 a2 a3 ∧ mst R o F' A' W L B U (rRunsQ W L B Q a1 a2 a3)) := by
  unfold wpX9_runs
  have h0 := h
  obtain ⟨⟨⟨⟨hk, hLk⟩, hW, hL, hh, hv⟩, h9⟩, hB, hU, hM⟩ := h
  have w3 := hk.2.2.2.1
  have ky := hLk.1
  have bad : ¬ rRunsC W L a1 a2 a3 → (-1 : Int) = rRuns W L B (Q 5 0) a1 a2 a3 ∧ mst R o F A W L B U (rRunsQ W L B Q a1 a2 a3) := fun q => by
    unfold rRuns rRunsQ
    rw [cif_neg q, cif_neg q]
    exact ⟨rfl, h0⟩
  refine ⟨_, sX9_is, ?_⟩ -- call wpX9_is o a1 1 20 F A P1
  intro z3 p1
  refine ⟨fun hc => ?_, fun hc => ?_⟩ -- c1
  · -- case (z3 = 0)
    -- l1: Q (-1) F A
    exact bad (by unfold rRunsC; grind)
  · -- case ¬ (z3 = 0)
    refine ⟨_, sX9_isStanding hW hk hL, ?_⟩ -- call wpX9_isStanding o a2 F A P7
    intro z9 p7
    refine ⟨fun hc => ?_, fun hc => ?_⟩ -- c2
    · -- case (z9 = 0)
      -- l2: Q (-1) F A
      exact bad (by unfold rRunsC; grind)
    · -- case ¬ (z9 = 0)
      refine ⟨_, sX9_is, ?_⟩ -- call wpX9_is o a3 0 2 F A P13
      intro z15 p13
      refine ⟨fun hc => ?_, fun hc => ?_⟩ -- c3
      · -- case (¬ z15 = 0)
        have ok : rRunsC W L a1 a2 a3 := by unfold rRunsC; grind
        obtain ⟨ok1, ok2, ok3⟩ := id ok
        have hl : 0 ≤ a2 ∧ a2 < W 3 0 0 := by omega
        have m45 : 0 ≤ sRnM L ∧ sRnM L ≤ 45 := by unfold sRnM; split <;> omega
        have sd := hM.2.2.2.2.1
        unfold rRuns rRunsQ
        rw [cif_pos ok, cif_pos ok]
        refine ⟨fun (v19 : Int) (v20 : Int) (v21 : Int) (v22 : Int) (F23 : jFl) (A24 : jAr) => (0 ≤ v22 ∧ v22 ≤ a1) ∧ (v19 = (sRns W L B a2 (Q 5 0) v22).1 ∧ v20 = (sRns W L B a2 (Q 5 0) v22).2.1 ∧ v21 = (sRns W L B a2 (Q 5 0) v22).2.2.1) ∧ (0 ≤ v19 ∧ v19 ≤ v22 ∧ 0 ≤ v20 ∧ v20 ≤ v22 ∧ 0 ≤ v21 ∧ v21 ≤ 45 * v22) ∧ mst R o F23 A24 W L B U (qSeed Q (sRns W L B a2 (Q 5 0) v22).2.2.2), fun v19 v20 v21 v22 F23 A24 => (a1 - v22).toNat, ?_, ?_⟩ -- loop I26 I26 0 0 0 0 F A
        ·
          -- l3: I26 0 0 0 0 F A
          refine ⟨by omega, ⟨rfl, rfl, rfl⟩, by omega, ?_⟩
          exact h0.l1 (mlf.refl _ _ _) (fun _ _ _ => rfl) (fun _ _ => rfl) sd.1 ⟨sd.2.1, sd.2.2⟩
        intro v19 v20 v21 v22 F23 A24 i26
        obtain ⟨i1, ⟨i2, i3, i4⟩, i5, i6⟩ := i26
        refine ⟨fun hc => ?_, fun hc => ?_⟩ -- c4
        · -- case (a1 ≤ v22)
          refine ⟨fun hc => ?_, fun hc => ?_⟩ -- c5
          · -- case (¬ a3 = 0)
            intro z31 e31
            -- l4: Q z31 F23 A24
            have e : v22 = a1 := by omega
            rw [e] at i2 i3 i4 i6
            refine ⟨?_, i6⟩
            rw [e31, if_neg hc, ← i3, ← i4]
            by_cases w : a3 = 1
            · rw [if_neg (fun q => q w), if_pos w]
            · rw [if_pos w, if_neg w]
          · -- case ¬ (¬ a3 = 0)
            -- l5: Q v19 F23 A24
            have e : v22 = a1 := by omega
            rw [e] at i2 i3 i4 i6
            exact ⟨by rw [if_pos (by omega)]; exact i2, i6⟩
        · -- case ¬ (a1 ≤ v22)
          have eF := sRns_succ (W := W) (L := L) (B := B) (l := a2) (s := Q 5 0) i1.1
          generalize sRns W L B a2 (Q 5 0) v22 = T at *
          obtain ⟨⟨⟨⟨-, -⟩, hW1, hL1, hh1, -⟩, -⟩, hB1, -, hM1⟩ := id i6
          have sd1 := hM1.2.2.2.2.1
          have sd1 : F23 3160 o = T.2.2.2 ∧ 0 ≤ T.2.2.2 ∧ T.2.2.2 < 2147483648 := sd1
          refine ⟨_, sX9_copies (nl := W 3 0 0) (L := L) (B := B) (by decide) (by decide) (by decide) hL1 (by omega) (fun l l0 l1 => by have := hLk.2.2.2.1 l l0 l1; omega) hB1, ?_⟩ -- call wpX9_copies o 1 0 F23 A24 P33
          intro F36 A37 p33
          obtain ⟨c1, c2, c3, c4, c5⟩ := p33
          subst c1
          refine ⟨fun (v41 : Int) (v42 : Int) (F43 : jFl) (A44 : jAr) => (0 ≤ v42 ∧ v42 ≤ sRnM L) ∧ v41 = v21 + sRnA W L B a2 T.2.2.2 v42 ∧ mst R o F43 A44 W L B U (qSeed Q (sYears W (L, B, T.2.2.2) v42).2.2) ∧ mct o F43 A44 1 W (sYears W (L, B, T.2.2.2) v42).1 ∧ mrB o A44 1 (sYears W (L, B, T.2.2.2) v42).2.1, fun v41 v42 F43 A44 => (45 - v42).toNat, ?_, ?_⟩ -- loop I46 I46 v21 0 F36 A37
          ·
            -- l6: I46 v21 0 F36 A37
            have m1 := i6.l1 (F' := F36) (A' := A37) (s := T.2.2.2) c4 (fun _ _ _ => rfl) (fun b hb => c5 b (by omega)) sd1.1 sd1.2
            rw [qSeed_qSeed] at m1
            exact ⟨by omega, by show v21 = v21 + 0; omega, m1, ⟨⟨hk, hLk⟩, hW1.of rfl (fun k k0 k1 => c5 _ (by omega)), c2, hh1, by decide⟩, c3⟩
          intro v41 v42 F43 A44 i46
          obtain ⟨j1, j2, j3, j4, j5⟩ := i46
          have ra := sRnA_range (W := W) (L := L) (B := B) (l := a2) (s := T.2.2.2) j1.1
          have hL3 := j3.1.1.2.2.1
          have e0 := sYears_0 (W := W) (L := L) (B := B) (s := T.2.2.2) j1.1
          have e9 := sYears_9 (W := W) (L := L) (B := B) (s := T.2.2.2) (n := v42)
          rw [h9] at e9
          rw [j4.2.2.1.1, e0]
          refine ⟨v42 = sRnM L, ?_, ?_⟩ -- join K49
          · intro k49
            subst k49
            refine ⟨_, sX9_isAsNow (L := L) hk hLk j4.1.2 hL3 j4.2.2.1 (by decide) hl, ?_⟩ -- call wpX9_isAsNow o 1 a2 F43 A44 P52
            intro z54 p52
            intro z58 e58
            have ez : z58 = cif (sAlike (sRw (sYears W (L, B, T.2.2.2) (sRnM L)).1 a2) (sRw L a2)) 1 0 := by
              rw [e58, p52]
              by_cases w : sAlike (sRw (sYears W (L, B, T.2.2.2) (sRnM L)).1 a2) (sRw L a2)
              · rw [cif_pos w]; rfl
              · rw [cif_neg w]; rfl
            have zr : 0 ≤ z58 ∧ z58 ≤ 1 := by
              rw [ez]
              by_cases w : sAlike (sRw (sYears W (L, B, T.2.2.2) (sRnM L)).1 a2) (sRw L a2)
              · rw [cif_pos w]; decide
              · rw [cif_neg w]; decide
            refine ⟨by omega, ?_⟩ -- s1: jR (v19 + z58)
            intro v61 e61
            refine ⟨_, sX9_stands (L := (sYears W (L, B, T.2.2.2) (sRnM L)).1) j4.2.2.1 (by decide) hl hk, ?_⟩ -- call wpX9_stands o 1 a2 F43 A44 P62
            intro z64 p62
            intro z68 e68
            have ez2 : z68 = (if 0 < (sYears W (L, B, T.2.2.2) (sRnM L)).1 2 a2 0 then 0 else 1) := by
              rw [e68, p62]
              by_cases w : 0 < (sYears W (L, B, T.2.2.2) (sRnM L)).1 2 a2 0 <;> simp [w]
            have zr2 : 0 ≤ z68 ∧ z68 ≤ 1 := by rw [ez2]; split <;> decide
            refine ⟨by omega, ?_⟩ -- s2: jR (v20 + z68)
            intro v71 e71
            refine ⟨by omega, ?_⟩ -- s3: jR (v22 + 1)
            refine ⟨?_, ?_⟩ -- l7: I26 v61 v71 v41 (v22 + 1) F43 A44
            · refine ⟨by omega, ?_, by omega, ?_⟩
              · rw [eF]
                exact ⟨by rw [e61, ez, i2]; rfl, by rw [e71, ez2, i3]; rfl, by rw [j2, i4]; rfl⟩
              · rw [eF]; exact j3
            · dsimp only; omega
          refine ⟨fun hc => ?_, fun hc => ?_⟩ -- c6
          · -- case (45 ≤ v42)
            -- l8: K49
            unfold sRnM at *; split at j1 <;> split <;> omega
          · -- case ¬ (45 ≤ v42)
            refine ⟨fun hc => ?_, fun hc => ?_⟩ -- c7
            · -- case (9999 ≤ (A44 (o + 28) 1))
              -- l9: K49
              unfold sRnM at *; split at j1 <;> split <;> omega
            · -- case ¬ (9999 ≤ (A44 (o + 28) 1))
              have hy : (sYears W (L, B, T.2.2.2) v42).1 0 0 0 < 9999 := by omega
              have sd3 := j3.2.2.2.2.2.2.2.1
              have sd3 : F43 3160 o = (sYears W (L, B, T.2.2.2) v42).2.2 ∧ 0 ≤ (sYears W (L, B, T.2.2.2) v42).2.2 ∧ (sYears W (L, B, T.2.2.2) v42).2.2 < 2147483648 := sd3
              refine ⟨_, sX9_yearGoes j4 e9 j5 sd3.1 sd3.2 hy, ?_⟩ -- call wpX9_yearGoes o 1 F43 A44 P75
              intro F78 A79 p75
              obtain ⟨⟨q1, q2, q3, q4⟩, q5, q6, q7⟩ := p75
              have es := sYears_succ (W := W) (p := (L, B, T.2.2.2)) j1.1
              have m3 := j3.l1 q5 q6 q7 q3 q4
              rw [qSeed_qSeed] at m3
              rw [show sYear W ((sYears W (L, B, T.2.2.2) v42).1, (sYears W (L, B, T.2.2.2) v42).2.1, (sYears W (L, B, T.2.2.2) v42).2.2) = sYears W (L, B, T.2.2.2) (v42 + 1) from es.symm] at q1 q2 m3
              refine ⟨_, sX9_isAsNow (L := L) hk hLk q1.1.2 m3.1.1.2.2.1 q1.2.2.1 (by decide) hl, ?_⟩ -- call wpX9_isAsNow o 1 a2 F78 A79 P83
              intro z85 p83
              intro z89 e89
              have ez : z89 = cif (sAlike (sRw (sYears W (L, B, T.2.2.2) (v42 + 1)).1 a2) (sRw L a2)) 1 0 := by
                rw [e89, p83]
                by_cases w : sAlike (sRw (sYears W (L, B, T.2.2.2) (v42 + 1)).1 a2) (sRw L a2)
                · rw [cif_pos w]; rfl
                · rw [cif_neg w]; rfl
              have ea := sRnA_succ (W := W) (L := L) (B := B) (l := a2) (s := T.2.2.2) j1.1
              have ea2 : v41 + z89 = v21 + sRnA W L B a2 T.2.2.2 (v42 + 1) := by
                rw [ea, ez, j2]
                by_cases w : sAlike (sRw (sYears W (L, B, T.2.2.2) (v42 + 1)).1 a2) (sRw L a2)
                · rw [cif_pos w, cif_pos w]; omega
                · rw [cif_neg w, cif_neg w]; omega
              have ra2 := sRnA_range (W := W) (L := L) (B := B) (l := a2) (s := T.2.2.2) (m := v42 + 1) (by omega)
              refine ⟨by omega, ?_⟩ -- s4: jR (v41 + z89)
              intro v92 e92
              refine ⟨by omega, ?_⟩ -- s5: jR (v42 + 1)
              refine ⟨?_, ?_⟩ -- l10: I46 v92 (v42 + 1) F78 A79
              · refine ⟨by unfold sRnM at *; split at j1 <;> split <;> omega, by rw [e92]; exact ea2, m3, q1, q2⟩
              · dsimp only; omega
      · -- case ¬ (¬ z15 = 0)
        -- l11: Q (-1) F A
        exact bad (by unfold rRunsC; grind)

set_option maxHeartbeats 4000000 in
theorem sX0_runs {S : Nat → Nat} {o : Nat} {a1 : Int} {a2 : Int} {a3 : Int} {N : jSh} {F : jFl} {A : jAr} {M R : Int} {W L : sTb} {B : sBk} {U : sUn} {Q : sMi} (h : xst S M R N F A o W L B U Q) (hM : M ≤ 700000000) : wqX0_runs S o a1 a2 a3 N F A (fun z N' F' A' => z = rRuns W L B (Q 5 0) a1 a2 a3 ∧ xst S (M + 1000000) R N' F' A' o W L B U (rRunsQ W L B Q a1 a2 a3) ∧ xrs o N F A N' F' A') := by
  unfold wqX0_runs
  have h0 := h
  obtain ⟨t, wA, sA, cA, lA, c0, h9, h19, hQ, hX⟩ := h
  have hx := c0.2.1
  have hy := c0.1.2.1
  have hhx := c0.hx
  have ky0 := hx.oL.1
  have hll : ∀ a : Int, 0 ≤ a ∧ a < W 3 0 0 → 0 ≤ lA a := fun a h => by obtain ⟨b, u1, -⟩ := hx.lw h; omega
  have bad : ¬ rRunsC W L a1 a2 a3 → (-1 : Int) = rRuns W L B (Q 5 0) a1 a2 a3 ∧ xst S (M + 1000000) R N F A o W L B U (rRunsQ W L B Q a1 a2 a3) ∧ xrs o N F A N F A := fun q => by
    unfold rRuns rRunsQ
    rw [cif_neg q, cif_neg q]
    exact ⟨rfl, ⟨t, wA, sA, cA, lA, c0.mono (by omega) (by omega), h9, h19, hQ, hX⟩, nex.refl _, kz.refl _ _ _ _, by omega, by omega⟩
  refine ⟨_, sX0_standingOf hx, ?_⟩ -- call wqX0_standingOf o a2 N F A P1
  intro z3 p1
  refine ⟨fun hc => ?_, fun hc => ?_⟩ -- c1
  · -- case (z3 < 0)
    -- l1: Q (-1) N F A
    exact bad (by unfold rRunsC; grind)
  · -- case (¬ (z3 < 0))
    refine ⟨_, sX0_isIn, ?_⟩ -- call wqX0_isIn a1 1 20 N F A P9
    intro z11 p9
    refine ⟨fun hc => ?_, fun hc => ?_⟩ -- c2
    · -- case (z11 = 0)
      -- l2: Q (-1) N F A
      exact bad (by unfold rRunsC; grind)
    · -- case (¬ (z11 = 0))
      refine ⟨_, sX0_isIn, ?_⟩ -- call wqX0_isIn a3 0 2 N F A P17
      intro z19 p17
      refine ⟨fun hc => ?_, fun hc => ?_⟩ -- c3
      · -- case (¬ z19 = 0)
        intro b25 N26 F27 e25 e26 e27
        have ok : rRunsC W L a1 a2 a3 := by unfold rRunsC; grind
        obtain ⟨ok1, ok2, ok3⟩ := id ok
        have hl : 0 ≤ a2 ∧ a2 < W 3 0 0 := by omega
        rw [if_pos ok2] at p1
        have hRk := sRw_ok hx.oL hl
        have m45 : 0 ≤ sRnM L ∧ sRnM L ≤ 45 := by unfold sRnM; split <;> omega
        have sd := hQ.2.2.2.2.1
        have rr : rRuns W L B (Q 5 0) a1 a2 a3 = (if a3 = 0 then (sRns W L B a2 (Q 5 0) a1).1 else if a3 = 1 then (sRns W L B a2 (Q 5 0) a1).2.1 else (sRns W L B a2 (Q 5 0) a1).2.2.1) := cif_pos ok
        have rq : rRunsQ W L B Q a1 a2 a3 = qSeed Q (sRns W L B a2 (Q 5 0) a1).2.2.2 := cif_pos ok
        clear bad
        refine ⟨_, sX3_init (by rw [e26, e25, jnewTg]) (by rw [e26, e25, jnew_f0]) (by rw [e26, jnewNx, e25]), ?_⟩ -- call wqX3_init b25 N26 F27 A P32
        intro N37 F35 A36 p32
        obtain ⟨g1, g2, g3, ⟨g4, g5⟩, g6⟩ := row_made c0.1.1 e25 e26 e27 p32
        have c1 := c0.gr g1 g2
        obtain ⟨bl, l1, l2, l3, l4⟩ := c1.2.1.lw hl
        obtain ⟨bl0, l10, l20, -⟩ := hx.lw hl
        have ebl : bl0 = bl := by omega
        subst ebl
        have bl2 : bl0 + 3 + 1 < jnx N := c0.1.1.1 _ (by rw [l20.2.2.2.2.2.2.2.1]; decide)
        refine ⟨_, by exact p1.trans l1, ?_⟩ -- d42: z3 = (b42 : Int)
        refine ⟨by exact l2.1, ?_⟩ -- s1: jtg N37 b42 = 17
        refine ⟨_, sX3_like (b := bl0 + 3) l2.2.2.2.1 g3 l4 hRk c1.2.1.wd (by omega) (by omega) (by omega), ?_⟩ -- call wqX3_like b25 (jfn N37 5102 b42) N37 F35 A36 P46
        intro z48 F49 A50 p46
        obtain ⟨q1, q2, q3⟩ := p46
        have gr2 : gr N F A N37 F49 A50 := ⟨g1.1, fun a ha f => by rw [(q3 a (by omega)).1]; exact g1.2.1 a ha f, fun a ha => by rw [(q3 a (by omega)).2]; exact g1.2.2 a ha⟩
        have gi2 : gi S M N37 F49 := g2.of (fun l hl => by have := g6 l hl; exact ⟨(q3 l (by omega)).1 _, (q3 l (by omega)).1 _⟩)
        have c2 := c0.gr gr2 gi2
        intro b55 N56 F57 e55 e56 e57
        refine ⟨_, sX17_init c2 (h19.ex c0.1.1.1 gr2.1) h9 (by omega) rfl e55 e56 e57, ?_⟩ -- call wqX17_init S b55 (o : Int) N56 F57 A50 P62
        intro N67 F65 A66 p62
        obtain ⟨w1, w2, w3, w4, w5, w6⟩ := p62
        have c3 := c2.gr w2 w3
        have kqA := (gr2.kq c0.1.1.1 hhx).trans (w2.kq gi2.1 c2.hx) c0.1.1.1 gr2.1
        have nxA := gr2.1.trans w2.1
        have r65 : rowIs N67 F65 A66 wA b25 (sRw L a2) := q2.ex gi2.1 w2.1 (w2.2.1 b25 (by omega) _) (w2.2.1 b25 (by omega) _) (w2.2.2 (b25 + 1) (by omega))
        have hy67 := c3.1.2.1
        have tx67 : jtg N67 o = 1 := (hy67.1 0 (by decide)).1
        have nlr : ∀ l : Int, 0 ≤ l → l < W 3 0 0 → lA l + 3 ≠ (b25 : Int) := fun l q0 q1 => by
          obtain ⟨bb, u1, u2, -⟩ := hx.lw ⟨q0, q1⟩
          have := c0.1.1.1 (bb + 3) (by rw [u2.2.2.2.2.1]; decide)
          omega
        refine ⟨by exact (hy67.1 0 (by decide)).2, ?_⟩ -- s2: jfn N67 0 o = 1
        intro F75 e75
        have f75 : ∀ a f, a ≠ o → F75 f a = F65 f a := fun a f ha => by rw [e75, upF_a ha]
        have g75 : ∀ f, f ≠ 330 → F75 f o = F65 f o := fun f hf => by rw [e75, upF_f hf]
        have c4 : cst S (M + 100) N67 F75 A66 o t W L B U wA sA cA lA := by rw [e75]; exact c3.seed (Or.inr (Or.inl rfl))
        have w75 : wasIs N67 F75 A66 o W wA lA b55 L B := w1.ofF (fun a ha f => f75 a f (fun w => by rw [w, tx67] at ha; omega))
        have r75 : rowIs N67 F75 A66 wA b25 (sRw L a2) := r65.of (f75 _ _ (by omega)) (f75 _ _ (by omega)) rfl
        obtain ⟨be, hbb, -⟩ := id c4.2.2.1
        have cap0 := hbb.cap
        refine ⟨fun (v76 : Int) (v77 : Int) (v78 : Int) (v79 : Int) (N80 : jSh) (F81 : jFl) (A82 : jAr) => (0 ≤ v79 ∧ v79 ≤ a1) ∧ (v76 = (sRns W L B a2 (Q 5 0) v79).1 ∧ v77 = (sRns W L B a2 (Q 5 0) v79).2.1 ∧ v78 = (sRns W L B a2 (Q 5 0) v79).2.2.1) ∧ (0 ≤ v76 ∧ v76 ≤ v79 ∧ 0 ≤ v77 ∧ v77 ≤ v79 ∧ 0 ≤ v78 ∧ v78 ≤ 45 * v79) ∧ cst S (M + 100 + 1300 * v79) N80 F81 A82 o t W L B U wA sA cA lA ∧ wasIs N80 F81 A82 o W wA lA b55 L B ∧ rowIs N80 F81 A82 wA b25 (sRw L a2) ∧ (F81 319 o = (sRns W L B a2 (Q 5 0) v79).2.2.2 ∧ 0 ≤ (sRns W L B a2 (Q 5 0) v79).2.2.2 ∧ (sRns W L B a2 (Q 5 0) v79).2.2.2 < 2147483648) ∧ F81 330 o = 1 ∧ nex N67 N80 ∧ ky o N67 F75 A66 F81 A82 ∧ ((lcp N67 F75 (t + 6) ≤ lcp N80 F81 (t + 6) ∧ lcp N80 F81 (t + 6) ≤ 160) ∧ (jnx N80 : Int) + lcp N67 F75 (t + 6) ≤ jnx N67 + 540 * v79 + lcp N80 F81 (t + 6) ∧ (jsu N80 : Int) + 4 * lcp N67 F75 (t + 6) ≤ jsu N67 + 2160 * v79 + 4 * lcp N80 F81 (t + 6)), fun v76 v77 v78 v79 N80 F81 A82 => (a1 - v79).toNat, ?_, ?_⟩ -- loop I85 I85 0 0 0 0 N67 F75 A66
        ·
          -- l3: I85 0 0 0 0 N67 F75 A66
          refine ⟨by omega, ⟨rfl, rfl, rfl⟩, by omega, c4.mono (by omega) (by omega), w75, r75, ⟨?_, sd.2⟩, by rw [e75, upF_s], nex.refl _, ky.refl _ _ _ _, by omega⟩
          rw [g75 _ (by decide), (kqA o (Or.inl (by rw [hx.1.1]; decide))).1]
          exact sd.1
        intro v76 v77 v78 v79 N80 F81 A82 i85
        obtain ⟨i1, ⟨i2, i3, i4⟩, i5, i6, i7, i8, i9, i10, i11, i12, i13⟩ := i85
        have fin : a1 ≤ v79 → ∀ F91 : jFl, F91 = upF F81 330 o 0 → xst S (M + 1000000) R N80 F91 A82 o W L B U (rRunsQ W L B Q a1 a2 a3) ∧ xrs o N F A N80 F91 A82 := fun hc F91 e91 => by
          have e : v79 = a1 := by omega
          rw [e] at i9
          have kyB : ky o N67 F65 A66 F91 A82 := fun a ha hb => by
            have q := i12 a ha hb
            refine ⟨fun f hf => ?_, q.2⟩
            rw [e91]
            by_cases wa : a = o
            · rw [wa]
              by_cases wf : f = 330
              · rw [wf, upF_s, (kqA o (Or.inl (by rw [hx.1.1]; decide))).1]
                exact hQ.2.2.2.2.2.symm
              · rw [upF_f wf]
                rw [wa] at q
                rw [q.1 f (by omega), g75 f wf]
            · rw [upF_a wa, q.1 f (Or.inr wa), f75 a f wa]
          have hyc := c0.1.1.1
          have cm := ((hQ.kq hy kqA).seed i9.2).of (F' := F91) (A' := A82) (fun f hf => by
            by_cases w : f = 319
            · rw [w, upF_s, e91, upF_f (by decide), i9.1]
            · rw [upF_f w]
              exact (kyB o (by rw [tx67]; decide) (by omega)).1 f (Or.inl w)) (kyB _ (by rw [(hy67.1 1 (by decide)).1]; decide) (by omega)).2 (kyB _ (by rw [(hy67.1 2 (by decide)).1]; decide) (by omega)).2
          rw [rq]
          refine ⟨⟨t, wA, sA, cA, lA, (by rw [e91]; exact (i6.seed (Or.inr (Or.inl rfl))).mono (by omega) (by omega)), h9, (h19.ex hyc nxA).ex c3.1.1.1 i11, cm, ((hX.kw hyc nxA kqA.kw).kw c3.1.1.1 i11 (kyB.kw hy67)).q rfl rfl⟩, nxA.trans i11, kqA.kz.trans (kyB.kz tx67) hyc nxA, by omega, by omega⟩
        refine ⟨fun hc => ?_, fun hc => ?_⟩ -- c4
        · -- case (a1 ≤ v79)
          intro F91 e91
          refine ⟨fun hc => ?_, fun hc => ?_⟩ -- c5
          · -- case (¬ a3 = 0)
            refine ⟨fun hc => ?_, fun hc => ?_⟩ -- c6
            · -- case (¬ a3 = 1)
              -- l4: Q v78 N80 F91 A82
              have e : v79 = a1 := by omega
              rw [e] at i4
              have := fin (by omega) _ e91
              refine ⟨?_, this⟩
              rw [rr, if_neg (by omega), if_neg (by omega)]; exact i4
            · -- case (a3 = 1)
              -- l5: Q v77 N80 F91 A82
              have e : v79 = a1 := by omega
              rw [e] at i3
              have := fin (by omega) _ e91
              refine ⟨?_, this⟩
              rw [rr, if_neg (by omega), if_pos (by omega)]; exact i3
          · -- case (a3 = 0)
            -- l6: Q v76 N80 F91 A82
            have e : v79 = a1 := by omega
            rw [e] at i2
            have := fin (by omega) _ e91
            refine ⟨?_, this⟩
            rw [rr, if_pos (by omega)]; exact i2
        · -- case (¬ (a1 ≤ v79))
          have eF := sRns_succ (W := W) (L := L) (B := B) (l := a2) (s := Q 5 0) i1.1
          clear fin
          generalize sRns W L B a2 (Q 5 0) v79 = T at *
          refine ⟨fun (v94 : Int) (v95 : Int) (N96 : jSh) (F97 : jFl) (A98 : jAr) => (0 ≤ v95 ∧ v95 ≤ sRnM L) ∧ v94 = v78 + sRnA W L B a2 T.2.2.2 v95 ∧ cst S (M + 100 + 1300 * v79 + 24 * v95) N96 F97 A98 o t W (sYears W (L, B, T.2.2.2) v95).1 B U wA sA cA lA ∧ wasIs N96 F97 A98 o W wA lA b55 L B ∧ rowIs N96 F97 A98 wA b25 (sRw L a2) ∧ (F97 319 o = (sYears W (L, B, T.2.2.2) v95).2.2 ∧ 0 ≤ (sYears W (L, B, T.2.2.2) v95).2.2 ∧ (sYears W (L, B, T.2.2.2) v95).2.2 < 2147483648) ∧ F97 330 o = 1 ∧ nex N67 N96 ∧ ky o N67 F75 A66 F97 A98 ∧ ((lcp N67 F75 (t + 6) ≤ lcp N96 F97 (t + 6) ∧ lcp N96 F97 (t + 6) ≤ 160) ∧ (jnx N96 : Int) + lcp N67 F75 (t + 6) ≤ jnx N67 + 540 * v79 + 12 * v95 + lcp N96 F97 (t + 6) ∧ (jsu N96 : Int) + 4 * lcp N67 F75 (t + 6) ≤ jsu N67 + 2160 * v79 + 48 * v95 + 4 * lcp N96 F97 (t + 6)), fun v94 v95 N96 F97 A98 => (45 - v95).toNat, ?_, ?_⟩ -- loop I101 I101 v78 0 N80 F81 A82
          ·
            -- l7: I101 v78 0 N80 F81 A82
            exact ⟨by omega, by show v78 = v78 + 0; omega, i6.mono (by omega) (by omega), i7, i8, i9, i10, i11, i12, by omega⟩
          intro v94 v95 N96 F97 A98 i101
          obtain ⟨j1, j2, j3, j4, j5, j6, j7, j8, j9, j10⟩ := i101
          have ra := sRnA_range (W := W) (L := L) (B := B) (l := a2) (s := T.2.2.2) j1.1
          have e0 := sYears_0 (W := W) (L := L) (B := B) (s := T.2.2.2) j1.1
          have e9 := sYears_9 (W := W) (L := L) (B := B) (s := T.2.2.2) (n := v95)
          rw [h9] at e9
          have hyj := j3.1.2.1
          obtain ⟨bj, n1, n2, n3, n4⟩ := j3.2.1.lw hl
          have ebj : bj = bl0 := by omega
          subst ebj
          refine ⟨v95 = sRnM L, ?_, ?_⟩ -- join K105
          · intro k105
            subst k105
            refine ⟨_, by exact n2.2.2.2.1, ?_⟩ -- d109: jfn N96 5102 b42 = (b109 : Int)
            refine ⟨by exact n2.2.2.2.2.1, ?_⟩ -- s3: jtg N96 b109 = 4
            refine ⟨_, sX3_isLike q1 n4 (sRw_ok j3.2.1.oL hl) j5 hRk j3.2.1.wd, ?_⟩ -- call wqX3_isLike b109 z48 N96 F97 A98 P112
            intro z114 p112
            refine ⟨fun (v120 : Int) => v120 = v76 + cif (sAlike (sRw (sYears W (L, B, T.2.2.2) (sRnM L)).1 a2) (sRw L a2)) 1 0 ∧ v76 ≤ v120 ∧ v120 ≤ v76 + 1, ?_, ?_⟩ -- join K122
            · intro v120 k122
              obtain ⟨kk1, kk2, kk3⟩ := k122
              refine ⟨_, sX3_isOne n4, ?_⟩ -- call wqX3_isOne b109 N96 F97 A98 P125
              intro z127 p125
              have e1' : (sRw (sYears W (L, B, T.2.2.2) (sRnM L)).1 a2).1 = (sYears W (L, B, T.2.2.2) (sRnM L)).1 2 a2 0 := rfl
              rw [e1'] at p125
              refine ⟨fun hc => ?_, fun hc => ?_⟩ -- c7
              · -- case (¬ z127 = 0)
                refine ⟨_, sX17_comesBack j3 j4 (by omega), ?_⟩ -- call wqX17_comesBack S b55 N96 F97 A98 P134
                intro N139 F137 A138 p134
                obtain ⟨u1, u2, u3, u4, u5, u6⟩ := p134
                obtain ⟨y1, y2, y3⟩ := u5
                refine ⟨by omega, ?_⟩ -- s4: jR (v79 + 1)
                refine ⟨?_, ?_⟩ -- l8: I85 v120 v77 v94 (v79 + 1) N139 F137 A138
                · have hg : 0 < (sYears W (L, B, T.2.2.2) (sRnM L)).1 2 a2 0 := by
                    by_cases w : 0 < (sYears W (L, B, T.2.2.2) (sRnM L)).1 2 a2 0
                    · exact w
                    · rw [if_neg w] at p125; exact absurd p125 (by assumption)
                  refine ⟨by omega, ?_, by omega, u1.mono (by omega) (by omega), u2, u6.2 b25 _ (by omega) nlr j5, ?_, by rw [(u4 o (Or.inl (by rw [j3.2.1.tx]; decide))).1]; exact j7, j8.trans u3, j9.trans u4.ky c3.1.1.1 j8, by omega⟩
                  · rw [eF]
                    refine ⟨by rw [kk1, i2]; rfl, ?_, by rw [j2, i4]; rfl⟩
                    show v77 = T.2.1 + (if 0 < (sYears W (L, B, T.2.2.2) (sRnM L)).1 2 a2 0 then 0 else 1)
                    rw [if_pos hg, i3]; omega
                  · rw [eF, (u4 o (Or.inl (by rw [j3.2.1.tx]; decide))).1]; exact j6
                · dsimp only; omega
              · -- case (z127 = 0)
                refine ⟨by omega, ?_⟩ -- s5: jR (v77 + 1)
                refine ⟨_, sX17_comesBack j3 j4 (by omega), ?_⟩ -- call wqX17_comesBack S b55 N96 F97 A98 P147
                intro N152 F150 A151 p147
                obtain ⟨u1, u2, u3, u4, u5, u6⟩ := p147
                obtain ⟨y1, y2, y3⟩ := u5
                refine ⟨by omega, ?_⟩ -- s6: jR (v79 + 1)
                refine ⟨?_, ?_⟩ -- l9: I85 v120 (v77 + 1) v94 (v79 + 1) N152 F150 A151
                · have hg : ¬ 0 < (sYears W (L, B, T.2.2.2) (sRnM L)).1 2 a2 0 := fun w => by rw [if_pos w] at p125; omega
                  refine ⟨by omega, ?_, by omega, u1.mono (by omega) (by omega), u2, u6.2 b25 _ (by omega) nlr j5, ?_, by rw [(u4 o (Or.inl (by rw [j3.2.1.tx]; decide))).1]; exact j7, j8.trans u3, j9.trans u4.ky c3.1.1.1 j8, by omega⟩
                  · rw [eF]
                    refine ⟨by rw [kk1, i2]; rfl, ?_, by rw [j2, i4]; rfl⟩
                    show v77 + 1 = T.2.1 + (if 0 < (sYears W (L, B, T.2.2.2) (sRnM L)).1 2 a2 0 then 0 else 1)
                    rw [if_neg hg, i3]
                  · rw [eF, (u4 o (Or.inl (by rw [j3.2.1.tx]; decide))).1]; exact j6
                · dsimp only; omega
            refine ⟨fun hc => ?_, fun hc => ?_⟩ -- c8
            · -- case (z114 = 0)
              -- l10: K122 v76
              have na : ¬ sAlike (sRw (sYears W (L, B, T.2.2.2) (sRnM L)).1 a2) (sRw L a2) := fun w => by rw [cif_pos w] at p112; omega
              rw [cif_neg na]
              omega
            · -- case (¬ (z114 = 0))
              refine ⟨by omega, ?_⟩ -- s7: jR (v76 + 1)
              -- l11: K122 (v76 + 1)
              have na : sAlike (sRw (sYears W (L, B, T.2.2.2) (sRnM L)).1 a2) (sRw L a2) := by
                by_cases w : sAlike (sRw (sYears W (L, B, T.2.2.2) (sRnM L)).1 a2) (sRw L a2)
                · exact w
                · rw [cif_neg w] at p112; exact absurd p112 hc
              rw [cif_pos na]
              omega
          refine ⟨fun hc => ?_, fun hc => ?_⟩ -- c9
          · -- case (45 ≤ v95)
            -- l12: K105
            unfold sRnM at *; split at j1 <;> split <;> omega
          · -- case (¬ (45 ≤ v95))
            refine ⟨_, by exact j3.2.1.ft, ?_⟩ -- d160: F97 311 o = (b160 : Int)
            refine ⟨by exact j3.2.1.tt, ?_⟩ -- s8: jtg N96 b160 = 2
            rw [j3.2.1.fy, e0]
            refine ⟨fun hc => ?_, fun hc => ?_⟩ -- c10
            · -- case (9999 ≤ (F97 612 b160))
              -- l13: K105
              unfold sRnM at *; split at j1 <;> split <;> omega
            · -- case (¬ (9999 ≤ (F97 612 b160)))
              refine ⟨_, sX0_year (d := 1) j3 e9 (by omega) j6.1 j6.2 j7 (by omega), ?_⟩ -- call wqX0_year S o N96 F97 A98 P164
              intro N169 F167 A168 p164
              obtain ⟨u1, ⟨u2, u3⟩, u4, u5, u6, u7⟩ := p164
              obtain ⟨y1, y2, y3⟩ := u6
              have es := sYears_succ (W := W) (p := (L, B, T.2.2.2)) j1.1
              have eB := sYear_B (W := W) (L := (sYears W (L, B, T.2.2.2) v95).1) (B := B) (B' := (sYears W (L, B, T.2.2.2) v95).2.1) (s := (sYears W (L, B, T.2.2.2) v95).2.2)
              rw [show sYear W ((sYears W (L, B, T.2.2.2) v95).1, (sYears W (L, B, T.2.2.2) v95).2.1, (sYears W (L, B, T.2.2.2) v95).2.2) = sYears W (L, B, T.2.2.2) (v95 + 1) from es.symm] at eB
              rw [eB.1, show ∀ B' : sBk, dB 1 B' B = B from fun _ => rfl] at u1
              rw [eB.2] at u2 u3
              have j5' := u7.2 b25 _ (by omega) nlr j5
              have j4' := u7.1 _ _ _ j4
              obtain ⟨bk, m1, m2, m3, m4⟩ := u1.2.1.lw hl
              have ebk : bk = bj := by omega
              subst ebk
              refine ⟨_, by exact m2.2.2.2.1, ?_⟩ -- d175: jfn N169 5102 b42 = (b175 : Int)
              refine ⟨by exact m2.2.2.2.2.1, ?_⟩ -- s9: jtg N169 b175 = 4
              refine ⟨_, sX3_isLike q1 m4 (sRw_ok u1.2.1.oL hl) j5' hRk u1.2.1.wd, ?_⟩ -- call wqX3_isLike b175 z48 N169 F167 A168 P178
              intro z180 p178
              have ea := sRnA_succ (W := W) (L := L) (B := B) (l := a2) (s := T.2.2.2) j1.1
              have ra2 := sRnA_range (W := W) (L := L) (B := B) (l := a2) (s := T.2.2.2) (m := v95 + 1) (by omega)
              have f330 : F167 330 o = 1 := by rw [(u5 o (by rw [j3.2.1.tx]; decide) (by omega)).1 _ (Or.inl (by decide))]; exact j7
              have hm : v95 + 1 ≤ sRnM L := by unfold sRnM at *; split at j1 <;> split <;> omega
              have hrest : cst S (M + 100 + 1300 * v79 + 24 * (v95 + 1)) N169 F167 A168 o t W (sYears W (L, B, T.2.2.2) (v95 + 1)).1 B U wA sA cA lA := u1.mono (by omega) (by omega)
              have jj := j8.trans u4
              have kk := j9.trans u5 c3.1.1.1 j8
              refine ⟨fun hc => ?_, fun hc => ?_⟩ -- c11
              · -- case (z180 = 0)
                refine ⟨by omega, ?_⟩ -- s10: jR (v95 + 1)
                refine ⟨?_, ?_⟩ -- l14: I101 v94 (v95 + 1) N169 F167 A168
                · have na : ¬ sAlike (sRw (sYears W (L, B, T.2.2.2) (v95 + 1)).1 a2) (sRw L a2) := fun w => by rw [cif_pos w] at p178; omega
                  rw [cif_neg na] at ea
                  exact ⟨by omega, by omega, hrest, j4', j5', ⟨u2, u3⟩, f330, jj, kk, by omega⟩
                · dsimp only; omega
              · -- case (¬ (z180 = 0))
                have na : sAlike (sRw (sYears W (L, B, T.2.2.2) (v95 + 1)).1 a2) (sRw L a2) := by
                  by_cases w : sAlike (sRw (sYears W (L, B, T.2.2.2) (v95 + 1)).1 a2) (sRw L a2)
                  · exact w
                  · rw [cif_neg w] at p178; exact absurd p178 hc
                rw [cif_pos na] at ea
                refine ⟨by omega, ?_⟩ -- s11: jR (v94 + 1)
                refine ⟨by omega, ?_⟩ -- s12: jR (v95 + 1)
                refine ⟨?_, ?_⟩ -- l15: I101 (v94 + 1) (v95 + 1) N169 F167 A168
                · exact ⟨by omega, by omega, hrest, j4', j5', ⟨u2, u3⟩, f330, jj, kk, by omega⟩
                · dsimp only; omega
      · -- case (z19 = 0)
        -- l16: Q (-1) N F A
        exact bad (by unfold rRunsC; grind)

