set_option maxRecDepth 100000
set_option linter.unusedVariables false
/-! the model's sittings; printed by gen/prove.py out of spec/76.ms2.spec -/
theorem sX9_seatsOf {o : Nat} {a1 : Int} {F : jFl} {A : jAr} {W L : sTb} (hc : mct o F A a1 W L) : wpX9_seatsOf o a1 F A (fun F' A' => (F' 3192 o = (sSeats L (W 3 0 0)).1 ∧ ∀ i : Int, 0 ≤ i → i < (sSeats L (W 3 0 0)).1 → A' (o + 38) i = (sSeats L (W 3 0 0)).2 i) ∧ (∀ f b, (b = o → f ≠ 3192) → F' f b = F f b) ∧ ∀ b, b ≠ o + 38 → A' b = A b) := by
  unfold wpX9_seatsOf
  obtain ⟨⟨hk, hLk⟩, hW, hL, hh, hv⟩ := hc
  have w3 := hk.2.2.2.1
  have hb := hW.1
  have g3 := hW.2.1.2.2.2
  intro F1 e1
  refine ⟨fun (v3 : Int) (F4 : jFl) (A5 : jAr) => (0 ≤ v3 ∧ v3 ≤ W 3 0 0) ∧ (F4 3192 o = (sSeats L v3).1 ∧ ∀ i : Int, 0 ≤ i → i < (sSeats L v3).1 → A5 (o + 38) i = (sSeats L v3).2 i) ∧ (∀ f b, (b = o → f ≠ 3192) → F4 f b = F f b) ∧ ∀ b, b ≠ o + 38 → A5 b = A b, fun v3 F4 A5 => (W 3 0 0 - v3).toNat, ?_, ?_⟩ -- loop I7 I7 0 F1 A
  ·
    -- l1: I7 0 F1 A
    refine ⟨by omega, ⟨by subst e1; exact upF_s, fun i i0 i1 => ?_⟩, fun f a h => by subst e1; exact if_neg (fun w => h w.2 w.1), fun _ _ => rfl⟩
    have : i < 0 := i1
    omega
  intro v3 F4 A5 i7
  obtain ⟨i1, ⟨i2, i3⟩, i4, i5⟩ := i7
  have u1 : F4 3039 o = F 3039 o := i4 _ _ (fun _ => by decide)
  rw [u1, i5 (o + 17) (by omega), g3]
  have ok := sSeats_ok hk hLk i1
  refine ⟨by omega, ?_⟩ -- s1: (0 ≤ F4 3039 o ∧ F4 3039 o < 2)
  refine ⟨fun hc => ?_, fun hc => ?_⟩ -- c1
  · -- case ((A5 (o + 17) (F4 3039 o)) ≤ v3)
    -- l2: Q F4 A5
    have e : v3 = W 3 0 0 := by omega
    subst e
    exact ⟨⟨i2, i3⟩, i4, i5⟩
  · -- case ¬ ((A5 (o + 17) (F4 3039 o)) ≤ v3)
    refine ⟨by omega, ?_⟩ -- s2: (0 ≤ (12 * a1) + v3 ∧ (12 * a1) + v3 < 264)
    intro v12 e12
    have gp := hLk.2.1 v3 (by omega) (by omega)
    have gq := hL.2.1 v3 (by omega) (by omega)
    rw [i5 (o + 29) (by omega), gq] at e12
    have st : sSeats L (v3 + 1) = sSeatF L v3 (sSeats L v3) := it_succ _ _ i1.1
    unfold sSeatF at st
    rw [← e12] at st gp
    refine ⟨_, sX9_stands (L := L) (hL.of (fun k _ _ => i5 _ (by omega))) hv gp hk, ?_⟩ -- call wpX9_stands o a1 v12 F4 A5 P13
    intro z15 p13
    refine ⟨fun hc => ?_, fun hc => ?_⟩ -- c2
    · -- case (¬ z15 = 0)
      refine ⟨by omega, ?_⟩ -- s3: (0 ≤ F4 3192 o ∧ F4 3192 o < 12)
      intro A20 e20
      refine ⟨by omega, ?_⟩ -- s4: jR ((F4 3192 o) + 1)
      intro F23 e23
      refine ⟨by omega, ?_⟩ -- s5: jR (v3 + 1)
      refine ⟨?_, ?_⟩ -- l3: I7 (v3 + 1) F23 A20
      · have q : 0 < L 2 v12 0 := by grind
        dsimp only
        rw [if_pos q] at st
        rw [st]
        refine ⟨by omega, ⟨by rw [e23, upF_s, i2], fun j j0 j1 => ?_⟩, fun f a h => by rw [e23, ← i4 f a h]; exact if_neg (fun w => h w.2 w.1), fun a h => by rw [e20, ← i5 a h]; exact upA_o h⟩
        dsimp only at j1 ⊢
        rw [e20, i2]
        by_cases w : j = (sSeats L v3).1
        · rw [w, upA_s, upI_s]
        · rw [upA_i w, upI_n w]; exact i3 j j0 (by omega)
      · dsimp only; omega
    · -- case ¬ (¬ z15 = 0)
      refine ⟨by omega, ?_⟩ -- s6: jR (v3 + 1)
      refine ⟨?_, ?_⟩ -- l4: I7 (v3 + 1) F4 A5
      · have q : ¬ 0 < L 2 v12 0 := by grind
        dsimp only
        rw [if_neg q] at st
        rw [st]
        exact ⟨by omega, ⟨i2, i3⟩, i4, i5⟩
      · dsimp only; omega

theorem sX9_runsInto {o : Nat} {a1 : Int} {F : jFl} {A : jAr} {st : sSit} {seat : Int → Int} {u : sRow} (h1 : 0 ≤ a1 ∧ a1 ≤ 12) (hu : F 3177 o = u.1) (hu0 : 1 < u.1 → A (o + 37) 0 = u.2.2 0 ∧ A (o + 37) 1 = u.2.2 1) (hse : ∀ j : Int, 0 ≤ j → j < a1 → (0 ≤ seat j ∧ seat j < 12) ∧ A (o + 38) j = seat j ∧ A (o + 39) (seat j) = st.2.1 (seat j) ∧ A (o + 40) (seat j) = (st.2.2 (seat j)).1 ∧ (1 < (st.2.2 (seat j)).1 → A (o + 42) (12 * seat j) = (st.2.2 (seat j)).2.2 0 ∧ A (o + 42) (12 * seat j + 1) = (st.2.2 (seat j)).2.2 1)) : wpX9_runsInto o a1 F A (fun z => z = (if sRun st seat u a1 = -1 then -1 else seat (sRun st seat u a1))) := by
  unfold wpX9_runsInto
  refine ⟨fun hc => ?_, fun hc => ?_⟩ -- c1
  · -- case (2 ≤ (F 3177 o))
    refine ⟨fun (v2 : Int) => (0 ≤ v2 ∧ v2 ≤ a1) ∧ ∀ j : Int, 0 ≤ j → j < v2 → ¬ sRunP st seat u j, fun v2 => (a1 - v2).toNat, ?_, ?_⟩ -- loop I3 I3 0
    ·
      -- l1: I3 0
      exact ⟨by omega, fun j j0 j1 => by omega⟩
    intro v2 i3
    obtain ⟨i1, i2⟩ := i3
    have nx : ¬ sRunP st seat u v2 → ∀ j : Int, 0 ≤ j → j < v2 + 1 → ¬ sRunP st seat u j := fun q j j0 j1 => by
      by_cases w : j = v2
      · rw [w]; exact q
      · exact i2 j j0 (by omega)
    refine ⟨fun hc => ?_, fun hc => ?_⟩ -- c2
    · -- case (a1 ≤ v2)
      -- l2: Q (-1)
      exact (if_pos (sFirst_none (fun j j0 j1 => i2 j j0 (by omega)))).symm
    · -- case ¬ (a1 ≤ v2)
      refine ⟨by omega, ?_⟩ -- s1: (0 ≤ v2 ∧ v2 < 12)
      intro v7 e7
      obtain ⟨y1, y2, y3, y4, y5⟩ := hse v2 i1.1 (by omega)
      rw [y2] at e7
      subst e7
      refine ⟨by omega, ?_⟩ -- s2: (0 ≤ v7 ∧ v7 < 12)
      refine ⟨fun hc => ?_, fun hc => ?_⟩ -- c3
      · -- case ((A (o + 39) v7) = 3)
        refine ⟨by omega, ?_⟩ -- s3: jR (v2 + 1)
        refine ⟨?_, ?_⟩ -- l3: I3 (v2 + 1)
        · refine ⟨by omega, nx (fun w => w.1 (by rw [← y3]; exact hc))⟩
        · dsimp only; omega
      · -- case ¬ ((A (o + 39) v7) = 3)
        refine ⟨by omega, ?_⟩ -- s4: (0 ≤ v7 ∧ v7 < 12)
        refine ⟨fun hc => ?_, fun hc => ?_⟩ -- c4
        · -- case ((A (o + 40) v7) ≤ 1)
          refine ⟨by omega, ?_⟩ -- s5: jR (v2 + 1)
          refine ⟨?_, ?_⟩ -- l4: I3 (v2 + 1)
          · refine ⟨by omega, nx (fun w => ?_)⟩
            have := w.2.1
            omega
          · dsimp only; omega
        · -- case ¬ ((A (o + 40) v7) ≤ 1)
          refine ⟨by omega, ?_⟩ -- s6: (0 ≤ 12 * v7 ∧ 12 * v7 < 144)
          refine ⟨fun hc => ?_, fun hc => ?_⟩ -- c5
          · -- case (¬ (A (o + 42) (12 * v7)) = (A (o + 37) 0))
            refine ⟨by omega, ?_⟩ -- s7: jR (v2 + 1)
            refine ⟨?_, ?_⟩ -- l5: I3 (v2 + 1)
            · refine ⟨by omega, nx (fun w => ?_)⟩
              have y6 := y5 w.2.1
              have y7 := hu0 w.2.2.1
              have := w.2.2.2.1
              omega
            · dsimp only; omega
          · -- case ¬ (¬ (A (o + 42) (12 * v7)) = (A (o + 37) 0))
            refine ⟨by omega, ?_⟩ -- s8: (0 ≤ (12 * v7) + 1 ∧ (12 * v7) + 1 < 144)
            refine ⟨fun hc => ?_, fun hc => ?_⟩ -- c6
            · -- case (¬ (A (o + 42) ((12 * v7) + 1)) = (A (o + 37) 1))
              refine ⟨by omega, ?_⟩ -- s9: jR (v2 + 1)
              refine ⟨?_, ?_⟩ -- l6: I3 (v2 + 1)
              · refine ⟨by omega, nx (fun w => ?_)⟩
                have y6 := y5 w.2.1
                have y7 := hu0 w.2.2.1
                have := w.2.2.2.2
                omega
              · dsimp only; omega
            · -- case ¬ (¬ (A (o + 42) ((12 * v7) + 1)) = (A (o + 37) 1))
              -- l7: Q v7
              have y6 := y5 (by omega)
              have y7 := hu0 (by omega)
              have e : sRun st seat u a1 = v2 := sFirst_some i1.1 (by omega) ⟨by rw [← y3]; assumption, by omega, by omega, by omega, by omega⟩ i2
              dsimp only
              rw [e, if_neg (by omega)]
  · -- case ¬ (2 ≤ (F 3177 o))
    -- l8: Q (-1)
    refine (if_pos (sFirst_none (fun j j0 j1 w => ?_))).symm
    have := w.2.2.1
    omega

set_option maxHeartbeats 4000000 in
theorem sX9_sittingOf {o : Nat} {a1 : Int} {a2 : Int} {F : jFl} {A : jAr} {W L : sTb} {n : Int} {seat : Int → Int} (hc0 : mct o F A a1 W L) (h2 : 0 ≤ a2 ∧ a2 < W 2 0 0) (hn : F 3192 o = n ∧ 0 ≤ n ∧ n ≤ 12) (hse : ∀ i : Int, 0 ≤ i → i < n → (0 ≤ seat i ∧ seat i < W 3 0 0) ∧ A (o + 38) i = seat i) (hin : ∀ i j : Int, 0 ≤ i → i < n → 0 ≤ j → j < n → seat i = seat j → i = j) : wpX9_sittingOf o a1 a2 F A (fun F' A' => (∀ i : Int, 0 ≤ i → i < n → A' (o + 39) (seat i) = (sSits W L a2 seat n.toNat).2.1 (seat i) ∧ A' (o + 40) (seat i) = ((sSits W L a2 seat n.toNat).2.2 (seat i)).1 ∧ A' (o + 41) (seat i) = ((sSits W L a2 seat n.toNat).2.2 (seat i)).2.1 ∧ ∀ k : Int, 0 ≤ k → k < ((sSits W L a2 seat n.toNat).2.2 (seat i)).1 + ((sSits W L a2 seat n.toNat).2.2 (seat i)).2.1 → A' (o + 42) (12 * seat i + k) = ((sSits W L a2 seat n.toNat).2.2 (seat i)).2.2 k) ∧ (∀ f b, (b = o → f < 3165 ∨ 3183 < f) → F' f b = F f b) ∧ ∀ b, (b < o + 36 ∨ o + 42 < b ∨ b = o + 38) → A' b = A b) := by
  unfold wpX9_sittingOf
  obtain ⟨⟨hk, hLk⟩, hW, hL, hh, hv⟩ := hc0
  have w3 := hk.2.2.2.1
  have w4 := hk.2.2.2.2.1
  have hb := hW.1
  have g4 := hW.2.2.1.1
  refine ⟨fun (v1 : Int) (v2 : Int) (F3 : jFl) (A4 : jAr) => (0 ≤ v2 ∧ v2 ≤ n) ∧ v1 = (sSits W L a2 seat v2.toNat).1 ∧ (∀ i : Int, 0 ≤ i → i < v2 → A4 (o + 39) (seat i) = (sSits W L a2 seat v2.toNat).2.1 (seat i) ∧ A4 (o + 40) (seat i) = ((sSits W L a2 seat v2.toNat).2.2 (seat i)).1 ∧ A4 (o + 41) (seat i) = ((sSits W L a2 seat v2.toNat).2.2 (seat i)).2.1 ∧ ∀ k : Int, 0 ≤ k → k < ((sSits W L a2 seat v2.toNat).2.2 (seat i)).1 + ((sSits W L a2 seat v2.toNat).2.2 (seat i)).2.1 → A4 (o + 42) (12 * seat i + k) = ((sSits W L a2 seat v2.toNat).2.2 (seat i)).2.2 k) ∧ (∀ f b, (b = o → f < 3165 ∨ 3183 < f) → F3 f b = F f b) ∧ ∀ b, (b < o + 36 ∨ o + 42 < b ∨ b = o + 38) → A4 b = A b, fun v1 v2 F3 A4 => (n - v2).toNat, ?_, ?_⟩ -- loop I6 I6 0 0 F A
  ·
    -- l1: I6 0 0 F A
    exact ⟨by omega, rfl, fun i i0 i1 => by omega, fun _ _ _ => rfl, fun _ _ => rfl⟩
  intro v1 v2 F3 A4 i6
  obtain ⟨i1, i2, i3, i4, i5⟩ := i6
  have e3 : F3 3192 o = n := by rw [i4 _ _ (fun _ => by decide)]; exact hn.1
  rw [e3]
  have ok := sSits_ok (n := v2.toNat) hk hLk h2 (fun i i0 i1 => (hse i i0 (by omega)).1)
  have st : sSits W L a2 seat (v2 + 1).toNat = sSitF W L a2 seat v2 (sSits W L a2 seat v2.toNat) := it_succ _ _ i1.1
  rw [sSitF_eq] at st
  have rW : mrW o F3 A4 W := hW.of (i4 _ _ (fun _ => by decide)) (fun k _ _ => i5 _ (by omega))
  have rL : mrL o A4 a1 (W 3 0 0) L := hL.of (fun k _ _ => i5 _ (by omega))
  refine ⟨fun hc => ?_, fun hc => ?_⟩ -- c1
  · -- case ((F3 3192 o) ≤ v2)
    -- l2: Q F3 A4
    have e : v2 = n := by omega
    subst e
    exact ⟨i3, i4, i5⟩
  · -- case ¬ ((F3 3192 o) ≤ v2)
    refine ⟨by omega, ?_⟩ -- s1: (0 ≤ v2 ∧ v2 < 12)
    intro v10 e10
    obtain ⟨y1, y2⟩ := hse v2 i1.1 (by omega)
    rw [i5 (o + 38) (by omega), y2] at e10
    subst e10
    have gl := hLk.2.2.2.1 _ y1.1 y1.2
    refine ⟨_, sX9_loads rL hk hLk hv y1, ?_⟩ -- call wpX9_loads o a1 v10 F3 A4 P11
    intro F14 A15 p11
    obtain ⟨⟨q1, q2, q3⟩, q4, q5, q6⟩ := p11
    have rb : F14 3039 o = F 3039 o := by rw [q4 _ _ (fun _ => by decide), i4 _ _ (fun _ => by decide)]
    have rW2 : mrW o F14 A15 W := rW.of (q4 _ _ (fun _ => by decide)) (fun k _ _ => q5 _ (by omega))
    have r23 : A15 (o + 23) (F14 3039 o) = W 4 0 0 := rW2.2.2.1.1
    refine ⟨by (rw [rb]; exact hb), ?_⟩ -- s2: (0 ≤ F14 3039 o ∧ F14 3039 o < 2)
    refine ⟨fun (F21 : jFl) (A22 : jAr) => (F21 3183 o = (sUtt W L a2 (seat v2) (sSits W L a2 seat v2.toNat).1).1 ∧ F21 3177 o = (sUtt W L a2 (seat v2) (sSits W L a2 seat v2.toNat).1).2.1 ∧ F21 3180 o = (sUtt W L a2 (seat v2) (sSits W L a2 seat v2.toNat).1).2.2.1) ∧ (∀ k : Int, 0 ≤ k → k < (sUtt W L a2 (seat v2) (sSits W L a2 seat v2.toNat).1).2.1 + (sUtt W L a2 (seat v2) (sSits W L a2 seat v2.toNat).1).2.2.1 → A22 (o + 37) k = (sUtt W L a2 (seat v2) (sSits W L a2 seat v2.toNat).1).2.2.2 k) ∧ sRok (W 0 0 0) (sUtt W L a2 (seat v2) (sSits W L a2 seat v2.toNat).1).2 ∧ (∀ f b, (b = o → f < 3165 ∨ 3183 < f) → F21 f b = F f b) ∧ (∀ b, (b < o + 36 ∨ o + 42 < b ∨ b = o + 38) → A22 b = A b) ∧ ∀ b, o + 39 ≤ b → b ≤ o + 42 → A22 b = A4 b, ?_, ?_⟩ -- join K24
    · intro F21 A22 k24
      obtain ⟨⟨k1, k2, k3⟩, k4, k5, k6, k7, k8⟩ := k24
      generalize hU : sUtt W L a2 (seat v2) (sSits W L a2 seat v2.toNat).1 = U at st k1 k2 k3 k4 k5
      generalize hS : sSits W L a2 seat v2.toNat = S at st ok i2 i3
      refine ⟨fun (v28 : Int) => v28 = (if U.1 = 3 then -1 else if sRun S seat U.2 v2 = -1 then -1 else seat (sRun S seat U.2 v2)), ?_, ?_⟩ -- join K29
      · intro v28 k29
        have hoth : v28 = -1 ∨ ∃ j : Int, (0 ≤ j ∧ j < v2) ∧ v28 = seat j ∧ ¬ U.1 = 3 ∧ sRun S seat U.2 v2 = j ∧ ¬ sRun S seat U.2 v2 = -1 := by
          by_cases w : U.1 = 3
          · rw [if_pos w] at k29; exact Or.inl k29
          · rw [if_neg w] at k29
            by_cases w2 : sRun S seat U.2 v2 = -1
            · rw [if_pos w2] at k29; exact Or.inl k29
            · rw [if_neg w2] at k29
              refine Or.inr ⟨sRun S seat U.2 v2, ?_, k29, w, rfl, w2⟩
              have e := it_inv (f := fun j r => cif (r = -1 ∧ sRunP S seat U.2 j) j r) (a := (-1 : Int)) (n := v2.toNat) (fun k r => -1 ≤ r ∧ r < k) (by omega) (fun k k0 k1 s hs => by
                by_cases q : s = -1 ∧ sRunP S seat U.2 k
                · rw [cif_pos q]; omega
                · rw [cif_neg q]; omega)
              have e2 : -1 ≤ sRun S seat U.2 v2 ∧ sRun S seat U.2 v2 < (v2.toNat : Int) := e
              omega
        have hR : (if U.1 = 3 then (S.1, upI S.2.1 (seat v2) 3, upI S.2.2 (seat v2) U.2) else if sRun S seat U.2 v2 = -1 then (S.1 + 1, upI S.2.1 (seat v2) U.1, upI S.2.2 (seat v2) U.2) else (S.1 + 1, upI S.2.1 (seat v2) 4, upI S.2.2 (seat v2) (S.2.2 (seat (sRun S seat U.2 v2))))) = (S.1 + (if U.1 = 3 then 0 else 1), upI S.2.1 (seat v2) (if v28 = -1 then U.1 else 4), upI S.2.2 (seat v2) (if v28 = -1 then U.2 else S.2.2 v28)) := by
          rcases hoth with w | ⟨j, w1, w2, w3, w4, w5⟩
          · rw [if_pos w, if_pos w]
            by_cases w2 : U.1 = 3
            · rw [if_pos w2, if_pos w2, w2, Int.add_zero]
            · rw [if_neg w2, if_neg w2]
              have w3 : sRun S seat U.2 v2 = -1 := by
                rw [if_neg w2] at k29
                by_cases w4 : sRun S seat U.2 v2 = -1
                · exact w4
                · rw [if_neg w4] at k29
                  have e := it_inv (f := fun j r => cif (r = -1 ∧ sRunP S seat U.2 j) j r) (a := (-1 : Int)) (n := v2.toNat) (fun k r => -1 ≤ r ∧ r < k) (by omega) (fun k k0 k1 s hs => by
                    by_cases q : s = -1 ∧ sRunP S seat U.2 k
                    · rw [cif_pos q]; omega
                    · rw [cif_neg q]; omega)
                  have e2 : -1 ≤ sRun S seat U.2 v2 ∧ sRun S seat U.2 v2 < (v2.toNat : Int) := e
                  have := (hse (sRun S seat U.2 v2) (by omega) (by omega)).1
                  omega
              rw [if_pos w3]
          · have w6 : ¬ v28 = -1 := by
              have := (hse j w1.1 (by omega)).1
              omega
            rw [if_neg w3, if_neg w5, if_neg w3, if_neg w6, if_neg w6, w4, ← w2]
        rw [hR] at st
        have hot : v28 ≠ -1 → (0 ≤ v28 ∧ v28 < 12) ∧ v28 ≠ seat v2 ∧ A22 (o + 39) v28 = S.2.1 v28 ∧ A22 (o + 40) v28 = (S.2.2 v28).1 ∧ A22 (o + 41) v28 = (S.2.2 v28).2.1 ∧ ∀ k : Int, 0 ≤ k → k < (S.2.2 v28).1 + (S.2.2 v28).2.1 → A22 (o + 42) (12 * v28 + k) = (S.2.2 v28).2.2 k := by
          intro w
          rcases hoth with w1 | ⟨j, w1, w2, w3, w4, w5⟩
          · exact absurd w1 w
          · have p := i3 j w1.1 w1.2
            have p2 := (hse j w1.1 (by omega)).1
            rw [w2, k8 _ (by omega) (by omega), k8 _ (by omega) (by omega), k8 _ (by omega) (by omega), k8 _ (by omega) (by omega)]
            exact ⟨by omega, fun q => by have := hin j v2 w1.1 (by omega) i1.1 (by omega) q; omega, p⟩
        refine ⟨fun (v33 : Int) => v33 = (if v28 = -1 then U.1 else 4), ?_, ?_⟩ -- join K34
        · intro v33 k34
          refine ⟨by omega, ?_⟩ -- s3: (0 ≤ v10 ∧ v10 < 12)
          intro A38 e38
          refine ⟨fun (v41 : Int) => v41 = (if v28 = -1 then U.2.1 else (S.2.2 v28).1), ?_, ?_⟩ -- join K42
          · intro v41 k42
            refine ⟨by omega, ?_⟩ -- s4: (0 ≤ v10 ∧ v10 < 12)
            intro A46 e46
            refine ⟨fun (v49 : Int) => v49 = (if v28 = -1 then U.2.2.1 else (S.2.2 v28).2.1), ?_, ?_⟩ -- join K50
            · intro v49 k50
              refine ⟨by omega, ?_⟩ -- s5: (0 ≤ v10 ∧ v10 < 12)
              intro A54 e54
              have f54 : ∀ b, b ≠ o + 39 → b ≠ o + 40 → b ≠ o + 41 → A54 b = A22 b := fun b b1 b2 b3 => by rw [e54, upA_o b3, e46, upA_o b2, e38, upA_o b1]
              have f39 : ∀ k : Int, A54 (o + 39) k = (if k = seat v2 then v33 else A22 (o + 39) k) := fun k => by
                rw [e54, upA_o (by omega), e46, upA_o (by omega), e38]
                by_cases w : k = seat v2
                · rw [if_pos w, w, upA_s]
                · rw [if_neg w, upA_i w]
              have f40 : ∀ k : Int, A54 (o + 40) k = (if k = seat v2 then v41 else A22 (o + 40) k) := fun k => by
                rw [e54, upA_o (by omega), e46]
                by_cases w : k = seat v2
                · rw [if_pos w, w, upA_s]
                · rw [if_neg w, upA_i w, e38, upA_o (by omega)]
              have f41 : ∀ k : Int, A54 (o + 41) k = (if k = seat v2 then v49 else A22 (o + 41) k) := fun k => by
                rw [e54]
                by_cases w : k = seat v2
                · rw [if_pos w, w, upA_s]
                · rw [if_neg w, upA_i w, e46, upA_o (by omega), e38, upA_o (by omega)]
              have hmb : v41 + v49 ≤ 12 ∧ 0 ≤ v41 ∧ 0 ≤ v49 := by
                rw [k42, k50]
                by_cases w : v28 = -1
                · rw [if_pos w, if_pos w]; have := k5.1; have := k5.2.1; omega
                · rw [if_neg w, if_neg w]; have := (ok.2 v28).2.1; have := (ok.2 v28).2.2.1; omega
              refine ⟨fun (v56 : Int) (A57 : jAr) => (0 ≤ v56 ∧ v56 ≤ 12) ∧ (∀ b, b ≠ o + 42 → A57 b = A54 b) ∧ (∀ k : Int, 0 ≤ k → k < v56 → A57 (o + 42) (12 * seat v2 + k) = (if v28 = -1 then A22 (o + 37) k else A22 (o + 42) (12 * v28 + k))) ∧ ∀ k : Int, (k < 12 * seat v2 ∨ 12 * seat v2 + 12 ≤ k) → A57 (o + 42) k = A22 (o + 42) k, fun v56 A57 => (12 - v56).toNat, ?_, ?_⟩ -- loop I59 I59 0 A54
              ·
                -- l3: I59 0 A54
                exact ⟨by omega, fun _ _ => rfl, fun k k0 k1 => by omega, fun k _ => by rw [f54 _ (by omega) (by omega) (by omega)]⟩
              intro v56 A57 i59
              obtain ⟨j1, j2, j3, j4⟩ := i59
              refine ⟨fun hc => ?_, fun hc => ?_⟩ -- c2
              · -- case (12 ≤ v56)
                intro z63 e63
                refine ⟨by omega, ?_⟩ -- s6: jR (v1 + z63)
                intro v66 e66
                refine ⟨by omega, ?_⟩ -- s7: jR (v2 + 1)
                have ez : z63 = (if U.1 = 3 then 0 else 1) := by rw [e63, k1]; by_cases w : U.1 = 3 <;> simp [w]
                refine ⟨?_, ?_⟩ -- l4: I6 v66 (v2 + 1) F21 A57
                · dsimp only
                  rw [st]
                  refine ⟨by omega, by rw [e66, ez, i2], fun i i0 i1' => ?_, k6, fun b hb2 => by rw [j2 b (by omega), f54 b (by omega) (by omega) (by omega)]; exact k7 b hb2⟩
                  dsimp only
                  rw [j2 _ (by omega), j2 _ (by omega), j2 _ (by omega), f39, f40, f41]
                  by_cases w : i = v2
                  · rw [w, if_pos rfl, if_pos rfl, if_pos rfl, upI_s, upI_s]
                    refine ⟨k34, ?_, ?_, fun k kk0 kk1 => ?_⟩
                    · rw [k42]; by_cases w2 : v28 = -1 <;> simp [w2]
                    · rw [k50]; by_cases w2 : v28 = -1 <;> simp [w2]
                    · have kk2 : k < v41 + v49 := by
                        rw [k42, k50]
                        by_cases w2 : v28 = -1
                        · rw [if_pos w2] at kk1; rw [if_pos w2, if_pos w2]; exact kk1
                        · rw [if_neg w2] at kk1; rw [if_neg w2, if_neg w2]; exact kk1
                      rw [j3 k kk0 (by omega)]
                      by_cases w2 : v28 = -1
                      · rw [if_pos w2] at kk1 ⊢; rw [if_pos w2]; exact k4 k kk0 kk1
                      · rw [if_neg w2] at kk1 ⊢; rw [if_neg w2]; exact (hot w2).2.2.2.2.2 k kk0 kk1
                  · have ne : seat i ≠ seat v2 := fun q => by have := hin i v2 i0 (by omega) i1.1 (by omega) q; omega
                    have p2 := (hse i i0 (by omega)).1
                    have p := i3 i i0 (by omega)
                    have p3 := (ok.2 (seat i)).2
                    rw [if_neg ne, if_neg ne, if_neg ne, upI_n ne, upI_n ne, k8 _ (by omega) (by omega), k8 _ (by omega) (by omega), k8 _ (by omega) (by omega)]
                    refine ⟨p.1, p.2.1, p.2.2.1, fun k kk0 kk1 => ?_⟩
                    have p4 := p3.1
                    have p5 := p3.2.1
                    rw [j4 _ (by omega), k8 _ (by omega) (by omega)]
                    exact p.2.2.2 k kk0 kk1
                · dsimp only; omega
              · -- case ¬ (12 ≤ v56)
                refine ⟨fun hc => ?_, fun hc => ?_⟩ -- c3
                · -- case (v28 = (-1))
                  refine ⟨by omega, ?_⟩ -- s8: (0 ≤ v56 ∧ v56 < 12)
                  refine ⟨by omega, ?_⟩ -- s9: (0 ≤ (12 * v10) + v56 ∧ (12 * v10) + v56 < 144)
                  intro A71 e71
                  refine ⟨by omega, ?_⟩ -- s10: jR (v56 + 1)
                  refine ⟨?_, ?_⟩ -- l5: I59 (v56 + 1) A71
                  · refine ⟨by omega, fun b hb2 => by rw [e71, upA_o hb2]; exact j2 b hb2, fun k kk0 kk1 => ?_, fun k kk => ?_⟩
                    · rw [e71]
                      by_cases w : k = v56
                      · rw [w, upA_s, if_pos hc, j2 _ (by omega), f54 _ (by omega) (by omega) (by omega)]
                      · rw [upA_i (by omega)]; exact j3 k kk0 (by omega)
                    · rw [e71, upA_i (by omega)]; exact j4 k kk
                  · dsimp only; omega
                · -- case ¬ (v28 = (-1))
                  have ho := hot hc
                  refine ⟨by omega, ?_⟩ -- s11: (0 ≤ (12 * v28) + v56 ∧ (12 * v28) + v56 < 144)
                  refine ⟨by omega, ?_⟩ -- s12: (0 ≤ (12 * v10) + v56 ∧ (12 * v10) + v56 < 144)
                  intro A76 e76
                  refine ⟨by omega, ?_⟩ -- s13: jR (v56 + 1)
                  refine ⟨?_, ?_⟩ -- l6: I59 (v56 + 1) A76
                  · refine ⟨by omega, fun b hb2 => by rw [e76, upA_o hb2]; exact j2 b hb2, fun k kk0 kk1 => ?_, fun k kk => ?_⟩
                    · rw [e76]
                      by_cases w : k = v56
                      · rw [w, upA_s, if_neg hc]; exact j4 _ (by omega)
                      · rw [upA_i (by omega)]; exact j3 k kk0 (by omega)
                    · rw [e76, upA_i (by omega)]; exact j4 k kk
                  · dsimp only; omega
            refine ⟨fun hc => ?_, fun hc => ?_⟩ -- c4
            · -- case (v28 = (-1))
              -- l7: K50 (F21 3180 o)
              show F21 3180 o = _
              rw [if_pos hc]; exact k3
            · -- case ¬ (v28 = (-1))
              have ho := hot hc
              refine ⟨by omega, ?_⟩ -- s14: (0 ≤ v28 ∧ v28 < 12)
              -- l8: K50 (A46 (o + 41) v28)
              show A46 (o + 41) v28 = _
              rw [if_neg hc, e46, upA_o (by omega), e38, upA_o (by omega)]; exact ho.2.2.2.2.1
          refine ⟨fun hc => ?_, fun hc => ?_⟩ -- c5
          · -- case (v28 = (-1))
            -- l9: K42 (F21 3177 o)
            show F21 3177 o = _
            rw [if_pos hc]; exact k2
          · -- case ¬ (v28 = (-1))
            have ho := hot hc
            refine ⟨by omega, ?_⟩ -- s15: (0 ≤ v28 ∧ v28 < 12)
            -- l10: K42 (A38 (o + 40) v28)
            show A38 (o + 40) v28 = _
            rw [if_neg hc, e38, upA_o (by omega)]; exact ho.2.2.2.1
        refine ⟨fun hc => ?_, fun hc => ?_⟩ -- c6
        · -- case (v28 = (-1))
          -- l11: K34 (F21 3183 o)
          show F21 3183 o = _
          rw [if_pos hc]; exact k1
        · -- case ¬ (v28 = (-1))
          -- l12: K34 4
          exact (if_neg hc).symm
      refine ⟨fun hc => ?_, fun hc => ?_⟩ -- c7
      · -- case (¬ (F21 3183 o) = 3)
        refine ⟨_, sX9_runsInto (st := S) (seat := seat) (u := U.2) (by omega) k2 (fun q => ⟨k4 0 (by omega) (by have := k5.2.1; omega), k4 1 (by omega) (by have := k5.2.1; omega)⟩) (fun j j0 j1 => by
          have p2 := hse j j0 (by omega)
          have p := i3 j j0 j1
          have p3 := (ok.2 (seat j)).2
          have p5 := p3.2.1
          refine ⟨by omega, by rw [k7 (o + 38) (by omega)]; exact p2.2, by rw [k8 _ (by omega) (by omega)]; exact p.1, by rw [k8 _ (by omega) (by omega)]; exact p.2.1, fun q => ?_⟩
          rw [k8 _ (by omega) (by omega)]
          have e0 := p.2.2.2 0 (by omega) (by omega)
          rw [Int.add_zero] at e0
          exact ⟨e0, p.2.2.2 1 (by omega) (by omega)⟩), ?_⟩ -- call wpX9_runsInto o v2 F21 A22 P81
        intro z83 p81
        -- l13: K29 z83
        show z83 = _
        rw [if_neg (by rw [← k1]; exact hc)]; exact p81
      · -- case ¬ (¬ (F21 3183 o) = 3)
        -- l14: K29 (-1)
        show (-1 : Int) = _
        rw [if_pos (by rw [← k1]; omega)]
    refine ⟨fun hc => ?_, fun hc => ?_⟩ -- c8
    · -- case ((A15 (o + 23) (F14 3039 o)) ≤ v1)
      intro F86 e86
      intro F88 e88
      intro F90 e90
      have hu : sUtt W L a2 (seat v2) (sSits W L a2 seat v2.toNat).1 = (3, (0, 0, fun _ => 0)) := by
        unfold sUtt
        rw [if_pos (by rw [← i2, ← r23]; exact hc)]
      -- l15: K24 F90 A15
      rw [hu]
      refine ⟨⟨by rw [e90, upF_f (by decide), e88, upF_f (by decide), e86, upF_s], by rw [e90, upF_f (by decide), e88, upF_s], by rw [e90, upF_s]⟩, fun k kk0 kk1 => by dsimp only at kk1; omega, ⟨by dsimp only; omega, by dsimp only; omega, fun k kk0 kk1 => by dsimp only at kk1; omega⟩, fun f b hf => ?_, fun b hb2 => by rw [q5 b (by omega)]; exact i5 b hb2, fun b b1 b2 => q5 b (by omega)⟩
      rw [← i4 f b hf, ← q4 f b (fun w => by have := hf w; omega), e90, e88, e86]
      by_cases w : b = o
      · have := hf w
        rw [upF_f (by omega), upF_f (by omega), upF_f (by omega)]
      · rw [upF_a w, upF_a w, upF_a w]
    · -- case ¬ ((A15 (o + 23) (F14 3039 o)) ≤ v1)
      refine ⟨_, sX9_utters (left := sHolds W L a2 (seat v2)) (R := sRw L (seat v2)) rW2 hk h2 (sRw_ok hLk y1) q1 q2 q6 (Or.inl (by rw [q4 _ _ (fun _ => by decide), i4 _ _ (fun _ => by decide)]; exact hh)) (by rw [if_pos (by rw [q4 _ _ (fun _ => by decide), i4 _ _ (fun _ => by decide)]; exact hh), q3]; rfl), ?_⟩ -- call wpX9_utters o a2 F14 A15 P92
      intro F95 A96 p92
      obtain ⟨⟨x1, x2, x3⟩, x4, x5, x6⟩ := p92
      have hu : sUtt W L a2 (seat v2) (sSits W L a2 seat v2.toNat).1 = (sKind W a2 (sRw L (seat v2)) (sHolds W L a2 (seat v2)), sSayR W a2 (sRw L (seat v2)) (sHolds W L a2 (seat v2))) := by
        unfold sUtt
        rw [if_neg (by rw [← i2, ← r23]; exact hc)]
      -- l16: K24 F95 A96
      rw [hu]
      refine ⟨⟨x3, x1, x2⟩, fun k kk0 kk1 => x6 k kk0 (by rw [x1, x2]; exact kk1), sSayR_ok hk h2 (sRw_ok hLk y1), fun f b hf => ?_, fun b hb2 => by rw [x5 b (by omega), q5 b (by omega)]; exact i5 b hb2, fun b b1 b2 => by rw [x5 b (by omega), q5 b (by omega)]⟩
      rw [← i4 f b hf, ← q4 f b (fun w => by have := hf w; omega), x4 f b (fun w => by have := hf w; omega)]

