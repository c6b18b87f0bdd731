set_option maxRecDepth 100000
set_option linter.unusedVariables false
/-! the model says, sits; printed by gen/prove.py out of spec/93.ms8.spec -/
theorem sX9_says {o : Nat} {a1 : Int} {a2 : Int} {a3 : Int} {F : jFl} {A : jAr} {W L : sTb} (h : mct o F A 0 W L) : wpX9_says o a1 a2 a3 F A (fun z F' A' => z = rSays W L a1 a2 a3 ∧ mfr o F A F' A') := by
  unfold wpX9_says
  have h0 := h
  obtain ⟨⟨hk, hLk⟩, hW, hL, hh, hv⟩ := h
  refine ⟨_, sX9_isChild hW, ?_⟩ -- call wpX9_isChild o a1 F A P1
  intro z3 p1
  refine ⟨fun hc => ?_, fun hc => ?_⟩ -- c1
  · -- case (z3 = 0)
    -- l1: Q (-1) F A
    exact ⟨(if_neg (by grind)).symm, mfr.refl _ _ _⟩
  · -- case ¬ (z3 = 0)
    refine ⟨_, sX9_isStanding hW hk hL, ?_⟩ -- call wpX9_isStanding o a2 F A P7
    intro z9 p7
    have hc1 : 0 ≤ a1 ∧ a1 < W 2 0 0 := by grind
    refine ⟨fun hc => ?_, fun hc => ?_⟩ -- c2
    · -- case (¬ z9 = 0)
      have hl : (0 ≤ a2 ∧ a2 < W 3 0 0) ∧ 0 < L 2 a2 0 := by grind
      have gk := hLk.2.2.2.1 a2 hl.1.1 hl.1.2
      refine ⟨_, sX9_loads hL hk hLk (by omega) hl.1, ?_⟩ -- call wpX9_loads o 0 a2 F A P13
      intro F16 A17 p13
      obtain ⟨⟨q1, q2, q3⟩, q4, q5, q6⟩ := p13
      have e86 : F16 3186 o = -1 := by rw [q4 _ _ (fun _ => by decide)]; exact hh
      refine ⟨_, sX9_utters (R := sRw L a2) (left := sHolds W L a1 a2) (hW.of (q4 _ _ (fun _ => by decide)) (fun k _ _ => q5 _ (by omega))) hk hc1 (sRw_ok hLk hl.1) q1 q2 q6 (Or.inl e86) (by rw [if_pos e86, q3]; rfl), ?_⟩ -- call wpX9_utters o a1 F16 A17 P21
      intro F24 A25 p21
      obtain ⟨⟨r1, r2, r3⟩, r4, r5, r6⟩ := p21
      have hf : mfr o F A F24 A25 := ⟨fun f b hb => by rw [r4 f b (fun w => by have := hb w; omega), q4 f b (fun w => by have := hb w; omega)], fun b hb => by rw [r5 b (by omega)]; exact q5 b (by omega)⟩
      have so := sSayR_ok (left := sHolds W L a1 a2) hk hc1 (sRw_ok hLk hl.1)
      have so1 : 0 ≤ sMain W a1 (sRw L a2) (sHolds W L a1 a2) ∧ sMain W a1 (sRw L a2) (sHolds W L a1 a2) ≤ 8 := so.1
      have so2 : 0 ≤ sBut W a1 (sRw L a2) (sHolds W L a1 a2) ∧ sBut W a1 (sRw L a2) (sHolds W L a1 a2) ≤ 4 := so.2.1
      have es : rSays W L a1 a2 a3 = sTells (sKind W a1 (sRw L a2) (sHolds W L a1 a2)) (sSayR W a1 (sRw L a2) (sHolds W L a1 a2)) a3 := if_pos ⟨hc1, hl.1, hl.2⟩
      have eS : (sSayR W a1 (sRw L a2) (sHolds W L a1 a2)).1 + (sSayR W a1 (sRw L a2) (sHolds W L a1 a2)).2.1 = F24 3177 o + F24 3180 o := by rw [r1, r2]; rfl
      refine ⟨fun hc => ?_, fun hc => ?_⟩ -- c3
      · -- case (¬ a3 = (-1))
        refine ⟨fun hc => ?_, fun hc => ?_⟩ -- c4
        · -- case (¬ a3 = 20)
          refine ⟨by omega, ?_⟩ -- s1: jR (((F24 3177 o) + (F24 3180 o)) - 1)
          refine ⟨_, sX9_is, ?_⟩ -- call wpX9_is o a3 0 (((F24 3177 o) + (F24 3180 o)) - 1) F24 A25 P32
          intro z34 p32
          refine ⟨fun hc => ?_, fun hc => ?_⟩ -- c5
          · -- case (z34 = 0)
            -- l2: Q (-1) F24 A25
            refine ⟨?_, hf⟩
            rw [es]
            unfold sTells
            rw [eS, if_neg (by assumption), if_neg (by assumption), if_neg (by grind)]
          · -- case ¬ (z34 = 0)
            have hin : 0 ≤ a3 ∧ a3 < F24 3177 o + F24 3180 o := by grind
            refine ⟨by omega, ?_⟩ -- s2: (0 ≤ a3 ∧ a3 < 12)
            -- l3: Q (A25 (o + 37) a3) F24 A25
            refine ⟨?_, hf⟩
            rw [es]
            unfold sTells
            rw [eS, if_neg (by assumption), if_neg (by assumption), if_pos hin]
            exact r6 a3 hin.1 hin.2
        · -- case ¬ (¬ a3 = 20)
          refine ⟨by omega, ?_⟩ -- s3: jR ((F24 3177 o) + (F24 3180 o))
          -- l4: Q ((F24 3177 o) + (F24 3180 o)) F24 A25
          refine ⟨?_, hf⟩
          rw [es]
          unfold sTells
          rw [eS, if_neg (by assumption), if_pos (by omega)]
      · -- case ¬ (¬ a3 = (-1))
        -- l5: Q (F24 3183 o) F24 A25
        refine ⟨?_, hf⟩
        rw [es]
        unfold sTells
        rw [if_pos (by omega)]
        exact r3
    · -- case ¬ (¬ z9 = 0)
      -- l6: Q (-1) F A
      exact ⟨(if_neg (by grind)).symm, mfr.refl _ _ _⟩

theorem sX9_sits {o : Nat} {a1 : Int} {a2 : Int} {a3 : Int} {F : jFl} {A : jAr} {W L : sTb} (h : mct o F A 0 W L) (h9 : L 9 0 0 = 0) : wpX9_sits o a1 a2 a3 F A (fun z F' A' => z = rSits W L a1 a2 a3 ∧ mfr o F A F' A') := by
  unfold wpX9_sits
  have h0 := h
  obtain ⟨⟨hk, hLk⟩, hW, hL, hh, hv⟩ := h
  have w3 := hk.2.2.2.1
  refine ⟨_, sX9_isChild hW, ?_⟩ -- call wpX9_isChild o a1 F A P1
  intro z3 p1
  refine ⟨fun hc => ?_, fun hc => ?_⟩ -- c1
  · -- case (z3 = 0)
    -- l1: Q (-1) F A
    exact ⟨(if_neg (by grind)).symm, mfr.refl _ _ _⟩
  · -- case ¬ (z3 = 0)
    refine ⟨_, sX9_isStanding hW hk hL, ?_⟩ -- call wpX9_isStanding o a2 F A P7
    intro z9 p7
    have hc1 : 0 ≤ a1 ∧ a1 < W 2 0 0 := by grind
    refine ⟨fun hc => ?_, fun hc => ?_⟩ -- c2
    · -- case (¬ z9 = 0)
      have hl : (0 ≤ a2 ∧ a2 < W 3 0 0) ∧ 0 < L 2 a2 0 := by grind
      refine ⟨_, sX9_sitsNow h0 h9 hc1, ?_⟩ -- call wpX9_sitsNow o a1 F A P13
      intro z15 F16 A17 p13
      obtain ⟨⟨q1, q2⟩, q3, q4⟩ := p13
      obtain ⟨p, hp, hpl⟩ : ∃ p : Int, (0 ≤ p ∧ p < W 3 0 0) ∧ L 1 p 0 = a2 := sOrd_onto hLk h9 hl.1
      obtain ⟨i, i0, i1⟩ := sSeats_all (L := L) (n := W 3 0 0) (by omega) hp (by rw [hpl]; exact hl.2)
      have q5 := q3 i i0.1 i0.2
      rw [i1, hpl] at q5
      have sok := sSits_ok (n := (sSeats L (W 3 0 0)).1.toNat) (seat := (sSeats L (W 3 0 0)).2) hk hLk hc1 (fun i i0 i1 => ((sSeats_ok hk hLk (n := W 3 0 0) (by omega)).2 i i0 (by omega)).1)
      have so1 := (sok.2 a2).2.1
      have so2 := (sok.2 a2).2.2.1
      have es : rSits W L a1 a2 a3 = sTells ((sSitN W L a1).2.1 a2) ((sSitN W L a1).2.2 a2) a3 := if_pos ⟨hc1, hl.1, hl.2⟩
      have eS : ((sSitN W L a1).2.2 a2).1 + ((sSitN W L a1).2.2 a2).2.1 = A17 (o + 40) a2 + A17 (o + 41) a2 := by rw [q5.2.1, q5.2.2.1]; rfl
      refine ⟨by omega, ?_⟩ -- s1: (0 ≤ a2 ∧ a2 < 12)
      refine ⟨by omega, ?_⟩ -- s2: (0 ≤ a2 ∧ a2 < 12)
      refine ⟨by omega, ?_⟩ -- s3: jR ((A17 (o + 40) a2) + (A17 (o + 41) a2))
      intro v24 e24
      refine ⟨fun hc => ?_, fun hc => ?_⟩ -- c3
      · -- case (¬ a3 = (-1))
        refine ⟨fun hc => ?_, fun hc => ?_⟩ -- c4
        · -- case (¬ a3 = 20)
          refine ⟨by omega, ?_⟩ -- s4: jR (v24 - 1)
          refine ⟨_, sX9_is, ?_⟩ -- call wpX9_is o a3 0 (v24 - 1) F16 A17 P28
          intro z30 p28
          refine ⟨fun hc => ?_, fun hc => ?_⟩ -- c5
          · -- case (z30 = 0)
            -- l2: Q (-1) F16 A17
            refine ⟨?_, q4⟩
            rw [es]
            unfold sTells
            rw [eS, if_neg (by assumption), if_neg (by assumption), if_neg (by grind)]
          · -- case ¬ (z30 = 0)
            have hin : 0 ≤ a3 ∧ a3 < A17 (o + 40) a2 + A17 (o + 41) a2 := by grind
            refine ⟨by omega, ?_⟩ -- s5: (0 ≤ (12 * a2) + a3 ∧ (12 * a2) + a3 < 144)
            -- l3: Q (A17 (o + 42) ((12 * a2) + a3)) F16 A17
            refine ⟨?_, q4⟩
            rw [es]
            unfold sTells
            rw [eS, if_neg (by assumption), if_neg (by assumption), if_pos hin]
            exact q5.2.2.2 a3 hin.1 (by have : A17 (o + 40) a2 = _ := q5.2.1; have : A17 (o + 41) a2 = _ := q5.2.2.1; omega)
        · -- case ¬ (¬ a3 = 20)
          -- l4: Q v24 F16 A17
          refine ⟨?_, q4⟩
          rw [es]
          unfold sTells
          rw [eS, if_neg (by assumption), if_pos (by omega)]
          exact e24
      · -- case ¬ (¬ a3 = (-1))
        refine ⟨by omega, ?_⟩ -- s6: (0 ≤ a2 ∧ a2 < 12)
        -- l5: Q (A17 (o + 39) a2) F16 A17
        refine ⟨?_, q4⟩
        rw [es]
        unfold sTells
        rw [if_pos (by omega)]
        exact q5.1
    · -- case ¬ (¬ z9 = 0)
      -- l6: Q (-1) F A
      exact ⟨(if_neg (by grind)).symm, mfr.refl _ _ _⟩

theorem sX9_sitting {o : Nat} {a1 : Int} {a2 : Int} {F : jFl} {A : jAr} {W L : sTb} (h : mct o F A 0 W L) (h9 : L 9 0 0 = 0) : wpX9_sitting o a1 a2 F A (fun z F' A' => z = rSitting W L a1 a2 ∧ mfr o F A F' A') := by
  unfold wpX9_sitting
  have h0 := h
  obtain ⟨⟨hk, hLk⟩, hW, hL, hh, hv⟩ := h
  have w3 := hk.2.2.2.1
  have ok := sSeats_ok hk hLk (n := W 3 0 0) (by omega)
  refine ⟨_, sX9_isChild hW, ?_⟩ -- call wpX9_isChild o a1 F A P1
  intro z3 p1
  refine ⟨fun hc => ?_, fun hc => ?_⟩ -- c1
  · -- case (z3 = 0)
    -- l1: Q (-1) F A
    exact ⟨(if_neg (by grind)).symm, mfr.refl _ _ _⟩
  · -- case ¬ (z3 = 0)
    refine ⟨_, sX9_is, ?_⟩ -- call wpX9_is o a2 0 4 F A P7
    intro z9 p7
    have hc1 : 0 ≤ a1 ∧ a1 < W 2 0 0 := by grind
    refine ⟨fun hc => ?_, fun hc => ?_⟩ -- c2
    · -- case (¬ z9 = 0)
      refine ⟨_, sX9_sitsNow h0 h9 hc1, ?_⟩ -- call wpX9_sitsNow o a1 F A P13
      intro z15 F16 A17 p13
      obtain ⟨⟨q1, q2⟩, q3, q4⟩ := p13
      rw [q1]
      refine ⟨fun (v21 : Int) (v22 : Int) => (0 ≤ v22 ∧ v22 ≤ (sSeats L (W 3 0 0)).1) ∧ v21 = it (fun i s => if (sSitN W L a1).2.1 ((sSeats L (W 3 0 0)).2 i) = a2 then s + 1 else s) 0 v22.toNat ∧ 0 ≤ v21 ∧ v21 ≤ v22, fun v21 v22 => ((sSeats L (W 3 0 0)).1 - v22).toNat, ?_, ?_⟩ -- loop I23 I23 0 0
      ·
        -- l2: I23 0 0
        exact ⟨by omega, rfl, by omega, by omega⟩
      intro v21 v22 i23
      obtain ⟨i1, i2, i3, i4⟩ := i23
      refine ⟨fun hc => ?_, fun hc => ?_⟩ -- c3
      · -- case ((F16 3192 o) ≤ v22)
        -- l3: Q v21 F16 A17
        refine ⟨?_, q4⟩
        have e : rSitting W L a1 a2 = _ := if_pos ⟨hc1, by grind⟩
        rw [e, i2, show v22 = (sSeats L (W 3 0 0)).1 by omega]
      · -- case ¬ ((F16 3192 o) ≤ v22)
        have y1 := ok.2 v22 i1.1 (by omega)
        have y2 := q2 v22 i1.1 (by omega)
        have y3 := (q3 v22 i1.1 (by omega)).1
        rw [y2, y3]
        refine ⟨by omega, ?_⟩ -- s1: (0 ≤ v22 ∧ v22 < 12)
        refine ⟨by omega, ?_⟩ -- s2: (0 ≤ A17 (o + 38) v22 ∧ A17 (o + 38) v22 < 12)
        intro z29 e29
        refine ⟨by (rw [e29]; split <;> omega), ?_⟩ -- s3: jR (v21 + z29)
        intro v32 e32
        refine ⟨by omega, ?_⟩ -- s4: jR (v22 + 1)
        refine ⟨?_, ?_⟩ -- l4: I23 v32 (v22 + 1)
        · have ez : z29 = (if (sSitN W L a1).2.1 ((sSeats L (W 3 0 0)).2 v22) = a2 then 1 else 0) := by
            rw [e29]
            show (if ¬ (sSitN W L a1).2.1 ((sSeats L (W 3 0 0)).2 v22) = a2 then 0 else 1) = _
            by_cases w : (sSitN W L a1).2.1 ((sSeats L (W 3 0 0)).2 v22) = a2 <;> simp [w]
          refine ⟨by omega, ?_, by rw [e32, ez]; split <;> omega, by rw [e32, ez]; split <;> omega⟩
          rw [it_succ _ _ i1.1, ← i2, e32, ez]
          by_cases w : (sSitN W L a1).2.1 ((sSeats L (W 3 0 0)).2 v22) = a2 <;> simp [w]
        · dsimp only; omega
    · -- case ¬ (¬ z9 = 0)
      -- l5: Q (-1) F A
      exact ⟨(if_neg (by grind)).symm, mfr.refl _ _ _⟩

