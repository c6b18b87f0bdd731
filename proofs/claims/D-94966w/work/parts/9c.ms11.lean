set_option maxRecDepth 100000
set_option linter.unusedVariables false
/-! the model: tell, anew; printed by gen/prove.py out of spec/9c.ms11.spec -/
theorem mst.act {R : Int} {o : Nat} {F F' : jFl} {A A' : jAr} {W L L' : sTb} {B B' : sBk} {U : sUn} {Q : sMi} (h : mst R o F A W L B U Q) (hc : mct o F' A' 0 W L') (h9 : L' 9 0 0 = 0) (hB : mrB o A' 0 B') (hl : mlf o 0 A A') (hF : ∀ f, f = 3153 ∨ f = 3156 ∨ f = 3003 ∨ f = 3030 ∨ f = 3033 ∨ f = 3160 ∨ f = 3237 → F' f o = F f o) (h1 : A' (o + 1) = A (o + 1)) (h2 : A' (o + 27) = A (o + 27)) (h3 : A' (o + 48) = A (o + 48)) : mst R o F' A' W L' B' U Q :=
  ⟨⟨hc, h9⟩, hB, h.2.2.1.lf h.1.1.1.1 (hF _ (by decide)) (hF _ (by decide)) hl (by decide), h.2.2.2.of (fun f hf => hF f (by omega)) h1 h2 h3⟩
theorem mst.mono {R R' : Int} {o : Nat} {F : jFl} {A : jAr} {W L : sTb} {B : sBk} {U : sUn} {Q : sMi} (h : mst R o F A W L B U Q) (hr : R ≤ R') : mst R' o F A W L B U Q := ⟨h.1, h.2.1, h.2.2.1, h.2.2.2.mono hr⟩
/-- what telling does -/
noncomputable def sTell (W L : sTb) (B : sBk) (l c : Int) : sTb × sBk := sBecome c l (sKind W c (sRw L l) (sHolds W L c l)) (sSayR W c (sRw L l) (sHolds W L c l)) (L, B)
theorem sX9_tell {o : Nat} {a1 : Int} {a2 : Int} {F : jFl} {A : jAr} {R : Int} {W L : sTb} {B : sBk} {U : sUn} {Q : sMi} (h : mst R o F A W L B U Q) (hR : R < 1000000000) : wpX9_tell o a1 a2 F A (fun z F' A' => if (0 ≤ a2 ∧ a2 < W 2 0 0) ∧ (0 ≤ a1 ∧ a1 < W 3 0 0) ∧ 0 < L 2 a1 0 then z = sKind W a2 (sRw L a1) (sHolds W L a2 a1) ∧ mst (R + 1) o F' A' W (sTell W L B a1 a2).1 (sTell W L B a1 a2).2 (sKeep U (L, B)) Q else z = -1 ∧ mst (R + 1) o F' A' W L B U (qRef Q 2)) := by
  unfold wpX9_tell
  have h0 := h
  obtain ⟨⟨⟨⟨hk, hLk⟩, hW, hL, hh, hv⟩, h9⟩, hB, hU, hM⟩ := h
  refine ⟨_, sX9_isChild hW, ?_⟩ -- call wpX9_isChild o a2 F A P1
  intro z3 p1
  refine ⟨fun hc => ?_, fun hc => ?_⟩ -- c1
  · -- case (z3 = 0)
    refine ⟨_, sX9_refuses h0 hR (by decide), ?_⟩ -- call wpX9_refuses o 2 F A P7
    intro z9 F10 A11 p7
    -- l1: Q z9 F10 A11
    rw [if_neg (by grind)]; exact p7
  · -- case ¬ (z3 = 0)
    refine ⟨_, sX9_isStanding hW hk hL, ?_⟩ -- call wpX9_isStanding o a1 F A P15
    intro z17 p15
    refine ⟨fun hc => ?_, fun hc => ?_⟩ -- c2
    · -- case (¬ z17 = 0)
      have h1 : 0 ≤ a2 ∧ a2 < W 2 0 0 := by grind
      have h2 : (0 ≤ a1 ∧ a1 < W 3 0 0) ∧ 0 < L 2 a1 0 := by grind
      refine ⟨_, sX9_keeps h0, ?_⟩ -- call wpX9_keeps o F A P21
      intro F24 A25 p21
      obtain ⟨m1, m2, m3⟩ := p21
      refine ⟨_, sX9_loads m1.1.1.2.2.1 hk hLk (by omega) h2.1, ?_⟩ -- call wpX9_loads o 0 a1 F24 A25 P29
      intro F32 A33 p29
      obtain ⟨⟨q1, q2, q3⟩, q4, q5, q6⟩ := p29
      have f1 : mfr o F24 A25 F32 A33 := ⟨fun f b hb => q4 f b (fun w => by have := hb w; omega), fun b hb => q5 b (by omega)⟩
      have c1 := m1.1.1.fr f1
      refine ⟨_, sX9_utters (R := sRw L a1) (left := sHolds W L a2 a1) c1.2.1 hk h1 (sRw_ok hLk h2.1) q1 q2 q6 (Or.inl c1.2.2.2.1) (by rw [if_pos c1.2.2.2.1, q3]; rfl), ?_⟩ -- call wpX9_utters o a2 F32 A33 P37
      intro F40 A41 p37
      obtain ⟨⟨r1, r2, r3⟩, r4, r5, r6⟩ := p37
      have f2 : mfr o F24 A25 F40 A41 := f1.trans ⟨fun f b hb => r4 f b (fun w => by have := hb w; omega), fun b hb => r5 b (by omega)⟩
      have c2 := m1.1.1.fr f2
      have b2 := m1.2.1.of (f2.2 (o + 34) (by omega)) (f2.2 (o + 35) (by omega))
      intro v45 e45
      refine ⟨_, sX9_becomesSaid (U := sSayR W a2 (sRw L a1) (sHolds W L a2 a1)) c2 b2 h2.1 (sSayR_ok hk h1 (sRw_ok hLk h2.1)) r1 r2 (fun k k0 k1 => r6 k k0 (by rw [r1, r2]; exact k1)), ?_⟩ -- call wpX9_becomesSaid o 0 a1 a2 v45 F40 A41 P46
      intro F49 A50 p46
      obtain ⟨y1, ⟨y2, y3⟩, y4, y5⟩ := p46
      subst y1
      rw [e45, r3] at y2 y3
      -- l2: Q v45 F49 A50
      rw [if_pos ⟨h1, h2.1, h2.2⟩]
      have ok := (sBecome_ok (c := a2) (kind := sKind W a2 (sRw L a1) (sHolds W L a2 a1)) (R := sSayR W a2 (sRw L a1) (sHolds W L a2 a1)) (p := (L, B)) hLk h2.1 (sSayR_ok hk h1 (sRw_ok hLk h2.1)) (sSayR_o1 (sRw_o1 hLk h2.1)) hB.2.1).1
      refine ⟨by rw [e45, r3], (m1.act ⟨⟨hk, ok⟩, c2.2.1.of rfl (fun k _ _ => y5 _ (by omega)), y2, c2.2.2.2.1, c2.2.2.2.2⟩ (by rw [sBecome_9]; exact h9) y3 ((mlf.eq (fun k k0 k1 => f2.2 _ (by omega))).trans y4) (fun f hf => f2.1 f o (fun _ => by omega)) ?_ ?_ ?_).mono (by omega)⟩
      · rw [y5 _ (by omega)]; exact f2.2 _ (by omega)
      · rw [y5 _ (by omega)]; exact f2.2 _ (by omega)
      · rw [y5 _ (by omega)]; exact f2.2 _ (by omega)
    · -- case ¬ (¬ z17 = 0)
      refine ⟨_, sX9_refuses h0 hR (by decide), ?_⟩ -- call wpX9_refuses o 2 F A P54
      intro z56 F57 A58 p54
      -- l3: Q z56 F57 A58
      rw [if_neg (by grind)]; exact p54

theorem sX9_anew {o : Nat} {a1 : Int} {F : jFl} {A : jAr} {R : Int} {W L : sTb} {B : sBk} {U : sUn} {Q : sMi} (h : mst R o F A W L B U Q) (hR : R < 1000000000) : wpX9_anew o a1 F A (fun z F' A' => if 0 ≤ a1 ∧ a1 < W 2 0 0 then z = sStand (sRenew W L a1 B).1 (W 3 0 0) ∧ mst (R + 1) o F' A' W (sRenew W L a1 B).1 (sRenew W L a1 B).2 (sKeep U (L, B)) Q else z = -1 ∧ mst (R + 1) o F' A' W L B U (qRef Q 2)) := by
  unfold wpX9_anew
  refine ⟨_, sX9_isChild h.1.1.2.1, ?_⟩ -- call wpX9_isChild o a1 F A P1
  intro z3 p1
  refine ⟨fun hc => ?_, fun hc => ?_⟩ -- c1
  · -- case (¬ z3 = 0)
    have h1 : 0 ≤ a1 ∧ a1 < W 2 0 0 := by grind
    refine ⟨_, sX9_keeps h, ?_⟩ -- call wpX9_keeps o F A P7
    intro F10 A11 p7
    obtain ⟨m1, m2, m3⟩ := p7
    refine ⟨_, sX9_renews m1.1.1 m1.1.2 m1.2.1 h1, ?_⟩ -- call wpX9_renews o 0 a1 F10 A11 P15
    intro F18 A19 p15
    obtain ⟨⟨q1, q2⟩, q3, q4, q5⟩ := p15
    refine ⟨_, sX9_standing q1, ?_⟩ -- call wpX9_standing o 0 F18 A19 P23
    intro z25 p23
    -- l1: Q z25 F18 A19
    rw [if_pos h1]
    exact ⟨p23.1, (m1.act q1 (by rw [sRenew_9]; exact h.1.2) q2 q3 (fun f hf => q4 f o (fun _ => by omega)) (q5 _ (by omega)) (q5 _ (by omega)) (q5 _ (by omega))).mono (by omega)⟩
  · -- case ¬ (¬ z3 = 0)
    refine ⟨_, sX9_refuses h hR (by decide), ?_⟩ -- call wpX9_refuses o 2 F A P28
    intro z30 F31 A32 p28
    -- l2: Q z30 F31 A32
    rw [if_neg (by grind)]; exact p28

