set_option maxRecDepth 100000
set_option linter.unusedVariables false
/-! the model: years; printed by gen/prove.py out of spec/9e.ms13.spec -/
theorem mst.act2 {R R' : Int} {o : Nat} {F F' : jFl} {A A' : jAr} {W L L' : sTb} {B B' : sBk} {U : sUn} {Q Q' : sMi} (h : mst R o F A W L B U Q) (hc : mct o F' A' 0 W L') (h9 : L' 9 0 0 = 0) (hB : mrB o A' 0 B') (hl : mlf o 0 A A') (hF : ∀ f, f = 3153 ∨ f = 3156 → F' f o = F f o) (hM : mMi R' o F' A' Q') : mst R' o F' A' W L' B' U Q' :=
  ⟨⟨hc, h9⟩, hB, h.2.2.1.lf h.1.1.1.1 (hF _ (by decide)) (hF _ (by decide)) hl (by decide), hM⟩
theorem sBecome_0 {c l kind : Int} {R : sRow} {p : sTb × sBk} : (sBecome c l kind R p).1 0 0 0 = p.1 0 0 0 := by
  unfold sBecome
  by_cases q : sAlike (sRw p.1 l) R
  · rw [cif_pos q]
  · rw [cif_neg q]; simp [sLset]
theorem sRenew_0 {W L : sTb} {c : Int} {B : sBk} : (sRenew W L c B).1 0 0 0 = L 0 0 0 := by
  unfold sRenew
  exact it_inv (f := sRenewF c (sSits W L c (sSeats L (W 3 0 0)).2 (sSeats L (W 3 0 0)).1.toNat) (sSeats L (W 3 0 0)).2) (fun _ (p : sTb × sBk) => p.1 0 0 0 = L 0 0 0) rfl (fun k k0 k1 p hp => by
    unfold sRenewF
    rw [sBecome_0]; exact hp)
theorem sYear_0 {W L : sTb} {B : sBk} {s : Int} : (sYear W (L, B, s)).1 0 0 0 = L 0 0 0 + 1 := by
  unfold sYear
  split
  · dsimp only
    rw [sRenew_0]; rfl
  · rfl
/-- so many years -/
noncomputable def sYears (W : sTb) (p : sTb × sBk × Int) (n : Int) : sTb × sBk × Int := it (fun _ p => sYear W p) p n.toNat
theorem sYears_succ {W : sTb} {p : sTb × sBk × Int} {n : Int} (h : 0 ≤ n) : sYears W p (n + 1) = sYear W (sYears W p n) := it_succ _ _ h
theorem sX9_years {o : Nat} {a1 : Int} {F : jFl} {A : jAr} {R : Int} {W L : sTb} {B : sBk} {U : sUn} {Q : sMi} (h : mst R o F A W L B U Q) (hR : R < 1000000000) : wpX9_years o a1 F A (fun z F' A' => if (1 ≤ a1 ∧ a1 ≤ 99) ∧ L 0 0 0 + a1 ≤ 9999 then z = sStand (sYears W (L, B, Q 5 0) a1).1 (W 3 0 0) ∧ mst (R + 1) o F' A' W (sYears W (L, B, Q 5 0) a1).1 (sYears W (L, B, Q 5 0) a1).2.1 (sKeep U (L, B)) (qSeed Q (sYears W (L, B, Q 5 0) a1).2.2) else z = -1 ∧ mst (R + 1) o F' A' W L B U (qRef Q 3)) := by
  unfold wpX9_years
  have g0 := h.1.1.2.2.1.1
  have k0 := h.1.1.1.2.1
  rw [g0]
  refine ⟨_, sX9_is, ?_⟩ -- call wpX9_is o a1 1 99 F A P1
  intro z3 p1
  refine ⟨fun hc => ?_, fun hc => ?_⟩ -- c1
  · -- case (z3 = 0)
    refine ⟨_, sX9_refuses h hR (by decide), ?_⟩ -- call wpX9_refuses o 3 F A P7
    intro z9 F10 A11 p7
    -- l1: Q z9 F10 A11
    rw [if_neg (by grind)]; exact p7
  · -- case ¬ (z3 = 0)
    refine ⟨by grind, ?_⟩ -- s1: jR ((A (o + 28) 0) + a1)
    refine ⟨fun hc => ?_, fun hc => ?_⟩ -- c2
    · -- case (((A (o + 28) 0) + a1) ≤ 9999)
      have h1 : 1 ≤ a1 ∧ a1 ≤ 99 := by grind
      refine ⟨_, sX9_keeps h, ?_⟩ -- call wpX9_keeps o F A P18
      intro F21 A22 p18
      obtain ⟨m1, m2, m3⟩ := p18
      refine ⟨fun (v26 : Int) (F27 : jFl) (A28 : jAr) => (0 ≤ v26 ∧ v26 ≤ a1) ∧ mst R o F27 A28 W (sYears W (L, B, Q 5 0) v26).1 (sYears W (L, B, Q 5 0) v26).2.1 (sKeep U (L, B)) (qSeed Q (sYears W (L, B, Q 5 0) v26).2.2) ∧ (sYears W (L, B, Q 5 0) v26).1 0 0 0 = L 0 0 0 + v26, fun v26 F27 A28 => (a1 - v26).toNat, ?_, ?_⟩ -- loop I30 I30 0 F21 A22
      ·
        -- l2: I30 0 F21 A22
        refine ⟨by omega, ?_, ?_⟩
        · exact ⟨m1.1, m1.2.1, m1.2.2.1, m1.2.2.2⟩
        · show L 0 0 0 = _
          omega
      intro v26 F27 A28 i30
      obtain ⟨i1, i2, i3⟩ := i30
      refine ⟨fun hc => ?_, fun hc => ?_⟩ -- c3
      · -- case (a1 ≤ v26)
        refine ⟨_, sX9_standing i2.1.1, ?_⟩ -- call wpX9_standing o 0 F27 A28 P33
        intro z35 p33
        -- l3: Q z35 F27 A28
        rw [if_pos ⟨h1, by omega⟩]
        have e : v26 = a1 := by omega
        rw [e] at i2 p33
        exact ⟨p33.1, i2.mono (by omega)⟩
      · -- case ¬ (a1 ≤ v26)
        refine ⟨_, sX9_yearGoes i2.1.1 i2.1.2 i2.2.1 i2.2.2.2.2.2.2.2.1.1 i2.2.2.2.2.2.2.2.1.2 (by rw [i3]; omega), ?_⟩ -- call wpX9_yearGoes o 0 F27 A28 P38
        intro F41 A42 p38
        obtain ⟨⟨q1, q2, q3, q4⟩, q5, q6, q7⟩ := p38
        have es := sYears_succ (W := W) (p := (L, B, Q 5 0)) i1.1
        have y9 : (sYears W (L, B, Q 5 0) (v26 + 1)).1 9 0 0 = 0 := by rw [es]; exact sYear_9.trans i2.1.2
        have y0 : (sYears W (L, B, Q 5 0) (v26 + 1)).1 0 0 0 = L 0 0 0 + (v26 + 1) := by
          rw [es]
          refine sYear_0.trans ?_
          have i3 : (it (fun _ p => sYear W p) (L, B, Q 5 0) v26.toNat).1 0 0 0 = L 0 0 0 + v26 := i3
          omega
        refine ⟨by omega, ?_⟩ -- s2: jR (v26 + 1)
        refine ⟨?_, ?_⟩ -- l4: I30 (v26 + 1) F41 A42
        · refine ⟨by omega, ?_, y0⟩
          have hm := (i2.2.2.2.seed q4).of (F' := F41) (A' := A42) (fun f hf => by
            by_cases w : f = 3160
            · rw [w, q3, upF_s]
            · rw [upF_f w]; exact q6 f o (fun _ => by omega)) (q7 _ (by omega)) (q7 _ (by omega)) (q7 _ (by omega))
          refine i2.act2 (by rw [es]; exact q1) y9 (by rw [es]; exact q2) q5 (fun f hf => q6 f o (fun _ => by omega)) ?_
          rw [es]
          exact hm
        · dsimp only; omega
    · -- case ¬ (((A (o + 28) 0) + a1) ≤ 9999)
      refine ⟨_, sX9_refuses h hR (by decide), ?_⟩ -- call wpX9_refuses o 3 F A P47
      intro z49 F50 A51 p47
      -- l5: Q z49 F50 A51
      rw [if_neg (by omega)]; exact p47

