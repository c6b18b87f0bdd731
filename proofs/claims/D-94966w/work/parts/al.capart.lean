set_option maxRecDepth 100000
set_option linter.unusedVariables false
/-! apart, against: the component; printed by gen/prove.py out of spec/al.capart.spec -/
theorem sX0_lambda_apart_0 {a1 : Int} {a2 : Int} {N : jSh} {F : jFl} {A : jAr} {wA : Int → Int} {W : sTb} {b b' : Nat} {R R' : sRow} (h1 : a1 = (b : Int)) (h2 : a2 = (b' : Int)) (hr : rowIs N F A wA b R) (hk : sRok (W 0 0 0) R) (hr' : rowIs N F A wA b' R') (hk' : sRok (W 0 0 0) R') (hw : wds N F W wA) : wqX0_lambda_apart_0 a1 a2 N F A (fun z => z = (if 1 < R.1 ∧ 1 < R'.1 ∧ R.2.2 0 = R'.2.2 0 ∧ R.2.2 1 = R'.2.2 1 then 1 else 0)) := by
  unfold wqX0_lambda_apart_0
  refine ⟨_, by exact h1, ?_⟩ -- d1: a1 = (b1 : Int)
  refine ⟨by exact hr.1.1, ?_⟩ -- s1: jtg N b1 = 4
  refine ⟨_, sX3_beginsLike h2 hr hk hr' hk' hw, ?_⟩ -- call wqX3_beginsLike b1 a2 N F A P4
  intro z6 p4
  -- l1: Q z6
  exact p4

theorem sX0_lambda_against_1 {a1 : Int} {a2 : Int} {N : jSh} {F : jFl} {A : jAr} {wA : Int → Int} {W : sTb} {b b' : Nat} {R R' : sRow} (h1 : a1 = (b : Int)) (h2 : a2 = (b' : Int)) (hr : rowIs N F A wA b R) (hk : sRok (W 0 0 0) R) (hr' : rowIs N F A wA b' R') (hk' : sRok (W 0 0 0) R') (hw : wds N F W wA) : wqX0_lambda_against_1 a1 a2 N F A (fun z => z = cif (¬ sNevers W R % 2 = sNevers W R' % 2 ∧ sAgs W R R') 1 0) := by
  unfold wqX0_lambda_against_1
  refine ⟨_, by exact h1, ?_⟩ -- d1: a1 = (b1 : Int)
  refine ⟨by exact hr.1.1, ?_⟩ -- s1: jtg N b1 = 4
  refine ⟨_, sX3_isAgainst h2 hr hk hr' hk' hw, ?_⟩ -- call wqX3_isAgainst b1 a2 N F A P4
  intro z6 p4
  -- l1: Q z6
  exact p4

theorem sSo {S : Nat → Nat} {z x1 x2 g : Int} {N : jSh} {F : jFl} {A : jAr} {wA : Int → Int} {W : sTb} {b b' : Nat} {R R' : sRow} (hz : (g = 1 ∧ z = (S 24 : Int)) ∨ (g = 0 ∧ z = (S 25 : Int))) (h1 : x1 = (b : Int)) (h2 : x2 = (b' : Int)) (hr : rowIs N F A wA b R) (hk : sRok (W 0 0 0) R) (hr' : rowIs N F A wA b' R') (hk' : sRok (W 0 0 0) R') (hw : wds N F W wA) : wqSo S z x1 x2 N F A (fun w => w = cif ((g = 0 ∧ sAgt W R R') ∨ (g ≠ 0 ∧ sBgn R R')) 1 0) := by
  rcases hz with ⟨g1, hz⟩ | ⟨g0, hz⟩
  · refine Or.inl ⟨hz, ?_⟩
    have e := sX0_lambda_apart_0 h1 h2 hr hk hr' hk' hw
    unfold wqX0_lambda_apart_0 at e ⊢
    obtain ⟨b1, e1, e2, P, e3, e4⟩ := e
    refine ⟨b1, e1, e2, P, e3, fun w hw => ?_⟩
    dsimp only
    rw [e4 w hw]
    by_cases q : sBgn R R'
    · rw [if_pos (show 1 < R.1 ∧ 1 < R'.1 ∧ R.2.2 0 = R'.2.2 0 ∧ R.2.2 1 = R'.2.2 1 from q), cif_pos (Or.inr ⟨by omega, q⟩)]
    · rw [if_neg (show ¬ (1 < R.1 ∧ 1 < R'.1 ∧ R.2.2 0 = R'.2.2 0 ∧ R.2.2 1 = R'.2.2 1) from q), cif_neg (fun x => by rcases x with ⟨x, -⟩ | ⟨-, x⟩; omega; exact q x)]
  · refine Or.inr ⟨hz, ?_⟩
    have e := sX0_lambda_against_1 h1 h2 hr hk hr' hk' hw
    unfold wqX0_lambda_against_1 at e ⊢
    obtain ⟨b1, e1, e2, P, e3, e4⟩ := e
    refine ⟨b1, e1, e2, P, e3, fun w hw => ?_⟩
    rw [e4 w hw]
    by_cases q : sAgt W R R'
    · rw [cif_pos (show ¬ sNevers W R % 2 = sNevers W R' % 2 ∧ sAgs W R R' from q), cif_pos (Or.inl ⟨g0, q⟩)]
    · rw [cif_neg (show ¬ (¬ sNevers W R % 2 = sNevers W R' % 2 ∧ sAgs W R R') from q), cif_neg (fun x => by rcases x with ⟨-, x⟩ | ⟨x, -⟩; exact q x; omega)]
set_option maxHeartbeats 1000000 in
theorem sX0_twos {S : Nat → Nat} {o : Nat} {a1 : Int} {a2 : Int} {N : jSh} {F : jFl} {A : jAr} {W L : sTb} {g : Int} {t : Nat} {wA sA cA lA : Int → Int} (hx : ctx N F A o t W L wA sA cA lA) (hz : (g = 1 ∧ a2 = (S 24 : Int)) ∨ (g = 0 ∧ a2 = (S 25 : Int))) : wqX0_twos S o a1 a2 N F A (fun z => z = rPair W L a1 g) := by
  unfold wqX0_twos
  have w3 := hx.oW.2.2.2.1
  refine ⟨fun (v1 : Int) (v2 : Int) => (0 ≤ v2 ∧ v2 ≤ W 3 0 0) ∧ (0 ≤ v1 ∧ v1 ≤ 12 * v2) ∧ it (sPrR (rPrP W L g) a1 (W 3 0 0)) (0, -1) v2.toNat = (v1, -1), fun v1 v2 => (W 3 0 0 - v2).toNat, ?_, ?_⟩ -- loop I4 I4 0 0
  ·
    -- l1: I4 0 0
    exact ⟨by omega, by omega, rfl⟩
  intro v1 v2 i4
  obtain ⟨i1, i2, i3⟩ := i4
  refine ⟨_, by exact hx.ft, ?_⟩ -- d6: F 311 o = (b6 : Int)
  refine ⟨by exact hx.tt, ?_⟩ -- s1: jtg N b6 = 2
  refine ⟨_, by exact hx.nL, ?_⟩ -- d9: jfn N 626 b6 = (b9 : Int)
  refine ⟨by exact hx.lL.1.1, ?_⟩ -- s2: jtg N b9 = 20
  refine ⟨_, sJ2_size hx.lL, ?_⟩ -- call wqJ2_size b9 N F A P12
  intro z14 p12
  refine ⟨fun hc => ?_, fun hc => ?_⟩ -- c1
  · -- case (z14 ≤ v2)
    -- l2: Q (-1)
    show (-1 : Int) = (it (sPrR (rPrP W L g) a1 (W 3 0 0)) (0, -1) (W 3 0 0).toNat).2
    have ev : v2 = W 3 0 0 := by omega
    rw [ev] at i3
    rw [i3]
  · -- case (¬ (z14 ≤ v2))
    refine ⟨by omega, ?_⟩ -- s3: jR (v2 + 1)
    intro v21 e21
    refine ⟨fun (v22 : Int) (v23 : Int) => (v2 + 1 ≤ v23 ∧ v23 ≤ W 3 0 0) ∧ (v1 ≤ v22 ∧ v22 ≤ v1 + (v23 - v2 - 1)) ∧ it (sPrI (rPrP W L g) a1 v2) (v1, -1) v23.toNat = (v22, -1), fun v22 v23 => (W 3 0 0 - v23).toNat, ?_, ?_⟩ -- loop I25 I25 v1 v21
    ·
      -- l3: I25 v1 v21
      exact ⟨by omega, by omega, by rw [e21]; exact sPrI_skip i1.1⟩
    intro v22 v23 i25
    obtain ⟨j1, j2, j3⟩ := i25
    have st : ∀ v : Int × Int, sPrI (rPrP W L g) a1 v2 v23 (v22, -1) = v → it (sPrI (rPrP W L g) a1 v2) (v1, -1) (v23 + 1).toNat = v := fun v h => by rw [it_succ _ _ (by omega), j3]; exact h
    refine ⟨_, sJ2_size hx.lL, ?_⟩ -- call wqJ2_size b9 N F A P27
    intro z29 p27
    refine ⟨fun hc => ?_, fun hc => ?_⟩ -- c2
    · -- case (z29 ≤ v23)
      refine ⟨by omega, ?_⟩ -- s4: jR (v2 + 1)
      refine ⟨?_, ?_⟩ -- l4: I4 v22 (v2 + 1)
      · refine ⟨by omega, by omega, ?_⟩
        rw [it_succ _ _ i1.1, i3]
        show it (sPrI (rPrP W L g) a1 v2) (v1, -1) (W 3 0 0).toNat = _
        rw [show W 3 0 0 = v23 by omega]
        exact j3
      · dsimp only; omega
    · -- case (¬ (z29 ≤ v23))
      refine ⟨_, sJ2_get hx.lL (by omega), ?_⟩ -- call wqJ2_get b9 v2 N F A P36
      intro z38 p36
      have hv : 0 ≤ v2 ∧ v2 < W 3 0 0 := by omega
      have hv' : 0 ≤ v23 ∧ v23 < W 3 0 0 := by omega
      obtain ⟨b, u1, u2, u3, u4⟩ := hx.lw hv
      obtain ⟨b', y1, y2, y3, y4⟩ := hx.lw hv'
      have skip : ¬ rPrP W L g v2 v23 → it (sPrI (rPrP W L g) a1 v2) (v1, -1) (v23 + 1).toNat = (v22, -1) := fun pp => st _ (by
        show cif _ _ _ = _
        rw [cif_neg (fun w => pp w.2.2)])
      refine ⟨by exact jcst_law (p36.trans u1) u2.1, ?_⟩ -- s5: jcst N "ChildSays$Law" z38
      refine ⟨_, by exact p36.trans u1, ?_⟩ -- d44: z38 = (b44 : Int)
      refine ⟨by exact u2.1, ?_⟩ -- s6: jtg N b44 = 17
      intro v47 e47
      refine ⟨_, sJ2_get hx.lL (by omega), ?_⟩ -- call wqJ2_get b9 v23 N F A P48
      intro z50 p48
      refine ⟨by exact jcst_law (p48.trans y1) y2.1, ?_⟩ -- s7: jcst N "ChildSays$Law" z50
      refine ⟨_, by exact p48.trans y1, ?_⟩ -- d56: z50 = (b56 : Int)
      refine ⟨by exact y2.1, ?_⟩ -- s8: jtg N b56 = 17
      intro v59 e59
      refine ⟨_, by exact e47.trans u2.2.2.2.1, ?_⟩ -- d60: v47 = (b60 : Int)
      refine ⟨by exact u2.2.2.2.2.1, ?_⟩ -- s9: jtg N b60 = 4
      refine ⟨_, sX3_isOne u4, ?_⟩ -- call wqX3_isOne b60 N F A P63
      intro z65 p63
      refine ⟨fun hc => ?_, fun hc => ?_⟩ -- c3
      · -- case (z65 = 0)
        refine ⟨by omega, ?_⟩ -- s10: jR (v23 + 1)
        refine ⟨?_, ?_⟩ -- l5: I25 v22 (v23 + 1)
        · refine ⟨by omega, by omega, skip (fun w => ?_)⟩
          have w0 : 0 < (sRw L v2).1 := w.1
          rw [if_pos w0] at p63
          omega
        · dsimp only; omega
      · -- case (¬ (z65 = 0))
        refine ⟨_, by exact e59.trans y2.2.2.2.1, ?_⟩ -- d72: v59 = (b72 : Int)
        refine ⟨by exact y2.2.2.2.2.1, ?_⟩ -- s11: jtg N b72 = 4
        refine ⟨_, sX3_isOne y4, ?_⟩ -- call wqX3_isOne b72 N F A P75
        intro z77 p75
        refine ⟨fun hc => ?_, fun hc => ?_⟩ -- c4
        · -- case (z77 = 0)
          refine ⟨by omega, ?_⟩ -- s12: jR (v23 + 1)
          refine ⟨?_, ?_⟩ -- l6: I25 v22 (v23 + 1)
          · refine ⟨by omega, by omega, skip (fun w => ?_)⟩
            have w0 : 0 < (sRw L v23).1 := w.2.1
            rw [if_pos w0] at p75
            omega
          · dsimp only; omega
        · -- case (¬ (z77 = 0))
          refine ⟨_, sSo hz (e47.trans u2.2.2.2.1) (e59.trans y2.2.2.2.1) u4 (sRw_ok hx.2.1.2 hv) y4 (sRw_ok hx.2.1.2 hv') hx.wd, ?_⟩ -- call wqSo S a2 v47 v59 N F A P84
          intro z86 p84
          have m1 : 0 < L 2 v2 0 := Classical.byContradiction (fun w => by rw [if_neg (show ¬ 0 < (sRw L v2).1 from w)] at p63; omega)
          have m2 : 0 < L 2 v23 0 := Classical.byContradiction (fun w => by rw [if_neg (show ¬ 0 < (sRw L v23).1 from w)] at p75; omega)
          have ep : rPrP W L g v2 v23 ↔ ((g = 0 ∧ sAgt W (sRw L v2) (sRw L v23)) ∨ (g ≠ 0 ∧ sBgn (sRw L v2) (sRw L v23))) := ⟨fun w => w.2.2, fun w => ⟨m1, m2, w⟩⟩
          refine ⟨fun hc => ?_, fun hc => ?_⟩ -- c5
          · -- case (¬ z86 = 0)
            refine ⟨fun hc => ?_, fun hc => ?_⟩ -- c6
            · -- case (¬ v22 = a1)
              refine ⟨by omega, ?_⟩ -- s13: jR (v22 + 1)
              refine ⟨by omega, ?_⟩ -- s14: jR (v23 + 1)
              refine ⟨?_, ?_⟩ -- l7: I25 (v22 + 1) (v23 + 1)
              · have pp : rPrP W L g v2 v23 := ep.mpr (Classical.byContradiction fun w => by rw [cif_neg w] at p84; omega)
                refine ⟨by omega, by omega, st _ ?_⟩
                show cif _ _ _ = _
                rw [cif_pos ⟨rfl, by omega, pp⟩, if_neg hc]
              · dsimp only; omega
            · -- case (v22 = a1)
              refine ⟨by omega, ?_⟩ -- s15: jR ((100 * v2) + v23)
              -- l8: Q ((100 * v2) + v23)
              have pp : rPrP W L g v2 v23 := ep.mpr (Classical.byContradiction fun w => by rw [cif_neg w] at p84; omega)
              have e : sPrI (rPrP W L g) a1 v2 v23 (v22, -1) = (v22, 100 * v2 + v23) := by
                show cif _ _ _ = _
                rw [cif_pos ⟨rfl, by omega, pp⟩, if_pos (show v22 = a1 by omega)]
              have := sPr_found (p := rPrP W L g) (k := a1) (n := W 3 0 0) (a := v2) (b := v23) (by omega) (by omega) i3 j3 (by rw [e]; dsimp only; omega)
              rw [e] at this
              exact this.symm
          · -- case (z86 = 0)
            refine ⟨by omega, ?_⟩ -- s16: jR (v23 + 1)
            refine ⟨?_, ?_⟩ -- l9: I25 v22 (v23 + 1)
            · refine ⟨by omega, by omega, skip (fun w => ?_)⟩
              rw [cif_pos (ep.mp w)] at p84
              omega
            · dsimp only; omega

theorem sX0_apart {S : Nat → Nat} {o : Nat} {a1 : Int} {N : jSh} {F : jFl} {A : jAr} {W L : sTb} {t : Nat} {wA sA cA lA : Int → Int} (hx : ctx N F A o t W L wA sA cA lA) : wqX0_apart S o a1 N F A (fun z => z = rPair W L a1 1) := by
  unfold wqX0_apart
  refine ⟨_, sX0_twos hx (Or.inl ⟨rfl, rfl⟩), ?_⟩ -- call wqX0_twos S o a1 (S 24 : Int) N F A P1
  intro z3 p1
  -- l1: Q z3
  exact p1

theorem sX0_against {S : Nat → Nat} {o : Nat} {a1 : Int} {N : jSh} {F : jFl} {A : jAr} {W L : sTb} {t : Nat} {wA sA cA lA : Int → Int} (hx : ctx N F A o t W L wA sA cA lA) : wqX0_against S o a1 N F A (fun z => z = rPair W L a1 0) := by
  unfold wqX0_against
  refine ⟨_, sX0_twos hx (Or.inr ⟨rfl, rfl⟩), ?_⟩ -- call wqX0_twos S o a1 (S 25 : Int) N F A P1
  intro z3 p1
  -- l1: Q z3
  exact p1

