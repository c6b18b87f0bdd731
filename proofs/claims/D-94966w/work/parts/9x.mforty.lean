set_option maxRecDepth 100000
set_option linter.unusedVariables false
/-! the model: forty, sorted; printed by gen/prove.py out of spec/9x.mforty.spec -/
theorem sBst_map {g : List Nat → Int} {h : List Nat → List Nat} (ps : List (List Nat)) : ∀ (a : Int) (b : List Nat), (sBst g (ps.map h) (a, h b)).1 = (sBst (fun p => g (h p)) ps (a, b)).1 ∧ (sBst g (ps.map h) (a, h b)).2 = h (sBst (fun p => g (h p)) ps (a, b)).2 := by
  induction ps with
  | nil => intro a b; exact ⟨rfl, rfl⟩
  | cons p ps ih =>
    intro a b
    have e1 : sBst g ((p :: ps).map h) (a, h b) = sBst g (ps.map h) (sUpd g (a, h b) (h p)) := rfl
    have e2 : sBst (fun p => g (h p)) (p :: ps) (a, b) = sBst (fun p => g (h p)) ps (sUpd (fun p => g (h p)) (a, b) p) := rfl
    rw [e1, e2]
    unfold sUpd
    dsimp only
    by_cases w : a < g (h p)
    · rw [if_pos w, if_pos w]; exact ih _ _
    · rw [if_neg w, if_neg w]; exact ih _ _
noncomputable def sFortyS (W L : sTb) (c : Int) : Int × List Nat := sBst (fun q => sWh W L c (sStL L (W 3 0 0).toNat).length (lsF q)) (prA (sStL L (W 3 0 0).toNat) (sStL L (W 3 0 0).toNat).length []) (-1, [])
noncomputable def rForty (W L : sTb) (c k : Int) : Int := if (0 ≤ c ∧ c < W 2 0 0) ∧ 1 ≤ sStand L (W 3 0 0) ∧ sStand L (W 3 0 0) ≤ 6 then (if k = -1 then (sFortyS W L c).1 else if 0 ≤ k ∧ k < sStand L (W 3 0 0) then lsF (sFortyS W L c).2 k else -1) else -1
abbrev stV (S : List Nat) : Nat → Nat := fun i => S.getD i 0
theorem lsF_map {v : Nat → Nat} {p : List Nat} {j : Int} (h0 : 0 ≤ j) (h : j < p.length) : lsF (p.map v) j = (v (p.getD j.toNat 0) : Int) := by
  have : j.toNat < p.length := by omega
  simp [lsF, List.getD_eq_getElem?_getD, List.getElem?_map, List.getElem?_eq_getElem this]
theorem sFortyS_eq {W L : sTb} {c : Int} {S : List Nat} {n : Nat} (hS : sStL L (W 3 0 0).toNat = S) (hn : S.length = n) : (sFortyS W L c).1 = (sBst (fun p => sWh W L c n (lsF (p.map (stV S)))) (prA (List.range n) n []) (-1, [])).1 ∧ (sFortyS W L c).2 = (sBst (fun p => sWh W L c n (lsF (p.map (stV S)))) (prA (List.range n) n []) (-1, [])).2.map (stV S) := by
  unfold sFortyS
  rw [hS, hn]
  have e := prA_vals (xs := S) (by rw [← hS]; exact sStL_nodup _ _)
  rw [hn] at e
  rw [e]
  exact sBst_map (g := fun q => sWh W L c n (lsF q)) (h := List.map (stV S)) (prA (List.range n) n []) (-1) []
theorem sBst_pos {g : List Nat → Int} {ps : List (List Nat)} {p : List Nat} {r : List (List Nat)} (h : ps = p :: r) (hg : ∀ p, 0 ≤ g p) : (sBst g ps (-1, [])).1 ≠ -1 := by
  rw [h]
  have e2 : sBst g (p :: r) (-1, []) = sBst g r (sUpd g (-1, []) p) := rfl
  rw [e2]
  have q := sBst_ge (g := g) r (sUpd g (-1, []) p)
  have : 0 ≤ (sUpd g (-1, []) p).1 := by
    unfold sUpd
    rw [if_pos (by have := hg p; dsimp only; omega)]
    exact hg p
  omega
theorem sStL_mono (L : sTb) {m n : Nat} (h : m ≤ n) : (sStL L m).length ≤ (sStL L n).length := by
  induction n with
  | zero => rw [show m = 0 by omega]; exact Nat.le_refl _
  | succ n ih =>
    by_cases w : m = n + 1
    · rw [w]; exact Nat.le_refl _
    · rw [sStL_succ, List.length_append]
      have := ih (by omega)
      omega
set_option maxHeartbeats 2000000 in
theorem sX9_forty {o : Nat} {a1 : Int} {a2 : Int} {F : jFl} {A : jAr} {W L : sTb} (h : mct o F A 0 W L) : wpX9_forty o a1 a2 F A (fun z F' A' => z = rForty W L a1 a2 ∧ mfr o F A F' A') := by
  unfold wpX9_forty
  have h0 := h
  obtain ⟨⟨hk, hLk⟩, hW, hL, hh, hv⟩ := h
  have w2 := hk.2.2.1
  have w3 := hk.2.2.2.1
  refine ⟨_, sX9_standing h0, ?_⟩ -- call wpX9_standing o 0 F A P1
  intro z3 p1
  refine ⟨_, sX9_isChild hW, ?_⟩ -- call wpX9_isChild o a1 F A P6
  intro z8 p6
  refine ⟨fun hc => ?_, fun hc => ?_⟩ -- c1
  · -- case (z8 = 0)
    -- l1: Q (-1) F A
    exact ⟨by unfold rForty; rw [if_neg (by grind)], mfr.refl _ _ _⟩
  · -- case ¬ (z8 = 0)
    refine ⟨_, sX9_is, ?_⟩ -- call wpX9_is o z3 1 6 F A P12
    intro z14 p12
    refine ⟨fun hc => ?_, fun hc => ?_⟩ -- c2
    · -- case (z14 = 0)
      -- l2: Q (-1) F A
      exact ⟨by unfold rForty; rw [if_neg (by grind)], mfr.refl _ _ _⟩
    · -- case ¬ (z14 = 0)
      have h1 : 0 ≤ a1 ∧ a1 < W 2 0 0 := by grind
      have h2 : 1 ≤ sStand L (W 3 0 0) ∧ sStand L (W 3 0 0) ≤ 6 := by grind
      have hr : rForty W L a1 a2 = (if a2 = -1 then (sFortyS W L a1).1 else if 0 ≤ a2 ∧ a2 < sStand L (W 3 0 0) then lsF (sFortyS W L a1).2 a2 else -1) := if_pos ⟨h1, h2⟩
      have hln := sStL_len L (W 3 0 0).toNat
      rw [show (((W 3 0 0).toNat : Nat) : Int) = W 3 0 0 by omega] at hln
      have hmem : ∀ x, x ∈ sStL L (W 3 0 0).toNat → x < (W 3 0 0).toNat := fun x hx => (sStL_mem.mp hx).1
      have hinc : ∀ i j : Nat, i < j → j < (sStL L (W 3 0 0).toNat).length → (sStL L (W 3 0 0).toNat).getD i 0 < (sStL L (W 3 0 0).toNat).getD j 0 := fun i j a b => sStL_inc a b
      obtain ⟨n, hn⟩ : ∃ n : Nat, (sStL L (W 3 0 0).toNat).length = n := ⟨_, rfl⟩
      have eS := sFortyS_eq (W := W) (L := L) (c := a1) rfl hn
      obtain ⟨ch1, ch2, ch3⟩ := chn6 n (by omega)
      have hs0 := sBst_pos (g := fun p => sWh W L a1 n (lsF (p.map (stV (sStL L (W 3 0 0).toNat))))) ch3 (fun p => (sWh_range (by omega)).1)
      generalize hps : prA (List.range n) n [] = ps at *
      have hok : ∀ p, p ∈ ps → p.length = n ∧ (∀ x, x ∈ p → x < n) ∧ p.Nodup := fun p hp => prmOk_of (List.all_eq_true.mp ch2 p hp)
      generalize hg : (fun p : List Nat => sWh W L a1 n (lsF (p.map (stV (sStL L (W 3 0 0).toNat))))) = g at *
      have hlsm : ∀ p, p ∈ ps → ∀ j : Int, 0 ≤ j → j < n → lsF (p.map (stV (sStL L (W 3 0 0).toNat))) j = (((sStL L (W 3 0 0).toNat).getD (p.getD j.toNat 0) 0 : Nat) : Int) := fun p hp j j0 j1 => lsF_map j0 (by rw [(hok p hp).1]; exact j1)
      have vr : ∀ i, i < n → (sStL L (W 3 0 0).toNat).getD i 0 < (W 3 0 0).toNat := fun i hi => hmem _ (getD_lt (by omega))
      refine ⟨fun hc => ?_, fun hc => ?_⟩ -- c3
      · -- case (a2 = (-1))
        intro F19 e19
        have f22 : F19 3222 o = 0 := by rw [e19, upF_s]
        have m0 : mfr o F A F19 A := ⟨fun f b hb => by rw [e19]; exact if_neg (fun w => by have := hb w.2; omega), fun _ _ => rfl⟩
        refine ⟨fun (v21 : Int) (F22 : jFl) (A23 : jAr) => (0 ≤ v21 ∧ v21 ≤ W 3 0 0) ∧ F22 3222 o = ((sStL L v21.toNat).length : Int) ∧ (∀ i : Nat, i < (sStL L v21.toNat).length → A23 (o + 46) i = (((sStL L v21.toNat).getD i 0 : Nat) : Int)) ∧ mfr o F A F22 A23, fun v21 F22 A23 => (W 3 0 0 - v21).toNat, ?_, ?_⟩ -- loop I25 I25 0 F19 A
        ·
          -- l3: I25 0 F19 A
          exact ⟨by omega, f22, fun i hi => absurd hi (Nat.not_lt_zero _), m0⟩
        intro v21 F22 A23 i25
        obtain ⟨i1, i2, i3, i4⟩ := i25
        obtain ⟨-, hW1, hL1, hh1, -⟩ := h0.fr i4
        rw [hW1.2.1.2.2.2]
        refine ⟨by exact hW1.1, ?_⟩ -- s1: (0 ≤ F22 3039 o ∧ F22 3039 o < 2)
        refine ⟨fun hc => ?_, fun hc => ?_⟩ -- c4
        · -- case ((A23 (o + 17) (F22 3039 o)) ≤ v21)
          have ev : v21 = W 3 0 0 := by omega
          rw [ev] at i2 i3
          rw [hn] at i2 i3
          generalize hSL : sStL L (W 3 0 0).toNat = S at *
          refine ⟨fun (v29 : Int) (v30 : Int) (F31 : jFl) (A32 : jAr) => ∃ done rest : List (List Nat), ps = done ++ rest ∧ F31 3222 o = (n : Int) ∧ mfr o F A F31 A32 ∧ ((v30 = 0 ∧ rest = []) ∨ (v30 = 1 ∧ ∃ p r, rest = p :: r ∧ ∀ i : Nat, i < n → A32 (o + 46) i = ((S.getD (p.getD i 0) 0 : Nat) : Int))) ∧ v29 = (sBst g done (-1, [])).1 ∧ (v29 ≠ -1 → ∀ j : Int, 0 ≤ j → j < n → A32 (o + 47) j = lsF ((sBst g done (-1, [])).2.map (stV S)) j), fun v29 v30 F31 A32 => (v30 * (8916100448256 - valI (A32 (o + 46)) (F31 3222 o).toNat)).toNat, ?_, ?_⟩ -- loop I34 I34 (-1) 1 F22 A23
          ·
            -- l4: I34 (-1) 1 F22 A23
            refine ⟨[], ps, rfl, i2, i4, Or.inr ⟨rfl, _, _, ch3, fun i hi => ?_⟩, rfl, fun q => absurd rfl q⟩
            rw [i3 i hi]
            have := lsF_range (n := n) (j := (i : Int)) (by omega) (by omega)
            have : (List.range n).getD i 0 = i := by
              have h : (((List.range n).getD i 0 : Nat) : Int) = (i : Int) := this
              omega
            rw [this]
          intro v29 v30 F31 A32 i34
          obtain ⟨done, rest, j1, j2, j3, j4, j5, j6⟩ := i34
          have hc1 := h0.fr j3
          refine ⟨fun hc => ?_, fun hc => ?_⟩ -- c5
          · -- case (v30 = 0)
            refine ⟨fun hc => ?_, fun hc => ?_⟩ -- c6
            · -- case (¬ a2 = (-1))
              refine ⟨by omega, ?_⟩ -- s2: (0 ≤ a2 ∧ a2 < 12)
              -- l5: Q (A32 (o + 47) a2) F31 A32
              have er : rest = [] := by
                rcases j4 with q | q
                · exact q.2
                · omega
              rw [er, List.append_nil] at j1
              rw [← j1] at j5 j6
              rw [hr, if_neg (by omega), if_pos (by grind), eS.2]
              exact ⟨j6 (by rw [j5]; exact hs0) a2 (by grind) (by grind), j3⟩
            · -- case ¬ (¬ a2 = (-1))
              -- l6: Q v29 F31 A32
              have er : rest = [] := by
                rcases j4 with q | q
                · exact q.2
                · omega
              rw [er, List.append_nil] at j1
              rw [← j1] at j5 j6
              rw [hr, if_pos (by omega), eS.1]
              exact ⟨j5, j3⟩
          · -- case ¬ (v30 = 0)
            obtain ⟨ev, p, r, er, ep⟩ : v30 = 1 ∧ ∃ p r, rest = p :: r ∧ ∀ i : Nat, i < n → A32 (o + 46) i = ((S.getD (p.getD i 0) 0 : Nat) : Int) := by
              rcases j4 with q | q
              · omega
              · exact q
            rw [er] at j1
            have pin : p ∈ ps := by rw [j1]; exact List.mem_append.mpr (Or.inr List.mem_cons_self)
            have pok := hok p pin
            have pl : ∀ i, i < n → p.getD i 0 < n := fun i hi => pok.2.1 _ (getD_lt (by omega))
            have ls := hlsm p pin
            refine ⟨_, sX9_wholeOf (n := (n : Int)) (seat := lsF (p.map (stV S))) hc1 h1 ⟨j2, by omega⟩ (fun i i0 i1' => by
              rw [ls i i0 i1']
              have a := ep i.toNat (by omega)
              rw [show ((i.toNat : Nat) : Int) = i by omega] at a
              have b := vr _ (pl i.toNat (by omega))
              exact ⟨by omega, a⟩) (fun i j i0 i1' j0 j1' e => by
              rw [ls i i0 i1', ls j j0 j1'] at e
              have e : S.getD (p.getD i.toNat 0) 0 = S.getD (p.getD j.toNat 0) 0 := by omega
              have a := pl i.toNat (by omega)
              have b := pl j.toNat (by omega)
              rcases Nat.lt_trichotomy (p.getD i.toNat 0) (p.getD j.toNat 0) with w | w | w
              · have := hinc _ _ w (by omega); omega
              · have := getD_inj pok.2.2 (by omega) (by omega) w; omega
              · have := hinc _ _ w (by omega); omega), ?_⟩ -- call wpX9_wholeOf o a1 F31 A32 P39
            intro z41 F42 A43 p39
            obtain ⟨y1, y2, y3, y4⟩ := p39
            have eG : g p = z41 := by rw [← hg]; exact y1.symm
            have es : sBst g (done ++ [p]) (-1, []) = (if (sBst g done (-1, [])).1 < z41 then (z41, p) else sBst g done (-1, [])) := by
              rw [sBst_app, sBst_one]
              unfold sUpd
              rw [eG]
            rw [← j5] at es
            have i12 : ps = (done ++ [p]) ++ r := by rw [j1, List.append_assoc]; rfl
            have m1 : mfr o F A F42 A43 := j3.trans ⟨fun f b hb => y3 f b (fun w => by have := hb w; omega), fun b hb => y4 b (by omega)⟩
            have f22' : F42 3222 o = (n : Int) := by rw [y3 _ _ (fun _ => by decide)]; exact j2
            have ch := chn_at (n := n) (a := done) (p := p) (r := r) (by rw [← j1]; exact ch1)
            have nok : ∀ x, x ∈ nxt n p → x < n := fun x hx => by
              cases r with
              | nil => rw [ch.1 rfl] at hx; exact absurd hx (by simp)
              | cons a r' =>
                rw [ch.2 a r' rfl] at hx
                exact (hok a (by rw [j1]; simp)).2.1 x hx
            have nln : nxt n p ≠ [] → (nxt n p).length = n := fun hx => by
              cases r with
              | nil => exact absurd (ch.1 rfl) hx
              | cons a r' =>
                rw [ch.2 a r' rfl]
                exact (hok a (by rw [j1]; simp)).1
            have v12 : ∀ i : Int, 0 ≤ i → i < n → 0 ≤ A32 (o + 46) i ∧ A32 (o + 46) i < 12 := fun i i0 i1' => by
              have a := ep i.toNat (by omega)
              rw [show ((i.toNat : Nat) : Int) = i by omega] at a
              have b := vr _ (pl i.toNat (by omega))
              omega
            refine ⟨fun hc => ?_, fun hc => ?_⟩ -- c7
            · -- case (z41 ≤ v29)
              refine ⟨_, sX9_nextPerm (n := n) (p := p) (v := fun i => ((S.getD i 0 : Nat) : Int)) f22' (by omega) (fun i j hij hj => by have := hinc i j hij (by omega); omega) pok (fun i hi => by rw [y4 _ (by omega)]; exact ep i hi), ?_⟩ -- call wpX9_nextPerm o F42 A43 P48
              intro z50 F51 A52 p48
              obtain ⟨g1, g2, g3⟩ := p48
              subst g1
              refine ⟨?_, ?_⟩ -- l7: I34 v29 z50 F51 A52
              · have es2 : sBst g (done ++ [p]) (-1, []) = sBst g done (-1, []) := by rw [es, if_neg (by omega)]
                refine ⟨done ++ [p], r, i12, f22', m1.trans ⟨fun _ _ _ => rfl, fun b hb => g3 b (by omega)⟩, ?_, by rw [es2]; exact j5, fun q => ?_⟩
                · by_cases w : nxt n p = []
                  · rw [if_pos w] at g2
                    refine Or.inl ⟨g2, ?_⟩
                    cases r with
                    | nil => rfl
                    | cons a r' =>
                      have := ch.2 a r' rfl
                      have hlen := hok a (by rw [j1]; simp)
                      rw [w] at this
                      rw [← this] at hlen
                      have := hlen.1
                      simp at this
                      omega
                  · rw [if_neg w] at g2
                    obtain ⟨g21, g22, -⟩ := g2
                    refine Or.inr ⟨g21, ?_⟩
                    cases r with
                    | nil => exact absurd (ch.1 rfl) w
                    | cons a r' => exact ⟨a, r', rfl, fun i hi => by rw [g22 i hi, ch.2 a r' rfl]⟩
                · rw [es2, g3 _ (by omega), y4 _ (by omega)]
                  exact j6 q
              · exact mPdec j2 f22' ev v12 (fun i i0 i1' => by rw [y4 _ (by omega)]) (v := fun i => ((S.getD i 0 : Nat) : Int)) pok (fun i hi => by have := vr i hi; omega) nok nln g2 (by omega)
            · -- case ¬ (z41 ≤ v29)
              refine ⟨fun (v56 : Int) (A57 : jAr) => (0 ≤ v56 ∧ v56 ≤ (n : Int)) ∧ (∀ j : Int, 0 ≤ j → j < v56 → A57 (o + 47) j = lsF (p.map (stV S)) j) ∧ ∀ b, b ≠ o + 47 → A57 b = A43 b, fun v56 A57 => ((n : Int) - v56).toNat, ?_, ?_⟩ -- loop I59 I59 0 A43
              ·
                -- l8: I59 0 A43
                exact ⟨by omega, fun j j0 j1 => by omega, fun _ _ => rfl⟩
              intro v56 A57 i59
              obtain ⟨u1, u2, u3⟩ := i59
              rw [f22']
              refine ⟨fun hc => ?_, fun hc => ?_⟩ -- c8
              · -- case ((F42 3222 o) ≤ v56)
                refine ⟨_, sX9_nextPerm (n := n) (p := p) (v := fun i => ((S.getD i 0 : Nat) : Int)) f22' (by omega) (fun i j hij hj => by have := hinc i j hij (by omega); omega) pok (fun i hi => by rw [u3 _ (by omega), y4 _ (by omega)]; exact ep i hi), ?_⟩ -- call wpX9_nextPerm o F42 A57 P62
                intro z64 F65 A66 p62
                obtain ⟨g1, g2, g3⟩ := p62
                subst g1
                refine ⟨?_, ?_⟩ -- l9: I34 z41 z64 F65 A66
                · have es2 : sBst g (done ++ [p]) (-1, []) = (z41, p) := by rw [es, if_pos (by omega)]
                  refine ⟨done ++ [p], r, i12, f22', m1.trans ⟨fun _ _ _ => rfl, fun b hb => by rw [g3 b (by omega), u3 b (by omega)]⟩, ?_, by rw [es2], fun q => ?_⟩
                  · by_cases w : nxt n p = []
                    · rw [if_pos w] at g2
                      refine Or.inl ⟨g2, ?_⟩
                      cases r with
                      | nil => rfl
                      | cons a r' =>
                        have := ch.2 a r' rfl
                        have hlen := hok a (by rw [j1]; simp)
                        rw [w] at this
                        rw [← this] at hlen
                        have := hlen.1
                        simp at this
                        omega
                    · rw [if_neg w] at g2
                      obtain ⟨g21, g22, -⟩ := g2
                      refine Or.inr ⟨g21, ?_⟩
                      cases r with
                      | nil => exact absurd (ch.1 rfl) w
                      | cons a r' => exact ⟨a, r', rfl, fun i hi => by rw [g22 i hi, ch.2 a r' rfl]⟩
                  · rw [es2, g3 _ (by omega)]
                    exact fun j j0 j1' => u2 j j0 (by omega)
                · exact mPdec j2 f22' ev v12 (fun i i0 i1' => by rw [u3 _ (by omega), y4 _ (by omega)]) (v := fun i => ((S.getD i 0 : Nat) : Int)) pok (fun i hi => by have := vr i hi; omega) nok nln g2 (by omega)
              · -- case ¬ ((F42 3222 o) ≤ v56)
                refine ⟨by omega, ?_⟩ -- s3: (0 ≤ v56 ∧ v56 < 12)
                refine ⟨by omega, ?_⟩ -- s4: (0 ≤ v56 ∧ v56 < 12)
                intro A72 e72
                refine ⟨by omega, ?_⟩ -- s5: jR (v56 + 1)
                refine ⟨?_, ?_⟩ -- l10: I59 (v56 + 1) A72
                · refine ⟨by omega, fun j j0 j1' => ?_, fun b hb => by rw [e72, upA_o hb]; exact u3 b hb⟩
                  by_cases w : j = v56
                  · rw [w, e72, upA_s, u3 _ (by omega), y4 _ (by omega), ls v56 (by omega) (by omega)]
                    have a := ep v56.toNat (by omega)
                    rw [show ((v56.toNat : Nat) : Int) = v56 by omega] at a
                    exact a
                  · rw [e72, upA_i w]; exact u2 j j0 (by omega)
                · dsimp only; omega
        · -- case ¬ ((A23 (o + 17) (F22 3039 o)) ≤ v21)
          refine ⟨_, sX9_stands (W := W) (L := L) hL1 (by omega) (by omega) hk, ?_⟩ -- call wpX9_stands o 0 v21 F22 A23 P75
          intro z77 p75
          have eL := sStL_succ L v21.toNat
          rw [show v21.toNat + 1 = (v21 + 1).toNat by omega, show ((v21.toNat : Nat) : Int) = v21 by omega] at eL
          have hl6 := sStL_mono L (show (v21 + 1).toNat ≤ (W 3 0 0).toNat by omega)
          refine ⟨fun hc => ?_, fun hc => ?_⟩ -- c9
          · -- case (¬ z77 = 0)
            refine ⟨by have hl7 := sStL_mono L (show v21.toNat ≤ (W 3 0 0).toNat by omega); omega, ?_⟩ -- s6: (0 ≤ F22 3222 o ∧ F22 3222 o < 12)
            intro A82 e82
            refine ⟨by rw [i2]; have hl7 := sStL_mono L (show v21.toNat ≤ (W 3 0 0).toNat by omega); omega, ?_⟩ -- s7: jR ((F22 3222 o) + 1)
            intro F85 e85
            refine ⟨by omega, ?_⟩ -- s8: jR (v21 + 1)
            refine ⟨?_, ?_⟩ -- l11: I25 (v21 + 1) F85 A82
            · have hs : 0 < L 2 v21 0 := by
                by_cases w : 0 < L 2 v21 0
                · exact w
                · rw [if_neg w] at p75; exact absurd p75 (by omega)
              rw [if_pos hs] at eL
              refine ⟨by omega, by rw [e85, upF_s, i2, eL, List.length_append]; simp, fun i hi => ?_, i4.trans ⟨fun f b hb => by rw [e85]; exact if_neg (fun w => by have := hb w.2; omega), fun b hb => by rw [e82, upA_o (by omega)]⟩⟩
              rw [eL] at hi ⊢
              rw [List.length_append] at hi
              simp only [List.length_cons, List.length_nil] at hi
              rw [e82, i2]
              by_cases w : i = (sStL L v21.toNat).length
              · rw [w, upA_s]
                simp [List.getD_eq_getElem?_getD]
                omega
              · rw [upA_i (by omega), i3 i (by omega)]
                have : i < (sStL L v21.toNat).length := by omega
                simp [List.getD_eq_getElem?_getD, List.getElem?_append_left this]
            · dsimp only; omega
          · -- case ¬ (¬ z77 = 0)
            refine ⟨by omega, ?_⟩ -- s9: jR (v21 + 1)
            refine ⟨?_, ?_⟩ -- l12: I25 (v21 + 1) F22 A23
            · have hs : ¬ 0 < L 2 v21 0 := fun w => by rw [if_pos w] at p75; omega
              rw [if_neg hs, List.append_nil] at eL
              rw [← eL] at i2 i3
              exact ⟨by omega, i2, i3, i4⟩
            · dsimp only; omega
      · -- case ¬ (a2 = (-1))
        refine ⟨by omega, ?_⟩ -- s10: jR (z3 - 1)
        refine ⟨_, sX9_is, ?_⟩ -- call wpX9_is o a2 0 (z3 - 1) F A P90
        intro z92 p90
        refine ⟨fun hc => ?_, fun hc => ?_⟩ -- c10
        · -- case (¬ z92 = 0)
          intro F96 e96
          have f22 : F96 3222 o = 0 := by rw [e96, upF_s]
          have m0 : mfr o F A F96 A := ⟨fun f b hb => by rw [e96]; exact if_neg (fun w => by have := hb w.2; omega), fun _ _ => rfl⟩
          refine ⟨fun (v98 : Int) (F99 : jFl) (A100 : jAr) => (0 ≤ v98 ∧ v98 ≤ W 3 0 0) ∧ F99 3222 o = ((sStL L v98.toNat).length : Int) ∧ (∀ i : Nat, i < (sStL L v98.toNat).length → A100 (o + 46) i = (((sStL L v98.toNat).getD i 0 : Nat) : Int)) ∧ mfr o F A F99 A100, fun v98 F99 A100 => (W 3 0 0 - v98).toNat, ?_, ?_⟩ -- loop I102 I102 0 F96 A
          ·
            -- l13: I102 0 F96 A
            exact ⟨by omega, f22, fun i hi => absurd hi (Nat.not_lt_zero _), m0⟩
          intro v98 F99 A100 i102
          obtain ⟨i1, i2, i3, i4⟩ := i102
          obtain ⟨-, hW1, hL1, hh1, -⟩ := h0.fr i4
          rw [hW1.2.1.2.2.2]
          refine ⟨by exact hW1.1, ?_⟩ -- s11: (0 ≤ F99 3039 o ∧ F99 3039 o < 2)
          refine ⟨fun hc => ?_, fun hc => ?_⟩ -- c11
          · -- case ((A100 (o + 17) (F99 3039 o)) ≤ v98)
            have ev : v98 = W 3 0 0 := by omega
            rw [ev] at i2 i3
            rw [hn] at i2 i3
            generalize hSL : sStL L (W 3 0 0).toNat = S at *
            refine ⟨fun (v106 : Int) (v107 : Int) (F108 : jFl) (A109 : jAr) => ∃ done rest : List (List Nat), ps = done ++ rest ∧ F108 3222 o = (n : Int) ∧ mfr o F A F108 A109 ∧ ((v107 = 0 ∧ rest = []) ∨ (v107 = 1 ∧ ∃ p r, rest = p :: r ∧ ∀ i : Nat, i < n → A109 (o + 46) i = ((S.getD (p.getD i 0) 0 : Nat) : Int))) ∧ v106 = (sBst g done (-1, [])).1 ∧ (v106 ≠ -1 → ∀ j : Int, 0 ≤ j → j < n → A109 (o + 47) j = lsF ((sBst g done (-1, [])).2.map (stV S)) j), fun v106 v107 F108 A109 => (v107 * (8916100448256 - valI (A109 (o + 46)) (F108 3222 o).toNat)).toNat, ?_, ?_⟩ -- loop I111 I111 (-1) 1 F99 A100
            ·
              -- l14: I111 (-1) 1 F99 A100
              refine ⟨[], ps, rfl, i2, i4, Or.inr ⟨rfl, _, _, ch3, fun i hi => ?_⟩, rfl, fun q => absurd rfl q⟩
              rw [i3 i hi]
              have := lsF_range (n := n) (j := (i : Int)) (by omega) (by omega)
              have : (List.range n).getD i 0 = i := by
                have h : (((List.range n).getD i 0 : Nat) : Int) = (i : Int) := this
                omega
              rw [this]
            intro v106 v107 F108 A109 i111
            obtain ⟨done, rest, j1, j2, j3, j4, j5, j6⟩ := i111
            have hc1 := h0.fr j3
            refine ⟨fun hc => ?_, fun hc => ?_⟩ -- c12
            · -- case (v107 = 0)
              refine ⟨fun hc => ?_, fun hc => ?_⟩ -- c13
              · -- case (¬ a2 = (-1))
                refine ⟨by omega, ?_⟩ -- s12: (0 ≤ a2 ∧ a2 < 12)
                -- l15: Q (A109 (o + 47) a2) F108 A109
                have er : rest = [] := by
                  rcases j4 with q | q
                  · exact q.2
                  · omega
                rw [er, List.append_nil] at j1
                rw [← j1] at j5 j6
                rw [hr, if_neg (by omega), if_pos (by grind), eS.2]
                exact ⟨j6 (by rw [j5]; exact hs0) a2 (by grind) (by grind), j3⟩
              · -- case ¬ (¬ a2 = (-1))
                -- l16: Q v106 F108 A109
                have er : rest = [] := by
                  rcases j4 with q | q
                  · exact q.2
                  · omega
                rw [er, List.append_nil] at j1
                rw [← j1] at j5 j6
                rw [hr, if_pos (by omega), eS.1]
                exact ⟨j5, j3⟩
            · -- case ¬ (v107 = 0)
              obtain ⟨ev, p, r, er, ep⟩ : v107 = 1 ∧ ∃ p r, rest = p :: r ∧ ∀ i : Nat, i < n → A109 (o + 46) i = ((S.getD (p.getD i 0) 0 : Nat) : Int) := by
                rcases j4 with q | q
                · omega
                · exact q
              rw [er] at j1
              have pin : p ∈ ps := by rw [j1]; exact List.mem_append.mpr (Or.inr List.mem_cons_self)
              have pok := hok p pin
              have pl : ∀ i, i < n → p.getD i 0 < n := fun i hi => pok.2.1 _ (getD_lt (by omega))
              have ls := hlsm p pin
              refine ⟨_, sX9_wholeOf (n := (n : Int)) (seat := lsF (p.map (stV S))) hc1 h1 ⟨j2, by omega⟩ (fun i i0 i1' => by
                rw [ls i i0 i1']
                have a := ep i.toNat (by omega)
                rw [show ((i.toNat : Nat) : Int) = i by omega] at a
                have b := vr _ (pl i.toNat (by omega))
                exact ⟨by omega, a⟩) (fun i j i0 i1' j0 j1' e => by
                rw [ls i i0 i1', ls j j0 j1'] at e
                have e : S.getD (p.getD i.toNat 0) 0 = S.getD (p.getD j.toNat 0) 0 := by omega
                have a := pl i.toNat (by omega)
                have b := pl j.toNat (by omega)
                rcases Nat.lt_trichotomy (p.getD i.toNat 0) (p.getD j.toNat 0) with w | w | w
                · have := hinc _ _ w (by omega); omega
                · have := getD_inj pok.2.2 (by omega) (by omega) w; omega
                · have := hinc _ _ w (by omega); omega), ?_⟩ -- call wpX9_wholeOf o a1 F108 A109 P116
              intro z118 F119 A120 p116
              obtain ⟨y1, y2, y3, y4⟩ := p116
              have eG : g p = z118 := by rw [← hg]; exact y1.symm
              have es : sBst g (done ++ [p]) (-1, []) = (if (sBst g done (-1, [])).1 < z118 then (z118, p) else sBst g done (-1, [])) := by
                rw [sBst_app, sBst_one]
                unfold sUpd
                rw [eG]
              rw [← j5] at es
              have i89 : ps = (done ++ [p]) ++ r := by rw [j1, List.append_assoc]; rfl
              have m1 : mfr o F A F119 A120 := j3.trans ⟨fun f b hb => y3 f b (fun w => by have := hb w; omega), fun b hb => y4 b (by omega)⟩
              have f22' : F119 3222 o = (n : Int) := by rw [y3 _ _ (fun _ => by decide)]; exact j2
              have ch := chn_at (n := n) (a := done) (p := p) (r := r) (by rw [← j1]; exact ch1)
              have nok : ∀ x, x ∈ nxt n p → x < n := fun x hx => by
                cases r with
                | nil => rw [ch.1 rfl] at hx; exact absurd hx (by simp)
                | cons a r' =>
                  rw [ch.2 a r' rfl] at hx
                  exact (hok a (by rw [j1]; simp)).2.1 x hx
              have nln : nxt n p ≠ [] → (nxt n p).length = n := fun hx => by
                cases r with
                | nil => exact absurd (ch.1 rfl) hx
                | cons a r' =>
                  rw [ch.2 a r' rfl]
                  exact (hok a (by rw [j1]; simp)).1
              have v89 : ∀ i : Int, 0 ≤ i → i < n → 0 ≤ A109 (o + 46) i ∧ A109 (o + 46) i < 12 := fun i i0 i1' => by
                have a := ep i.toNat (by omega)
                rw [show ((i.toNat : Nat) : Int) = i by omega] at a
                have b := vr _ (pl i.toNat (by omega))
                omega
              refine ⟨fun hc => ?_, fun hc => ?_⟩ -- c14
              · -- case (z118 ≤ v106)
                refine ⟨_, sX9_nextPerm (n := n) (p := p) (v := fun i => ((S.getD i 0 : Nat) : Int)) f22' (by omega) (fun i j hij hj => by have := hinc i j hij (by omega); omega) pok (fun i hi => by rw [y4 _ (by omega)]; exact ep i hi), ?_⟩ -- call wpX9_nextPerm o F119 A120 P125
                intro z127 F128 A129 p125
                obtain ⟨g1, g2, g3⟩ := p125
                subst g1
                refine ⟨?_, ?_⟩ -- l17: I111 v106 z127 F128 A129
                · have es2 : sBst g (done ++ [p]) (-1, []) = sBst g done (-1, []) := by rw [es, if_neg (by omega)]
                  refine ⟨done ++ [p], r, i89, f22', m1.trans ⟨fun _ _ _ => rfl, fun b hb => g3 b (by omega)⟩, ?_, by rw [es2]; exact j5, fun q => ?_⟩
                  · by_cases w : nxt n p = []
                    · rw [if_pos w] at g2
                      refine Or.inl ⟨g2, ?_⟩
                      cases r with
                      | nil => rfl
                      | cons a r' =>
                        have := ch.2 a r' rfl
                        have hlen := hok a (by rw [j1]; simp)
                        rw [w] at this
                        rw [← this] at hlen
                        have := hlen.1
                        simp at this
                        omega
                    · rw [if_neg w] at g2
                      obtain ⟨g21, g22, -⟩ := g2
                      refine Or.inr ⟨g21, ?_⟩
                      cases r with
                      | nil => exact absurd (ch.1 rfl) w
                      | cons a r' => exact ⟨a, r', rfl, fun i hi => by rw [g22 i hi, ch.2 a r' rfl]⟩
                  · rw [es2, g3 _ (by omega), y4 _ (by omega)]
                    exact j6 q
                · exact mPdec j2 f22' ev v89 (fun i i0 i1' => by rw [y4 _ (by omega)]) (v := fun i => ((S.getD i 0 : Nat) : Int)) pok (fun i hi => by have := vr i hi; omega) nok nln g2 (by omega)
              · -- case ¬ (z118 ≤ v106)
                refine ⟨fun (v133 : Int) (A134 : jAr) => (0 ≤ v133 ∧ v133 ≤ (n : Int)) ∧ (∀ j : Int, 0 ≤ j → j < v133 → A134 (o + 47) j = lsF (p.map (stV S)) j) ∧ ∀ b, b ≠ o + 47 → A134 b = A120 b, fun v133 A134 => ((n : Int) - v133).toNat, ?_, ?_⟩ -- loop I136 I136 0 A120
                ·
                  -- l18: I136 0 A120
                  exact ⟨by omega, fun j j0 j1 => by omega, fun _ _ => rfl⟩
                intro v133 A134 i136
                obtain ⟨u1, u2, u3⟩ := i136
                rw [f22']
                refine ⟨fun hc => ?_, fun hc => ?_⟩ -- c15
                · -- case ((F119 3222 o) ≤ v133)
                  refine ⟨_, sX9_nextPerm (n := n) (p := p) (v := fun i => ((S.getD i 0 : Nat) : Int)) f22' (by omega) (fun i j hij hj => by have := hinc i j hij (by omega); omega) pok (fun i hi => by rw [u3 _ (by omega), y4 _ (by omega)]; exact ep i hi), ?_⟩ -- call wpX9_nextPerm o F119 A134 P139
                  intro z141 F142 A143 p139
                  obtain ⟨g1, g2, g3⟩ := p139
                  subst g1
                  refine ⟨?_, ?_⟩ -- l19: I111 z118 z141 F142 A143
                  · have es2 : sBst g (done ++ [p]) (-1, []) = (z118, p) := by rw [es, if_pos (by omega)]
                    refine ⟨done ++ [p], r, i89, f22', m1.trans ⟨fun _ _ _ => rfl, fun b hb => by rw [g3 b (by omega), u3 b (by omega)]⟩, ?_, by rw [es2], fun q => ?_⟩
                    · by_cases w : nxt n p = []
                      · rw [if_pos w] at g2
                        refine Or.inl ⟨g2, ?_⟩
                        cases r with
                        | nil => rfl
                        | cons a r' =>
                          have := ch.2 a r' rfl
                          have hlen := hok a (by rw [j1]; simp)
                          rw [w] at this
                          rw [← this] at hlen
                          have := hlen.1
                          simp at this
                          omega
                      · rw [if_neg w] at g2
                        obtain ⟨g21, g22, -⟩ := g2
                        refine Or.inr ⟨g21, ?_⟩
                        cases r with
                        | nil => exact absurd (ch.1 rfl) w
                        | cons a r' => exact ⟨a, r', rfl, fun i hi => by rw [g22 i hi, ch.2 a r' rfl]⟩
                    · rw [es2, g3 _ (by omega)]
                      exact fun j j0 j1' => u2 j j0 (by omega)
                  · exact mPdec j2 f22' ev v89 (fun i i0 i1' => by rw [u3 _ (by omega), y4 _ (by omega)]) (v := fun i => ((S.getD i 0 : Nat) : Int)) pok (fun i hi => by have := vr i hi; omega) nok nln g2 (by omega)
                · -- case ¬ ((F119 3222 o) ≤ v133)
                  refine ⟨by omega, ?_⟩ -- s13: (0 ≤ v133 ∧ v133 < 12)
                  refine ⟨by omega, ?_⟩ -- s14: (0 ≤ v133 ∧ v133 < 12)
                  intro A149 e149
                  refine ⟨by omega, ?_⟩ -- s15: jR (v133 + 1)
                  refine ⟨?_, ?_⟩ -- l20: I136 (v133 + 1) A149
                  · refine ⟨by omega, fun j j0 j1' => ?_, fun b hb => by rw [e149, upA_o hb]; exact u3 b hb⟩
                    by_cases w : j = v133
                    · rw [w, e149, upA_s, u3 _ (by omega), y4 _ (by omega), ls v133 (by omega) (by omega)]
                      have a := ep v133.toNat (by omega)
                      rw [show ((v133.toNat : Nat) : Int) = v133 by omega] at a
                      exact a
                    · rw [e149, upA_i w]; exact u2 j j0 (by omega)
                  · dsimp only; omega
          · -- case ¬ ((A100 (o + 17) (F99 3039 o)) ≤ v98)
            refine ⟨_, sX9_stands (W := W) (L := L) hL1 (by omega) (by omega) hk, ?_⟩ -- call wpX9_stands o 0 v98 F99 A100 P152
            intro z154 p152
            have eL := sStL_succ L v98.toNat
            rw [show v98.toNat + 1 = (v98 + 1).toNat by omega, show ((v98.toNat : Nat) : Int) = v98 by omega] at eL
            have hl6 := sStL_mono L (show (v98 + 1).toNat ≤ (W 3 0 0).toNat by omega)
            refine ⟨fun hc => ?_, fun hc => ?_⟩ -- c16
            · -- case (¬ z154 = 0)
              refine ⟨by have hl7 := sStL_mono L (show v98.toNat ≤ (W 3 0 0).toNat by omega); omega, ?_⟩ -- s16: (0 ≤ F99 3222 o ∧ F99 3222 o < 12)
              intro A159 e159
              refine ⟨by rw [i2]; have hl7 := sStL_mono L (show v98.toNat ≤ (W 3 0 0).toNat by omega); omega, ?_⟩ -- s17: jR ((F99 3222 o) + 1)
              intro F162 e162
              refine ⟨by omega, ?_⟩ -- s18: jR (v98 + 1)
              refine ⟨?_, ?_⟩ -- l21: I102 (v98 + 1) F162 A159
              · have hs : 0 < L 2 v98 0 := by
                  by_cases w : 0 < L 2 v98 0
                  · exact w
                  · rw [if_neg w] at p152; exact absurd p152 (by omega)
                rw [if_pos hs] at eL
                refine ⟨by omega, by rw [e162, upF_s, i2, eL, List.length_append]; simp, fun i hi => ?_, i4.trans ⟨fun f b hb => by rw [e162]; exact if_neg (fun w => by have := hb w.2; omega), fun b hb => by rw [e159, upA_o (by omega)]⟩⟩
                rw [eL] at hi ⊢
                rw [List.length_append] at hi
                simp only [List.length_cons, List.length_nil] at hi
                rw [e159, i2]
                by_cases w : i = (sStL L v98.toNat).length
                · rw [w, upA_s]
                  simp [List.getD_eq_getElem?_getD]
                  omega
                · rw [upA_i (by omega), i3 i (by omega)]
                  have : i < (sStL L v98.toNat).length := by omega
                  simp [List.getD_eq_getElem?_getD, List.getElem?_append_left this]
              · dsimp only; omega
            · -- case ¬ (¬ z154 = 0)
              refine ⟨by omega, ?_⟩ -- s19: jR (v98 + 1)
              refine ⟨?_, ?_⟩ -- l22: I102 (v98 + 1) F99 A100
              · have hs : ¬ 0 < L 2 v98 0 := fun w => by rw [if_pos w] at p152; omega
                rw [if_neg hs, List.append_nil] at eL
                rw [← eL] at i2 i3
                exact ⟨by omega, i2, i3, i4⟩
              · dsimp only; omega
        · -- case ¬ (¬ z92 = 0)
          -- l23: Q (-1) F A
          refine ⟨?_, mfr.refl _ _ _⟩
          rw [hr, if_neg (by omega), if_neg (by grind)]

def rSorted (W L : sTb) (c k z : Int) : Prop := if (0 ≤ c ∧ c < W 2 0 0) ∧ sStand L (W 3 0 0) ≠ 0 then ∃ m : Nat, sMdE (sWh W L c (sSeats L (W 3 0 0)).1) (sSeats L (W 3 0 0)).2 (sSeats L (W 3 0 0)).1 m ∧ z = (if k = 20 then (m : Int) else if k = -1 then (sMd (sWh W L c (sSeats L (W 3 0 0)).1) (sSeats L (W 3 0 0)).2 (sSeats L (W 3 0 0)).1 m).2 else if 0 ≤ k ∧ k < (sSeats L (W 3 0 0)).1 then (sMd (sWh W L c (sSeats L (W 3 0 0)).1) (sSeats L (W 3 0 0)).2 (sSeats L (W 3 0 0)).1 m).1 k else -1) else z = -1
theorem rSorted.one {W L : sTb} {c k z z' : Int} (h : rSorted W L c k z) (h' : rSorted W L c k z') : z = z' := by
  unfold rSorted at h h'
  by_cases q : (0 ≤ c ∧ c < W 2 0 0) ∧ sStand L (W 3 0 0) ≠ 0
  · rw [if_pos q] at h h'
    obtain ⟨c, h1, h2⟩ := h
    obtain ⟨c', h1', h2'⟩ := h'
    have e := h1.one h1'
    subst e
    rw [h2, h2']
  · rw [if_neg q] at h h'
    rw [h, h']
set_option maxHeartbeats 2000000 in
theorem sX9_sorted {o : Nat} {a1 : Int} {a2 : Int} {F : jFl} {A : jAr} {W L : sTb} (h : mct o F A 0 W L) (h9 : L 9 0 0 = 0) : wpX9_sorted o a1 a2 F A (fun z F' A' => rSorted W L a1 a2 z ∧ mfr o F A F' A') := by
  unfold wpX9_sorted
  have h0 := h
  obtain ⟨⟨hk, hLk⟩, hW, hL, hh, hv⟩ := h
  have w2 := hk.2.2.1
  have w3 := hk.2.2.2.1
  have card := sSeats_card hk hLk h9
  have ok := sSeats_ok hk hLk (n := W 3 0 0) (by omega)
  have inj := sSeats_inj hLk h9 (n := W 3 0 0) (by omega)
  refine ⟨_, sX9_standing h0, ?_⟩ -- call wpX9_standing o 0 F A P1
  intro z3 p1
  refine ⟨_, sX9_isChild hW, ?_⟩ -- call wpX9_isChild o a1 F A P6
  intro z8 p6
  refine ⟨fun hc => ?_, fun hc => ?_⟩ -- c1
  · -- case (z8 = 0)
    -- l1: Q (-1) F A
    exact ⟨by unfold rSorted; rw [if_neg (by grind)], mfr.refl _ _ _⟩
  · -- case ¬ (z8 = 0)
    refine ⟨fun hc => ?_, fun hc => ?_⟩ -- c2
    · -- case (z3 = 0)
      -- l2: Q (-1) F A
      exact ⟨by unfold rSorted; rw [if_neg (by grind)], mfr.refl _ _ _⟩
    · -- case ¬ (z3 = 0)
      have h1 : 0 ≤ a1 ∧ a1 < W 2 0 0 := by grind
      have h2 : sStand L (W 3 0 0) ≠ 0 := by omega
      have eG : gG W L 1 a1 (sSeats L (W 3 0 0)).1 = sWh W L a1 (sSeats L (W 3 0 0)).1 := by funext P; exact if_neg (by decide)
      refine ⟨fun hc => ?_, fun hc => ?_⟩ -- c3
      · -- case (a2 = (-1))
        refine ⟨_, sX9_seatsOf h0, ?_⟩ -- call wpX9_seatsOf o 0 F A P14
        intro F17 A18 p14
        obtain ⟨⟨q1, q2⟩, q3, q4⟩ := p14
        intro F22 e22
        have f92 : F22 3192 o = (sSeats L (W 3 0 0)).1 := by rw [e22, upF_f (by decide)]; exact q1
        refine ⟨fun (v24 : Int) (A25 : jAr) => (0 ≤ v24 ∧ v24 ≤ (sSeats L (W 3 0 0)).1) ∧ (∀ i : Int, 0 ≤ i → i < v24 → A25 (o + 46) i = (sSeats L (W 3 0 0)).2 i) ∧ ∀ b, b ≠ o + 46 → A25 b = A18 b, fun v24 A25 => ((sSeats L (W 3 0 0)).1 - v24).toNat, ?_, ?_⟩ -- loop I27 I27 0 A18
        ·
          -- l3: I27 0 A18
          exact ⟨by omega, fun i i0 i1 => by omega, fun _ _ => rfl⟩
        intro v24 A25 i27
        obtain ⟨i1, i2, i3⟩ := i27
        rw [f92]
        refine ⟨fun hc => ?_, fun hc => ?_⟩ -- c4
        · -- case ((F22 3192 o) ≤ v24)
          intro F30 e30
          intro F32 e32
          have m1 : mfr o F A F32 A25 := ⟨fun f b hb => by
            rw [e32, e30, e22]
            have up : ∀ (G : jFl) (g : Nat) y, 3222 ≤ g → g ≤ 3231 → upF G g o y f b = G f b := fun G g y _ _ => if_neg (fun w => by have := hb w.2; omega)
            rw [up _ _ _ (by decide) (by decide), up _ _ _ (by decide) (by decide), up _ _ _ (by decide) (by decide)]
            exact q3 f b (fun w => by have := hb w; omega), fun b hb => by rw [i3 b (by omega), q4 b (by omega)]⟩
          refine ⟨_, sX9_exchanged (a := 1) (k := a1) (n := (sSeats L (W 3 0 0)).1) (P0 := (sSeats L (W 3 0 0)).2) (h0.fr m1) (by unfold gOk; rw [if_neg (by decide)]; exact ⟨h1, by omega, fun j j0 j1 => (ok.2 j j0 j1).1, inj⟩) (by rw [e32, upF_f (by decide), e30, upF_s]) (by rw [e32, upF_s]) (by rw [e32, upF_f (by decide), e30, upF_f (by decide), e22, upF_s]; exact q1) (fun j j0 j1 => i2 j j0 (by omega)), ?_⟩ -- call wpX9_exchanged o F32 A25 P34
          intro z36 F37 A38 p34
          obtain ⟨⟨c, y1, y2, y3, y4⟩, y5⟩ := p34
          rw [eG] at y1 y2 y4
          have eR : ∀ z, z = (if a2 = 20 then (c : Int) else if a2 = -1 then (sMd (sWh W L a1 (sSeats L (W 3 0 0)).1) (sSeats L (W 3 0 0)).2 (sSeats L (W 3 0 0)).1 c).2 else if 0 ≤ a2 ∧ a2 < (sSeats L (W 3 0 0)).1 then (sMd (sWh W L a1 (sSeats L (W 3 0 0)).1) (sSeats L (W 3 0 0)).2 (sSeats L (W 3 0 0)).1 c).1 a2 else -1) → rSorted W L a1 a2 z := fun z q => by
            unfold rSorted
            rw [if_pos ⟨h1, h2⟩]
            exact ⟨c, y1, q⟩
          refine ⟨fun hc => ?_, fun hc => ?_⟩ -- c5
          · -- case (¬ a2 = (-1))
            refine ⟨fun hc => ?_, fun hc => ?_⟩ -- c6
            · -- case (¬ a2 = 20)
              refine ⟨by omega, ?_⟩ -- s1: (0 ≤ a2 ∧ a2 < 12)
              -- l4: Q (A38 (o + 46) a2) F37 A38
              refine ⟨eR _ ?_, m1.trans y5⟩
              omega
            · -- case ¬ (¬ a2 = 20)
              -- l5: Q (F37 3231 o) F37 A38
              refine ⟨eR _ ?_, m1.trans y5⟩
              rw [if_pos (by omega)]; exact y3
          · -- case ¬ (¬ a2 = (-1))
            -- l6: Q z36 F37 A38
            refine ⟨eR _ ?_, m1.trans y5⟩
            rw [if_neg (by omega), if_pos (by omega)]; exact y2
        · -- case ¬ ((F22 3192 o) ≤ v24)
          refine ⟨by omega, ?_⟩ -- s2: (0 ≤ v24 ∧ v24 < 12)
          refine ⟨by omega, ?_⟩ -- s3: (0 ≤ v24 ∧ v24 < 12)
          intro A47 e47
          refine ⟨by omega, ?_⟩ -- s4: jR (v24 + 1)
          refine ⟨?_, ?_⟩ -- l7: I27 (v24 + 1) A47
          · refine ⟨by omega, fun i i0 i1' => ?_, fun b hb => by rw [e47, upA_o hb]; exact i3 b hb⟩
            by_cases w : i = v24
            · rw [w, e47, upA_s, i3 _ (by omega)]
              exact q2 v24 i1.1 (by omega)
            · rw [e47, upA_i w]; exact i2 i i0 (by omega)
          · dsimp only; omega
      · -- case ¬ (a2 = (-1))
        refine ⟨fun hc => ?_, fun hc => ?_⟩ -- c7
        · -- case (a2 = 20)
          refine ⟨_, sX9_seatsOf h0, ?_⟩ -- call wpX9_seatsOf o 0 F A P51
          intro F54 A55 p51
          obtain ⟨⟨q1, q2⟩, q3, q4⟩ := p51
          intro F59 e59
          have f92 : F59 3192 o = (sSeats L (W 3 0 0)).1 := by rw [e59, upF_f (by decide)]; exact q1
          refine ⟨fun (v61 : Int) (A62 : jAr) => (0 ≤ v61 ∧ v61 ≤ (sSeats L (W 3 0 0)).1) ∧ (∀ i : Int, 0 ≤ i → i < v61 → A62 (o + 46) i = (sSeats L (W 3 0 0)).2 i) ∧ ∀ b, b ≠ o + 46 → A62 b = A55 b, fun v61 A62 => ((sSeats L (W 3 0 0)).1 - v61).toNat, ?_, ?_⟩ -- loop I64 I64 0 A55
          ·
            -- l8: I64 0 A55
            exact ⟨by omega, fun i i0 i1 => by omega, fun _ _ => rfl⟩
          intro v61 A62 i64
          obtain ⟨i1, i2, i3⟩ := i64
          rw [f92]
          refine ⟨fun hc => ?_, fun hc => ?_⟩ -- c8
          · -- case ((F59 3192 o) ≤ v61)
            intro F67 e67
            intro F69 e69
            have m1 : mfr o F A F69 A62 := ⟨fun f b hb => by
              rw [e69, e67, e59]
              have up : ∀ (G : jFl) (g : Nat) y, 3222 ≤ g → g ≤ 3231 → upF G g o y f b = G f b := fun G g y _ _ => if_neg (fun w => by have := hb w.2; omega)
              rw [up _ _ _ (by decide) (by decide), up _ _ _ (by decide) (by decide), up _ _ _ (by decide) (by decide)]
              exact q3 f b (fun w => by have := hb w; omega), fun b hb => by rw [i3 b (by omega), q4 b (by omega)]⟩
            refine ⟨_, sX9_exchanged (a := 1) (k := a1) (n := (sSeats L (W 3 0 0)).1) (P0 := (sSeats L (W 3 0 0)).2) (h0.fr m1) (by unfold gOk; rw [if_neg (by decide)]; exact ⟨h1, by omega, fun j j0 j1 => (ok.2 j j0 j1).1, inj⟩) (by rw [e69, upF_f (by decide), e67, upF_s]) (by rw [e69, upF_s]) (by rw [e69, upF_f (by decide), e67, upF_f (by decide), e59, upF_s]; exact q1) (fun j j0 j1 => i2 j j0 (by omega)), ?_⟩ -- call wpX9_exchanged o F69 A62 P71
            intro z73 F74 A75 p71
            obtain ⟨⟨c, y1, y2, y3, y4⟩, y5⟩ := p71
            rw [eG] at y1 y2 y4
            have eR : ∀ z, z = (if a2 = 20 then (c : Int) else if a2 = -1 then (sMd (sWh W L a1 (sSeats L (W 3 0 0)).1) (sSeats L (W 3 0 0)).2 (sSeats L (W 3 0 0)).1 c).2 else if 0 ≤ a2 ∧ a2 < (sSeats L (W 3 0 0)).1 then (sMd (sWh W L a1 (sSeats L (W 3 0 0)).1) (sSeats L (W 3 0 0)).2 (sSeats L (W 3 0 0)).1 c).1 a2 else -1) → rSorted W L a1 a2 z := fun z q => by
              unfold rSorted
              rw [if_pos ⟨h1, h2⟩]
              exact ⟨c, y1, q⟩
            refine ⟨fun hc => ?_, fun hc => ?_⟩ -- c9
            · -- case (¬ a2 = (-1))
              refine ⟨fun hc => ?_, fun hc => ?_⟩ -- c10
              · -- case (¬ a2 = 20)
                refine ⟨by omega, ?_⟩ -- s5: (0 ≤ a2 ∧ a2 < 12)
                -- l9: Q (A75 (o + 46) a2) F74 A75
                refine ⟨eR _ ?_, m1.trans y5⟩
                omega
              · -- case ¬ (¬ a2 = 20)
                -- l10: Q (F74 3231 o) F74 A75
                refine ⟨eR _ ?_, m1.trans y5⟩
                rw [if_pos (by omega)]; exact y3
            · -- case ¬ (¬ a2 = (-1))
              -- l11: Q z73 F74 A75
              refine ⟨eR _ ?_, m1.trans y5⟩
              rw [if_neg (by omega), if_pos (by omega)]; exact y2
          · -- case ¬ ((F59 3192 o) ≤ v61)
            refine ⟨by omega, ?_⟩ -- s6: (0 ≤ v61 ∧ v61 < 12)
            refine ⟨by omega, ?_⟩ -- s7: (0 ≤ v61 ∧ v61 < 12)
            intro A84 e84
            refine ⟨by omega, ?_⟩ -- s8: jR (v61 + 1)
            refine ⟨?_, ?_⟩ -- l12: I64 (v61 + 1) A84
            · refine ⟨by omega, fun i i0 i1' => ?_, fun b hb => by rw [e84, upA_o hb]; exact i3 b hb⟩
              by_cases w : i = v61
              · rw [w, e84, upA_s, i3 _ (by omega)]
                exact q2 v61 i1.1 (by omega)
              · rw [e84, upA_i w]; exact i2 i i0 (by omega)
            · dsimp only; omega
        · -- case ¬ (a2 = 20)
          refine ⟨by omega, ?_⟩ -- s9: jR (z3 - 1)
          refine ⟨_, sX9_is, ?_⟩ -- call wpX9_is o a2 0 (z3 - 1) F A P88
          intro z90 p88
          refine ⟨fun hc => ?_, fun hc => ?_⟩ -- c11
          · -- case (¬ z90 = 0)
            refine ⟨_, sX9_seatsOf h0, ?_⟩ -- call wpX9_seatsOf o 0 F A P94
            intro F97 A98 p94
            obtain ⟨⟨q1, q2⟩, q3, q4⟩ := p94
            intro F102 e102
            have f92 : F102 3192 o = (sSeats L (W 3 0 0)).1 := by rw [e102, upF_f (by decide)]; exact q1
            refine ⟨fun (v104 : Int) (A105 : jAr) => (0 ≤ v104 ∧ v104 ≤ (sSeats L (W 3 0 0)).1) ∧ (∀ i : Int, 0 ≤ i → i < v104 → A105 (o + 46) i = (sSeats L (W 3 0 0)).2 i) ∧ ∀ b, b ≠ o + 46 → A105 b = A98 b, fun v104 A105 => ((sSeats L (W 3 0 0)).1 - v104).toNat, ?_, ?_⟩ -- loop I107 I107 0 A98
            ·
              -- l13: I107 0 A98
              exact ⟨by omega, fun i i0 i1 => by omega, fun _ _ => rfl⟩
            intro v104 A105 i107
            obtain ⟨i1, i2, i3⟩ := i107
            rw [f92]
            refine ⟨fun hc => ?_, fun hc => ?_⟩ -- c12
            · -- case ((F102 3192 o) ≤ v104)
              intro F110 e110
              intro F112 e112
              have m1 : mfr o F A F112 A105 := ⟨fun f b hb => by
                rw [e112, e110, e102]
                have up : ∀ (G : jFl) (g : Nat) y, 3222 ≤ g → g ≤ 3231 → upF G g o y f b = G f b := fun G g y _ _ => if_neg (fun w => by have := hb w.2; omega)
                rw [up _ _ _ (by decide) (by decide), up _ _ _ (by decide) (by decide), up _ _ _ (by decide) (by decide)]
                exact q3 f b (fun w => by have := hb w; omega), fun b hb => by rw [i3 b (by omega), q4 b (by omega)]⟩
              refine ⟨_, sX9_exchanged (a := 1) (k := a1) (n := (sSeats L (W 3 0 0)).1) (P0 := (sSeats L (W 3 0 0)).2) (h0.fr m1) (by unfold gOk; rw [if_neg (by decide)]; exact ⟨h1, by omega, fun j j0 j1 => (ok.2 j j0 j1).1, inj⟩) (by rw [e112, upF_f (by decide), e110, upF_s]) (by rw [e112, upF_s]) (by rw [e112, upF_f (by decide), e110, upF_f (by decide), e102, upF_s]; exact q1) (fun j j0 j1 => i2 j j0 (by omega)), ?_⟩ -- call wpX9_exchanged o F112 A105 P114
              intro z116 F117 A118 p114
              obtain ⟨⟨c, y1, y2, y3, y4⟩, y5⟩ := p114
              rw [eG] at y1 y2 y4
              have eR : ∀ z, z = (if a2 = 20 then (c : Int) else if a2 = -1 then (sMd (sWh W L a1 (sSeats L (W 3 0 0)).1) (sSeats L (W 3 0 0)).2 (sSeats L (W 3 0 0)).1 c).2 else if 0 ≤ a2 ∧ a2 < (sSeats L (W 3 0 0)).1 then (sMd (sWh W L a1 (sSeats L (W 3 0 0)).1) (sSeats L (W 3 0 0)).2 (sSeats L (W 3 0 0)).1 c).1 a2 else -1) → rSorted W L a1 a2 z := fun z q => by
                unfold rSorted
                rw [if_pos ⟨h1, h2⟩]
                exact ⟨c, y1, q⟩
              refine ⟨fun hc => ?_, fun hc => ?_⟩ -- c13
              · -- case (¬ a2 = (-1))
                refine ⟨fun hc => ?_, fun hc => ?_⟩ -- c14
                · -- case (¬ a2 = 20)
                  refine ⟨?_, ?_⟩ -- s10: (0 ≤ a2 ∧ a2 < 12)
                  · have hr : 0 ≤ a2 ∧ a2 < (sSeats L (W 3 0 0)).1 := by grind
                    omega
                  -- l14: Q (A118 (o + 46) a2) F117 A118
                  refine ⟨eR _ ?_, m1.trans y5⟩
                  have hr : 0 ≤ a2 ∧ a2 < (sSeats L (W 3 0 0)).1 := by grind
                  rw [if_neg (by omega), if_neg (by omega), if_pos hr]; exact y4 a2 hr.1 hr.2
                · -- case ¬ (¬ a2 = 20)
                  -- l15: Q (F117 3231 o) F117 A118
                  refine ⟨eR _ ?_, m1.trans y5⟩
                  rw [if_pos (by omega)]; exact y3
              · -- case ¬ (¬ a2 = (-1))
                -- l16: Q z116 F117 A118
                refine ⟨eR _ ?_, m1.trans y5⟩
                rw [if_neg (by omega), if_pos (by omega)]; exact y2
            · -- case ¬ ((F102 3192 o) ≤ v104)
              refine ⟨by omega, ?_⟩ -- s11: (0 ≤ v104 ∧ v104 < 12)
              refine ⟨by omega, ?_⟩ -- s12: (0 ≤ v104 ∧ v104 < 12)
              intro A127 e127
              refine ⟨by omega, ?_⟩ -- s13: jR (v104 + 1)
              refine ⟨?_, ?_⟩ -- l17: I107 (v104 + 1) A127
              · refine ⟨by omega, fun i i0 i1' => ?_, fun b hb => by rw [e127, upA_o hb]; exact i3 b hb⟩
                by_cases w : i = v104
                · rw [w, e127, upA_s, i3 _ (by omega)]
                  exact q2 v104 i1.1 (by omega)
                · rw [e127, upA_i w]; exact i2 i i0 (by omega)
              · dsimp only; omega
          · -- case ¬ (¬ z90 = 0)
            -- l18: Q (-1) F A
            refine ⟨?_, mfr.refl _ _ _⟩
            unfold rSorted
            rw [if_pos ⟨h1, h2⟩]
            obtain ⟨c, hc1⟩ := sMdE_ex (G := sWh W L a1 (sSeats L (W 3 0 0)).1) (P0 := (sSeats L (W 3 0 0)).2) (n := (sSeats L (W 3 0 0)).1) (m := 12) ok.1.1 (fun P => sWh_le12 (by omega))
            exact ⟨c, hc1, by rw [if_neg (by omega), if_neg (by omega), if_neg (by grind)]⟩

