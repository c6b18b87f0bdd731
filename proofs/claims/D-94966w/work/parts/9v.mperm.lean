set_option maxRecDepth 100000
set_option linter.unusedVariables false
/-! the model: orders of what is put; printed by gen/prove.py out of spec/9v.mperm.spec -/
def valI (f : Int → Int) (n : Nat) : Int := it (fun i s => 12 * s + f i) 0 n
theorem valI_lt {f g : Int → Int} {n k : Nat} (hk : k < n) (h1 : ∀ i : Int, 0 ≤ i → i < k → f i = g i) (h2 : f k < g k) (hf : ∀ i : Int, 0 ≤ i → i < n → 0 ≤ f i ∧ f i < 12) (hg : ∀ i : Int, 0 ≤ i → i < n → 0 ≤ g i ∧ g i < 12) : valI f n < valI g n := by
  have eq : ∀ m : Nat, m ≤ k → valI f m = valI g m := fun m => by
    induction m with
    | zero => intro _; rfl
    | succ m ih =>
      intro h
      show 12 * valI f m + f m = 12 * valI g m + g m
      rw [ih (by omega), h1 m (by omega) (by omega)]
  have lt : ∀ m : Nat, k + 1 + m ≤ n → valI f (k + 1 + m) < valI g (k + 1 + m) := fun m => by
    induction m with
    | zero =>
      intro _
      show 12 * valI f k + f k < 12 * valI g k + g k
      rw [eq k (Nat.le_refl _)]
      omega
    | succ m ih =>
      intro h
      have := ih (by omega)
      have a := hf (k + 1 + m : Nat) (by omega) (by omega)
      have b := hg (k + 1 + m : Nat) (by omega) (by omega)
      show 12 * valI f (k + 1 + m) + f (k + 1 + m : Nat) < 12 * valI g (k + 1 + m) + g (k + 1 + m : Nat)
      omega
  have := lt (n - (k + 1)) (by omega)
  rw [show k + 1 + (n - (k + 1)) = n by omega] at this
  exact this
theorem valI_range {f : Int → Int} {n : Nat} (hn : n ≤ 12) (hf : ∀ i : Int, 0 ≤ i → i < n → 0 ≤ f i ∧ f i < 12) : 0 ≤ valI f n ∧ valI f n < 8916100448256 := by
  have : ∀ m : Nat, m ≤ n → 0 ≤ valI f m ∧ valI f m < 12 ^ m := fun m => by
    induction m with
    | zero => intro _; exact ⟨Int.le_refl _, by show (0 : Int) < 12 ^ 0; decide⟩
    | succ m ih =>
      intro h
      have g := ih (by omega)
      have a := hf m (by omega) (by omega)
      show 0 ≤ 12 * valI f m + f m ∧ 12 * valI f m + f m < 12 ^ (m + 1)
      rw [Int.pow_succ]
      omega
  have g := this n (Nat.le_refl _)
  refine ⟨g.1, Int.lt_of_lt_of_le g.2 ?_⟩
  have e : 12 ^ n ≤ 8916100448256 := Nat.le_trans (Nat.pow_le_pow_right (show 0 < 12 by decide) hn) (by decide)
  rw [show (12 : Int) ^ n = ((12 ^ n : Nat) : Int) by rw [Int.natCast_pow]; rfl]
  exact Int.ofNat_le.mpr e
theorem sX9_changes {o : Nat} {a1 : Int} {a2 : Int} {F : jFl} {A : jAr} (h1 : 0 ≤ a1 ∧ a1 < 12) (h2 : 0 ≤ a2 ∧ a2 < 12) : wpX9_changes o a1 a2 F A (fun F' A' => F' = F ∧ A' (o + 46) = sX (A (o + 46)) a1 a2 ∧ ∀ b, b ≠ o + 46 → A' b = A b) := by
  unfold wpX9_changes
  refine ⟨by omega, ?_⟩ -- s1: (0 ≤ a1 ∧ a1 < 12)
  intro v2 e2
  refine ⟨by omega, ?_⟩ -- s2: (0 ≤ a2 ∧ a2 < 12)
  refine ⟨by omega, ?_⟩ -- s3: (0 ≤ a1 ∧ a1 < 12)
  intro A5 e5
  refine ⟨by omega, ?_⟩ -- s4: (0 ≤ a2 ∧ a2 < 12)
  intro A8 e8
  -- l1: Q F A8
  refine ⟨rfl, ?_, fun b hb => by rw [e8, upA_o hb, e5, upA_o hb]⟩
  funext i
  unfold sX
  rw [e8]
  by_cases w : i = a2
  · rw [w, upA_s, upI_s, e2]
  · rw [upA_i w, upI_n w, e5]
    by_cases w2 : i = a1
    · rw [w2, upA_s, upI_s]
    · rw [upA_i w2, upI_n w2]

set_option maxHeartbeats 1000000 in
theorem sX9_nextPerm {o : Nat} {F : jFl} {A : jAr} {n : Nat} {p : List Nat} {v : Nat → Int} (hn : F 3222 o = (n : Int)) (hn2 : 1 ≤ n ∧ n ≤ 12) (hv : ∀ i j : Nat, i < j → j < n → v i < v j) (hp : p.length = n ∧ (∀ x, x ∈ p → x < n) ∧ p.Nodup) (hA : ∀ i : Nat, i < n → A (o + 46) i = v (p.getD i 0)) : wpX9_nextPerm o F A (fun z F' A' => F' = F ∧ (if nxt n p = [] then z = 0 else z = 1 ∧ (∀ i : Nat, i < n → A' (o + 46) i = v ((nxt n p).getD i 0)) ∧ ∃ k : Nat, k < n ∧ (∀ i : Int, 0 ≤ i → i < k → A (o + 46) i = A' (o + 46) i) ∧ A (o + 46) k < A' (o + 46) k) ∧ ∀ b, b ≠ o + 46 → A' b = A b) := by
  unfold wpX9_nextPerm
  have pl : ∀ i, i < n → p.getD i 0 < n := fun i hi => hp.2.1 _ (getD_lt (by omega))
  have pi : ∀ i j, i < n → j < n → p.getD i 0 = p.getD j 0 → i = j := fun i j hi hj e => getD_inj hp.2.2 (by omega) (by omega) e
  have hle : ∀ i j : Nat, i < n → j < n → (A (o + 46) i ≤ A (o + 46) j ↔ p.getD i 0 ≤ p.getD j 0) := fun i j hi hj => by
    rw [hA i hi, hA j hj]
    rcases Nat.lt_trichotomy (p.getD i 0) (p.getD j 0) with w | w | w
    · have := hv _ _ w (pl j hj)
      omega
    · rw [w]; omega
    · have := hv _ _ w (pl i hi)
      omega
  have hlt : ∀ i j : Nat, i < n → j < n → p.getD i 0 < p.getD j 0 → A (o + 46) i < A (o + 46) j := fun i j hi hj w => by
    rw [hA i hi, hA j hj]
    exact hv _ _ w (pl j hj)
  refine ⟨by omega, ?_⟩ -- s1: jR ((F 3222 o) - 2)
  intro v2 e2
  refine ⟨fun (v3 : Int) => (-1 ≤ v3 ∧ v3 ≤ (n : Int) - 2) ∧ ∀ i : Nat, v3 < i → i + 1 < n → p.getD (i + 1) 0 ≤ p.getD i 0, fun v3 => (v3 + 1).toNat, ?_, ?_⟩ -- loop I4 I4 v2
  ·
    -- l1: I4 v2
    exact ⟨by omega, fun i i0 i1 => by omega⟩
  intro v3 i4
  obtain ⟨i1, i2⟩ := i4
  refine ⟨v3 < 0 ∨ p.getD v3.toNat 0 ≤ p.getD (v3.toNat + 1) 0, ?_, ?_⟩ -- join K7
  · intro k7
    have hk0 : 0 ≤ v3 → v3 = ((v3.toNat : Nat) : Int) ∧ v3.toNat + 1 < n := fun q => by omega
    refine ⟨fun hc => ?_, fun hc => ?_⟩ -- c1
    · -- case (0 ≤ v3)
      refine ⟨by omega, ?_⟩ -- s2: jR ((F 3222 o) - 1)
      intro v12 e12
      obtain ⟨k, hk⟩ : ∃ k : Nat, v3 = (k : Int) := ⟨v3.toNat, by omega⟩
      subst hk
      have hkn : k + 1 < n := by omega
      have hkk : p.getD k 0 < p.getD (k + 1) 0 := by
        rcases k7 with q | q
        · omega
        · have q : p.getD k 0 ≤ p.getD (k + 1) 0 := q
          have : p.getD k 0 ≠ p.getD (k + 1) 0 := fun e => by have := pi k (k + 1) (by omega) hkn e; omega
          omega
      refine ⟨fun (v13 : Int) => ((k : Int) < v13 ∧ v13 ≤ (n : Int) - 1) ∧ ∀ i : Nat, v13 < i → i < n → p.getD i 0 ≤ p.getD k 0, fun v13 => v13.toNat, ?_, ?_⟩ -- loop I14 I14 v12
      ·
        -- l2: I14 v12
        exact ⟨by omega, fun i i0 i1 => by omega⟩
      intro v13 i14
      obtain ⟨j1, j2⟩ := i14
      obtain ⟨j, hj⟩ : ∃ j : Nat, v13 = (j : Int) := ⟨v13.toNat, by omega⟩
      subst hj
      have hjn : j < n := by omega
      refine ⟨by omega, ?_⟩ -- s3: (0 ≤ v13 ∧ v13 < 12)
      refine ⟨by omega, ?_⟩ -- s4: (0 ≤ v3 ∧ v3 < 12)
      refine ⟨fun hc => ?_, fun hc => ?_⟩ -- c2
      · -- case ((A (o + 46) v3) ≤ (A (o + 46) v13))
        have hkj : p.getD k 0 < p.getD j 0 := by
          have q := (hle k j (by omega) hjn).mp hc
          have : p.getD k 0 ≠ p.getD j 0 := fun e => by have := pi k j (by omega) hjn e; omega
          omega
        obtain ⟨nx1, nx2⟩ := nxt_s hkn hkk (fun i a b => i2 i (by omega) b) hjn hkj (fun i a b => j2 i (by omega) b)
        refine ⟨_, sX9_changes (by omega) (by omega), ?_⟩ -- call wpX9_changes o v3 v13 F A P19
        intro F22 A23 p19
        obtain ⟨q1, q2, q3⟩ := p19
        subst q1
        have qv : ∀ i : Nat, i < n → A23 (o + 46) i = (if i = k then A (o + 46) j else if i = j then A (o + 46) k else A (o + 46) i) := fun i hi => by
          rw [q2]
          unfold sX
          by_cases w : i = j
          · rw [w, upI_s, if_neg (by omega), if_pos rfl]
          · rw [upI_n (by omega)]
            by_cases w2 : i = k
            · rw [w2, upI_s, if_pos rfl]
            · rw [upI_n (by omega), if_neg w2, if_neg w]
        refine ⟨by omega, ?_⟩ -- s5: jR (v3 + 1)
        intro v28 e28
        refine ⟨by omega, ?_⟩ -- s6: jR ((F22 3222 o) - 1)
        intro v30 e30
        refine ⟨fun (v31 : Int) (v32 : Int) (F33 : jFl) (A34 : jAr) => F33 = F22 ∧ (∀ b, b ≠ o + 46 → A34 b = A b) ∧ (v31 + v32 = (k : Int) + n ∧ (k : Int) + 1 ≤ v31 ∧ v31 ≤ v32 + 1) ∧ (∀ i : Nat, i ≤ k → A34 (o + 46) i = A23 (o + 46) i) ∧ (∀ i : Nat, k < i → i < n → ((i : Int) < v31 ∨ v32 < i) → A34 (o + 46) i = A23 (o + 46) ((k + n - i : Nat) : Int)) ∧ ∀ i : Nat, v31 ≤ i → (i : Int) ≤ v32 → A34 (o + 46) i = A23 (o + 46) i, fun v31 v32 F33 A34 => v32.toNat, ?_, ?_⟩ -- loop I36 I36 v28 v30 F22 A23
        ·
          -- l3: I36 v28 v30 F22 A23
          exact ⟨rfl, q3, by omega, fun _ _ => rfl, fun i a b c => by omega, fun _ _ _ => rfl⟩
        intro v31 v32 F33 A34 i36
        obtain ⟨r1, r2, ⟨r3, r4, r5⟩, r6, r7, r8⟩ := i36
        subst r1
        refine ⟨fun hc => ?_, fun hc => ?_⟩ -- c3
        · -- case (v32 ≤ v31)
          -- l4: Q 1 F33 A34
          dsimp only
          rw [if_neg nx1]
          have mid : ∀ i : Nat, k < i → i < n → A34 (o + 46) i = A23 (o + 46) ((k + n - i : Nat) : Int) := fun i a b => by
            by_cases w : (i : Int) < v31 ∨ v32 < i
            · exact r7 i a b w
            · rw [r8 i (by omega) (by omega), show k + n - i = i by omega]
          refine ⟨rfl, ⟨rfl, fun i hi => ?_, k, by omega, fun i i0 i1 => ?_, ?_⟩, r2⟩
          · rw [nx2 i hi]
            by_cases w : i < k
            · rw [if_pos w, r6 i (by omega), qv i hi, if_neg (by omega), if_neg (by omega), hA i hi]
            · rw [if_neg w]
              by_cases w2 : i = k
              · rw [if_pos w2, r6 i (by omega), qv i hi, if_pos w2, hA j hjn]
              · rw [if_neg w2, mid i (by omega) hi, qv (k + n - i) (by omega), if_neg (by omega), show n + k - i = k + n - i by omega]
                by_cases w3 : k + n - i = j
                · rw [if_pos w3, if_pos w3, hA k (by omega)]
                · rw [if_neg w3, if_neg w3, hA _ (by omega)]
          · obtain ⟨i', rfl⟩ : ∃ i' : Nat, i = (i' : Int) := ⟨i.toNat, by omega⟩
            rw [r6 i' (by omega), qv i' (by omega), if_neg (by omega), if_neg (by omega)]
          · rw [r6 k (by omega), qv k (by omega), if_pos rfl]
            exact hlt k j (by omega) hjn hkj
        · -- case ¬ (v32 ≤ v31)
          refine ⟨_, sX9_changes (by omega) (by omega), ?_⟩ -- call wpX9_changes o v31 v32 F33 A34 P39
          intro F42 A43 p39
          obtain ⟨u1, u2, u3⟩ := p39
          subst u1
          have uv : ∀ i : Nat, A43 (o + 46) i = (if (i : Int) = v32 then A34 (o + 46) v31 else if (i : Int) = v31 then A34 (o + 46) v32 else A34 (o + 46) i) := fun i => by
            rw [u2]
            unfold sX
            by_cases w : (i : Int) = v32
            · rw [if_pos w, w, upI_s]
            · rw [if_neg w, upI_n w]
              by_cases w2 : (i : Int) = v31
              · rw [if_pos w2, w2, upI_s]
              · rw [if_neg w2, upI_n w2]
          refine ⟨by omega, ?_⟩ -- s7: jR (v31 + 1)
          refine ⟨by omega, ?_⟩ -- s8: jR (v32 + (-1))
          refine ⟨?_, ?_⟩ -- l5: I36 (v31 + 1) (v32 + (-1)) F42 A43
          · refine ⟨rfl, fun b hb => by rw [u3 b hb]; exact r2 b hb, by omega, fun i hi => ?_, fun i a b c => ?_, fun i a b => ?_⟩
            · rw [uv, if_neg (by omega), if_neg (by omega)]; exact r6 i hi
            · rw [uv]
              by_cases w : (i : Int) = v32
              · rw [if_pos w]
                have := r8 v31.toNat (by omega) (by omega)
                rw [show ((v31.toNat : Nat) : Int) = v31 by omega] at this
                rw [this, show ((k + n - i : Nat) : Int) = v31 by omega]
              · rw [if_neg w]
                by_cases w2 : (i : Int) = v31
                · rw [if_pos w2]
                  have := r8 v32.toNat (by omega) (by omega)
                  rw [show ((v32.toNat : Nat) : Int) = v32 by omega] at this
                  rw [this, show ((k + n - i : Nat) : Int) = v32 by omega]
                · rw [if_neg w2]; exact r7 i a b (by omega)
            · rw [uv, if_neg (by omega), if_neg (by omega)]; exact r8 i (by omega) (by omega)
          · dsimp only; omega
      · -- case ¬ ((A (o + 46) v3) ≤ (A (o + 46) v13))
        refine ⟨by omega, ?_⟩ -- s9: jR (v13 + (-1))
        refine ⟨?_, ?_⟩ -- l6: I14 (v13 + (-1))
        · refine ⟨⟨?_, by omega⟩, fun i a b => ?_⟩
          · by_cases w : j = k + 1
            · subst w
              exact absurd ((hle k (k + 1) (by omega) hkn).mpr (by omega)) hc
            · omega
          · by_cases w : i = j
            · subst w
              have := (not_congr (hle k i (by omega) b)).mp hc
              omega
            · exact j2 i (by omega) b
        · dsimp only; omega
    · -- case ¬ (0 ≤ v3)
      -- l7: Q 0 F A
      dsimp only
      rw [if_pos (nxt_0 (fun i hi => i2 i (by omega) hi))]
      exact ⟨rfl, rfl, fun _ _ => rfl⟩
  refine ⟨fun hc => ?_, fun hc => ?_⟩ -- c4
  · -- case (v3 < 0)
    -- l8: K7
    exact Or.inl hc
  · -- case ¬ (v3 < 0)
    refine ⟨by omega, ?_⟩ -- s10: (0 ≤ v3 ∧ v3 < 12)
    refine ⟨by omega, ?_⟩ -- s11: (0 ≤ v3 + 1 ∧ v3 + 1 < 12)
    have hk5 : v3.toNat + 1 < n := by omega
    have ev3 : v3 = ((v3.toNat : Nat) : Int) := by omega
    have hle5 := hle v3.toNat (v3.toNat + 1) (by omega) hk5
    rw [show ((v3.toNat + 1 : Nat) : Int) = v3 + 1 by omega, ← ev3] at hle5
    refine ⟨fun hc => ?_, fun hc => ?_⟩ -- c5
    · -- case ((A (o + 46) v3) ≤ (A (o + 46) (v3 + 1)))
      -- l9: K7
      exact Or.inr (hle5.mp hc)
    · -- case ¬ ((A (o + 46) v3) ≤ (A (o + 46) (v3 + 1)))
      refine ⟨by omega, ?_⟩ -- s12: jR (v3 + (-1))
      refine ⟨?_, ?_⟩ -- l10: I4 (v3 + (-1))
      · refine ⟨by omega, fun i a b => ?_⟩
        by_cases w : i = v3.toNat
        · rw [w]
          have := (not_congr hle5).mp hc
          omega
        · exact i2 i (by omega) b
      · dsimp only; omega

theorem sX9_firstPerm {o : Nat} {a1 : Int} {F : jFl} {A : jAr} (h1 : 0 ≤ a1 ∧ a1 ≤ 12) : wpX9_firstPerm o a1 F A (fun F' A' => F' = upF F 3222 o a1 ∧ (∀ i : Int, 0 ≤ i → i < a1 → A' (o + 46) i = i) ∧ ∀ b, b ≠ o + 46 → A' b = A b) := by
  unfold wpX9_firstPerm
  intro F1 e1
  refine ⟨fun (v3 : Int) (A4 : jAr) => (0 ≤ v3 ∧ v3 ≤ a1) ∧ (∀ i : Int, 0 ≤ i → i < v3 → A4 (o + 46) i = i) ∧ ∀ b, b ≠ o + 46 → A4 b = A b, fun v3 A4 => (a1 - v3).toNat, ?_, ?_⟩ -- loop I6 I6 0 A
  ·
    -- l1: I6 0 A
    exact ⟨by omega, fun i i0 i1 => by omega, fun _ _ => rfl⟩
  intro v3 A4 i6
  obtain ⟨i1, i2, i3⟩ := i6
  refine ⟨fun hc => ?_, fun hc => ?_⟩ -- c1
  · -- case (a1 ≤ v3)
    -- l2: Q F1 A4
    exact ⟨e1, fun i i0 i1' => i2 i i0 (by omega), i3⟩
  · -- case ¬ (a1 ≤ v3)
    refine ⟨by omega, ?_⟩ -- s1: (0 ≤ v3 ∧ v3 < 12)
    intro A10 e10
    refine ⟨by omega, ?_⟩ -- s2: jR (v3 + 1)
    refine ⟨?_, ?_⟩ -- l3: I6 (v3 + 1) A10
    · refine ⟨by omega, fun i i0 i1' => ?_, fun b hb => by rw [e10, upA_o hb]; exact i3 b hb⟩
      by_cases w : i = v3
      · rw [w, e10, upA_s]
      · rw [e10, upA_i w]; exact i2 i i0 (by omega)
    · dsimp only; omega

theorem sX9_wholeBy {o : Nat} {a1 : Int} {F : jFl} {A : jAr} {W L : sTb} {P : Int → Int} (h : mct o F A 0 W L) (h1 : 0 ≤ a1 ∧ a1 < W 3 0 0) (hn : F 3222 o = (sRw L a1).1) (hP : ∀ j : Int, 0 ≤ j → j < (sRw L a1).1 → A (o + 46) j = P j ∧ 0 ≤ P j ∧ P j < (sRw L a1).1) : wpX9_wholeBy o a1 F A (fun z F' A' => z = sGd W L a1 P ∧ (0 ≤ z ∧ z ≤ 10) ∧ (∀ f b, (b = o → f < 3165 ∨ 3183 < f) → F' f b = F f b) ∧ ∀ b, b ≠ o + 36 → b ≠ o + 37 → A' b = A b) := by
  unfold wpX9_wholeBy
  have h0 := h
  obtain ⟨⟨hk, hLk⟩, hW, hL, hh, hv⟩ := h
  have w2 := hk.2.2.1
  have w3 := hk.2.2.2.1
  have hRk := sRw_ok hLk h1
  have e1 : (sRw L a1).1 = L 2 a1 0 := rfl
  have e2 : (sRw L a1).2.1 = L 3 a1 0 := rfl
  have m8 := hRk.1
  have m4 := hRk.2.1
  have hL2 := (hL.2.2 a1 h1.1 h1.2).2.2.2
  refine ⟨_, sX9_loads hL hk hLk (by omega) h1, ?_⟩ -- call wpX9_loads o 0 a1 F A P1
  intro F4 A5 p1
  obtain ⟨⟨q1, q2, q3⟩, q4, q5, q6⟩ := p1
  have f22 : F4 3222 o = (sRw L a1).1 := by rw [q4 _ _ (fun _ => by decide)]; exact hn
  refine ⟨fun (v9 : Int) (A10 : jAr) => (0 ≤ v9 ∧ v9 ≤ (sRw L a1).1) ∧ (∀ j : Int, 0 ≤ j → j < v9 → A10 (o + 36) j = (sRw L a1).2.2 (P j)) ∧ (∀ j : Int, v9 ≤ j → j < (sRw L a1).1 + (sRw L a1).2.1 → A10 (o + 36) j = (sRw L a1).2.2 j) ∧ ∀ b, b ≠ o + 36 → A10 b = A b, fun v9 A10 => ((sRw L a1).1 - v9).toNat, ?_, ?_⟩ -- loop I12 I12 0 A5
  ·
    -- l1: I12 0 A5
    exact ⟨by have := hRk.1; omega, fun j j0 j1 => by omega, fun j j0 j1 => q6 j j0 j1, q5⟩
  intro v9 A10 i12
  obtain ⟨i1, i2, i3, i4⟩ := i12
  rw [f22]
  refine ⟨fun hc => ?_, fun hc => ?_⟩ -- c1
  · -- case ((F4 3222 o) ≤ v9)
    have hT : ∀ j : Int, 0 ≤ j → j < (sPtR (sRw L a1) P).1 + (sPtR (sRw L a1) P).2.1 → A10 (o + 36) j = (sPtR (sRw L a1) P).2.2 j := fun j j0 j1 => by
      show _ = (if j < (sRw L a1).1 then (sRw L a1).2.2 (P j) else (sRw L a1).2.2 j)
      by_cases w : j < (sRw L a1).1
      · rw [if_pos w]; exact i2 j j0 (by omega)
      · rw [if_neg w]; exact i3 j (by omega) j1
    have hSk : sRok (W 0 0 0) (sPtR (sRw L a1) P) := by
      refine ⟨hRk.1, hRk.2.1, fun j j0 j1 => ?_⟩
      show 0 ≤ (if j < (sRw L a1).1 then (sRw L a1).2.2 (P j) else (sRw L a1).2.2 j) ∧ (if j < (sRw L a1).1 then (sRw L a1).2.2 (P j) else (sRw L a1).2.2 j) < _
      have m2 := hRk.2.1
      by_cases w : j < (sRw L a1).1
      · rw [if_pos w]
        have := hP j j0 w
        exact hRk.2.2 _ this.2.1 (by omega)
      · rw [if_neg w]; exact hRk.2.2 j j0 j1
    refine ⟨fun (v15 : Int) (v16 : Int) (F17 : jFl) (A18 : jAr) => (0 ≤ v16 ∧ v16 ≤ W 2 0 0) ∧ v15 = it (fun c n => if sKind W c (sPtR (sRw L a1) P) (W 20 c 0 + (if L 4 a1 0 = 0 then 0 else W 6 0 0)) = 0 then n + 1 else n) 0 v16.toNat ∧ (0 ≤ v15 ∧ v15 ≤ v16) ∧ (F17 3165 o = (sRw L a1).1 ∧ F17 3168 o = (sRw L a1).2.1 ∧ F17 3171 o = L 4 a1 0) ∧ (∀ f b, (b = o → f < 3165 ∨ 3183 < f) → F17 f b = F f b) ∧ A18 (o + 36) = A10 (o + 36) ∧ ∀ b, b ≠ o + 36 → b ≠ o + 37 → A18 b = A b, fun v15 v16 F17 A18 => (W 2 0 0 - v16).toNat, ?_, ?_⟩ -- loop I20 I20 0 0 F4 A10
    ·
      -- l2: I20 0 0 F4 A10
      exact ⟨by omega, rfl, by omega, ⟨q1, q2, q3⟩, fun f b hb => q4 f b (fun w => by have := hb w; omega), rfl, fun b hb _ => i4 b hb⟩
    intro v15 v16 F17 A18 i20
    obtain ⟨j1, j2, j3, ⟨j4, j5, j6⟩, j7, j8, j9⟩ := i20
    have hm : mfr o F A F17 A18 := ⟨fun f b hb => j7 f b (fun w => by have := hb w; omega), fun b hb => j9 b (by omega) (by omega)⟩
    obtain ⟨-, hW1, hL1, hh1, -⟩ := h0.fr hm
    rw [hW1.2.1.2.2.1]
    refine ⟨by exact hW1.1, ?_⟩ -- s1: (0 ≤ F17 3039 o ∧ F17 3039 o < 2)
    refine ⟨fun hc => ?_, fun hc => ?_⟩ -- c2
    · -- case ((A18 (o + 12) (F17 3039 o)) ≤ v16)
      -- l3: Q v15 F17 A18
      exact ⟨by rw [j2, show v16 = W 2 0 0 by omega]; rfl, by omega, j7, j9⟩
    · -- case ¬ ((A18 (o + 12) (F17 3039 o)) ≤ v16)
      refine ⟨_, sX9_utters (R := sPtR (sRw L a1) P) (left := W 20 v16 0 + (if L 4 a1 0 = 0 then 0 else W 6 0 0)) hW1 hk (by omega) hSk j4 j5 (by rw [j8]; exact hT) (Or.inl hh1) (by rw [if_pos hh1, j6]), ?_⟩ -- call wpX9_utters o v16 F17 A18 P24
      intro F27 A28 p24
      obtain ⟨⟨y1, y2, y3⟩, y4, y5, y6⟩ := p24
      intro z33 e33
      have ez : z33 = (if sKind W v16 (sPtR (sRw L a1) P) (W 20 v16 0 + (if L 4 a1 0 = 0 then 0 else W 6 0 0)) = 0 then 1 else 0) := by rw [e33, y3]; by_cases w : sKind W v16 (sPtR (sRw L a1) P) (W 20 v16 0 + (if L 4 a1 0 = 0 then 0 else W 6 0 0)) = 0 <;> simp [w]
      refine ⟨by (rw [ez]; split <;> omega), ?_⟩ -- s2: jR (v15 + z33)
      intro v36 e36
      refine ⟨by omega, ?_⟩ -- s3: jR (v16 + 1)
      refine ⟨?_, ?_⟩ -- l4: I20 v36 (v16 + 1) F27 A28
      · refine ⟨by omega, ?_, by rw [e36, ez]; split <;> omega, ⟨by rw [y4 _ _ (fun _ => by decide)]; exact j4, by rw [y4 _ _ (fun _ => by decide)]; exact j5, by rw [y4 _ _ (fun _ => by decide)]; exact j6⟩, fun f b hb => by rw [y4 f b (fun w => by have := hb w; omega)]; exact j7 f b hb, by rw [y5 _ (by omega)]; exact j8, fun b hb1 hb2 => by rw [y5 b hb2]; exact j9 b hb1 hb2⟩
        rw [it_succ _ _ j1.1, ← j2, e36, ez]
        by_cases w : sKind W v16 (sPtR (sRw L a1) P) (W 20 v16 0 + (if L 4 a1 0 = 0 then 0 else W 6 0 0)) = 0 <;> simp [w]
      · dsimp only; omega
  · -- case ¬ ((F4 3222 o) ≤ v9)
    refine ⟨by omega, ?_⟩ -- s4: (0 ≤ v9 ∧ v9 < 12)
    have pj := hP v9 i1.1 (by omega)
    have e46 : A10 (o + 46) v9 = P v9 := by rw [i4 _ (by omega)]; exact pj.1
    have m8 := hRk.1
    refine ⟨by rw [e46]; omega, ?_⟩ -- s5: (0 ≤ (12 * a1) + (A10 (o + 46) v9) ∧ (12 * a1) + (A10 (o + 46) v9) < 3168)
    refine ⟨by omega, ?_⟩ -- s6: (0 ≤ v9 ∧ v9 < 12)
    intro A41 e41
    refine ⟨by omega, ?_⟩ -- s7: jR (v9 + 1)
    refine ⟨?_, ?_⟩ -- l5: I12 (v9 + 1) A41
    · refine ⟨by omega, fun j j0 j1 => ?_, fun j j0 j1 => by rw [e41, upA_i (by omega)]; exact i3 j (by omega) j1, fun b hb => by rw [e41, upA_o hb]; exact i4 b hb⟩
      by_cases w : j = v9
      · rw [w, e41, upA_s, e46, i4 _ (by omega)]
        have := hL2 (P v9) pj.2.1 (by have := hRk.2.1; omega)
        rw [show 12 * (12 * 0 + a1) + P v9 = 12 * a1 + P v9 by omega] at this
        exact this
      · rw [e41, upA_i w]; exact i2 j j0 (by omega)
    · dsimp only; omega

/-- the measure of a loop over orders -/
theorem mPdec {o n : Nat} {p : List Nat} {v : Nat → Int} {F F' : jFl} {A A1 A2 : jAr} {v20 z : Int} (f1 : F 3222 o = (n : Int)) (f2 : F' 3222 o = (n : Int)) (ev : v20 = 1) (v12 : ∀ i : Int, 0 ≤ i → i < n → 0 ≤ A (o + 46) i ∧ A (o + 46) i < 12) (eA : ∀ i : Int, 0 ≤ i → i < n → A1 (o + 46) i = A (o + 46) i) (pok : p.length = n ∧ (∀ x, x ∈ p → x < n) ∧ p.Nodup) (vok : ∀ i : Nat, i < n → 0 ≤ v i ∧ v i < 12) (nok : ∀ x, x ∈ nxt n p → x < n) (nln : nxt n p ≠ [] → (nxt n p).length = n) (g2 : if nxt n p = [] then z = 0 else z = 1 ∧ (∀ i : Nat, i < n → A2 (o + 46) i = v ((nxt n p).getD i 0)) ∧ ∃ k : Nat, k < n ∧ (∀ i : Int, 0 ≤ i → i < k → A1 (o + 46) i = A2 (o + 46) i) ∧ A1 (o + 46) k < A2 (o + 46) k) (hn : n ≤ 12) : (z * (8916100448256 - valI (A2 (o + 46)) (F' 3222 o).toNat)).toNat < (v20 * (8916100448256 - valI (A (o + 46)) (F 3222 o).toNat)).toNat := by
  rw [f1, f2, Int.toNat_natCast, ev, Int.one_mul]
  have r1 := valI_range hn v12
  by_cases w : nxt n p = []
  · rw [if_pos w] at g2
    rw [g2, Int.zero_mul]
    omega
  · rw [if_neg w] at g2
    obtain ⟨e1, e2, k, k1, k2, k3⟩ := g2
    have w12 : ∀ i : Int, 0 ≤ i → i < n → 0 ≤ A2 (o + 46) i ∧ A2 (o + 46) i < 12 := fun i i0 i1 => by
      have a := e2 i.toNat (by omega)
      rw [show ((i.toNat : Nat) : Int) = i by omega] at a
      rw [a]
      exact vok _ (nok _ (getD_lt (by rw [nln w]; omega)))
    have r2 := valI_range hn w12
    have lt := valI_lt k1 (fun i i0 i1 => by rw [← eA i i0 (by omega)]; exact k2 i i0 i1) (by rw [← eA k (by omega) (by omega)]; exact k3) v12 w12
    rw [e1, Int.one_mul]
    omega
theorem lsF_range {n : Nat} {j : Int} (h0 : 0 ≤ j) (h : j < n) : lsF (List.range n) j = j := by
  have : j.toNat < n := by omega
  simp [lsF, List.getD_eq_getElem?_getD, List.getElem?_range this]
  omega
set_option maxHeartbeats 2000000 in
theorem sX9_best {o : Nat} {a1 : Int} {a2 : Int} {F : jFl} {A : jAr} {W L : sTb} (h : mct o F A 0 W L) : wpX9_best o a1 a2 F A (fun z F' A' => z = rBest W L a1 a2 ∧ mfr o F A F' A') := by
  unfold wpX9_best
  have h0 := h
  obtain ⟨⟨hk, hLk⟩, hW, hL, hh, hv⟩ := h
  have w2 := hk.2.2.1
  have w3 := hk.2.2.2.1
  refine ⟨_, sX9_isStanding hW hk hL, ?_⟩ -- call wpX9_isStanding o a1 F A P1
  intro z3 p1
  refine ⟨fun hc => ?_, fun hc => ?_⟩ -- c1
  · -- case (z3 = 0)
    -- l1: Q (-1) F A
    exact ⟨by unfold rBest; rw [if_neg (by grind)], mfr.refl _ _ _⟩
  · -- case ¬ (z3 = 0)
    have h1 : 0 ≤ a1 ∧ a1 < W 3 0 0 ∧ 0 < L 2 a1 0 := by grind
    have hl : 0 ≤ a1 ∧ a1 < W 3 0 0 := by omega
    have g30 : A (o + 30) a1 = L 2 a1 0 := by
      have := (hL.2.2 a1 hl.1 hl.2).1
      rw [show 12 * 0 + a1 = a1 by omega] at this
      exact this
    have hRk := sRw_ok hLk hl
    have eR1 : (sRw L a1).1 = L 2 a1 0 := rfl
    rw [g30]
    refine ⟨by omega, ?_⟩ -- s1: (0 ≤ a1 ∧ a1 < 264)
    refine ⟨fun hc => ?_, fun hc => ?_⟩ -- c2
    · -- case (6 < (A (o + 30) a1))
      -- l2: Q (-1) F A
      exact ⟨by unfold rBest; rw [if_neg (by omega)], mfr.refl _ _ _⟩
    · -- case ¬ (6 < (A (o + 30) a1))
      refine ⟨fun hc => ?_, fun hc => ?_⟩ -- c3
      · -- case (a2 = (-1))
        refine ⟨by omega, ?_⟩ -- s2: (0 ≤ a1 ∧ a1 < 264)
        have h6 : L 2 a1 0 ≤ 6 := by omega
        have hr : rBest W L a1 a2 = (if a2 = -1 then (sBestS W L a1).1 else if 0 ≤ a2 ∧ a2 < L 2 a1 0 then lsF (sBestS W L a1).2 a2 else -1) := if_pos ⟨h1, h6⟩
        obtain ⟨n, hn⟩ : ∃ n : Nat, L 2 a1 0 = (n : Int) := ⟨(L 2 a1 0).toNat, by omega⟩
        obtain ⟨ch1, ch2, ch3⟩ := chn6 n (by omega)
        have eS : sBestS W L a1 = sBst (sGdL W L a1) (prA (List.range n) n []) (-1, []) := by unfold sBestS; rw [hn]; rfl
        have hs0 := sBestS_pos hk h1.2.2 h6
        rw [eS] at hr hs0
        generalize prA (List.range n) n [] = ps at *
        have hok : ∀ p, p ∈ ps → p.length = n ∧ (∀ x, x ∈ p → x < n) ∧ p.Nodup := fun p hp => prmOk_of (List.all_eq_true.mp ch2 p hp)
        refine ⟨_, sX9_firstPerm (by omega), ?_⟩ -- call wpX9_firstPerm o (A (o + 30) a1) F A P11
        intro F14 A15 p11
        obtain ⟨q1, q2, q3⟩ := p11
        refine ⟨fun (v19 : Int) (v20 : Int) (F21 : jFl) (A22 : jAr) => ∃ done rest : List (List Nat), ps = done ++ rest ∧ F21 3222 o = (n : Int) ∧ mfr o F A F21 A22 ∧ ((v20 = 0 ∧ rest = []) ∨ (v20 = 1 ∧ ∃ p r, rest = p :: r ∧ ∀ i : Nat, i < n → A22 (o + 46) i = ((p.getD i 0 : Nat) : Int))) ∧ v19 = (sBst (sGdL W L a1) done (-1, [])).1 ∧ (v19 ≠ -1 → ∀ j : Int, 0 ≤ j → j < n → A22 (o + 47) j = lsF (sBst (sGdL W L a1) done (-1, [])).2 j), fun v19 v20 F21 A22 => (v20 * (8916100448256 - valI (A22 (o + 46)) (F21 3222 o).toNat)).toNat, ?_, ?_⟩ -- loop I24 I24 (-1) 1 F14 A15
        ·
          -- l3: I24 (-1) 1 F14 A15
          refine ⟨[], ps, rfl, by rw [q1, upF_s, hn], ⟨fun f b hb => by rw [q1]; exact if_neg (fun w => by have := hb w.2; omega), fun b hb => q3 b (by omega)⟩, Or.inr ⟨rfl, _, _, ch3, fun i hi => ?_⟩, rfl, fun q => absurd rfl q⟩
          rw [q2 i (by omega) (by omega)]
          have := lsF_range (n := n) (j := (i : Int)) (by omega) (by omega)
          exact this.symm
        intro v19 v20 F21 A22 i24
        obtain ⟨done, rest, i1, i2, i3, i4, i5, i6⟩ := i24
        have hc1 := h0.fr i3
        refine ⟨fun hc => ?_, fun hc => ?_⟩ -- c4
        · -- case (v20 = 0)
          refine ⟨fun hc => ?_, fun hc => ?_⟩ -- c5
          · -- case (¬ a2 = (-1))
            refine ⟨by omega, ?_⟩ -- s3: (0 ≤ a2 ∧ a2 < 12)
            -- l4: Q (A22 (o + 47) a2) F21 A22
            have er : rest = [] := by
              rcases i4 with q | q
              · exact q.2
              · omega
            rw [er, List.append_nil] at i1
            rw [← i1] at i5 i6
            rw [hr, if_neg (by omega), if_pos (by omega)]
            exact ⟨i6 (by rw [i5]; exact hs0) a2 (by omega) (by omega), i3⟩
          · -- case ¬ (¬ a2 = (-1))
            -- l5: Q v19 F21 A22
            have er : rest = [] := by
              rcases i4 with q | q
              · exact q.2
              · omega
            rw [er, List.append_nil] at i1
            rw [← i1] at i5 i6
            rw [hr, if_pos (by omega)]
            exact ⟨i5, i3⟩
        · -- case ¬ (v20 = 0)
          obtain ⟨ev, p, r, er, ep⟩ : v20 = 1 ∧ ∃ p r, rest = p :: r ∧ ∀ i : Nat, i < n → A22 (o + 46) i = ((p.getD i 0 : Nat) : Int) := by
            rcases i4 with q | q
            · omega
            · exact q
          rw [er] at i1
          have pok := hok p (by rw [i1]; exact List.mem_append.mpr (Or.inr List.mem_cons_self))
          have pl : ∀ j : Int, 0 ≤ j → j < n → 0 ≤ lsF p j ∧ lsF p j < n := fun j j0 j1 => by
            have := pok.2.1 _ (getD_lt (p := p) (i := j.toNat) (by omega))
            show 0 ≤ ((p.getD j.toNat 0 : Nat) : Int) ∧ ((p.getD j.toNat 0 : Nat) : Int) < n
            omega
          have ep2 : ∀ j : Int, 0 ≤ j → j < n → A22 (o + 46) j = lsF p j := fun j j0 j1 => by
            have := ep j.toNat (by omega)
            rw [show ((j.toNat : Nat) : Int) = j by omega] at this
            exact this
          refine ⟨_, sX9_wholeBy (P := lsF p) hc1 hl (by rw [eR1, hn]; exact i2) (fun j j0 j1 => ⟨ep2 j j0 (by omega), by have := pl j j0 (by omega); omega⟩), ?_⟩ -- call wpX9_wholeBy o a1 F21 A22 P29
          intro z31 F32 A33 p29
          obtain ⟨y1, y2, y3, y4⟩ := p29
          have eG : sGdL W L a1 p = z31 := y1.symm
          have es : sBst (sGdL W L a1) (done ++ [p]) (-1, []) = (if (sBst (sGdL W L a1) done (-1, [])).1 < z31 then (z31, p) else sBst (sGdL W L a1) done (-1, [])) := by
            rw [sBst_app, sBst_one]
            unfold sUpd
            rw [eG]
          rw [← i5] at es
          have i12 : ps = (done ++ [p]) ++ r := by rw [i1, List.append_assoc]; rfl
          have m1 : mfr o F A F32 A33 := i3.trans ⟨fun f b hb => y3 f b (fun w => by have := hb w; omega), fun b hb => y4 b (by omega) (by omega)⟩
          have f22 : F32 3222 o = (n : Int) := by rw [y3 _ _ (fun _ => by decide)]; exact i2
          have ch := chn_at (n := n) (a := done) (p := p) (r := r) (by rw [← i1]; exact ch1)
          have nok : ∀ x, x ∈ nxt n p → x < n := fun x hx => by
            cases r with
            | nil => rw [ch.1 rfl] at hx; exact absurd hx (by simp)
            | cons a r' =>
              rw [ch.2 a r' rfl] at hx
              exact (hok a (by rw [i1]; simp)).2.1 x hx
          have nln : nxt n p ≠ [] → (nxt n p).length = n := fun hx => by
            cases r with
            | nil => exact absurd (ch.1 rfl) hx
            | cons a r' =>
              rw [ch.2 a r' rfl]
              exact (hok a (by rw [i1]; simp)).1
          have v12 : ∀ i : Int, 0 ≤ i → i < n → 0 ≤ A22 (o + 46) i ∧ A22 (o + 46) i < 12 := fun i i0 i1 => by rw [ep2 i i0 i1]; have := pl i i0 i1; omega
          refine ⟨fun hc => ?_, fun hc => ?_⟩ -- c6
          · -- case (z31 ≤ v19)
            refine ⟨_, sX9_nextPerm (n := n) (p := p) (v := fun i => (i : Int)) f22 (by omega) (fun i j hij _ => by omega) pok (fun i hi => by rw [y4 _ (by omega) (by omega)]; exact ep i hi), ?_⟩ -- call wpX9_nextPerm o F32 A33 P38
            intro z40 F41 A42 p38
            obtain ⟨g1, g2, g3⟩ := p38
            subst g1
            refine ⟨?_, ?_⟩ -- l6: I24 v19 z40 F41 A42
            · have es2 : sBst (sGdL W L a1) (done ++ [p]) (-1, []) = sBst (sGdL W L a1) done (-1, []) := by rw [es, if_neg (by omega)]
              refine ⟨done ++ [p], r, i12, f22, m1.trans ⟨fun _ _ _ => rfl, fun b hb => g3 b (by omega)⟩, ?_, by rw [es2]; exact i5, fun q => ?_⟩
              · by_cases w : nxt n p = []
                · rw [if_pos w] at g2
                  refine Or.inl ⟨g2, ?_⟩
                  cases r with
                  | nil => rfl
                  | cons a r' =>
                    have := ch.2 a r' rfl
                    have hlen := hok a (by rw [i1]; simp)
                    rw [w] at this
                    rw [← this] at hlen
                    have := hlen.1
                    simp at this
                    omega
                · rw [if_neg w] at g2
                  obtain ⟨g21, g22, -⟩ := g2
                  refine Or.inr ⟨g21, ?_⟩
                  cases r with
                  | nil => exact absurd (ch.1 rfl) w
                  | cons a r' => exact ⟨a, r', rfl, fun i hi => by rw [g22 i hi, ch.2 a r' rfl]⟩
              · rw [es2, g3 _ (by omega), y4 _ (by omega) (by omega)]
                exact i6 q
            · exact mPdec i2 f22 ev v12 (fun i i0 i1' => by rw [y4 _ (by omega) (by omega)]) (v := fun i => (i : Int)) pok (fun i hi => by omega) nok nln g2 (by omega)
          · -- case ¬ (z31 ≤ v19)
            refine ⟨fun (v46 : Int) (A47 : jAr) => (0 ≤ v46 ∧ v46 ≤ (n : Int)) ∧ (∀ j : Int, 0 ≤ j → j < v46 → A47 (o + 47) j = lsF p j) ∧ ∀ b, b ≠ o + 47 → A47 b = A33 b, fun v46 A47 => ((n : Int) - v46).toNat, ?_, ?_⟩ -- loop I49 I49 0 A33
            ·
              -- l7: I49 0 A33
              exact ⟨by omega, fun j j0 j1 => by omega, fun _ _ => rfl⟩
            intro v46 A47 i49
            obtain ⟨j1, j2, j3⟩ := i49
            rw [f22]
            refine ⟨fun hc => ?_, fun hc => ?_⟩ -- c7
            · -- case ((F32 3222 o) ≤ v46)
              refine ⟨_, sX9_nextPerm (n := n) (p := p) (v := fun i => (i : Int)) f22 (by omega) (fun i j hij _ => by omega) pok (fun i hi => by rw [j3 _ (by omega), y4 _ (by omega) (by omega)]; exact ep i hi), ?_⟩ -- call wpX9_nextPerm o F32 A47 P52
              intro z54 F55 A56 p52
              obtain ⟨g1, g2, g3⟩ := p52
              subst g1
              refine ⟨?_, ?_⟩ -- l8: I24 z31 z54 F55 A56
              · have es2 : sBst (sGdL W L a1) (done ++ [p]) (-1, []) = (z31, p) := by rw [es, if_pos (by omega)]
                refine ⟨done ++ [p], r, i12, f22, m1.trans ⟨fun _ _ _ => rfl, fun b hb => by rw [g3 b (by omega), j3 b (by omega)]⟩, ?_, by rw [es2], fun q => ?_⟩
                · by_cases w : nxt n p = []
                  · rw [if_pos w] at g2
                    refine Or.inl ⟨g2, ?_⟩
                    cases r with
                    | nil => rfl
                    | cons a r' =>
                      have := ch.2 a r' rfl
                      have hlen := hok a (by rw [i1]; simp)
                      rw [w] at this
                      rw [← this] at hlen
                      have := hlen.1
                      simp at this
                      omega
                  · rw [if_neg w] at g2
                    obtain ⟨g21, g22, -⟩ := g2
                    refine Or.inr ⟨g21, ?_⟩
                    cases r with
                    | nil => exact absurd (ch.1 rfl) w
                    | cons a r' => exact ⟨a, r', rfl, fun i hi => by rw [g22 i hi, ch.2 a r' rfl]⟩
                · rw [es2, g3 _ (by omega)]
                  exact fun j j0 j1 => j2 j j0 (by omega)
              · exact mPdec i2 f22 ev v12 (fun i i0 i1' => by rw [j3 _ (by omega), y4 _ (by omega) (by omega)]) (v := fun i => (i : Int)) pok (fun i hi => by omega) nok nln g2 (by omega)
            · -- case ¬ ((F32 3222 o) ≤ v46)
              refine ⟨by omega, ?_⟩ -- s4: (0 ≤ v46 ∧ v46 < 12)
              refine ⟨by omega, ?_⟩ -- s5: (0 ≤ v46 ∧ v46 < 12)
              intro A62 e62
              refine ⟨by omega, ?_⟩ -- s6: jR (v46 + 1)
              refine ⟨?_, ?_⟩ -- l9: I49 (v46 + 1) A62
              · refine ⟨by omega, fun j j0 j1 => ?_, fun b hb => by rw [e62, upA_o hb]; exact j3 b hb⟩
                by_cases w : j = v46
                · rw [w, e62, upA_s, j3 _ (by omega), y4 _ (by omega) (by omega)]
                  exact ep2 v46 (by omega) (by omega)
                · rw [e62, upA_i w]; exact j2 j j0 (by omega)
              · dsimp only; omega
      · -- case ¬ (a2 = (-1))
        refine ⟨by omega, ?_⟩ -- s7: (0 ≤ a1 ∧ a1 < 264)
        refine ⟨by omega, ?_⟩ -- s8: jR ((A (o + 30) a1) - 1)
        refine ⟨_, sX9_is, ?_⟩ -- call wpX9_is o a2 0 ((A (o + 30) a1) - 1) F A P67
        intro z69 p67
        refine ⟨fun hc => ?_, fun hc => ?_⟩ -- c8
        · -- case (¬ z69 = 0)
          refine ⟨by omega, ?_⟩ -- s9: (0 ≤ a1 ∧ a1 < 264)
          have h6 : L 2 a1 0 ≤ 6 := by omega
          have hr : rBest W L a1 a2 = (if a2 = -1 then (sBestS W L a1).1 else if 0 ≤ a2 ∧ a2 < L 2 a1 0 then lsF (sBestS W L a1).2 a2 else -1) := if_pos ⟨h1, h6⟩
          obtain ⟨n, hn⟩ : ∃ n : Nat, L 2 a1 0 = (n : Int) := ⟨(L 2 a1 0).toNat, by omega⟩
          obtain ⟨ch1, ch2, ch3⟩ := chn6 n (by omega)
          have eS : sBestS W L a1 = sBst (sGdL W L a1) (prA (List.range n) n []) (-1, []) := by unfold sBestS; rw [hn]; rfl
          have hs0 := sBestS_pos hk h1.2.2 h6
          rw [eS] at hr hs0
          generalize prA (List.range n) n [] = ps at *
          have hok : ∀ p, p ∈ ps → p.length = n ∧ (∀ x, x ∈ p → x < n) ∧ p.Nodup := fun p hp => prmOk_of (List.all_eq_true.mp ch2 p hp)
          refine ⟨_, sX9_firstPerm (by omega), ?_⟩ -- call wpX9_firstPerm o (A (o + 30) a1) F A P74
          intro F77 A78 p74
          obtain ⟨q1, q2, q3⟩ := p74
          refine ⟨fun (v82 : Int) (v83 : Int) (F84 : jFl) (A85 : jAr) => ∃ done rest : List (List Nat), ps = done ++ rest ∧ F84 3222 o = (n : Int) ∧ mfr o F A F84 A85 ∧ ((v83 = 0 ∧ rest = []) ∨ (v83 = 1 ∧ ∃ p r, rest = p :: r ∧ ∀ i : Nat, i < n → A85 (o + 46) i = ((p.getD i 0 : Nat) : Int))) ∧ v82 = (sBst (sGdL W L a1) done (-1, [])).1 ∧ (v82 ≠ -1 → ∀ j : Int, 0 ≤ j → j < n → A85 (o + 47) j = lsF (sBst (sGdL W L a1) done (-1, [])).2 j), fun v82 v83 F84 A85 => (v83 * (8916100448256 - valI (A85 (o + 46)) (F84 3222 o).toNat)).toNat, ?_, ?_⟩ -- loop I87 I87 (-1) 1 F77 A78
          ·
            -- l10: I87 (-1) 1 F77 A78
            refine ⟨[], ps, rfl, by rw [q1, upF_s, hn], ⟨fun f b hb => by rw [q1]; exact if_neg (fun w => by have := hb w.2; omega), fun b hb => q3 b (by omega)⟩, Or.inr ⟨rfl, _, _, ch3, fun i hi => ?_⟩, rfl, fun q => absurd rfl q⟩
            rw [q2 i (by omega) (by omega)]
            have := lsF_range (n := n) (j := (i : Int)) (by omega) (by omega)
            exact this.symm
          intro v82 v83 F84 A85 i87
          obtain ⟨done, rest, i1, i2, i3, i4, i5, i6⟩ := i87
          have hc1 := h0.fr i3
          refine ⟨fun hc => ?_, fun hc => ?_⟩ -- c9
          · -- case (v83 = 0)
            refine ⟨fun hc => ?_, fun hc => ?_⟩ -- c10
            · -- case (¬ a2 = (-1))
              refine ⟨by omega, ?_⟩ -- s10: (0 ≤ a2 ∧ a2 < 12)
              -- l11: Q (A85 (o + 47) a2) F84 A85
              have er : rest = [] := by
                rcases i4 with q | q
                · exact q.2
                · omega
              rw [er, List.append_nil] at i1
              rw [← i1] at i5 i6
              rw [hr, if_neg (by omega), if_pos (by omega)]
              exact ⟨i6 (by rw [i5]; exact hs0) a2 (by omega) (by omega), i3⟩
            · -- case ¬ (¬ a2 = (-1))
              -- l12: Q v82 F84 A85
              have er : rest = [] := by
                rcases i4 with q | q
                · exact q.2
                · omega
              rw [er, List.append_nil] at i1
              rw [← i1] at i5 i6
              rw [hr, if_pos (by omega)]
              exact ⟨i5, i3⟩
          · -- case ¬ (v83 = 0)
            obtain ⟨ev, p, r, er, ep⟩ : v83 = 1 ∧ ∃ p r, rest = p :: r ∧ ∀ i : Nat, i < n → A85 (o + 46) i = ((p.getD i 0 : Nat) : Int) := by
              rcases i4 with q | q
              · omega
              · exact q
            rw [er] at i1
            have pok := hok p (by rw [i1]; exact List.mem_append.mpr (Or.inr List.mem_cons_self))
            have pl : ∀ j : Int, 0 ≤ j → j < n → 0 ≤ lsF p j ∧ lsF p j < n := fun j j0 j1 => by
              have := pok.2.1 _ (getD_lt (p := p) (i := j.toNat) (by omega))
              show 0 ≤ ((p.getD j.toNat 0 : Nat) : Int) ∧ ((p.getD j.toNat 0 : Nat) : Int) < n
              omega
            have ep2 : ∀ j : Int, 0 ≤ j → j < n → A85 (o + 46) j = lsF p j := fun j j0 j1 => by
              have := ep j.toNat (by omega)
              rw [show ((j.toNat : Nat) : Int) = j by omega] at this
              exact this
            refine ⟨_, sX9_wholeBy (P := lsF p) hc1 hl (by rw [eR1, hn]; exact i2) (fun j j0 j1 => ⟨ep2 j j0 (by omega), by have := pl j j0 (by omega); omega⟩), ?_⟩ -- call wpX9_wholeBy o a1 F84 A85 P92
            intro z94 F95 A96 p92
            obtain ⟨y1, y2, y3, y4⟩ := p92
            have eG : sGdL W L a1 p = z94 := y1.symm
            have es : sBst (sGdL W L a1) (done ++ [p]) (-1, []) = (if (sBst (sGdL W L a1) done (-1, [])).1 < z94 then (z94, p) else sBst (sGdL W L a1) done (-1, [])) := by
              rw [sBst_app, sBst_one]
              unfold sUpd
              rw [eG]
            rw [← i5] at es
            have i75 : ps = (done ++ [p]) ++ r := by rw [i1, List.append_assoc]; rfl
            have m1 : mfr o F A F95 A96 := i3.trans ⟨fun f b hb => y3 f b (fun w => by have := hb w; omega), fun b hb => y4 b (by omega) (by omega)⟩
            have f22 : F95 3222 o = (n : Int) := by rw [y3 _ _ (fun _ => by decide)]; exact i2
            have ch := chn_at (n := n) (a := done) (p := p) (r := r) (by rw [← i1]; exact ch1)
            have nok : ∀ x, x ∈ nxt n p → x < n := fun x hx => by
              cases r with
              | nil => rw [ch.1 rfl] at hx; exact absurd hx (by simp)
              | cons a r' =>
                rw [ch.2 a r' rfl] at hx
                exact (hok a (by rw [i1]; simp)).2.1 x hx
            have nln : nxt n p ≠ [] → (nxt n p).length = n := fun hx => by
              cases r with
              | nil => exact absurd (ch.1 rfl) hx
              | cons a r' =>
                rw [ch.2 a r' rfl]
                exact (hok a (by rw [i1]; simp)).1
            have v75 : ∀ i : Int, 0 ≤ i → i < n → 0 ≤ A85 (o + 46) i ∧ A85 (o + 46) i < 12 := fun i i0 i1 => by rw [ep2 i i0 i1]; have := pl i i0 i1; omega
            refine ⟨fun hc => ?_, fun hc => ?_⟩ -- c11
            · -- case (z94 ≤ v82)
              refine ⟨_, sX9_nextPerm (n := n) (p := p) (v := fun i => (i : Int)) f22 (by omega) (fun i j hij _ => by omega) pok (fun i hi => by rw [y4 _ (by omega) (by omega)]; exact ep i hi), ?_⟩ -- call wpX9_nextPerm o F95 A96 P101
              intro z103 F104 A105 p101
              obtain ⟨g1, g2, g3⟩ := p101
              subst g1
              refine ⟨?_, ?_⟩ -- l13: I87 v82 z103 F104 A105
              · have es2 : sBst (sGdL W L a1) (done ++ [p]) (-1, []) = sBst (sGdL W L a1) done (-1, []) := by rw [es, if_neg (by omega)]
                refine ⟨done ++ [p], r, i75, f22, m1.trans ⟨fun _ _ _ => rfl, fun b hb => g3 b (by omega)⟩, ?_, by rw [es2]; exact i5, fun q => ?_⟩
                · by_cases w : nxt n p = []
                  · rw [if_pos w] at g2
                    refine Or.inl ⟨g2, ?_⟩
                    cases r with
                    | nil => rfl
                    | cons a r' =>
                      have := ch.2 a r' rfl
                      have hlen := hok a (by rw [i1]; simp)
                      rw [w] at this
                      rw [← this] at hlen
                      have := hlen.1
                      simp at this
                      omega
                  · rw [if_neg w] at g2
                    obtain ⟨g21, g22, -⟩ := g2
                    refine Or.inr ⟨g21, ?_⟩
                    cases r with
                    | nil => exact absurd (ch.1 rfl) w
                    | cons a r' => exact ⟨a, r', rfl, fun i hi => by rw [g22 i hi, ch.2 a r' rfl]⟩
                · rw [es2, g3 _ (by omega), y4 _ (by omega) (by omega)]
                  exact i6 q
              · exact mPdec i2 f22 ev v75 (fun i i0 i1' => by rw [y4 _ (by omega) (by omega)]) (v := fun i => (i : Int)) pok (fun i hi => by omega) nok nln g2 (by omega)
            · -- case ¬ (z94 ≤ v82)
              refine ⟨fun (v109 : Int) (A110 : jAr) => (0 ≤ v109 ∧ v109 ≤ (n : Int)) ∧ (∀ j : Int, 0 ≤ j → j < v109 → A110 (o + 47) j = lsF p j) ∧ ∀ b, b ≠ o + 47 → A110 b = A96 b, fun v109 A110 => ((n : Int) - v109).toNat, ?_, ?_⟩ -- loop I112 I112 0 A96
              ·
                -- l14: I112 0 A96
                exact ⟨by omega, fun j j0 j1 => by omega, fun _ _ => rfl⟩
              intro v109 A110 i112
              obtain ⟨j1, j2, j3⟩ := i112
              rw [f22]
              refine ⟨fun hc => ?_, fun hc => ?_⟩ -- c12
              · -- case ((F95 3222 o) ≤ v109)
                refine ⟨_, sX9_nextPerm (n := n) (p := p) (v := fun i => (i : Int)) f22 (by omega) (fun i j hij _ => by omega) pok (fun i hi => by rw [j3 _ (by omega), y4 _ (by omega) (by omega)]; exact ep i hi), ?_⟩ -- call wpX9_nextPerm o F95 A110 P115
                intro z117 F118 A119 p115
                obtain ⟨g1, g2, g3⟩ := p115
                subst g1
                refine ⟨?_, ?_⟩ -- l15: I87 z94 z117 F118 A119
                · have es2 : sBst (sGdL W L a1) (done ++ [p]) (-1, []) = (z94, p) := by rw [es, if_pos (by omega)]
                  refine ⟨done ++ [p], r, i75, f22, m1.trans ⟨fun _ _ _ => rfl, fun b hb => by rw [g3 b (by omega), j3 b (by omega)]⟩, ?_, by rw [es2], fun q => ?_⟩
                  · by_cases w : nxt n p = []
                    · rw [if_pos w] at g2
                      refine Or.inl ⟨g2, ?_⟩
                      cases r with
                      | nil => rfl
                      | cons a r' =>
                        have := ch.2 a r' rfl
                        have hlen := hok a (by rw [i1]; simp)
                        rw [w] at this
                        rw [← this] at hlen
                        have := hlen.1
                        simp at this
                        omega
                    · rw [if_neg w] at g2
                      obtain ⟨g21, g22, -⟩ := g2
                      refine Or.inr ⟨g21, ?_⟩
                      cases r with
                      | nil => exact absurd (ch.1 rfl) w
                      | cons a r' => exact ⟨a, r', rfl, fun i hi => by rw [g22 i hi, ch.2 a r' rfl]⟩
                  · rw [es2, g3 _ (by omega)]
                    exact fun j j0 j1 => j2 j j0 (by omega)
                · exact mPdec i2 f22 ev v75 (fun i i0 i1' => by rw [j3 _ (by omega), y4 _ (by omega) (by omega)]) (v := fun i => (i : Int)) pok (fun i hi => by omega) nok nln g2 (by omega)
              · -- case ¬ ((F95 3222 o) ≤ v109)
                refine ⟨by omega, ?_⟩ -- s11: (0 ≤ v109 ∧ v109 < 12)
                refine ⟨by omega, ?_⟩ -- s12: (0 ≤ v109 ∧ v109 < 12)
                intro A125 e125
                refine ⟨by omega, ?_⟩ -- s13: jR (v109 + 1)
                refine ⟨?_, ?_⟩ -- l16: I112 (v109 + 1) A125
                · refine ⟨by omega, fun j j0 j1 => ?_, fun b hb => by rw [e125, upA_o hb]; exact j3 b hb⟩
                  by_cases w : j = v109
                  · rw [w, e125, upA_s, j3 _ (by omega), y4 _ (by omega) (by omega)]
                    exact ep2 v109 (by omega) (by omega)
                  · rw [e125, upA_i w]; exact j2 j j0 (by omega)
                · dsimp only; omega
        · -- case ¬ (¬ z69 = 0)
          -- l17: Q (-1) F A
          refine ⟨?_, mfr.refl _ _ _⟩
          unfold rBest
          rw [if_pos ⟨h1, by omega⟩, if_neg (by omega), if_neg (by grind)]

