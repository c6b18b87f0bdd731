set_option maxRecDepth 100000
set_option linter.unusedVariables false
/-! once on both sides; printed by gen/prove.py out of spec/a1.once.spec -/
def sm (n : Nat) (f : Int → Int) : Int := it (fun i a => a + f i) 0 n
theorem sm_succ {n : Nat} {f : Int → Int} : sm (n + 1) f = sm n f + f n := rfl
theorem sm_congr {f g : Int → Int} : ∀ {n : Nat}, (∀ k : Int, 0 ≤ k → k < n → f k = g k) → sm n f = sm n g
  | 0, _ => rfl
  | n + 1, h => by rw [sm_succ, sm_succ, sm_congr (fun k k0 k1 => h k k0 (by omega)), h n (by omega) (by omega)]
theorem sm_add {f g : Int → Int} : ∀ {n : Nat}, sm n (fun k => f k + g k) = sm n f + sm n g
  | 0 => rfl
  | n + 1 => by rw [sm_succ, sm_succ, sm_succ, sm_add]; omega
theorem sm_0 : ∀ {n : Nat}, sm n (fun _ => 0) = 0
  | 0 => rfl
  | n + 1 => by rw [sm_succ, sm_0]; rfl
theorem sm_swap {h : Int → Int → Int} {m : Nat} : ∀ {n : Nat}, sm n (fun r => sm m (h r)) = sm m (fun w => sm n (fun r => h r w))
  | 0 => sm_0.symm
  | n + 1 => by
    rw [sm_succ, sm_swap, ← sm_add]
    exact sm_congr (fun k k0 k1 => sm_succ.symm)
theorem sm_cat {f : Int → Int} {a : Nat} : ∀ {b : Nat}, sm (a + b) f = sm a f + sm b (fun w => f (a + w))
  | 0 => (Int.add_zero _).symm
  | b + 1 => by
    rw [show a + (b + 1) = (a + b) + 1 from rfl, sm_succ, sm_succ, sm_cat, show ((a + b : Nat) : Int) = (a : Int) + b by omega]
    omega
theorem sm_split {f : Int → Int} {n : Nat} : ∀ {m : Nat}, sm (m * n) f = sm m (fun r => sm n (fun w => f (r * n + w)))
  | 0 => by rw [Nat.zero_mul]; rfl
  | m + 1 => by
    rw [sm_succ, Nat.succ_mul, sm_cat, sm_split]
    rfl
theorem sm_range {f : Int → Int} {b : Int} : ∀ {n : Nat}, (∀ k : Int, 0 ≤ k → k < n → 0 ≤ f k ∧ f k ≤ b) → 0 ≤ sm n f ∧ sm n f ≤ b * n
  | 0, _ => by show (0 : Int) ≤ 0 ∧ (0 : Int) ≤ b * 0; omega
  | n + 1, h => by
    have e := sm_range (n := n) (fun k k0 k1 => h k k0 (by omega))
    have q := h n (by omega) (by omega)
    rw [sm_succ, show ((n + 1 : Nat) : Int) = (n : Int) + 1 by omega, Int.mul_add]
    omega
/-! the digits of a number -/
def dgL (n row : Int) : Nat → Int := it (fun _ x => x / n) row
theorem dgL_succ {n row : Int} {v : Int} (h : 0 ≤ v) : dgL n row (v + 1).toNat = dgL n row v.toNat / n := it_succ _ _ h
theorem dgL_up {n r w : Int} (h : 0 ≤ w ∧ w < n) : ∀ i : Nat, dgL n (r * n + w) (i + 1) = dgL n r i
  | 0 => by
    show (r * n + w) / n = r
    rw [Int.add_comm, Int.add_mul_ediv_right _ _ (by omega), Int.ediv_eq_zero_of_lt h.1 h.2]; omega
  | i + 1 => by
    show dgL n (r * n + w) (i + 1) / n = dgL n r i / n
    rw [dgL_up h i]
def dput (n : Int) (t : Int → Int) (k : Int) (j : Nat) (row : Int) : Int → Int := fun i => if k ≤ i ∧ i < k + j then dgL n row (i - k).toNat % n else t i
theorem dput_up {n r w k : Int} {t : Int → Int} {j : Nat} (h : 0 ≤ w ∧ w < n) : dput n t k (j + 1) (r * n + w) = dput n (upI t k w) (k + 1) j r := by
  funext i
  unfold dput
  by_cases a : k ≤ i ∧ i < k + (j + 1 : Nat)
  · rw [if_pos a]
    by_cases b : i = k
    · rw [if_neg (by omega), b, show (k - k).toNat = 0 by omega]
      show (r * n + w) % n = upI t k w k
      rw [Int.add_comm, Int.add_mul_emod_self_right, Int.emod_eq_of_lt h.1 h.2]
      unfold upI; rw [if_pos rfl]
    · rw [if_pos (by omega), show (i - k).toNat = (i - (k + 1)).toNat + 1 by omega, dgL_up h]
  · rw [if_neg a, if_neg (by omega)]
    unfold upI; rw [if_neg (by omega)]
noncomputable def sS (g : (Int → Int) → Int) (n : Int) (t : Int → Int) (k : Int) (j : Nat) : Int := sm (n.toNat ^ j) (fun row => g (dput n t k j row))
theorem sS_zero {g : (Int → Int) → Int} {n : Int} {t : Int → Int} {k : Int} : sS g n t k 0 = g t := by
  show (0 : Int) + g (dput n t k 0 0) = g t
  rw [show dput n t k 0 0 = t from funext fun i => if_neg (by omega)]
  omega
theorem sS_succ {g : (Int → Int) → Int} {n : Int} {t : Int → Int} {k : Int} {j : Nat} : sS g n t k (j + 1) = sm n.toNat (fun w => sS g n (upI t k w) (k + 1) j) := by
  unfold sS
  rw [Nat.pow_succ, sm_split, sm_swap]
  refine sm_congr (fun w w0 w1 => sm_congr (fun r r0 r1 => ?_))
  rw [show ((n.toNat : Nat) : Int) = n by omega, dput_up (by omega)]
theorem sS_none {g : (Int → Int) → Int} {n : Int} {k0 : Int} {v : Int} (h : ∀ t : Int → Int, t k0 = v → g t = 0) {t : Int → Int} {k : Int} {j : Nat} (hk : k0 < k) (ht : t k0 = v) : sS g n t k j = 0 := by
  unfold sS
  refine (sm_congr (fun r _ _ => h _ ?_)).trans sm_0
  unfold dput
  rw [if_neg (by omega)]; exact ht
theorem sS_range {g : (Int → Int) → Int} {n : Int} (hg : ∀ t, 0 ≤ g t ∧ g t ≤ 1) {t : Int → Int} {k : Int} {j : Nat} : 0 ≤ sS g n t k j ∧ sS g n t k j ≤ ((n.toNat ^ j : Nat) : Int) := by
  have e := sm_range (f := fun row => g (dput n t k j row)) (b := 1) (n := n.toNat ^ j) (fun r _ _ => hg _)
  unfold sS
  omega
theorem sS_congr {g : (Int → Int) → Int} {n : Int} {t t' : Int → Int} {k : Int} {j : Nat} (h : ∀ r r' : Int → Int, (∀ i : Int, 0 ≤ i → i < k + j → r i = r' i) → g r = g r') (ht : ∀ i : Int, 0 ≤ i → i < k → t i = t' i) : sS g n t k j = sS g n t' k j := by
  unfold sS
  refine sm_congr (fun r _ _ => h _ _ (fun i i0 i1 => ?_))
  unfold dput
  by_cases a : k ≤ i ∧ i < k + j
  · rw [if_pos a, if_pos a]
  · rw [if_neg a, if_neg a]; exact ht i i0 (by omega)
/-! how many tellings a child would say so -/
def sOn (W L : sTb) (c l p w : Int) (t : Int → Int) : Prop := (∀ k : Int, 0 ≤ k → k < L 2 l 0 → sSaid W c (t k) = L 5 l k) ∧ (p = -1 ∨ t p = w) ∧ sKind W c (L 2 l 0, 0, t) (W 20 c 0) ≠ 3
noncomputable def sOnN (W L : sTb) (c l p w : Int) (t : Int → Int) : Int := cif (sOn W L c l p w t) 1 0
theorem sOnN_01 {W L : sTb} {c l p w : Int} {t : Int → Int} : 0 ≤ sOnN W L c l p w t ∧ sOnN W L c l p w t ≤ 1 := by
  unfold sOnN
  by_cases h : sOn W L c l p w t
  · rw [cif_pos h]; decide
  · rw [cif_neg h]; decide
theorem sOnN_congr {W L : sTb} {c l p w : Int} {t t' : Int → Int} (h0 : 0 ≤ L 2 l 0) (hp : p = -1 ∨ 0 ≤ p ∧ p < L 2 l 0) (h : ∀ i : Int, 0 ≤ i → i < L 2 l 0 → t i = t' i) : sOnN W L c l p w t = sOnN W L c l p w t' := by
  have e := (say_congr (W := W) (c := c) (left := W 20 c 0) (R := (L 2 l 0, 0, t)) (R' := (L 2 l 0, 0, t')) rfl rfl (fun k k0 k1 => h k k0 (by have k1 : k < L 2 l 0 + 0 := k1; omega)) h0 (Int.le_refl 0)).1
  have q : sOn W L c l p w t ↔ sOn W L c l p w t' := by
    unfold sOn
    rw [e]
    constructor
    · rintro ⟨a, b, d⟩
      refine ⟨fun k k0 k1 => by rw [← h k k0 k1]; exact a k k0 k1, ?_, d⟩
      rcases hp with hp | hp
      · exact Or.inl hp
      · rw [← h p hp.1 hp.2]; exact b
    · rintro ⟨a, b, d⟩
      refine ⟨fun k k0 k1 => by rw [h k k0 k1]; exact a k k0 k1, ?_, d⟩
      rcases hp with hp | hp
      · exact Or.inl hp
      · rw [h p hp.1 hp.2]; exact b
  unfold sOnN
  by_cases w : sOn W L c l p w t
  · rw [cif_pos w, cif_pos (q.mp w)]
  · rw [cif_neg w, cif_neg (fun x => w (q.mpr x))]
def rOnceC (W L : sTb) (l c p w : Int) : Prop := ((0 ≤ c ∧ c < W 2 0 0) ∧ (0 ≤ l ∧ l < W 3 0 0 ∧ 0 < L 2 l 0)) ∧ L 2 l 0 ≤ 3 ∧ (p = -1 ∨ ((0 ≤ p ∧ p ≤ L 2 l 0 - 1) ∧ (0 ≤ w ∧ w < W 0 0 0)))
noncomputable def rOnce (W L : sTb) (l c p w : Int) : Int := cif (rOnceC W L l c p w) (sS (sOnN W L c l p w) (W 0 0 0) (fun _ => 0) 0 (L 2 l 0).toNat) (-1)
theorem pw_bound {N : Nat} (h : N ≤ 24) {k : Nat} (hk : k ≤ 3) : N ^ k ≤ 13824 := by
  have h1 : N ^ k ≤ 24 ^ k := Nat.pow_le_pow_left h k
  have h2 : 24 ^ k ≤ 24 ^ 3 := Nat.pow_le_pow_right (by decide) hk
  exact Nat.le_trans h1 h2
theorem pw_bound2 {N : Nat} (h : N ≤ 24) {k : Nat} (hk : k ≤ 2) : N ^ k ≤ 576 := by
  have h1 : N ^ k ≤ 24 ^ k := Nat.pow_le_pow_left h k
  have h2 : 24 ^ k ≤ 24 ^ 2 := Nat.pow_le_pow_right (by decide) hk
  exact Nat.le_trans h1 h2
theorem pw_pos {N : Nat} {k : Nat} (hk : 0 < k) {v : Int} (h0 : 0 ≤ v) (h : v < ((N ^ k : Nat) : Int)) : 0 < N := by
  cases N with
  | zero => rw [Nat.zero_pow hk] at h; omega
  | succ n => omega
theorem pw_up {n v : Int} (h0 : 0 ≤ n) (hv : 0 ≤ v) : ((n.toNat ^ (v + 1).toNat : Nat) : Int) = ((n.toNat ^ v.toNat : Nat) : Int) * n := by
  rw [show (v + 1).toNat = v.toNat + 1 by omega, Nat.pow_succ, Int.natCast_mul, Int.toNat_of_nonneg h0]
theorem pw_jR {n v a : Int} (h : 0 ≤ n ∧ n ≤ 24) (hv : 0 ≤ v ∧ v ≤ 2) (ha : a = ((n.toNat ^ v.toNat : Nat) : Int)) : jR (a * n) := by
  have := pw_bound2 (N := n.toNat) (k := v.toNat) (by omega) (by omega)
  have q1 : 0 ≤ a ∧ a ≤ 576 := by omega
  have q2 : 0 ≤ a * n := Int.mul_nonneg q1.1 h.1
  have q3 : a * n ≤ 576 * 24 := Int.mul_le_mul q1.2 h.2 h.1 (by omega)
  unfold jR
  omega
theorem sOnN_at {W L : sTb} {c l p w : Int} {t : Int → Int} {b : Int} (h : (b = 1 ∧ sOn W L c l p w t) ∨ (b = 0 ∧ ¬ sOn W L c l p w t)) : b = sOnN W L c l p w t := by
  unfold sOnN
  rcases h with ⟨e, h⟩ | ⟨e, h⟩
  · rw [cif_pos h]; exact e
  · rw [cif_neg h]; exact e
set_option maxHeartbeats 2000000 in
theorem sX9_once {o : Nat} {a1 : Int} {a2 : Int} {a3 : Int} {a4 : Int} {F : jFl} {A : jAr} {W L : sTb} (h : mct o F A 0 W L) : wpX9_once o a1 a2 a3 a4 F A (fun z F' A' => z = rOnce W L a1 a2 a3 a4 ∧ mfr o F A F' A') := by
  unfold wpX9_once
  have h0 := h
  obtain ⟨⟨hk, hLk⟩, hW, hL, hh, hv⟩ := h
  have w0 := hk.1
  have w2 := hk.2.2.1
  have w3 := hk.2.2.2.1
  have bad : ¬ rOnceC W L a1 a2 a3 a4 → (-1 : Int) = rOnce W L a1 a2 a3 a4 ∧ mfr o F A F A := fun q => by
    unfold rOnce
    rw [cif_neg q]
    exact ⟨rfl, mfr.refl _ _ _⟩
  refine ⟨_, sX9_isChild hW, ?_⟩ -- call wpX9_isChild o a2 F A P1
  intro z3 p1
  refine ⟨fun hc => ?_, fun hc => ?_⟩ -- c1
  · -- case (z3 = 0)
    -- l1: Q (-1) F A
    exact bad (by unfold rOnceC; grind)
  · -- case ¬ (z3 = 0)
    refine ⟨_, sX9_isStanding hW hk hL, ?_⟩ -- call wpX9_isStanding o a1 F A P7
    intro z9 p7
    refine ⟨fun hc => ?_, fun hc => ?_⟩ -- c2
    · -- case (z9 = 0)
      -- l2: Q (-1) F A
      exact bad (by unfold rOnceC; grind)
    · -- case ¬ (z9 = 0)
      refine ⟨by grind, ?_⟩ -- s1: (0 ≤ a1 ∧ a1 < 264)
      have h1 : 0 ≤ a2 ∧ a2 < W 2 0 0 := by grind
      have h2 : 0 ≤ a1 ∧ a1 < W 3 0 0 ∧ 0 < L 2 a1 0 := by grind
      have hl : 0 ≤ a1 ∧ a1 < W 3 0 0 := by omega
      obtain ⟨x1, x2, -, x4⟩ := hL.2.2 a1 hl.1 hl.2
      rw [show 12 * 0 + a1 = a1 by omega] at x1 x2 x4
      have hword : A (o + 2) (F 3039 o) = W 0 0 0 := hW.2.1.1
      have hb := hW.1
      rw [x1]
      refine ⟨fun hc => ?_, fun hc => ?_⟩ -- c3
      · -- case (3 < (A (o + 30) a1))
        -- l3: Q (-1) F A
        exact bad (by unfold rOnceC; omega)
      · -- case ¬ (3 < (A (o + 30) a1))
        refine ⟨fun hc => ?_, fun hc => ?_⟩ -- c4
        · -- case (a3 = (-1))
          have ok : rOnceC W L a1 a2 a3 a4 := ⟨⟨h1, h2⟩, by omega, Or.inl (by assumption)⟩
          have hm : 1 ≤ L 2 a1 0 ∧ L 2 a1 0 ≤ 3 := by omega
          have hr : rOnce W L a1 a2 a3 a4 = sm ((W 0 0 0).toNat ^ (L 2 a1 0).toNat) (fun row => sOnN W L a2 a1 a3 a4 (dput (W 0 0 0) (fun _ => 0) 0 (L 2 a1 0).toNat row)) := cif_pos ok
          rw [hword]
          refine ⟨fun (v16 : Int) (v17 : Int) => (0 ≤ v17 ∧ v17 ≤ L 2 a1 0) ∧ v16 = (((W 0 0 0).toNat ^ v17.toNat : Nat) : Int), fun v16 v17 => (L 2 a1 0 - v17).toNat, ?_, ?_⟩ -- loop I18 I18 1 0
          ·
            -- l4: I18 1 0
            exact ⟨by omega, by show (1 : Int) = (((W 0 0 0).toNat ^ 0 : Nat) : Int); rw [Nat.pow_zero]; rfl⟩
          intro v16 v17 i18
          obtain ⟨i1, i2⟩ := i18
          refine ⟨by omega, ?_⟩ -- s2: (0 ≤ a1 ∧ a1 < 264)
          refine ⟨fun hc => ?_, fun hc => ?_⟩ -- c5
          · -- case ((A (o + 30) a1) ≤ v17)
            refine ⟨by omega, ?_⟩ -- s3: (0 ≤ a1 ∧ a1 < 264)
            intro F23 e23
            intro F25 e25
            intro F27 e27
            have f1 : F27 3165 o = L 2 a1 0 := by rw [e27, upF_f (by decide), e25, upF_f (by decide), e23, upF_s]
            have f2 : F27 3168 o = 0 := by rw [e27, upF_f (by decide), e25, upF_s]
            have f3 : F27 3171 o = 0 := by rw [e27, upF_s]
            have m1 : mfr o F A F27 A := ⟨fun f b hb => by
              rw [e27, e25, e23]
              by_cases w : b = o
              · have := hb w
                rw [w, upF_f (by omega), upF_f (by omega), upF_f (by omega)]
              · rw [upF_a w, upF_a w, upF_a w], fun _ _ => rfl⟩
            have ev : v17 = L 2 a1 0 := by omega
            rw [ev] at i2
            refine ⟨fun (v29 : Int) (v30 : Int) (F31 : jFl) (A32 : jAr) => (0 ≤ v30 ∧ v30 ≤ v16) ∧ v29 = sm v30.toNat (fun row => sOnN W L a2 a1 a3 a4 (dput (W 0 0 0) (fun _ => 0) 0 (L 2 a1 0).toNat row)) ∧ (F31 3165 o = L 2 a1 0 ∧ F31 3168 o = 0 ∧ F31 3171 o = 0) ∧ mfr o F A F31 A32 ∧ (0 ≤ v29 ∧ v29 ≤ v30), fun v29 v30 F31 A32 => (v16 - v30).toNat, ?_, ?_⟩ -- loop I34 I34 0 0 F27 A
            ·
              -- l5: I34 0 0 F27 A
              have := pw_bound (N := (W 0 0 0).toNat) (k := (L 2 a1 0).toNat) (by omega) (by omega)
              exact ⟨by omega, rfl, ⟨f1, f2, f3⟩, m1, by omega⟩
            intro v29 v30 F31 A32 i34
            obtain ⟨j1, j2, ⟨j3, j4, j5⟩, j6, j7⟩ := i34
            have pb := pw_bound (N := (W 0 0 0).toNat) (k := (L 2 a1 0).toNat) (by omega) (by omega)
            refine ⟨fun hc => ?_, fun hc => ?_⟩ -- c6
            · -- case (v16 ≤ v30)
              -- l6: Q v29 F31 A32
              refine ⟨?_, j6⟩
              rw [hr, j2, show v30.toNat = (W 0 0 0).toNat ^ (L 2 a1 0).toNat by omega]
            · -- case ¬ (v16 ≤ v30)
              have np := pw_pos (N := (W 0 0 0).toNat) (k := (L 2 a1 0).toNat) (by omega) j1.1 (by omega)
              have hw31 : F31 3039 o = F 3039 o := j6.1 _ _ (fun _ => by decide)
              refine ⟨fun (v37 : Int) (v38 : Int) (A39 : jAr) => (0 ≤ v38 ∧ v38 ≤ L 2 a1 0) ∧ v37 = dgL (W 0 0 0) v30 v38.toNat ∧ (0 ≤ v37 ∧ v37 ≤ v30) ∧ (∀ k : Int, 0 ≤ k → k < v38 → A39 (o + 36) k = dgL (W 0 0 0) v30 k.toNat % W 0 0 0) ∧ mfr o F A F31 A39, fun v37 v38 A39 => (L 2 a1 0 - v38).toNat, ?_, ?_⟩ -- loop I41 I41 v30 0 A32
              ·
                -- l7: I41 v30 0 A32
                exact ⟨by omega, rfl, by omega, fun k k0 k1 => by omega, j6⟩
              intro v37 v38 A39 i41
              obtain ⟨g1, g2, g3, g4, g5⟩ := i41
              rw [j3]
              have ha2 : A39 (o + 2) (F31 3039 o) = W 0 0 0 := by rw [g5.2 _ (by omega), hw31]; exact hword
              refine ⟨fun hc => ?_, fun hc => ?_⟩ -- c7
              · -- case ((F31 3165 o) ≤ v38)
                have evk : v38 = L 2 a1 0 := by omega
                rw [evk] at g4
                obtain ⟨D, hD⟩ : ∃ D : Int → Int, D = dput (W 0 0 0) (fun _ => 0) 0 (L 2 a1 0).toNat v30 := ⟨_, rfl⟩
                have hDk : ∀ k : Int, 0 ≤ k → k < L 2 a1 0 → D k = A39 (o + 36) k := fun k k0 k1 => by
                  rw [hD, g4 k k0 k1]
                  unfold dput
                  rw [if_pos (by omega), show k - 0 = k by omega]
                have hDr : ∀ k : Int, 0 ≤ k → k < L 2 a1 0 → 0 ≤ D k ∧ D k < W 0 0 0 := fun k k0 k1 => by
                  rw [hDk k k0 k1, g4 k k0 k1]
                  exact ⟨Int.emod_nonneg _ (by omega), Int.emod_lt_of_pos _ (by omega)⟩
                have hW1 : mrW o F31 A39 W := hW.of hw31 (fun k k0 k1 => g5.2 _ (by omega))
                have hh1 : F31 3186 o = -1 := by rw [g5.1 _ _ (fun _ => by decide)]; exact hh
                refine ⟨_, sX9_utters (R := (L 2 a1 0, 0, D)) (left := W 20 a2 0) hW1 hk h1 ⟨by show 0 ≤ L 2 a1 0 ∧ L 2 a1 0 ≤ 8; omega, ⟨Int.le_refl 0, (by decide : (0 : Int) ≤ 4)⟩, fun k k0 k1 => hDr k k0 (by have k1 : k < L 2 a1 0 + 0 := k1; omega)⟩ j3 j4 (fun k k0 k1 => (hDk k k0 (by have k1 : k < L 2 a1 0 + 0 := k1; omega)).symm) (Or.inl hh1) (by rw [if_pos hh1, j5, if_pos rfl, Int.add_zero]), ?_⟩ -- call wpX9_utters o a2 F31 A39 P44
                intro F47 A48 p44
                obtain ⟨⟨u1, u2, u3⟩, u4, u5, u6⟩ := p44
                have f47 : F47 3165 o = L 2 a1 0 := by rw [u4 _ _ (fun _ => by decide)]; exact j3
                have m47 : mfr o F A F47 A48 := g5.trans ⟨fun f b hb => u4 f b (fun w => by have := hb w; omega), fun b hb => u5 b (by omega)⟩
                rw [u3]
                refine ⟨fun (v53 : Int) => (v53 = 1 ∧ sKind W a2 (L 2 a1 0, 0, D) (W 20 a2 0) ≠ 3 ∧ (a3 = -1 ∨ D a3 = a4)) ∨ (v53 = 0 ∧ ¬ sOn W L a2 a1 a3 a4 D), ?_, ?_⟩ -- join K54
                · intro v53 k54
                  refine ⟨fun (v57 : Int) (v58 : Int) => (0 ≤ v58 ∧ v58 ≤ L 2 a1 0) ∧ ((v57 = 1 ∧ (sKind W a2 (L 2 a1 0, 0, D) (W 20 a2 0) ≠ 3 ∧ (a3 = -1 ∨ D a3 = a4)) ∧ ∀ k : Int, 0 ≤ k → k < v58 → sSaid W a2 (D k) = L 5 a1 k) ∨ (v57 = 0 ∧ ¬ sOn W L a2 a1 a3 a4 D)), fun v57 v58 => (L 2 a1 0 - v58).toNat, ?_, ?_⟩ -- loop I59 I59 v53 0
                  ·
                    -- l8: I59 v53 0
                    refine ⟨by omega, ?_⟩
                    rcases k54 with ⟨e, w⟩ | w
                    · exact Or.inl ⟨e, w, fun k k0 k1 => by omega⟩
                    · exact Or.inr w
                  intro v57 v58 i59
                  obtain ⟨n1, n2⟩ := i59
                  rw [f47]
                  refine ⟨(v57 = 1 ∧ sOn W L a2 a1 a3 a4 D) ∨ (v57 = 0 ∧ ¬ sOn W L a2 a1 a3 a4 D), ?_, ?_⟩ -- join K62
                  · intro k62
                    intro z66 e66
                    have ez : z66 = v57 := by
                      rw [e66]
                      rcases k62 with ⟨w, -⟩ | ⟨w, -⟩ <;> rw [w] <;> rfl
                    have zr : 0 ≤ z66 ∧ z66 ≤ 1 := by
                      rw [ez]
                      rcases k62 with ⟨w, -⟩ | ⟨w, -⟩ <;> rw [w] <;> decide
                    refine ⟨by omega, ?_⟩ -- s4: jR (v29 + z66)
                    intro v69 e69
                    refine ⟨by omega, ?_⟩ -- s5: jR (v30 + 1)
                    refine ⟨?_, ?_⟩ -- l9: I34 v69 (v30 + 1) F47 A48
                    · refine ⟨by omega, ?_, ⟨f47, by rw [u4 _ _ (fun _ => by decide)]; exact j4, by rw [u4 _ _ (fun _ => by decide)]; exact j5⟩, m47, by omega⟩
                      have e := sOnN_at k62
                      rw [show (v30 + 1).toNat = v30.toNat + 1 by omega, sm_succ, ← j2, show ((v30.toNat : Nat) : Int) = v30 by omega, ← hD, ← e]
                      omega
                    · dsimp only; omega
                  refine ⟨fun hc => ?_, fun hc => ?_⟩ -- c8
                  · -- case ((F47 3165 o) ≤ v58)
                    -- l10: K62
                    rcases n2 with ⟨e, w1, w2⟩ | w
                    · exact Or.inl ⟨e, fun k k0 k1 => w2 k k0 (by omega), w1.2, w1.1⟩
                    · exact Or.inr w
                  · -- case ¬ ((F47 3165 o) ≤ v58)
                    refine ⟨fun hc => ?_, fun hc => ?_⟩ -- c9
                    · -- case (v57 = 0)
                      -- l11: K62
                      rcases n2 with ⟨e, w1, w2⟩ | w
                      · omega
                      · exact Or.inr w
                    · -- case ¬ (v57 = 0)
                      refine ⟨by omega, ?_⟩ -- s6: (0 ≤ v58 ∧ v58 < 12)
                      refine ⟨by omega, ?_⟩ -- s7: (0 ≤ (12 * a1) + v58 ∧ (12 * a1) + v58 < 3168)
                      intro z75 e75
                      refine ⟨by omega, ?_⟩ -- s8: jR (v58 + 1)
                      refine ⟨?_, ?_⟩ -- l12: I59 z75 (v58 + 1)
                      · rcases n2 with ⟨e, w1, w2⟩ | w
                        · have nl : ¬ sLost W a2 (L 2 a1 0, 0, D) (W 20 a2 0) := fun q => w1.1 (cif_pos q)
                          have s1 : A48 (o + 37) v58 = sSaid W a2 (D v58) := u6 v58 n1.1 (by rw [u1, u2]; unfold sMain sBut; rw [cif_neg nl, cif_neg nl, cif_neg (fun q => absurd (show (0 : Int) < 0 from q.1) (by decide))]; show v58 < L 2 a1 0 + 0; omega)
                          have s2 : A48 (o + 33) (12 * a1 + v58) = L 5 a1 v58 := by rw [u5 _ (by omega), g5.2 _ (by omega)]; exact x4 v58 n1.1 (by have := (hLk.2.2.2.1 a1 hl.1 hl.2); omega)
                          rw [s1, s2] at e75
                          refine ⟨by omega, ?_⟩
                          by_cases q : sSaid W a2 (D v58) = L 5 a1 v58
                          · refine Or.inl ⟨by rw [e75, if_neg (fun x => x q)], w1, fun k k0 k1 => ?_⟩
                            by_cases w : k = v58
                            · rw [w]; exact q
                            · exact w2 k k0 (by omega)
                          · exact Or.inr ⟨by rw [e75, if_pos q], fun x => q (x.1 v58 n1.1 (by omega))⟩
                        · omega
                      · dsimp only; omega
                refine ⟨fun hc => ?_, fun hc => ?_⟩ -- c10
                · -- case ((F47 3183 o) = 3)
                  -- l13: K54 0
                  exact Or.inr ⟨rfl, fun w => w.2.2 hc⟩
                · -- case ¬ ((F47 3183 o) = 3)
                  refine ⟨fun hc => ?_, fun hc => ?_⟩ -- c11
                  · -- case (a3 = (-1))
                    -- l14: K54 1
                    exact Or.inl ⟨rfl, by assumption, Or.inl hc⟩
                  · -- case ¬ (a3 = (-1))
                    refine ⟨by omega, ?_⟩ -- s9: (0 ≤ a3 ∧ a3 < 12)
                    intro z81 e81
                    -- l15: K54 z81
                    have s1 : A48 (o + 36) a3 = D a3 := by rw [u5 _ (by omega)]; exact (hDk a3 (by omega) (by omega)).symm
                    rw [s1] at e81
                    by_cases q : D a3 = a4
                    · exact Or.inl ⟨by rw [e81, if_neg (fun x => x q)], by assumption, Or.inr q⟩
                    · exact Or.inr ⟨by rw [e81, if_pos q], fun w => w.2.1.elim (fun x => by omega) q⟩
              · -- case ¬ ((F31 3165 o) ≤ v38)
                refine ⟨by (rw [hw31]; omega), ?_⟩ -- s10: (0 ≤ F31 3039 o ∧ F31 3039 o < 2)
                refine ⟨by (rw [ha2]; omega), ?_⟩ -- s11: (((0 : Int) ≤ v37 ∧ (v37 : Int) ≤ 2147483647) ∧ ((0 : Int) < A39 (o + 2) (F31 3039 o) ∧ (A39 (o + 2) (F31 3039 o) : Int) ≤ 2147483647))
                refine ⟨by omega, ?_⟩ -- s12: (0 ≤ v38 ∧ v38 < 12)
                refine ⟨by (rw [ha2]; have := Int.emod_nonneg v37 (show W 0 0 0 ≠ 0 by omega); have := Int.emod_lt_of_pos v37 (show 0 < W 0 0 0 by omega); omega), ?_⟩ -- s13: jR (v37 % (A39 (o + 2) (F31 3039 o)))
                intro A87 e87
                rw [ha2] at e87
                have ha2' : A87 (o + 2) (F31 3039 o) = W 0 0 0 := by rw [e87, upA_a (by omega)]; exact ha2
                rw [ha2']
                have dq : 0 ≤ v37 / W 0 0 0 ∧ v37 / W 0 0 0 ≤ v37 := ⟨Int.ediv_nonneg g3.1 (by omega), Int.ediv_le_self _ g3.1⟩
                refine ⟨by (rw [hw31]; omega), ?_⟩ -- s14: (0 ≤ F31 3039 o ∧ F31 3039 o < 2)
                refine ⟨by omega, ?_⟩ -- s15: (((0 : Int) ≤ v37 ∧ (v37 : Int) ≤ 2147483647) ∧ ((0 : Int) < A87 (o + 2) (F31 3039 o) ∧ (A87 (o + 2) (F31 3039 o) : Int) ≤ 2147483647))
                refine ⟨by omega, ?_⟩ -- s16: jR (v37 / (A87 (o + 2) (F31 3039 o)))
                intro v92 e92
                refine ⟨by omega, ?_⟩ -- s17: jR (v38 + 1)
                refine ⟨?_, ?_⟩ -- l16: I41 v92 (v38 + 1) A87
                · refine ⟨by omega, ?_, by omega, fun k k0 k1 => ?_, g5.trans ⟨fun _ _ _ => rfl, fun b hb => by rw [e87, upA_o (by omega)]⟩⟩
                  · rw [e92, dgL_succ g1.1, ← g2]
                  · by_cases w : k = v38
                    · rw [w, e87, upA_same, g2]
                    · rw [e87, upA_i w]; exact g4 k k0 (by omega)
                · dsimp only; omega
          · -- case ¬ ((A (o + 30) a1) ≤ v17)
            refine ⟨by (rw [hword] at *; omega), ?_⟩ -- s18: (0 ≤ F 3039 o ∧ F 3039 o < 2)
            refine ⟨by (exact pw_jR (by omega) (by omega) i2), ?_⟩ -- s19: jR (v16 * (A (o + 2) (F 3039 o)))
            intro v96 e96
            refine ⟨by omega, ?_⟩ -- s20: jR (v17 + 1)
            refine ⟨?_, ?_⟩ -- l17: I18 v96 (v17 + 1)
            · exact ⟨by omega, by rw [e96, pw_up (by omega) i1.1, ← i2]⟩
            · dsimp only; omega
        · -- case ¬ (a3 = (-1))
          refine ⟨by omega, ?_⟩ -- s21: (0 ≤ a1 ∧ a1 < 264)
          refine ⟨by omega, ?_⟩ -- s22: jR ((A (o + 30) a1) - 1)
          refine ⟨_, sX9_is, ?_⟩ -- call wpX9_is o a3 0 ((A (o + 30) a1) - 1) F A P100
          intro z102 p100
          refine ⟨fun hc => ?_, fun hc => ?_⟩ -- c12
          · -- case (z102 = 0)
            -- l18: Q (-1) F A
            exact bad (by unfold rOnceC; omega)
          · -- case ¬ (z102 = 0)
            refine ⟨_, sX9_isWordOf hW, ?_⟩ -- call wpX9_isWordOf o a4 F A P106
            intro z108 p106
            refine ⟨fun hc => ?_, fun hc => ?_⟩ -- c13
            · -- case (¬ z108 = 0)
              have ok : rOnceC W L a1 a2 a3 a4 := ⟨⟨h1, h2⟩, by omega, Or.inr (by grind)⟩
              have hm : 1 ≤ L 2 a1 0 ∧ L 2 a1 0 ≤ 3 := by omega
              have hr : rOnce W L a1 a2 a3 a4 = sm ((W 0 0 0).toNat ^ (L 2 a1 0).toNat) (fun row => sOnN W L a2 a1 a3 a4 (dput (W 0 0 0) (fun _ => 0) 0 (L 2 a1 0).toNat row)) := cif_pos ok
              rw [hword]
              refine ⟨fun (v112 : Int) (v113 : Int) => (0 ≤ v113 ∧ v113 ≤ L 2 a1 0) ∧ v112 = (((W 0 0 0).toNat ^ v113.toNat : Nat) : Int), fun v112 v113 => (L 2 a1 0 - v113).toNat, ?_, ?_⟩ -- loop I114 I114 1 0
              ·
                -- l19: I114 1 0
                exact ⟨by omega, by show (1 : Int) = (((W 0 0 0).toNat ^ 0 : Nat) : Int); rw [Nat.pow_zero]; rfl⟩
              intro v112 v113 i114
              obtain ⟨i1, i2⟩ := i114
              refine ⟨by omega, ?_⟩ -- s23: (0 ≤ a1 ∧ a1 < 264)
              refine ⟨fun hc => ?_, fun hc => ?_⟩ -- c14
              · -- case ((A (o + 30) a1) ≤ v113)
                refine ⟨by omega, ?_⟩ -- s24: (0 ≤ a1 ∧ a1 < 264)
                intro F119 e119
                intro F121 e121
                intro F123 e123
                have f1 : F123 3165 o = L 2 a1 0 := by rw [e123, upF_f (by decide), e121, upF_f (by decide), e119, upF_s]
                have f2 : F123 3168 o = 0 := by rw [e123, upF_f (by decide), e121, upF_s]
                have f3 : F123 3171 o = 0 := by rw [e123, upF_s]
                have m1 : mfr o F A F123 A := ⟨fun f b hb => by
                  rw [e123, e121, e119]
                  by_cases w : b = o
                  · have := hb w
                    rw [w, upF_f (by omega), upF_f (by omega), upF_f (by omega)]
                  · rw [upF_a w, upF_a w, upF_a w], fun _ _ => rfl⟩
                have ev : v113 = L 2 a1 0 := by omega
                rw [ev] at i2
                refine ⟨fun (v125 : Int) (v126 : Int) (F127 : jFl) (A128 : jAr) => (0 ≤ v126 ∧ v126 ≤ v112) ∧ v125 = sm v126.toNat (fun row => sOnN W L a2 a1 a3 a4 (dput (W 0 0 0) (fun _ => 0) 0 (L 2 a1 0).toNat row)) ∧ (F127 3165 o = L 2 a1 0 ∧ F127 3168 o = 0 ∧ F127 3171 o = 0) ∧ mfr o F A F127 A128 ∧ (0 ≤ v125 ∧ v125 ≤ v126), fun v125 v126 F127 A128 => (v112 - v126).toNat, ?_, ?_⟩ -- loop I130 I130 0 0 F123 A
                ·
                  -- l20: I130 0 0 F123 A
                  have := pw_bound (N := (W 0 0 0).toNat) (k := (L 2 a1 0).toNat) (by omega) (by omega)
                  exact ⟨by omega, rfl, ⟨f1, f2, f3⟩, m1, by omega⟩
                intro v125 v126 F127 A128 i130
                obtain ⟨j1, j2, ⟨j3, j4, j5⟩, j6, j7⟩ := i130
                have pb := pw_bound (N := (W 0 0 0).toNat) (k := (L 2 a1 0).toNat) (by omega) (by omega)
                refine ⟨fun hc => ?_, fun hc => ?_⟩ -- c15
                · -- case (v112 ≤ v126)
                  -- l21: Q v125 F127 A128
                  refine ⟨?_, j6⟩
                  rw [hr, j2, show v126.toNat = (W 0 0 0).toNat ^ (L 2 a1 0).toNat by omega]
                · -- case ¬ (v112 ≤ v126)
                  have np := pw_pos (N := (W 0 0 0).toNat) (k := (L 2 a1 0).toNat) (by omega) j1.1 (by omega)
                  have hw31 : F127 3039 o = F 3039 o := j6.1 _ _ (fun _ => by decide)
                  refine ⟨fun (v133 : Int) (v134 : Int) (A135 : jAr) => (0 ≤ v134 ∧ v134 ≤ L 2 a1 0) ∧ v133 = dgL (W 0 0 0) v126 v134.toNat ∧ (0 ≤ v133 ∧ v133 ≤ v126) ∧ (∀ k : Int, 0 ≤ k → k < v134 → A135 (o + 36) k = dgL (W 0 0 0) v126 k.toNat % W 0 0 0) ∧ mfr o F A F127 A135, fun v133 v134 A135 => (L 2 a1 0 - v134).toNat, ?_, ?_⟩ -- loop I137 I137 v126 0 A128
                  ·
                    -- l22: I137 v126 0 A128
                    exact ⟨by omega, rfl, by omega, fun k k0 k1 => by omega, j6⟩
                  intro v133 v134 A135 i137
                  obtain ⟨g1, g2, g3, g4, g5⟩ := i137
                  rw [j3]
                  have ha2 : A135 (o + 2) (F127 3039 o) = W 0 0 0 := by rw [g5.2 _ (by omega), hw31]; exact hword
                  refine ⟨fun hc => ?_, fun hc => ?_⟩ -- c16
                  · -- case ((F127 3165 o) ≤ v134)
                    have evk : v134 = L 2 a1 0 := by omega
                    rw [evk] at g4
                    obtain ⟨D, hD⟩ : ∃ D : Int → Int, D = dput (W 0 0 0) (fun _ => 0) 0 (L 2 a1 0).toNat v126 := ⟨_, rfl⟩
                    have hDk : ∀ k : Int, 0 ≤ k → k < L 2 a1 0 → D k = A135 (o + 36) k := fun k k0 k1 => by
                      rw [hD, g4 k k0 k1]
                      unfold dput
                      rw [if_pos (by omega), show k - 0 = k by omega]
                    have hDr : ∀ k : Int, 0 ≤ k → k < L 2 a1 0 → 0 ≤ D k ∧ D k < W 0 0 0 := fun k k0 k1 => by
                      rw [hDk k k0 k1, g4 k k0 k1]
                      exact ⟨Int.emod_nonneg _ (by omega), Int.emod_lt_of_pos _ (by omega)⟩
                    have hW1 : mrW o F127 A135 W := hW.of hw31 (fun k k0 k1 => g5.2 _ (by omega))
                    have hh1 : F127 3186 o = -1 := by rw [g5.1 _ _ (fun _ => by decide)]; exact hh
                    refine ⟨_, sX9_utters (R := (L 2 a1 0, 0, D)) (left := W 20 a2 0) hW1 hk h1 ⟨by show 0 ≤ L 2 a1 0 ∧ L 2 a1 0 ≤ 8; omega, ⟨Int.le_refl 0, (by decide : (0 : Int) ≤ 4)⟩, fun k k0 k1 => hDr k k0 (by have k1 : k < L 2 a1 0 + 0 := k1; omega)⟩ j3 j4 (fun k k0 k1 => (hDk k k0 (by have k1 : k < L 2 a1 0 + 0 := k1; omega)).symm) (Or.inl hh1) (by rw [if_pos hh1, j5, if_pos rfl, Int.add_zero]), ?_⟩ -- call wpX9_utters o a2 F127 A135 P140
                    intro F143 A144 p140
                    obtain ⟨⟨u1, u2, u3⟩, u4, u5, u6⟩ := p140
                    have f47 : F143 3165 o = L 2 a1 0 := by rw [u4 _ _ (fun _ => by decide)]; exact j3
                    have m143 : mfr o F A F143 A144 := g5.trans ⟨fun f b hb => u4 f b (fun w => by have := hb w; omega), fun b hb => u5 b (by omega)⟩
                    rw [u3]
                    refine ⟨fun (v149 : Int) => (v149 = 1 ∧ sKind W a2 (L 2 a1 0, 0, D) (W 20 a2 0) ≠ 3 ∧ (a3 = -1 ∨ D a3 = a4)) ∨ (v149 = 0 ∧ ¬ sOn W L a2 a1 a3 a4 D), ?_, ?_⟩ -- join K150
                    · intro v149 k150
                      refine ⟨fun (v153 : Int) (v154 : Int) => (0 ≤ v154 ∧ v154 ≤ L 2 a1 0) ∧ ((v153 = 1 ∧ (sKind W a2 (L 2 a1 0, 0, D) (W 20 a2 0) ≠ 3 ∧ (a3 = -1 ∨ D a3 = a4)) ∧ ∀ k : Int, 0 ≤ k → k < v154 → sSaid W a2 (D k) = L 5 a1 k) ∨ (v153 = 0 ∧ ¬ sOn W L a2 a1 a3 a4 D)), fun v153 v154 => (L 2 a1 0 - v154).toNat, ?_, ?_⟩ -- loop I155 I155 v149 0
                      ·
                        -- l23: I155 v149 0
                        refine ⟨by omega, ?_⟩
                        rcases k150 with ⟨e, w⟩ | w
                        · exact Or.inl ⟨e, w, fun k k0 k1 => by omega⟩
                        · exact Or.inr w
                      intro v153 v154 i155
                      obtain ⟨n1, n2⟩ := i155
                      rw [f47]
                      refine ⟨(v153 = 1 ∧ sOn W L a2 a1 a3 a4 D) ∨ (v153 = 0 ∧ ¬ sOn W L a2 a1 a3 a4 D), ?_, ?_⟩ -- join K158
                      · intro k158
                        intro z162 e162
                        have ez : z162 = v153 := by
                          rw [e162]
                          rcases k158 with ⟨w, -⟩ | ⟨w, -⟩ <;> rw [w] <;> rfl
                        have zr : 0 ≤ z162 ∧ z162 ≤ 1 := by
                          rw [ez]
                          rcases k158 with ⟨w, -⟩ | ⟨w, -⟩ <;> rw [w] <;> decide
                        refine ⟨by omega, ?_⟩ -- s25: jR (v125 + z162)
                        intro v165 e165
                        refine ⟨by omega, ?_⟩ -- s26: jR (v126 + 1)
                        refine ⟨?_, ?_⟩ -- l24: I130 v165 (v126 + 1) F143 A144
                        · refine ⟨by omega, ?_, ⟨f47, by rw [u4 _ _ (fun _ => by decide)]; exact j4, by rw [u4 _ _ (fun _ => by decide)]; exact j5⟩, m143, by omega⟩
                          have e := sOnN_at k158
                          rw [show (v126 + 1).toNat = v126.toNat + 1 by omega, sm_succ, ← j2, show ((v126.toNat : Nat) : Int) = v126 by omega, ← hD, ← e]
                          omega
                        · dsimp only; omega
                      refine ⟨fun hc => ?_, fun hc => ?_⟩ -- c17
                      · -- case ((F143 3165 o) ≤ v154)
                        -- l25: K158
                        rcases n2 with ⟨e, w1, w2⟩ | w
                        · exact Or.inl ⟨e, fun k k0 k1 => w2 k k0 (by omega), w1.2, w1.1⟩
                        · exact Or.inr w
                      · -- case ¬ ((F143 3165 o) ≤ v154)
                        refine ⟨fun hc => ?_, fun hc => ?_⟩ -- c18
                        · -- case (v153 = 0)
                          -- l26: K158
                          rcases n2 with ⟨e, w1, w2⟩ | w
                          · omega
                          · exact Or.inr w
                        · -- case ¬ (v153 = 0)
                          refine ⟨by omega, ?_⟩ -- s27: (0 ≤ v154 ∧ v154 < 12)
                          refine ⟨by omega, ?_⟩ -- s28: (0 ≤ (12 * a1) + v154 ∧ (12 * a1) + v154 < 3168)
                          intro z171 e171
                          refine ⟨by omega, ?_⟩ -- s29: jR (v154 + 1)
                          refine ⟨?_, ?_⟩ -- l27: I155 z171 (v154 + 1)
                          · rcases n2 with ⟨e, w1, w2⟩ | w
                            · have nl : ¬ sLost W a2 (L 2 a1 0, 0, D) (W 20 a2 0) := fun q => w1.1 (cif_pos q)
                              have s1 : A144 (o + 37) v154 = sSaid W a2 (D v154) := u6 v154 n1.1 (by rw [u1, u2]; unfold sMain sBut; rw [cif_neg nl, cif_neg nl, cif_neg (fun q => absurd (show (0 : Int) < 0 from q.1) (by decide))]; show v154 < L 2 a1 0 + 0; omega)
                              have s2 : A144 (o + 33) (12 * a1 + v154) = L 5 a1 v154 := by rw [u5 _ (by omega), g5.2 _ (by omega)]; exact x4 v154 n1.1 (by have := (hLk.2.2.2.1 a1 hl.1 hl.2); omega)
                              rw [s1, s2] at e171
                              refine ⟨by omega, ?_⟩
                              by_cases q : sSaid W a2 (D v154) = L 5 a1 v154
                              · refine Or.inl ⟨by rw [e171, if_neg (fun x => x q)], w1, fun k k0 k1 => ?_⟩
                                by_cases w : k = v154
                                · rw [w]; exact q
                                · exact w2 k k0 (by omega)
                              · exact Or.inr ⟨by rw [e171, if_pos q], fun x => q (x.1 v154 n1.1 (by omega))⟩
                            · omega
                          · dsimp only; omega
                    refine ⟨fun hc => ?_, fun hc => ?_⟩ -- c19
                    · -- case ((F143 3183 o) = 3)
                      -- l28: K150 0
                      exact Or.inr ⟨rfl, fun w => w.2.2 hc⟩
                    · -- case ¬ ((F143 3183 o) = 3)
                      refine ⟨fun hc => ?_, fun hc => ?_⟩ -- c20
                      · -- case (a3 = (-1))
                        -- l29: K150 1
                        exact Or.inl ⟨rfl, by assumption, Or.inl hc⟩
                      · -- case ¬ (a3 = (-1))
                        refine ⟨by omega, ?_⟩ -- s30: (0 ≤ a3 ∧ a3 < 12)
                        intro z177 e177
                        -- l30: K150 z177
                        have s1 : A144 (o + 36) a3 = D a3 := by rw [u5 _ (by omega)]; exact (hDk a3 (by omega) (by omega)).symm
                        rw [s1] at e177
                        by_cases q : D a3 = a4
                        · exact Or.inl ⟨by rw [e177, if_neg (fun x => x q)], by assumption, Or.inr q⟩
                        · exact Or.inr ⟨by rw [e177, if_pos q], fun w => w.2.1.elim (fun x => by omega) q⟩
                  · -- case ¬ ((F127 3165 o) ≤ v134)
                    refine ⟨by (rw [hw31]; omega), ?_⟩ -- s31: (0 ≤ F127 3039 o ∧ F127 3039 o < 2)
                    refine ⟨by (rw [ha2]; omega), ?_⟩ -- s32: (((0 : Int) ≤ v133 ∧ (v133 : Int) ≤ 2147483647) ∧ ((0 : Int) < A135 (o + 2) (F127 3039 o) ∧ (A135 (o + 2) (F127 3039 o) : Int) ≤ 2147483647))
                    refine ⟨by omega, ?_⟩ -- s33: (0 ≤ v134 ∧ v134 < 12)
                    refine ⟨by (rw [ha2]; have := Int.emod_nonneg v133 (show W 0 0 0 ≠ 0 by omega); have := Int.emod_lt_of_pos v133 (show 0 < W 0 0 0 by omega); omega), ?_⟩ -- s34: jR (v133 % (A135 (o + 2) (F127 3039 o)))
                    intro A183 e183
                    rw [ha2] at e183
                    have ha2' : A183 (o + 2) (F127 3039 o) = W 0 0 0 := by rw [e183, upA_a (by omega)]; exact ha2
                    rw [ha2']
                    have dq : 0 ≤ v133 / W 0 0 0 ∧ v133 / W 0 0 0 ≤ v133 := ⟨Int.ediv_nonneg g3.1 (by omega), Int.ediv_le_self _ g3.1⟩
                    refine ⟨by (rw [hw31]; omega), ?_⟩ -- s35: (0 ≤ F127 3039 o ∧ F127 3039 o < 2)
                    refine ⟨by omega, ?_⟩ -- s36: (((0 : Int) ≤ v133 ∧ (v133 : Int) ≤ 2147483647) ∧ ((0 : Int) < A183 (o + 2) (F127 3039 o) ∧ (A183 (o + 2) (F127 3039 o) : Int) ≤ 2147483647))
                    refine ⟨by omega, ?_⟩ -- s37: jR (v133 / (A183 (o + 2) (F127 3039 o)))
                    intro v188 e188
                    refine ⟨by omega, ?_⟩ -- s38: jR (v134 + 1)
                    refine ⟨?_, ?_⟩ -- l31: I137 v188 (v134 + 1) A183
                    · refine ⟨by omega, ?_, by omega, fun k k0 k1 => ?_, g5.trans ⟨fun _ _ _ => rfl, fun b hb => by rw [e183, upA_o (by omega)]⟩⟩
                      · rw [e188, dgL_succ g1.1, ← g2]
                      · by_cases w : k = v134
                        · rw [w, e183, upA_same, g2]
                        · rw [e183, upA_i w]; exact g4 k k0 (by omega)
                    · dsimp only; omega
              · -- case ¬ ((A (o + 30) a1) ≤ v113)
                refine ⟨by (rw [hword] at *; omega), ?_⟩ -- s39: (0 ≤ F 3039 o ∧ F 3039 o < 2)
                refine ⟨by (exact pw_jR (by omega) (by omega) i2), ?_⟩ -- s40: jR (v112 * (A (o + 2) (F 3039 o)))
                intro v192 e192
                refine ⟨by omega, ?_⟩ -- s41: jR (v113 + 1)
                refine ⟨?_, ?_⟩ -- l32: I114 v192 (v113 + 1)
                · exact ⟨by omega, by rw [e192, pw_up (by omega) i1.1, ← i2]⟩
                · dsimp only; omega
            · -- case ¬ (¬ z108 = 0)
              -- l33: Q (-1) F A
              exact bad (by unfold rOnceC; grind)

