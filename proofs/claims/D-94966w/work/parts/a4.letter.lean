set_option maxRecDepth 100000
set_option linter.unusedVariables false
/-! letters and octets on both sides; printed by gen/prove.py out of spec/a4.letter.spec -/
def nmIs (code : Int) (g : Int → Int) (n : Nat) : Prop := (1 ≤ n ∧ n ≤ 6) ∧ code = sCode g n ∧ ∀ i : Int, 0 ≤ i → i < n → 97 ≤ g i ∧ g i ≤ 122
def sMany (W : sTb) (k : Int) : Int := if k = 0 then W 0 0 0 else if k = 1 then W 1 0 0 else if k = 2 then W 2 0 0 else W 3 0 0
def sName (W : sTb) (k i : Int) : Int := if k = 0 then W 10 i 0 else if k = 1 then W 16 i 0 else if k = 2 then W 18 i 0 else W 22 i 0
def nmOk (W : sTb) : Prop := ∀ k i : Int, 0 ≤ k → k ≤ 3 → 0 ≤ i → i < sMany W k → ∃ (g : Int → Int) (n : Nat), nmIs (sName W k i) g n
def nLen : Nat → Int → Int
  | 0, _ => 0
  | f + 1, c => if 0 < c then 1 + nLen f (c / 256) else 0
def sLet (code j : Int) : Int := if j < nLen 8 code then code / 2 ^ (8 * (nLen 8 code - 1 - j)).toNat % 256 - 96 else 0
def rLetter (W : sTb) (k i j : Int) : Int := if (0 ≤ k ∧ k ≤ 3) ∧ (0 ≤ i ∧ i < sMany W k) ∧ (0 ≤ j ∧ j ≤ 5) then sLet (sName W k i) j else -1
theorem sCode_div {g : Int → Int} {k : Nat} (h : 0 ≤ g k ∧ g k ≤ 255) : sCode g (k + 1) / 256 = sCode g k ∧ sCode g (k + 1) % 256 = g k := by
  have e : sCode g (k + 1) = 256 * sCode g k + g k := rfl
  omega
theorem sCode_pos {g : Int → Int} : ∀ {n : Nat}, (∀ i : Int, 0 ≤ i → i < n → 97 ≤ g i ∧ g i ≤ 122) → 0 ≤ sCode g n ∧ (1 ≤ n → 0 < sCode g n)
  | 0, _ => ⟨Int.le_refl 0, fun h => by omega⟩
  | n + 1, h => by
    have q := sCode_pos (n := n) (fun i i0 i1 => h i i0 (by omega))
    have r := h n (by omega) (by omega)
    have e : sCode g (n + 1) = 256 * sCode g n + g n := rfl
    omega
theorem sCode_lt {g : Int → Int} : ∀ {n : Nat}, (∀ i : Int, 0 ≤ i → i < n → 97 ≤ g i ∧ g i ≤ 122) → sCode g n < 256 ^ n
  | 0, _ => by show (0 : Int) < 1; decide
  | n + 1, h => by
    have q := sCode_lt (n := n) (fun i i0 i1 => h i i0 (by omega))
    have r := h n (by omega) (by omega)
    have e : sCode g (n + 1) = 256 * sCode g n + g n := rfl
    rw [Int.pow_succ]
    omega
theorem sCode_max {g : Int → Int} {n : Nat} (h : ∀ i : Int, 0 ≤ i → i < n → 97 ≤ g i ∧ g i ≤ 122) (hn : n ≤ 6) : sCode g n ≤ 281474976710655 := by
  have q := sCode_lt h
  have : n = 0 ∨ n = 1 ∨ n = 2 ∨ n = 3 ∨ n = 4 ∨ n = 5 ∨ n = 6 := by omega
  rcases this with rfl | rfl | rfl | rfl | rfl | rfl | rfl <;> omega
theorem sCode_pow {g : Int → Int} {k : Nat} : ∀ {i : Nat}, (∀ j : Int, 0 ≤ j → j < (k + i : Nat) → 97 ≤ g j ∧ g j ≤ 122) → sCode g (k + i) / 2 ^ (8 * i) = sCode g k
  | 0, _ => by rw [Nat.mul_zero, Int.pow_zero]; exact Int.ediv_one _
  | i + 1, h => by
    have r := h ((k + i : Nat) : Int) (by omega) (by omega)
    rw [show 8 * (i + 1) = 8 + 8 * i by omega, Int.pow_add, ← Int.ediv_ediv_of_nonneg (by decide : (0 : Int) ≤ 2 ^ 8), show (2 : Int) ^ 8 = 256 from rfl, show k + (i + 1) = k + i + 1 from rfl, (sCode_div (by omega)).1]
    exact sCode_pow (fun j j0 j1 => h j j0 (by omega))
theorem nLen_code {g : Int → Int} : ∀ {n f : Nat}, n ≤ f → (∀ i : Int, 0 ≤ i → i < n → 97 ≤ g i ∧ g i ≤ 122) → nLen f (sCode g n) = n
  | 0, f, _, _ => by
    cases f with
    | zero => rfl
    | succ f => exact if_neg (by show ¬ (0 : Int) < 0; omega)
  | n + 1, 0, h, _ => by omega
  | n + 1, f + 1, h, hg => by
    have r := hg n (by omega) (by omega)
    show (if 0 < sCode g (n + 1) then 1 + nLen f (sCode g (n + 1) / 256) else 0) = _
    rw [if_pos ((sCode_pos hg).2 (by omega)), (sCode_div (by omega)).1, nLen_code (by omega) (fun i i0 i1 => hg i i0 (by omega))]
    omega
theorem sLet_at {code : Int} {g : Int → Int} {n : Nat} (h : nmIs code g n) {j : Int} (j0 : 0 ≤ j) : sLet code j = if j < n then g j - 96 else 0 := by
  obtain ⟨h1, rfl, h3⟩ := h
  unfold sLet
  rw [nLen_code (by omega) h3]
  by_cases w : j < n
  · rw [if_pos w, if_pos w]
    obtain ⟨i, hi⟩ : ∃ i : Nat, n = (j.toNat + 1) + i := ⟨n - (j.toNat + 1), by omega⟩
    rw [show (8 * ((n : Int) - 1 - j)).toNat = 8 * i by omega]
    rw [hi, sCode_pow (by rw [← hi]; exact h3)]
    have r := h3 j j0 w
    rw [(sCode_div (by rw [show ((j.toNat : Nat) : Int) = j by omega]; omega)).2, show ((j.toNat : Nat) : Int) = j by omega]
  · rw [if_neg w, if_neg w]
theorem sLet_range {code : Int} {g : Int → Int} {n : Nat} (h : nmIs code g n) {j : Int} (j0 : 0 ≤ j) : 0 ≤ sLet code j ∧ sLet code j ≤ 26 := by
  rw [sLet_at h j0]
  split
  · have := h.2.2 j j0 (by omega); omega
  · omega
theorem jand_255 {x : Int} (h : 0 ≤ x) : jand x 255 = x % 256 := by
  unfold jand
  rw [show (255 : Int).toNat = 2 ^ 8 - 1 from rfl, Nat.and_two_pow_sub_one_eq_mod]
  omega
theorem jcmp_0 {x : Int} : jcmp x 0 ≤ 0 ↔ x ≤ 0 := by
  unfold jcmp
  split
  · omega
  · split <;> omega
theorem strIs.nm {N : jSh} {A : jAr} {u s code : Int} (h : strIs N A u s code) : ∃ (g : Int → Int) (n : Nat), nmIs code g n := by
  obtain ⟨b, v, n, h1, h2, h3, h4, h5, h6⟩ := h
  exact ⟨A v, n, h4, h5, h6⟩
theorem nms.nm {N : jSh} {A : jAr} {u : Int} {W : sTb} {wA sA cA lA : Int → Int} (h : nms N A u W wA sA cA lA) {k i : Int} (hk : 0 ≤ k ∧ k ≤ 3) (hi : 0 ≤ i ∧ i < sMany W k) : ∃ t : Nat, (t = 14 ∨ t = 15 ∨ t = 16 ∨ t = 17) ∧ nm1 N A u t (if k = 0 then wA i else if k = 1 then sA i else if k = 2 then cA i else lA i) (sName W k i) := by
  unfold sMany at hi
  unfold sName
  have : k = 0 ∨ k = 1 ∨ k = 2 ∨ k = 3 := by omega
  rcases this with rfl | rfl | rfl | rfl
  · exact ⟨14, Or.inl rfl, h.1 i hi.1 hi.2⟩
  · exact ⟨15, Or.inr (Or.inl rfl), h.2.1 i hi.1 hi.2⟩
  · exact ⟨16, Or.inr (Or.inr (Or.inl rfl)), h.2.2.1 i hi.1 hi.2⟩
  · exact ⟨17, Or.inr (Or.inr (Or.inr rfl)), h.2.2.2 i hi.1 hi.2⟩
theorem nms.ok {N : jSh} {A : jAr} {u : Int} {W : sTb} {wA sA cA lA : Int → Int} (h : nms N A u W wA sA cA lA) : nmOk W := fun k i k0 k1 i0 i1 => by
  obtain ⟨t, -, b, -, -, hs⟩ := h.nm ⟨k0, k1⟩ ⟨i0, i1⟩
  exact hs.nm
def rOctet (Q : sMi) (k : Int) : Int := if 0 ≤ k ∧ k < Q 6 0 then Q 7 k else -1
theorem sX9_manyOf {o : Nat} {a1 : Int} {a2 : Int} {F : jFl} {A : jAr} {W : sTb} (hW : mrW o F A W) (h1 : a1 = F 3039 o) : wpX9_manyOf o a1 a2 F A (fun z => z = sMany W a2) := by
  unfold wpX9_manyOf
  subst h1
  have hb := hW.1
  obtain ⟨⟨n1, n2, n3, n4⟩, -⟩ := hW.2
  unfold sMany
  refine ⟨fun hc => ?_, fun hc => ?_⟩ -- c1
  · -- case (¬ a2 = 0)
    refine ⟨fun hc => ?_, fun hc => ?_⟩ -- c2
    · -- case (¬ a2 = 1)
      refine ⟨fun hc => ?_, fun hc => ?_⟩ -- c3
      · -- case (¬ a2 = 2)
        refine ⟨by omega, ?_⟩ -- s1: (0 ≤ a1 ∧ a1 < 2)
        -- l1: Q (A (o + 17) a1)
        exact n4.trans (by rw [if_neg (by omega), if_neg (by omega), if_neg (by omega)])
      · -- case ¬ (¬ a2 = 2)
        refine ⟨by omega, ?_⟩ -- s2: (0 ≤ a1 ∧ a1 < 2)
        -- l2: Q (A (o + 12) a1)
        exact n3.trans (by rw [if_neg (by omega), if_neg (by omega), if_pos (by omega)])
    · -- case ¬ (¬ a2 = 1)
      refine ⟨by omega, ?_⟩ -- s3: (0 ≤ a1 ∧ a1 < 2)
      -- l3: Q (A (o + 9) a1)
      exact n2.trans (by rw [if_neg (by omega), if_pos (by omega)])
  · -- case ¬ (¬ a2 = 0)
    refine ⟨by omega, ?_⟩ -- s4: (0 ≤ a1 ∧ a1 < 2)
    -- l4: Q (A (o + 2) a1)
    exact n1.trans (by rw [if_pos (by omega)])

theorem sX9_nameOf {o : Nat} {a1 : Int} {a2 : Int} {a3 : Int} {F : jFl} {A : jAr} {W : sTb} (hk : sWok W) (hW : mrW o F A W) (h1 : a1 = F 3039 o) (h2 : 0 ≤ a2 ∧ a2 ≤ 3) (h3 : 0 ≤ a3 ∧ a3 < sMany W a2) : wpX9_nameOf o a1 a2 a3 F A (fun z => z = sName W a2 a3) := by
  unfold wpX9_nameOf
  subst h1
  have hb := hW.1
  have g0 := hk.1
  have g1 := hk.2.1
  have g2 := hk.2.2.1
  have g3 := hk.2.2.2.1
  unfold sMany at h3
  unfold sName
  refine ⟨?_, ?_, ?_, ?_⟩ -- c1
  · intro hc -- case a2 = 0
    refine ⟨by (first | (rw [if_pos hc] at h3; have := hb; unfold mBk at this; omega) | (rw [if_neg (by omega), if_pos hc] at h3; have := hb; unfold mBk at this; omega) | (rw [if_neg (by omega), if_neg (by omega), if_pos hc] at h3; have := hb; unfold mBk at this; omega) | (rw [if_neg (by omega), if_neg (by omega), if_neg (by omega)] at h3; have := hb; unfold mBk at this; omega)), ?_⟩ -- s1: (0 ≤ (24 * a1) + a3 ∧ (24 * a1) + a3 < 48)
    -- l1: Q (A (o + 3) ((24 * a1) + a3))
    rw [if_pos hc] at h3 ⊢; exact (hW.2.2.2.1 a3 h3.1 h3.2).1
  · intro hc -- case a2 = 1
    refine ⟨by (first | (rw [if_pos hc] at h3; have := hb; unfold mBk at this; omega) | (rw [if_neg (by omega), if_pos hc] at h3; have := hb; unfold mBk at this; omega) | (rw [if_neg (by omega), if_neg (by omega), if_pos hc] at h3; have := hb; unfold mBk at this; omega) | (rw [if_neg (by omega), if_neg (by omega), if_neg (by omega)] at h3; have := hb; unfold mBk at this; omega)), ?_⟩ -- s2: (0 ≤ (6 * a1) + a3 ∧ (6 * a1) + a3 < 12)
    -- l2: Q (A (o + 10) ((6 * a1) + a3))
    rw [if_neg (by omega), if_pos hc] at h3 ⊢; exact (hW.2.2.2.2.1 a3 h3.1 h3.2).1
  · intro hc -- case a2 = 2
    refine ⟨by (first | (rw [if_pos hc] at h3; have := hb; unfold mBk at this; omega) | (rw [if_neg (by omega), if_pos hc] at h3; have := hb; unfold mBk at this; omega) | (rw [if_neg (by omega), if_neg (by omega), if_pos hc] at h3; have := hb; unfold mBk at this; omega) | (rw [if_neg (by omega), if_neg (by omega), if_neg (by omega)] at h3; have := hb; unfold mBk at this; omega)), ?_⟩ -- s3: (0 ≤ (10 * a1) + a3 ∧ (10 * a1) + a3 < 20)
    -- l3: Q (A (o + 13) ((10 * a1) + a3))
    rw [if_neg (by omega), if_neg (by omega), if_pos hc] at h3 ⊢; exact (hW.2.2.2.2.2.1 a3 h3.1 h3.2).1
  · intro hc1 hc2 hc3 -- case ¬ a2 = 0 ¬ a2 = 1 ¬ a2 = 2
    refine ⟨by (first | (rw [if_pos hc] at h3; have := hb; unfold mBk at this; omega) | (rw [if_neg (by omega), if_pos hc] at h3; have := hb; unfold mBk at this; omega) | (rw [if_neg (by omega), if_neg (by omega), if_pos hc] at h3; have := hb; unfold mBk at this; omega) | (rw [if_neg (by omega), if_neg (by omega), if_neg (by omega)] at h3; have := hb; unfold mBk at this; omega)), ?_⟩ -- s4: (0 ≤ (12 * a1) + a3 ∧ (12 * a1) + a3 < 24)
    -- l4: Q (A (o + 18) ((12 * a1) + a3))
    rw [if_neg hc1, if_neg hc2, if_neg hc3] at h3 ⊢; exact hW.2.2.2.2.2.2 a3 h3.1 h3.2

theorem sX9_letter {o : Nat} {a1 : Int} {a2 : Int} {a3 : Int} {F : jFl} {A : jAr} {W L : sTb} (h : mct o F A 0 W L) (hn : nmOk W) : wpX9_letter o a1 a2 a3 F A (fun z => z = rLetter W a1 a2 a3) := by
  unfold wpX9_letter
  have hk := h.1.1
  have hW := h.2.1
  have g0 := hk.1
  have g1 := hk.2.1
  have g2 := hk.2.2.1
  have g3 := hk.2.2.2.1
  have sm : 0 ≤ sMany W a1 ∧ sMany W a1 ≤ 24 := by unfold sMany; split <;> (try split) <;> (try split) <;> omega
  have b0 : ∀ {v : Int}, ¬ ((0 ≤ a1 ∧ a1 ≤ 3) ∧ (0 ≤ a2 ∧ a2 < sMany W a1) ∧ (0 ≤ a3 ∧ a3 ≤ 5)) → v = -1 → v = rLetter W a1 a2 a3 := fun w e => by unfold rLetter; rw [if_neg w]; exact e
  refine ⟨_, sX9_is, ?_⟩ -- call wpX9_is o a1 0 3 F A P1
  intro z3 p1
  refine ⟨fun hc => ?_, fun hc => ?_⟩ -- c1
  · -- case (z3 = 0)
    -- l1: Q (-1)
    exact b0 (by grind) rfl
  · -- case ¬ (z3 = 0)
    refine ⟨_, sX9_manyOf hW rfl, ?_⟩ -- call wpX9_manyOf o (F 3039 o) a1 F A P7
    intro z9 p7
    refine ⟨by omega, ?_⟩ -- s1: jR (z9 - 1)
    refine ⟨_, sX9_is, ?_⟩ -- call wpX9_is o a2 0 (z9 - 1) F A P13
    intro z15 p13
    refine ⟨fun hc => ?_, fun hc => ?_⟩ -- c2
    · -- case (z15 = 0)
      -- l2: Q (-1)
      exact b0 (by grind) rfl
    · -- case ¬ (z15 = 0)
      refine ⟨_, sX9_is, ?_⟩ -- call wpX9_is o a3 0 5 F A P19
      intro z21 p19
      refine ⟨fun hc => ?_, fun hc => ?_⟩ -- c3
      · -- case (¬ z21 = 0)
        have hg : (0 ≤ a1 ∧ a1 ≤ 3) ∧ (0 ≤ a2 ∧ a2 < sMany W a1) ∧ (0 ≤ a3 ∧ a3 ≤ 5) := by grind
        obtain ⟨g, n, hnm⟩ := hn a1 a2 hg.1.1 hg.1.2 hg.2.1.1 hg.2.1.2
        have hr : rLetter W a1 a2 a3 = if a3 < n then g a3 - 96 else 0 := by unfold rLetter; rw [if_pos hg]; exact sLet_at hnm hg.2.2.1
        have h6 := hnm.1
        have hnm3 := hnm.2.2
        refine ⟨_, sX9_nameOf hk hW rfl hg.1 hg.2.1, ?_⟩ -- call wpX9_nameOf o (F 3039 o) a1 a2 F A P25
        intro z27 p25
        have ez : z27 = sCode g n := p25.trans hnm.2.1
        have zm := sCode_max hnm3 (by omega)
        refine ⟨fun (v30 : Int) (v31 : Int) => (0 ≤ v30 ∧ v30 ≤ n) ∧ v31 = sCode g (n - v30.toNat), fun v30 v31 => (n - v30).toNat, ?_, ?_⟩ -- loop I32 I32 0 z27
        ·
          -- l3: I32 0 z27
          exact ⟨by omega, ez⟩
        intro v30 v31 i32
        obtain ⟨i1, i2⟩ := i32
        have sp := sCode_pos (g := g) (n := n - v30.toNat) (fun i i0 i1 => hnm3 i i0 (by omega))
        rw [jcmp_0]
        refine ⟨fun hc => ?_, fun hc => ?_⟩ -- c4
        · -- case ((jcmp v31 0) ≤ 0)
          have ev : v30 = n := by omega
          have hs : a3 < n → z27 / 2 ^ (8 * ((v30 - 1) - a3)).toNat % 256 = g a3 ∧ 0 ≤ z27 / 2 ^ (8 * ((v30 - 1) - a3)).toNat ∧ z27 / 2 ^ (8 * ((v30 - 1) - a3)).toNat ≤ z27 := fun w => by
            obtain ⟨i, hi⟩ : ∃ i : Nat, n = (a3.toNat + 1) + i := ⟨n - (a3.toNat + 1), by omega⟩
            have z0 : 0 ≤ z27 := by rw [ez]; exact (sCode_pos hnm3).1
            refine ⟨?_, Int.ediv_nonneg z0 (Int.pow_nonneg (by decide)), Int.ediv_le_self _ z0⟩
            rw [show (8 * (v30 - 1 - a3)).toNat = 8 * i by omega, ez, hi, sCode_pow (by rw [← hi]; exact hnm3)]
            have r := hnm3 a3 hg.2.2.1 w
            rw [(sCode_div (by rw [show ((a3.toNat : Nat) : Int) = a3 by omega]; omega)).2, show ((a3.toNat : Nat) : Int) = a3 by omega]
          refine ⟨fun hc => ?_, fun hc => ?_⟩ -- c5
          · -- case (a3 < v30)
            refine ⟨by omega, ?_⟩ -- s2: ((0 : Int) ≤ 8 * ((v30 - 1) - a3) ∧ (8 * ((v30 - 1) - a3) : Int) < 64)
            refine ⟨by (have := hs (by omega); omega), ?_⟩ -- s3: (((0 : Int) ≤ z27 / 2 ^ (8 * ((v30 - 1) - a3)).toNat ∧ (z27 / 2 ^ (8 * ((v30 - 1) - a3)).toNat : Int) ≤ 9223372036854775807) ∧ ((0 : Int) ≤ 255 ∧ (255 : Int) ≤ 
            refine ⟨by (have := hs (by omega); have r := hnm3 a3 hg.2.2.1 (by omega); rw [jand_255 this.2.1, this.1]; omega), ?_⟩ -- s4: jR (((jand (z27 / 2 ^ (8 * ((v30 - 1) - a3)).toNat) 255) - 97) + 1)
            -- l4: Q (((jand (z27 / 2 ^ (8 * ((v30 - 1) - a3)).toNat) 255) - 97) + 1)
            have q := hs (by omega)
            rw [hr, if_pos (by omega), jand_255 q.2.1, q.1]; omega
          · -- case ¬ (a3 < v30)
            -- l5: Q 0
            rw [hr, if_neg (by omega)]
        · -- case ¬ ((jcmp v31 0) ≤ 0)
          refine ⟨by omega, ?_⟩ -- s5: jR (v30 + 1)
          refine ⟨by omega, ?_⟩ -- s6: ((0 : Int) ≤ 8 ∧ (8 : Int) < 64)
          intro v41 e41
          refine ⟨?_, ?_⟩ -- l6: I32 (v30 + 1) v41
          · obtain ⟨m, hm⟩ : ∃ m : Nat, n - v30.toNat = m + 1 := ⟨n - v30.toNat - 1, by
              have : n - v30.toNat ≠ 0 := fun w => by rw [w] at i2; exact hc (by rw [i2]; exact Int.le_refl 0)
              omega⟩
            refine ⟨by omega, ?_⟩
            have r := hnm3 m (by omega) (by omega)
            rw [e41, i2, hm, show (2 : Int) ^ 8 = 256 from rfl, (sCode_div (by omega)).1, show n - (v30 + 1).toNat = m by omega]
          · have : n - v30.toNat ≠ 0 := fun w => by rw [w] at i2; exact hc (by rw [i2]; exact Int.le_refl 0)
            dsimp only; omega
      · -- case ¬ (¬ z21 = 0)
        -- l7: Q (-1)
        exact b0 (by grind) rfl

theorem sX9_octet {o : Nat} {a1 : Int} {F : jFl} {A : jAr} {R : Int} {Q : sMi} (h : mMi R o F A Q) : wpX9_octet o a1 F A (fun z => z = rOctet Q a1) := by
  unfold wpX9_octet
  obtain ⟨h1, h2, h3, h4, h5, h6, h7⟩ := h
  rw [h6.1]
  unfold rOctet
  refine ⟨by omega, ?_⟩ -- s1: jR ((F 3237 o) - 1)
  refine ⟨_, sX9_is, ?_⟩ -- call wpX9_is o a1 0 ((F 3237 o) - 1) F A P2
  intro z4 p2
  refine ⟨fun hc => ?_, fun hc => ?_⟩ -- c1
  · -- case (z4 = 0)
    -- l1: Q (-1)
    rw [if_neg (by grind)]
  · -- case ¬ (z4 = 0)
    refine ⟨by grind, ?_⟩ -- s2: (0 ≤ a1 ∧ a1 < 210)
    -- l2: Q (A (o + 48) a1)
    have q : 0 ≤ a1 ∧ a1 < Q 6 0 := by grind
    rw [if_pos q]; exact h7 a1 q.1 q.2

theorem sJ5_checkIndex {S : Nat → Nat} {a1 : Int} {a2 : Int} {N : jSh} {F : jFl} {A : jAr} (h1 : 0 ≤ a1 ∧ a1 < a2) : wqJ5_checkIndex S a1 a2 N F A (True) := by
  unfold wqJ5_checkIndex
  refine ⟨_, sJ9_checkIndex h1, ?_⟩ -- call wqJ9_checkIndex a1 a2 ((S 21 : Int) - 1) N F A P1
  intro z3 p1
  -- l1: Q
  trivial

theorem sJ5_coder {S : Nat → Nat} {o : Nat} {N : jSh} {F : jFl} {A : jAr} (h1 : jfn N 6603 o = 0) : wqJ5_coder S o N F A (fun z => z = 0) := by
  unfold wqJ5_coder
  refine ⟨fun hc => ?_, fun hc => ?_⟩ -- c1
  · -- case ((1 : Int) = 0)
    -- l1: Q 1
    omega
  · -- case (¬ ((1 : Int) = 0))
    refine ⟨by omega, ?_⟩ -- s1: (-128 ≤ jfn N 6603 o ∧ jfn N 6603 o ≤ 127)
    -- l2: Q (jfn N 6603 o)
    exact h1

theorem sJ5_length {S : Nat → Nat} {o : Nat} {N : jSh} {F : jFl} {A : jAr} {v n : Nat} (h1 : jfn N 6602 o = (v : Int)) (h2 : jtg N v = 108) (h3 : jfn N 6603 o = 0) (h4 : jln N v = n) (h5 : n ≤ 2000) : wqJ5_length S o N F A (fun z => z = n) := by
  unfold wqJ5_length
  refine ⟨_, by exact h1, ?_⟩ -- d1: jfn N 6602 o = (b1 : Int)
  refine ⟨by exact h2, ?_⟩ -- s1: jtg N b1 = 108
  refine ⟨_, sJ5_coder h3, ?_⟩ -- call wqJ5_coder S o N F A P4
  intro z6 p4
  subst p4
  rw [h4]
  refine ⟨by omega, ?_⟩ -- s2: jR (jln N b1 : Int)
  refine ⟨by omega, ?_⟩ -- s3: ((0 : Int) ≤ z6 ∧ (z6 : Int) < 32)
  -- l1: Q ((jln N b1 : Int) / 2 ^ z6.toNat)
  show (n : Int) / 1 = n; omega

theorem sJ5_isLatin1 {S : Nat → Nat} {o : Nat} {N : jSh} {F : jFl} {A : jAr} (h1 : jfn N 6603 o = 0) : wqJ5_isLatin1 S o N F A (fun z => z = 1) := by
  unfold wqJ5_isLatin1
  refine ⟨fun hc => ?_, fun hc => ?_⟩ -- c1
  · -- case ((1 : Int) = 0)
    -- l1: Q 0
    omega
  · -- case (¬ ((1 : Int) = 0))
    intro z3 e3
    -- l2: Q z3
    rw [e3, if_neg (by omega)]

theorem sJ10_charAt {S : Nat → Nat} {a1 : Int} {a2 : Int} {N : jSh} {F : jFl} {A : jAr} {v n : Nat} (h1 : a1 = (v : Int)) (h2 : jtg N v = 108) (h4 : jln N v = n) (h5 : n ≤ 2000) (h6 : 0 ≤ a2 ∧ a2 < n) : wqJ10_charAt S a1 a2 N F A (fun z => z = A v a2 % 256) := by
  unfold wqJ10_charAt
  refine ⟨_, by exact h1, ?_⟩ -- d1: a1 = (b1 : Int)
  refine ⟨by exact h2, ?_⟩ -- s1: jtg N b1 = 108
  refine ⟨by (rw [h4]; omega), ?_⟩ -- s2: jR (jln N b1 : Int)
  refine ⟨_, sJ5_checkIndex (by rw [h4]; omega), ?_⟩ -- call wqJ5_checkIndex S a2 (jln N b1 : Int) N F A P5
  intro p5
  refine ⟨by (rw [h4]; omega), ?_⟩ -- s3: ((0 : Int) ≤ a2 ∧ (a2 : Int) < (jln N b1 : Int))
  refine ⟨by omega, ?_⟩ -- s4: (0 ≤ (A b1 a2) % 256 ∧ (A b1 a2) % 256 ≤ 65535)
  -- l1: Q ((A b1 a2) % 256)
  rfl

theorem sJ5_charAt {S : Nat → Nat} {o : Nat} {a1 : Int} {N : jSh} {F : jFl} {A : jAr} {v n : Nat} (h1 : jfn N 6602 o = (v : Int)) (h2 : jtg N v = 108) (h3 : jfn N 6603 o = 0) (h4 : jln N v = n) (h5 : n ≤ 2000) (h6 : 0 ≤ a1 ∧ a1 < n) : wqJ5_charAt S o a1 N F A (fun z => z = A v a1 % 256) := by
  unfold wqJ5_charAt
  refine ⟨_, sJ5_isLatin1 h3, ?_⟩ -- call wqJ5_isLatin1 S o N F A P1
  intro z3 p1
  refine ⟨fun hc => ?_, fun hc => ?_⟩ -- c1
  · -- case (z3 = 0)
    exact absurd hc (by omega)
  · -- case (¬ (z3 = 0))
    refine ⟨_, sJ10_charAt h1 h2 h4 h5 h6, ?_⟩ -- call wqJ10_charAt S (jfn N 6602 o) a1 N F A P16
    intro z18 p16
    -- l1: Q z18
    exact p16

theorem sX0_names {o : Nat} {a1 : Int} {N : jSh} {F : jFl} {A : jAr} {W L : sTb} {t : Nat} {wA sA cA lA : Int → Int} (hx : ctx N F A o t W L wA sA cA lA) (h1 : 0 ≤ a1 ∧ a1 ≤ 3) : wqX0_names o a1 N F A (fun z => ∃ b : Nat, z = (b : Int) ∧ jli N F A b (sMany W a1) (fun i => if a1 = 0 then wA i else if a1 = 1 then sA i else if a1 = 2 then cA i else lA i)) := by
  unfold wqX0_names
  unfold sMany
  refine ⟨fun hc => ?_, fun hc => ?_⟩ -- c1
  · -- case (¬ a1 = 0)
    refine ⟨fun hc => ?_, fun hc => ?_⟩ -- c2
    · -- case (¬ a1 = 1)
      refine ⟨fun hc => ?_, fun hc => ?_⟩ -- c3
      · -- case (¬ a1 = 2)
        refine ⟨_, hx.ft, ?_⟩ -- d4: F 311 o = (b4 : Int)
        refine ⟨by exact hx.tt, ?_⟩ -- s1: jtg N b4 = 2
        -- l1: Q (jfn N 626 b4)
        have e : a1 = 3 := by omega
        subst e
        exact ⟨t + 4, hx.nL, hx.lL⟩
      · -- case (a1 = 2)
        refine ⟨_, hx.ft, ?_⟩ -- d7: F 311 o = (b7 : Int)
        refine ⟨by exact hx.tt, ?_⟩ -- s2: jtg N b7 = 2
        -- l2: Q (jfn N 623 b7)
        subst hc; exact ⟨t + 3, hx.nC, hx.lC⟩
    · -- case (a1 = 1)
      refine ⟨_, hx.ft, ?_⟩ -- d10: F 311 o = (b10 : Int)
      refine ⟨by exact hx.tt, ?_⟩ -- s3: jtg N b10 = 2
      -- l3: Q (jfn N 620 b10)
      subst hc; exact ⟨t + 2, hx.nS, hx.lS⟩
  · -- case (a1 = 0)
    refine ⟨_, hx.ft, ?_⟩ -- d13: F 311 o = (b13 : Int)
    refine ⟨by exact hx.tt, ?_⟩ -- s4: jtg N b13 = 2
    -- l4: Q (jfn N 617 b13)
    subst hc; exact ⟨t + 1, hx.nW, hx.lW⟩

theorem sX0_letter {S : Nat → Nat} {o : Nat} {a1 : Int} {a2 : Int} {a3 : Int} {N : jSh} {F : jFl} {A : jAr} {W L : sTb} {t : Nat} {wA sA cA lA : Int → Int} (hx : ctx N F A o t W L wA sA cA lA) {u : Int} (hn : nms N A u W wA sA cA lA) : wqX0_letter S o a1 a2 a3 N F A (fun z => z = rLetter W a1 a2 a3) := by
  unfold wqX0_letter
  have b0 : ∀ {v : Int}, ¬ ((0 ≤ a1 ∧ a1 ≤ 3) ∧ (0 ≤ a2 ∧ a2 < sMany W a1) ∧ (0 ≤ a3 ∧ a3 ≤ 5)) → v = -1 → v = rLetter W a1 a2 a3 := fun w e => by unfold rLetter; rw [if_neg w]; exact e
  refine ⟨_, sX0_isIn, ?_⟩ -- call wqX0_isIn a1 0 3 N F A P1
  intro z3 p1
  refine ⟨fun hc => ?_, fun hc => ?_⟩ -- c1
  · -- case (z3 = 0)
    -- l1: Q (-1)
    exact b0 (by grind) rfl
  · -- case (¬ (z3 = 0))
    refine ⟨_, sX0_isIn, ?_⟩ -- call wqX0_isIn a3 0 5 N F A P9
    intro z11 p9
    refine ⟨fun hc => ?_, fun hc => ?_⟩ -- c2
    · -- case (z11 = 0)
      -- l2: Q (-1)
      exact b0 (by grind) rfl
    · -- case (¬ (z11 = 0))
      refine ⟨_, sX0_names hx (by grind), ?_⟩ -- call wqX0_names o a1 N F A P17
      intro z19 p17
      obtain ⟨bl, q1, q2⟩ := p17
      refine ⟨_, by exact q1, ?_⟩ -- d24: z19 = (b24 : Int)
      refine ⟨by exact q2.1.1, ?_⟩ -- s1: jtg N b24 = 20
      refine ⟨_, sJ2_size q2, ?_⟩ -- call wqJ2_size b24 N F A P27
      intro z29 p27
      refine ⟨by (have := q2.2.2.1; omega), ?_⟩ -- s2: jR (z29 - 1)
      refine ⟨_, sX0_isIn, ?_⟩ -- call wqX0_isIn a2 0 (z29 - 1) N F A P35
      intro z37 p35
      refine ⟨fun hc => ?_, fun hc => ?_⟩ -- c3
      · -- case (¬ z37 = 0)
        refine ⟨_, sX0_names hx (by grind), ?_⟩ -- call wqX0_names o a1 N F A P43
        intro z45 p43
        have hg : (0 ≤ a1 ∧ a1 ≤ 3) ∧ (0 ≤ a2 ∧ a2 < sMany W a1) ∧ (0 ≤ a3 ∧ a3 ≤ 5) := by grind
        obtain ⟨bm, r1, r2⟩ := p43
        obtain ⟨tt, ht, bn, n1, n2, b, v, n, n3, ⟨n4, n5, n6⟩, ⟨n7, n8, -⟩, n9, n10, n11⟩ := hn.nm hg.1 hg.2.1
        have hr : rLetter W a1 a2 a3 = if a3 < n then A v a3 - 96 else 0 := by unfold rLetter; rw [if_pos hg]; exact sLet_at ⟨n9, n10, n11⟩ hg.2.2.1
        refine ⟨_, by exact r1, ?_⟩ -- d50: z45 = (b50 : Int)
        refine ⟨by exact r2.1.1, ?_⟩ -- s3: jtg N b50 = 20
        refine ⟨_, sJ2_get r2 hg.2.1, ?_⟩ -- call wqJ2_get b50 a2 N F A P53
        intro z55 p53
        refine ⟨?_, ?_⟩ -- s4: jcst N "ChildSays$Named" z55
        · rcases ht with w | w | w | w <;> rw [w] at n2
          · exact Or.inr ⟨bn, _, p53.trans n1, by rw [n2]; rfl, Or.inr (List.mem_of_elem_eq_true (by decide +kernel))⟩
          · exact Or.inr ⟨bn, _, p53.trans n1, by rw [n2]; rfl, Or.inr (List.mem_of_elem_eq_true (by decide +kernel))⟩
          · exact Or.inr ⟨bn, _, p53.trans n1, by rw [n2]; rfl, Or.inr (List.mem_of_elem_eq_true (by decide +kernel))⟩
          · exact Or.inr ⟨bn, _, p53.trans n1, by rw [n2]; rfl, Or.inr (List.mem_of_elem_eq_true (by decide +kernel))⟩
        refine ⟨_, by exact p53.trans n1, ?_⟩ -- d61: z55 = (b61 : Int)
        refine ⟨by (rw [n2]; exact ht), ?_⟩ -- s5: (jtg N b61 = 14 ∨ jtg N b61 = 15 ∨ jtg N b61 = 16 ∨ jtg N b61 = 17)
        intro v64 e64
        refine ⟨_, by exact e64.trans n3, ?_⟩ -- d65: v64 = (b65 : Int)
        refine ⟨by exact n4, ?_⟩ -- s6: jtg N b65 = 22
        refine ⟨_, sJ5_length n5 n7 n6 n8 (by omega), ?_⟩ -- call wqJ5_length S b65 N F A P68
        intro z70 p68
        refine ⟨fun hc => ?_, fun hc => ?_⟩ -- c4
        · -- case (z70 ≤ a3)
          -- l3: Q 0
          rw [hr, if_neg (by omega)]
        · -- case (¬ (z70 ≤ a3))
          refine ⟨_, sJ5_charAt n5 n7 n6 n8 (by omega) (by omega), ?_⟩ -- call wqJ5_charAt S b65 a3 N F A P76
          intro z78 p76
          have r := n11 a3 hg.2.2.1 (by omega)
          have em : z78 = A v a3 := by rw [p76]; omega
          refine ⟨by omega, ?_⟩ -- s7: jR ((z78 - 97) + 1)
          -- l4: Q ((z78 - 97) + 1)
          rw [hr, if_pos (by omega), em]; omega
      · -- case (z37 = 0)
        -- l5: Q (-1)
        exact b0 (by grind) rfl

theorem sJ3_length {o : Nat} {N : jSh} {F : jFl} {A : jAr} {n : Int} (h : F 7209 o = n) : wqJ3_length o N F A (fun z => z = n) := by
  unfold wqJ3_length
  -- l1: Q (F 7209 o)
  exact h

theorem sJ4_length {o : Nat} {N : jSh} {F : jFl} {A : jAr} {n : Int} (h : F 7209 o = n) : wqJ4_length o N F A (fun z => z = n) := by
  unfold wqJ4_length
  refine ⟨_, sJ3_length h, ?_⟩ -- call wqJ3_length o N F A P1
  intro z3 p1
  -- l1: Q z3
  exact p1

theorem sJ3_charAt {S : Nat → Nat} {o : Nat} {a1 : Int} {N : jSh} {F : jFl} {A : jAr} {v : Nat} {n : Int} (h1 : F 7202 o = (v : Int)) (h2 : F 7203 o = 0) (h3 : F 7209 o = n) (h4 : jtg N v = 108) (h5 : n ≤ (jln N v : Int)) (h6 : jln N v ≤ 1000) (h7 : 0 ≤ a1 ∧ a1 < n) : wqJ3_charAt S o a1 N F A (fun z => z = A v a1 % 256) := by
  unfold wqJ3_charAt
  intro v1 e1
  intro v2 e2
  rw [h2] at e1
  rw [h1] at e2
  subst e1
  refine ⟨_, by exact e2, ?_⟩ -- d3: v2 = (b3 : Int)
  refine ⟨by exact h4, ?_⟩ -- s1: jtg N b3 = 108
  refine ⟨by omega, ?_⟩ -- s2: jR (jln N b3 : Int)
  refine ⟨by omega, ?_⟩ -- s3: ((0 : Int) ≤ v1 ∧ (v1 : Int) < 32)
  intro v8 e8
  have ed : (jln N v : Int) / 2 ^ (0 : Int).toNat = jln N v := Int.ediv_one _
  rw [h3, ed, if_pos h5] at e8
  refine ⟨_, sJ5_checkIndex (by omega), ?_⟩ -- call wqJ5_checkIndex S a1 v8 N F A P9
  intro p9
  refine ⟨fun hc => ?_, fun hc => ?_⟩ -- c1
  · -- case (¬ v1 = 0)
    exact absurd rfl hc
  · -- case (v1 = 0)
    refine ⟨by omega, ?_⟩ -- s4: ((0 : Int) ≤ a1 ∧ (a1 : Int) < (jln N b3 : Int))
    refine ⟨by omega, ?_⟩ -- s5: (0 ≤ (A b3 a1) % 256 ∧ (A b3 a1) % 256 ≤ 65535)
    -- l1: Q ((A b3 a1) % 256)
    rfl

theorem sJ4_charAt {S : Nat → Nat} {o : Nat} {a1 : Int} {N : jSh} {F : jFl} {A : jAr} {v : Nat} {n : Int} (h1 : F 7202 o = (v : Int)) (h2 : F 7203 o = 0) (h3 : F 7209 o = n) (h4 : jtg N v = 108) (h5 : n ≤ (jln N v : Int)) (h6 : jln N v ≤ 1000) (h7 : 0 ≤ a1 ∧ a1 < n) : wqJ4_charAt S o a1 N F A (fun z => z = A v a1 % 256) := by
  unfold wqJ4_charAt
  refine ⟨_, sJ3_charAt h1 h2 h3 h4 h5 h6 h7, ?_⟩ -- call wqJ3_charAt S o a1 N F A P1
  intro z3 p1
  -- l1: Q z3
  exact p1

theorem sX0_octet {S : Nat → Nat} {o : Nat} {a1 : Int} {N : jSh} {F : jFl} {A : jAr} {Q : sMi} (hy : lay N o) (h : octs o N F A Q) : wqX0_octet S o a1 N F A (fun z => z = rOctet Q a1) := by
  unfold wqX0_octet
  obtain ⟨v, ⟨h1, h2, h3⟩, ⟨h4, h5, h6, h7⟩, h8, h9, -⟩ := h
  unfold rOctet
  refine ⟨_, by exact hy.p350, ?_⟩ -- d1: jfn N 350 o = (b1 : Int)
  refine ⟨by exact (hy.1 140 (by decide)).1, ?_⟩ -- s1: jtg N b1 = 21
  refine ⟨_, sJ4_length h3, ?_⟩ -- call wqJ4_length b1 N F A P4
  intro z6 p4
  subst p4
  refine ⟨by omega, ?_⟩ -- s2: jR (z6 - 1)
  refine ⟨_, sX0_isIn, ?_⟩ -- call wqX0_isIn a1 0 (z6 - 1) N F A P12
  intro z14 p12
  refine ⟨fun hc => ?_, fun hc => ?_⟩ -- c1
  · -- case (z14 = 0)
    -- l1: Q (-1)
    rw [if_neg (by grind)]
  · -- case (¬ (z14 = 0))
    have q : 0 ≤ a1 ∧ a1 < Q 6 0 := by grind
    have r := h9 a1 q.1 q.2
    refine ⟨_, sJ4_charAt h1 h2 h3 h4 h8.2 h7 q, ?_⟩ -- call wqJ4_charAt S b1 a1 N F A P20
    intro z22 p20
    -- l2: Q z22
    rw [if_pos q, p20, r.2]
    split <;> omega

