set_option maxRecDepth 100000
set_option linter.unusedVariables false
/-! texts are compared; words of the language, names, digits; printed by gen/prove.py out of spec/am.ceq.spec -/
theorem sJ10_equals {a1 : Int} {a2 : Int} {N : jSh} {F : jFl} {A : jAr} {v v' : Nat} (h1 : a1 = (v : Int)) (h2 : a2 = (v' : Int)) (t1 : jtg N v = 108) (t2 : jtg N v' = 108) (l1 : jln N v ≤ 2000) (l2 : jln N v' ≤ 2000) : wqJ10_equals a1 a2 N F A (fun z => z = cif (jln N v = jln N v' ∧ ∀ i : Int, 0 ≤ i → i < (jln N v : Int) → A v i = A v' i) 1 0) := by
  unfold wqJ10_equals
  refine ⟨_, by exact h1, ?_⟩ -- d1: a1 = (b1 : Int)
  refine ⟨by exact t1, ?_⟩ -- s1: jtg N b1 = 108
  refine ⟨_, by exact h2, ?_⟩ -- d4: a2 = (b4 : Int)
  refine ⟨by exact t2, ?_⟩ -- s2: jtg N b4 = 108
  refine ⟨by omega, ?_⟩ -- s3: jR (jln N b4 : Int)
  refine ⟨by omega, ?_⟩ -- s4: jR (jln N b1 : Int)
  refine ⟨fun hc => ?_, fun hc => ?_⟩ -- c1
  · -- case (¬ (jln N b1 : Int) = (jln N b4 : Int))
    -- l1: Q 0
    exact (cif_neg (fun w => by omega)).symm
  · -- case ((jln N b1 : Int) = (jln N b4 : Int))
    refine ⟨fun (v10 : Int) => (0 ≤ v10 ∧ v10 ≤ (jln N v : Int)) ∧ ∀ i : Int, 0 ≤ i → i < v10 → A v i = A v' i, fun v10 => ((jln N v : Int) - v10).toNat, ?_, ?_⟩ -- loop I12 I12 0
    ·
      -- l2: I12 0
      exact ⟨by omega, fun i i0 i1 => by omega⟩
    intro v10 i12
    obtain ⟨i1, i2⟩ := i12
    refine ⟨by omega, ?_⟩ -- s5: jR (jln N b1 : Int)
    refine ⟨fun hc => ?_, fun hc => ?_⟩ -- c2
    · -- case ((jln N b1 : Int) ≤ v10)
      -- l3: Q 1
      exact (cif_pos ⟨by omega, fun i i0 i1' => i2 i i0 (by omega)⟩).symm
    · -- case (¬ ((jln N b1 : Int) ≤ v10))
      refine ⟨by omega, ?_⟩ -- s6: ((0 : Int) ≤ v10 ∧ (v10 : Int) < (jln N b1 : Int))
      refine ⟨by omega, ?_⟩ -- s7: ((0 : Int) ≤ v10 ∧ (v10 : Int) < (jln N b4 : Int))
      refine ⟨fun hc => ?_, fun hc => ?_⟩ -- c3
      · -- case ((A b1 v10) = (A b4 v10))
        refine ⟨by omega, ?_⟩ -- s8: jR (v10 + 1)
        refine ⟨?_, ?_⟩ -- l4: I12 (v10 + 1)
        · refine ⟨by omega, fun i i0 i1' => ?_⟩
          by_cases w : i = v10
          · rw [w]; exact hc
          · exact i2 i i0 (by omega)
        · dsimp only; omega
      · -- case (¬ ((A b1 v10) = (A b4 v10)))
        -- l5: Q 0
        exact (cif_neg (fun w => hc (w.2 v10 (by omega) (by omega)))).symm

theorem sJ5_equals {S : Nat → Nat} {o : Nat} {a1 : Int} {N : jSh} {F : jFl} {A : jAr} {b v v' : Nat} (h1 : a1 = (b : Int)) (hb : jtg N b = 22 ∧ jfn N 6602 b = (v' : Int) ∧ jfn N 6603 b = 0) (ho : jfn N 6602 o = (v : Int) ∧ jfn N 6603 o = 0) (t1 : jtg N v = 108) (t2 : jtg N v' = 108) (l1 : jln N v ≤ 2000) (l2 : jln N v' ≤ 2000) : wqJ5_equals S o a1 N F A (fun z => z = cif (jln N v = jln N v' ∧ ∀ i : Int, 0 ≤ i → i < (jln N v : Int) → A v i = A v' i) 1 0) := by
  unfold wqJ5_equals
  refine ⟨fun hc => ?_, fun hc => ?_⟩ -- c1
  · -- case (¬ ((o : Int) = a1 ∨ ((o : Int) < 0 ∧ a1 < 0)))
    refine ⟨_, by exact h1, ?_⟩ -- d2: a1 = (b2 : Int)
    refine ⟨by exact hb.1, ?_⟩ -- s1: jtg N b2 = 22
    refine ⟨fun hc => ?_, fun hc => ?_⟩ -- c2
    · -- case ((1 : Int) = 0)
      -- l1: Q 0
      exact absurd hc (by decide)
    · -- case (¬ ((1 : Int) = 0))
      refine ⟨by exact jcst_at h1 hb.1 rfl rfl, ?_⟩ -- s2: jcst N "java/lang/String" a1
      refine ⟨fun hc => ?_, fun hc => ?_⟩ -- c3
      · -- case ((1 : Int) = 0)
        omega
      · -- case (¬ ((1 : Int) = 0))
        refine ⟨fun hc => ?_, fun hc => ?_⟩ -- c4
        · -- case (¬ (jfn N 6603 o) = (jfn N 6603 b2))
          -- l2: Q 0
          exact absurd (by rw [ho.2, hb.2.2]) hc
        · -- case ((jfn N 6603 o) = (jfn N 6603 b2))
          refine ⟨_, sJ10_equals ho.1 hb.2.1 t1 t2 l1 l2, ?_⟩ -- call wqJ10_equals (jfn N 6602 o) (jfn N 6602 b2) N F A P19
          intro z21 p19
          intro z27 e27
          -- l3: Q z27
          rw [e27, p19]
          rcases cif_or (P := jln N v = jln N v' ∧ ∀ i : Int, 0 ≤ i → i < (jln N v : Int) → A v i = A v' i) (x := (1 : Int)) (y := 0) with ⟨-, w⟩ | ⟨-, w⟩
          · rw [w]; rfl
          · rw [w]; rfl
  · -- case (((o : Int) = a1 ∨ ((o : Int) < 0 ∧ a1 < 0)))
    -- l4: Q 1
    have e : o = b := by omega
    subst e
    have e2 : v = v' := by have := ho.1.symm.trans hb.2.1; omega
    subst e2
    exact (cif_pos ⟨rfl, fun _ _ _ => rfl⟩).symm

/-- a text of so many letters -/
def txt (N : jSh) (A : jAr) (b v : Nat) (g : Int → Int) (n : Nat) : Prop := (jtg N b = 22 ∧ jfn N 6602 b = (v : Int) ∧ jfn N 6603 b = 0) ∧ (jtg N v = 108 ∧ jln N v = n ∧ n ≤ 2000) ∧ ∀ i : Int, 0 ≤ i → i < n → A v i = g i ∧ 97 ≤ g i ∧ g i ≤ 122
/-- a name (of one to six letters) and a text of letters: alike or not -/
theorem txt_code {A : jAr} {v v' n m : Nat} {g : Int → Int} {code : Int} (h : ∀ i : Int, 0 ≤ i → i < n → A v i = g i ∧ 97 ≤ g i ∧ g i ≤ 122) (hm : 1 ≤ m ∧ m ≤ 6) (hc : code = sCode (A v') m) (hl : ∀ i : Int, 0 ≤ i → i < m → 97 ≤ A v' i ∧ A v' i ≤ 122) : ((m = n ∧ ∀ i : Int, 0 ≤ i → i < (m : Int) → A v' i = A v i) ↔ (n ≤ 6 ∧ sCode g n = code)) := by
  have inj := sCode_inj (g := g) (g' := A v') n m (fun i i0 i1 => by have := h i i0 i1; omega) (fun i i0 i1 => by have := hl i i0 i1; omega)
  rw [hc, inj]
  constructor
  · rintro ⟨e, w⟩
    subst e
    exact ⟨hm.2, rfl, fun i i0 i1 => by rw [w i i0 i1, (h i i0 i1).1]⟩
  · rintro ⟨-, e, w⟩
    subst e
    exact ⟨rfl, fun i i0 i1 => by rw [← w i i0 i1, (h i i0 i1).1]⟩
/-- the comparison of a name with a text of letters -/
theorem txt_eq {S : Nat → Nat} {N : jSh} {F : jFl} {A : jAr} {u s code a1 : Int} {o b v n : Nat} {g : Int → Int} (h : strIs N A u s code) (ho : s = (o : Int)) (ht : txt N A b v g n) (h1 : a1 = (b : Int)) : wqJ5_equals S o a1 N F A (fun z => z = cif (n ≤ 6 ∧ sCode g n = code) 1 0) := by
  obtain ⟨b', v', m, e1, ⟨e2, e3, e4⟩, ⟨e5, e6, e7⟩, e8, e9, e10⟩ := h
  obtain ⟨t1, ⟨t2, t3, t4⟩, t5⟩ := ht
  have eo : b' = o := by omega
  subst eo
  have q := sJ5_equals (S := S) (F := F) (A := A) h1 t1 ⟨e3, e4⟩ e5 t2 (by rw [e6]; omega) (by rw [t3]; exact t4)
  have k := txt_code (v' := v') t5 e8 e9 e10
  rw [e6, t3] at q
  rw [show (m = n ∧ ∀ i : Int, 0 ≤ i → i < (m : Int) → A v' i = A v i) = (n ≤ 6 ∧ sCode g n = code) from propext k] at q
  exact q
/-- the comparison of a text of letters with a name -/
theorem txt_eq2 {S : Nat → Nat} {N : jSh} {F : jFl} {A : jAr} {u code a1 : Int} {o v n : Nat} {g : Int → Int} (h : strIs N A u a1 code) (ht : txt N A o v g n) : wqJ5_equals S o a1 N F A (fun z => z = cif (n ≤ 6 ∧ sCode g n = code) 1 0) := by
  obtain ⟨b', v', m, e1, ⟨e2, e3, e4⟩, ⟨e5, e6, e7⟩, e8, e9, e10⟩ := h
  obtain ⟨t1, ⟨t2, t3, t4⟩, t5⟩ := ht
  have q := sJ5_equals (S := S) (F := F) (A := A) e1 ⟨e2, e3, e4⟩ t1.2 t2 e5 (by rw [t3]; exact t4) (by rw [e6]; omega)
  have k := txt_code (v' := v') t5 e8 e9 e10
  rw [e6, t3] at q
  have kk : (n = m ∧ ∀ i : Int, 0 ≤ i → i < (n : Int) → A v i = A v' i) ↔ (n ≤ 6 ∧ sCode g n = code) := by
    rw [← k]
    constructor
    · rintro ⟨x, y⟩
      subst x
      exact ⟨rfl, fun i i0 i1 => (y i i0 i1).symm⟩
    · rintro ⟨x, y⟩
      subst x
      exact ⟨rfl, fun i i0 i1 => (y i i0 i1).symm⟩
  rw [show (n = m ∧ ∀ i : Int, 0 ≤ i → i < (n : Int) → A v i = A v' i) = (n ≤ 6 ∧ sCode g n = code) from propext kk] at q
  exact q
theorem sX0_isOwn {S : Nat → Nat} {a1 : Int} {N : jSh} {F : jFl} {A : jAr} {u : Int} {b v n : Nat} {g : Int → Int} (hw : own S N A u) (ht : txt N A b v g n) (h1 : a1 = (b : Int)) : wqX0_isOwn S a1 N F A (fun z => z = cif (n ≤ 6 ∧ sOwn (sCode g n)) 1 0) := by
  unfold wqX0_isOwn
  obtain ⟨⟨w1, w2⟩, w3, -⟩ := hw
  refine ⟨fun (v1 : Int) => (0 ≤ v1 ∧ v1 ≤ 17) ∧ ∀ k : Nat, (k : Int) < v1 → n ≤ 6 → ownT.getD k 0 ≠ sCode g n, fun v1 => (17 - v1).toNat, ?_, ?_⟩ -- loop I3 I3 0
  ·
    -- l1: I3 0
    exact ⟨by omega, fun k k1 => by omega⟩
  intro v1 i3
  obtain ⟨i1, i2⟩ := i3
  rw [w2]
  refine ⟨by exact w1, ?_⟩ -- s1: jtg N (S 0) = 119
  refine ⟨by omega, ?_⟩ -- s2: jR (jln N (S 0) : Int)
  refine ⟨fun hc => ?_, fun hc => ?_⟩ -- c1
  · -- case ((jln N (S 0) : Int) ≤ v1)
    -- l2: Q 0
    exact (cif_neg (fun x => by obtain ⟨k, k1, k2⟩ := x.2; exact i2 k (by omega) x.1 k2)).symm
  · -- case (¬ ((jln N (S 0) : Int) ≤ v1))
    refine ⟨by omega, ?_⟩ -- s3: ((0 : Int) ≤ v1 ∧ (v1 : Int) < (jln N (S 0) : Int))
    have wk := w3 v1.toNat (by omega)
    have ev : ((v1.toNat : Nat) : Int) = v1 := by omega
    rw [ev] at wk
    refine ⟨_, by exact wk.1, ?_⟩ -- d9: A (S 0) v1 = (b9 : Int)
    obtain ⟨bs, vs, ms, y1, y2, -⟩ := id wk.2
    have es : S (v1.toNat + 1) = bs := by omega
    refine ⟨by (rw [es]; exact y2.1), ?_⟩ -- s4: jtg N b9 = 22
    refine ⟨_, txt_eq wk.2 rfl ht h1, ?_⟩ -- call wqJ5_equals S b9 a1 N F A P12
    intro z14 p12
    refine ⟨fun hc => ?_, fun hc => ?_⟩ -- c2
    · -- case (z14 = 0)
      refine ⟨by omega, ?_⟩ -- s5: jR (v1 + 1)
      refine ⟨?_, ?_⟩ -- l3: I3 (v1 + 1)
      · refine ⟨by omega, fun k k1 k6 => ?_⟩
        by_cases w : (k : Int) = v1
        · have ek : k = v1.toNat := by omega
          intro x
          rw [cif_pos ⟨k6, by rw [← ek]; exact x.symm⟩] at p12
          omega
        · exact i2 k (by omega) k6
      · dsimp only; omega
    · -- case (¬ (z14 = 0))
      -- l4: Q 1
      have y : n ≤ 6 ∧ sCode g n = ownT.getD v1.toNat 0 := Classical.byContradiction (fun x => by rw [cif_neg x] at p12; omega)
      exact (cif_pos ⟨y.1, v1.toNat, by omega, y.2.symm⟩).symm

theorem jcst_named {N : jSh} {b k : Nat} {z : Int} (h : z = (b : Int)) (ht : jtg N b = k) (hk : k = 14 ∨ k = 15 ∨ k = 16 ∨ k = 17) : jcst N "ChildSays$Named" z := by
  rcases hk with w | w | w | w
  · exact Or.inr ⟨b, _, h, (by rw [ht, w]; rfl), Or.inr (List.elem_iff.mp (by decide +kernel))⟩
  · exact Or.inr ⟨b, _, h, (by rw [ht, w]; rfl), Or.inr (List.elem_iff.mp (by decide +kernel))⟩
  · exact Or.inr ⟨b, _, h, (by rw [ht, w]; rfl), Or.inr (List.elem_iff.mp (by decide +kernel))⟩
  · exact Or.inr ⟨b, _, h, (by rw [ht, w]; rfl), Or.inr (List.elem_iff.mp (by decide +kernel))⟩
theorem sX0_named {S : Nat → Nat} {a1 : Int} {a2 : Int} {N : jSh} {F : jFl} {A : jAr} {u : Int} {l b v n k : Nat} {m : Int} {e nm : Int → Int} {g : Int → Int} (h1 : a1 = (l : Int)) (h2 : a2 = (b : Int)) (hl : jli N F A l m e) (hk : k = 14 ∨ k = 15 ∨ k = 16 ∨ k = 17) (he : ∀ i : Int, 0 ≤ i → i < m → nm1 N A u k (e i) (nm i)) (ht : txt N A b v g n) (hn : n ≤ 6) : wqX0_named S a1 a2 N F A (fun z => z = (if nmd nm m (sCode g n) = -1 then -1 else e (nmd nm m (sCode g n)))) := by
  unfold wqX0_named
  have m0 := hl.2.2.1
  refine ⟨fun (v1 : Int) => (0 ≤ v1 ∧ v1 ≤ m) ∧ ∀ j : Int, 0 ≤ j → j < v1 → nm j ≠ sCode g n, fun v1 => (m - v1).toNat, ?_, ?_⟩ -- loop I3 I3 0
  ·
    -- l1: I3 0
    exact ⟨by omega, fun j j0 j1 => by omega⟩
  intro v1 i3
  obtain ⟨i1, i2⟩ := i3
  refine ⟨_, by exact h1, ?_⟩ -- d5: a1 = (b5 : Int)
  refine ⟨by exact hl.1.1, ?_⟩ -- s1: jtg N b5 = 20
  refine ⟨_, sJ2_size hl, ?_⟩ -- call wqJ2_size b5 N F A P8
  intro z10 p8
  refine ⟨fun hc => ?_, fun hc => ?_⟩ -- c1
  · -- case (z10 ≤ v1)
    -- l2: Q (-1)
    rw [if_pos (nmd_no m0.1 (fun j j0 j1 => i2 j j0 (by omega)))]
  · -- case (¬ (z10 ≤ v1))
    refine ⟨_, sJ2_get hl (by omega), ?_⟩ -- call wqJ2_get b5 v1 N F A P16
    intro z18 p16
    obtain ⟨bb, y1, y2, y3⟩ := he v1 (by omega) (by omega)
    have y3' := y3
    obtain ⟨sb, sv, sm, w1, w2, -⟩ := y3'
    refine ⟨by exact jcst_named (p16.trans y1) y2 hk, ?_⟩ -- s2: jcst N "ChildSays$Named" z18
    refine ⟨_, by exact p16.trans y1, ?_⟩ -- d24: z18 = (b24 : Int)
    refine ⟨by (rw [y2]; exact hk), ?_⟩ -- s3: (jtg N b24 = 14 ∨ jtg N b24 = 15 ∨ jtg N b24 = 16 ∨ jtg N b24 = 17)
    refine ⟨_, by exact w1, ?_⟩ -- d27: jfn N 3902 b24 = (b27 : Int)
    refine ⟨by exact w2.1, ?_⟩ -- s4: jtg N b27 = 22
    refine ⟨_, txt_eq y3 w1 ht h2, ?_⟩ -- call wqJ5_equals S b27 a2 N F A P30
    intro z32 p30
    refine ⟨fun hc => ?_, fun hc => ?_⟩ -- c2
    · -- case (z32 = 0)
      refine ⟨by omega, ?_⟩ -- s5: jR (v1 + 1)
      refine ⟨?_, ?_⟩ -- l3: I3 (v1 + 1)
      · refine ⟨by omega, fun j j0 j1 => ?_⟩
        by_cases w : j = v1
        · intro x
          rw [cif_pos ⟨hn, by rw [← w]; exact x.symm⟩] at p30
          omega
        · exact i2 j j0 (by omega)
      · dsimp only; omega
    · -- case (¬ (z32 = 0))
      refine ⟨_, sJ2_get hl (by omega), ?_⟩ -- call wqJ2_get b5 v1 N F A P39
      intro z41 p39
      refine ⟨by exact jcst_named (p39.trans y1) y2 hk, ?_⟩ -- s6: jcst N "ChildSays$Named" z41
      -- l4: Q z41
      have y : n ≤ 6 ∧ sCode g n = nm v1 := Classical.byContradiction (fun x => by rw [cif_neg x] at p30; omega)
      have e1 := nmd_at (e := nm) (m := m) (c := sCode g n) ⟨i1.1, by omega⟩ y.2.symm i2
      rw [e1, if_neg (by omega)]
      exact p39

theorem sX0_digitsOf {S : Nat → Nat} {a1 : Int} {N : jSh} {F : jFl} {A : jAr} {b v n : Nat} {g : Int → Int} (h1 : a1 = (b : Int)) (ht : strT N A b v g n) (hg : ∀ i : Int, 0 ≤ i → i < n → 48 ≤ g i ∧ g i ≤ 57) (hn : n ≤ 4) : wqX0_digitsOf S a1 N F A (fun z => z = it (fun i s => 10 * s + g i - 48) 0 n) := by
  unfold wqX0_digitsOf
  refine ⟨fun (v1 : Int) (v2 : Int) => (0 ≤ v2 ∧ v2 ≤ n) ∧ v1 = it (fun i s => 10 * s + g i - 48) 0 v2.toNat ∧ (0 ≤ v1 ∧ (v2 = 0 → v1 ≤ 0) ∧ (v2 = 1 → v1 ≤ 9) ∧ (v2 = 2 → v1 ≤ 99) ∧ (v2 = 3 → v1 ≤ 999)), fun v1 v2 => (n - v2).toNat, ?_, ?_⟩ -- loop I4 I4 0 0
  ·
    -- l1: I4 0 0
    exact ⟨by omega, rfl, by omega⟩
  intro v1 v2 i4
  obtain ⟨i1, i2, i3⟩ := i4
  refine ⟨_, by exact h1, ?_⟩ -- d6: a1 = (b6 : Int)
  refine ⟨by exact ht.1.1, ?_⟩ -- s1: jtg N b6 = 22
  refine ⟨_, ht.length, ?_⟩ -- call wqJ5_length S b6 N F A P9
  intro z11 p9
  refine ⟨fun hc => ?_, fun hc => ?_⟩ -- c1
  · -- case (z11 ≤ v2)
    -- l2: Q v1
    rw [i2, show v2.toNat = n by omega]
  · -- case (¬ (z11 ≤ v2))
    refine ⟨_, ht.charAt (by omega), ?_⟩ -- call wqJ5_charAt S b6 v2 N F A P17
    intro z19 p17
    have gr := hg v2 (by omega) (by omega)
    refine ⟨by omega, ?_⟩ -- s2: jR (((10 * v1) + z19) - 48)
    intro v25 e25
    refine ⟨by omega, ?_⟩ -- s3: jR (v2 + 1)
    refine ⟨?_, ?_⟩ -- l3: I4 v25 (v2 + 1)
    · refine ⟨by omega, ?_, by omega⟩
      rw [it_succ _ _ i1.1, ← i2, e25, p17]
    · dsimp only; omega

