set_option maxRecDepth 100000
set_option linter.unusedVariables false
/-! the component's reader, first steps; printed by gen/prove.py out of spec/ae.crd.spec -/
theorem sX10_isLetter {o : Nat} {a1 : Int} {N : jSh} {F : jFl} {A : jAr}  : wqX10_isLetter o a1 N F A (fun z => z = (if 97 ≤ a1 ∧ a1 ≤ 122 then 1 else 0)) := by
  unfold wqX10_isLetter
  refine ⟨fun hc => ?_, fun hc => ?_⟩ -- c1
  · -- case (a1 < 97)
    -- l1: Q 0
    rw [if_neg (by omega)]
  · -- case (¬ (a1 < 97))
    intro z3 e3
    -- l2: Q z3
    rw [e3]; split <;> split <;> omega

theorem sX10_isDigit {o : Nat} {a1 : Int} {N : jSh} {F : jFl} {A : jAr}  : wqX10_isDigit o a1 N F A (fun z => z = (if 48 ≤ a1 ∧ a1 ≤ 57 then 1 else 0)) := by
  unfold wqX10_isDigit
  refine ⟨fun hc => ?_, fun hc => ?_⟩ -- c1
  · -- case (a1 < 48)
    -- l1: Q 0
    rw [if_neg (by omega)]
  · -- case (¬ (a1 < 48))
    intro z3 e3
    -- l2: Q z3
    rw [e3]; split <;> split <;> omega

theorem sX10_isMore {o : Nat} {N : jSh} {F : jFl} {A : jAr} {x : Nat} {n : Int} {q : Int → Int} (h1 : jfn N 3300 o = n) (h2 : jfn N 3332 o = (x : Int)) (hy : lay N x) (ho : jfn N 0 o = 1) (hn : 0 ≤ n ∧ n ≤ 1600) (hq : ∀ i : Int, 0 ≤ i → i < n → A (x + 1) i = q i) (ha : 0 ≤ F 3306 o ∧ F 3306 o ≤ n) : wqX10_isMore o N F A (fun z F' A' => z = (if tkAt q n (F 3306 o) < n then 1 else 0) ∧ A' = A ∧ F' 3306 o = tkAt q n (F 3306 o) ∧ ∀ f a, (a = o → f ≠ 3306) → F' f a = F f a) := by
  unfold wqX10_isMore
  have hlen : jln N (x + 1) = 1600 := hy.2.2 (1, 1600) (by decide)
  rw [h1]
  refine ⟨fun (F1 : jFl) => (F 3306 o ≤ F1 3306 o ∧ F1 3306 o ≤ n) ∧ tkAt q n (F1 3306 o) = tkAt q n (F 3306 o) ∧ ∀ f a, (a = o → f ≠ 3306) → F1 f a = F f a, fun F1 => (n - F1 3306 o).toNat, ?_, ?_⟩ -- loop I4 I4 F
  ·
    -- l1: I4 F
    exact ⟨by omega, rfl, fun _ _ _ => rfl⟩
  intro F1 i4
  obtain ⟨i1, i2, i3⟩ := i4
  refine ⟨tkAt q n (F1 3306 o) = F1 3306 o, ?_, ?_⟩ -- join K8
  · intro k8
    intro z12 e12
    -- l2: Q z12 F1 A
    refine ⟨?_, rfl, by rw [← i2]; exact k8.symm, i3⟩
    rw [e12, ← i2, k8]
    by_cases w : n ≤ F1 3306 o
    · rw [if_pos w, if_neg (by omega)]
    · rw [if_neg w, if_pos (by omega)]
  refine ⟨fun hc => ?_, fun hc => ?_⟩ -- c1
  · -- case ((jfn N 3300 o) ≤ (F1 3306 o))
    -- l3: K8
    exact scn_end hc
  · -- case (¬ ((jfn N 3300 o) ≤ (F1 3306 o)))
    refine ⟨_, by exact h2, ?_⟩ -- d14: jfn N 3332 o = (b14 : Int)
    refine ⟨by exact (hy.1 0 (by decide)).1, ?_⟩ -- s1: jtg N b14 = 1
    refine ⟨_, by exact hy.p302, ?_⟩ -- d17: jfn N 302 b14 = (b17 : Int)
    refine ⟨by exact (hy.1 1 (by decide)).1, ?_⟩ -- s2: jtg N b17 = 111
    refine ⟨by omega, ?_⟩ -- s3: ((0 : Int) ≤ F1 3306 o ∧ (F1 3306 o : Int) < (jln N b17 : Int))
    rw [hq (F1 3306 o) (by omega) (by omega)]
    refine ⟨fun hc => ?_, fun hc => ?_⟩ -- c2
    · -- case ((A b17 (F1 3306 o)) = 32)
      refine ⟨by exact ho, ?_⟩ -- s4: jfn N 0 o = 1
      refine ⟨by omega, ?_⟩ -- s5: jR ((F1 3306 o) + 1)
      intro F25 e25
      refine ⟨?_, ?_⟩ -- l4: I4 F25
      · have go : tkAt q n (F1 3306 o) = tkAt q n (F1 3306 o + 1) := scn_go (P := fun i => isBl (q i)) (by omega) (Or.inl hc)
        refine ⟨by rw [e25, upF_s]; omega, by rw [e25, upF_s, ← go]; exact i2, fun f a hf => ?_⟩
        rw [e25]
        by_cases w : a = o
        · rw [w, upF_f (hf w)]; exact i3 f o (fun _ => hf w)
        · rw [upF_a w]; exact i3 f a hf
      · dsimp only; (first | rw [e25, upF_s] | rw [e31, upF_s]); omega
    · -- case (¬ ((A b17 (F1 3306 o)) = 32))
      refine ⟨by omega, ?_⟩ -- s6: ((0 : Int) ≤ F1 3306 o ∧ (F1 3306 o : Int) < (jln N b17 : Int))
      refine ⟨fun hc => ?_, fun hc => ?_⟩ -- c3
      · -- case (¬ (A b17 (F1 3306 o)) = 10)
        -- l5: K8
        exact scn_no (P := fun i => isBl (q i)) (by omega) (fun w => by rcases w with w | w <;> omega)
      · -- case ((A b17 (F1 3306 o)) = 10)
        refine ⟨by exact ho, ?_⟩ -- s7: jfn N 0 o = 1
        refine ⟨by omega, ?_⟩ -- s8: jR ((F1 3306 o) + 1)
        intro F31 e31
        refine ⟨?_, ?_⟩ -- l6: I4 F31
        · have go : tkAt q n (F1 3306 o) = tkAt q n (F1 3306 o + 1) := scn_go (P := fun i => isBl (q i)) (by omega) (Or.inr hc)
          refine ⟨by rw [e31, upF_s]; omega, by rw [e31, upF_s, ← go]; exact i2, fun f a hf => ?_⟩
          rw [e31]
          by_cases w : a = o
          · rw [w, upF_f (hf w)]; exact i3 f o (fun _ => hf w)
          · rw [upF_a w]; exact i3 f a hf
        · dsimp only; (first | rw [e25, upF_s] | rw [e31, upF_s]); omega

