set_option maxRecDepth 100000
set_option linter.unusedVariables false
/-! the model reads a row; printed by gen/prove.py out of spec/ah.mrow.spec -/
/-- what reading leaves -/
def mgF (o : Nat) (F F' : jFl) : Prop := ∀ f a, (a = o → f ≠ 3009 ∧ f ≠ 3012 ∧ f ≠ 3015 ∧ f ≠ 3018 ∧ f ≠ 3022 ∧ f ≠ 3036 ∧ f ≠ 3024 ∧ f ≠ 3027 ∧ f ≠ 3120 ∧ f ≠ 3123) → F' f a = F f a
theorem mgF.refl (o : Nat) (F : jFl) : mgF o F F := fun _ _ _ => rfl
theorem mgF.trans {o : Nat} {F F' F'' : jFl} (h : mgF o F F') (h2 : mgF o F' F'') : mgF o F F'' := fun f a ha => (h2 f a ha).trans (h f a ha)
theorem mhF.mgF {o : Nat} {F F' : jFl} (h : mhF o F F') : mgF o F F' := fun f a ha => h f a (fun w => by have := ha w; omega)
theorem mgF.up {o : Nat} {F F' : jFl} (h : mgF o F F') {f : Nat} {z : Int} (hf : f = 3024 ∨ f = 3027 ∨ f = 3120 ∨ f = 3123) : mgF o F (upF F' f o z) := fun g a ha => by
  by_cases w : a = o
  · have := ha w
    rw [w, upF_f (by omega)]; exact h g o (fun _ => this)
  · rw [upF_a w]; exact h g a ha
/-- a fault is told -/
def mfl (o : Nat) (F : jFl) (r : Int × Int) : jFl := upF (upF F 3024 o r.1) 3027 o r.2
theorem mfl_k {o : Nat} {F : jFl} {r : Int × Int} : mfl o F r 3024 o = r.1 := by unfold mfl; rw [upF_f (by decide), upF_s]
theorem mfl_p {o : Nat} {F : jFl} {r : Int × Int} : mfl o F r 3027 o = r.2 := by unfold mfl; rw [upF_s]
theorem mfl_o {o : Nat} {F : jFl} {r : Int × Int} {f : Nat} (h : f ≠ 3024 ∧ f ≠ 3027) : mfl o F r f o = F f o := by unfold mfl; rw [upF_f h.2, upF_f h.1]
theorem mfl_g {o : Nat} {F : jFl} {r : Int × Int} : mgF o F (mfl o F r) := ((mgF.refl o F).up (by decide)).up (by decide)
/-- the names of a kind in the bank that is read -/
def mNm (o : Nat) (F : jFl) (A : jAr) (kind : Int) (e : Int → Int) (m : Int) : Prop := (0 ≤ F 3114 o ∧ F 3114 o < 2) ∧ 0 ≤ m ∧ ((kind = 0 ∧ m ≤ 24 ∧ A (o + 2) (F 3114 o) = m ∧ ∀ k : Int, 0 ≤ k → k < m → A (o + 3) (24 * F 3114 o + k) = e k) ∨ (kind = 1 ∧ m ≤ 6 ∧ A (o + 9) (F 3114 o) = m ∧ ∀ k : Int, 0 ≤ k → k < m → A (o + 10) (6 * F 3114 o + k) = e k) ∨ (kind = 2 ∧ m ≤ 10 ∧ A (o + 12) (F 3114 o) = m ∧ ∀ k : Int, 0 ≤ k → k < m → A (o + 13) (10 * F 3114 o + k) = e k) ∨ (kind = 3 ∧ m ≤ 12 ∧ A (o + 17) (F 3114 o) = m ∧ ∀ k : Int, 0 ≤ k → k < m → A (o + 18) (12 * F 3114 o + k) = e k))
theorem mNm.of {o : Nat} {F F' : jFl} {A A' : jAr} {kind : Int} {e : Int → Int} {m : Int} (h : mNm o F A kind e m) (hF : F' 3114 o = F 3114 o) (hA : ∀ b, o + 2 ≤ b → b ≤ o + 18 → A' b = A b) : mNm o F' A' kind e m := by
  unfold mNm at *
  rw [hF, hA (o + 2) (by omega) (by omega), hA (o + 3) (by omega) (by omega), hA (o + 9) (by omega) (by omega), hA (o + 10) (by omega) (by omega), hA (o + 12) (by omega) (by omega), hA (o + 13) (by omega) (by omega), hA (o + 17) (by omega) (by omega), hA (o + 18) (by omega) (by omega)]
  exact h
theorem sX9_blame {o : Nat} {a1 : Int} {a2 : Int} {F : jFl} {A : jAr}  : wpX9_blame o a1 a2 F A (fun F' A' => A' = A ∧ (F 3024 o ≤ 0 → F' = mfl o F (a1, a2)) ∧ (0 < F 3024 o → F' = F)) := by
  unfold wpX9_blame
  refine ⟨fun hc => ?_, fun hc => ?_⟩ -- c1
  · -- case ((F 3024 o) ≤ 0)
    intro F2 e2
    intro F4 e4
    -- l1: Q F4 A
    subst e2
    exact ⟨rfl, fun _ => e4, fun w => by omega⟩
  · -- case ¬ ((F 3024 o) ≤ 0)
    -- l2: Q F A
    exact ⟨rfl, fun w => by omega, fun _ => rfl⟩

theorem sX9_lex {o : Nat} {F : jFl} {A : jAr}  : wpX9_lex o F A (fun F' A' => A' = A ∧ (F 3024 o ≤ 0 ∧ F 3036 o ≠ -1 → F' = mfl o F (1, F 3036 o)) ∧ (0 < F 3024 o ∨ F 3036 o = -1 → F' = F)) := by
  unfold wpX9_lex
  refine ⟨fun hc => ?_, fun hc => ?_⟩ -- c1
  · -- case ((F 3036 o) = (-1))
    -- l1: Q F A
    exact ⟨rfl, fun w => absurd hc w.2, fun _ => rfl⟩
  · -- case ¬ ((F 3036 o) = (-1))
    refine ⟨_, sX9_blame, ?_⟩ -- call wpX9_blame o 1 (F 3036 o) F A P2
    intro F5 A6 p2
    -- l2: Q F5 A6
    exact ⟨p2.1, fun w => p2.2.1 w.1, fun w => p2.2.2 (by omega)⟩

theorem sX9_isWord {o : Nat} {a1 : Int} {F : jFl} {A : jAr}  : wpX9_isWord o a1 F A (fun z => z = (if F 3009 o = 1 ∧ F 3022 o = a1 then 1 else 0)) := by
  unfold wpX9_isWord
  refine ⟨fun hc => ?_, fun hc => ?_⟩ -- c1
  · -- case (¬ (F 3009 o) = 1)
    -- l1: Q 0
    rw [if_neg (by omega)]
  · -- case ¬ (¬ (F 3009 o) = 1)
    intro z3 e3
    -- l2: Q z3
    rw [e3]
    by_cases w : F 3022 o = a1
    · rw [if_neg (fun x => x (jcmp_eq0.mpr w)), if_pos ⟨by omega, w⟩]
    · rw [if_pos (fun x => w (jcmp_eq0.mp x)), if_neg (fun x => w x.2)]

theorem sX9_isSign {o : Nat} {a1 : Int} {F : jFl} {A : jAr}  : wpX9_isSign o a1 F A (fun z => z = (if F 3009 o = 3 ∧ F 3018 o = a1 then 1 else 0)) := by
  unfold wpX9_isSign
  refine ⟨fun hc => ?_, fun hc => ?_⟩ -- c1
  · -- case (¬ (F 3009 o) = 3)
    -- l1: Q 0
    rw [if_neg (by omega)]
  · -- case ¬ (¬ (F 3009 o) = 3)
    intro z3 e3
    -- l2: Q z3
    rw [e3]
    split <;> split <;> omega

theorem sOwn_eq (c : Int) : sOwn c ↔ (c = 2003792484 ∨ c = 422607680627 ∨ c = 126922548733043 ∨ c = 512970880104 ∨ c = 474148660594 ∨ c = 126943972648308 ∨ c = 24947 ∨ c = 426953501796 ∨ c = 28518 ∨ c = 448545973363 ∨ c = 7102839 ∨ c = 1937075815 ∨ c = 1935767923 ∨ c = 6452596 ∨ c = 1751474532 ∨ c = 1835363940 ∨ c = 1953853029) := by
  constructor
  · rintro ⟨k, hk, e⟩
    have : k = 0 ∨ k = 1 ∨ k = 2 ∨ k = 3 ∨ k = 4 ∨ k = 5 ∨ k = 6 ∨ k = 7 ∨ k = 8 ∨ k = 9 ∨ k = 10 ∨ k = 11 ∨ k = 12 ∨ k = 13 ∨ k = 14 ∨ k = 15 ∨ k = 16 := by omega
    rcases this with w | w | w | w | w | w | w | w | w | w | w | w | w | w | w | w | w <;> (subst w; simp only [ownT, List.getD_cons_zero, List.getD_cons_succ] at e; omega)
  · intro h
    rcases h with w | w | w | w | w | w | w | w | w | w | w | w | w | w | w | w | w
    · exact ⟨0, by decide, w.symm⟩
    · exact ⟨1, by decide, w.symm⟩
    · exact ⟨2, by decide, w.symm⟩
    · exact ⟨3, by decide, w.symm⟩
    · exact ⟨4, by decide, w.symm⟩
    · exact ⟨5, by decide, w.symm⟩
    · exact ⟨6, by decide, w.symm⟩
    · exact ⟨7, by decide, w.symm⟩
    · exact ⟨8, by decide, w.symm⟩
    · exact ⟨9, by decide, w.symm⟩
    · exact ⟨10, by decide, w.symm⟩
    · exact ⟨11, by decide, w.symm⟩
    · exact ⟨12, by decide, w.symm⟩
    · exact ⟨13, by decide, w.symm⟩
    · exact ⟨14, by decide, w.symm⟩
    · exact ⟨15, by decide, w.symm⟩
    · exact ⟨16, by decide, w.symm⟩
theorem sX9_isOwn {o : Nat} {a1 : Int} {F : jFl} {A : jAr}  : wpX9_isOwn o a1 F A (fun z => z = cif (sOwn a1) 1 0) := by
  unfold wpX9_isOwn
  refine ⟨fun hc => ?_, fun hc => ?_⟩ -- c1
  · -- case ((jcmp a1 2003792484) = 0)
    -- l1: Q 1
    simp only [jcmp_eq0] at *; first | (rw [cif_pos ((sOwn_eq a1).mpr (by omega))]) | (rw [cif_neg (fun w => by have := (sOwn_eq a1).mp w; omega)])
  · -- case ¬ ((jcmp a1 2003792484) = 0)
    refine ⟨fun hc => ?_, fun hc => ?_⟩ -- c2
    · -- case ((jcmp a1 422607680627) = 0)
      -- l2: Q 1
      simp only [jcmp_eq0] at *; first | (rw [cif_pos ((sOwn_eq a1).mpr (by omega))]) | (rw [cif_neg (fun w => by have := (sOwn_eq a1).mp w; omega)])
    · -- case ¬ ((jcmp a1 422607680627) = 0)
      refine ⟨fun hc => ?_, fun hc => ?_⟩ -- c3
      · -- case ((jcmp a1 126922548733043) = 0)
        -- l3: Q 1
        simp only [jcmp_eq0] at *; first | (rw [cif_pos ((sOwn_eq a1).mpr (by omega))]) | (rw [cif_neg (fun w => by have := (sOwn_eq a1).mp w; omega)])
      · -- case ¬ ((jcmp a1 126922548733043) = 0)
        refine ⟨fun hc => ?_, fun hc => ?_⟩ -- c4
        · -- case ((jcmp a1 512970880104) = 0)
          -- l4: Q 1
          simp only [jcmp_eq0] at *; first | (rw [cif_pos ((sOwn_eq a1).mpr (by omega))]) | (rw [cif_neg (fun w => by have := (sOwn_eq a1).mp w; omega)])
        · -- case ¬ ((jcmp a1 512970880104) = 0)
          refine ⟨fun hc => ?_, fun hc => ?_⟩ -- c5
          · -- case (¬ (jcmp a1 474148660594) = 0)
            refine ⟨fun hc => ?_, fun hc => ?_⟩ -- c6
            · -- case ((jcmp a1 126943972648308) = 0)
              -- l5: Q 1
              simp only [jcmp_eq0] at *; first | (rw [cif_pos ((sOwn_eq a1).mpr (by omega))]) | (rw [cif_neg (fun w => by have := (sOwn_eq a1).mp w; omega)])
            · -- case ¬ ((jcmp a1 126943972648308) = 0)
              refine ⟨fun hc => ?_, fun hc => ?_⟩ -- c7
              · -- case ((jcmp a1 24947) = 0)
                -- l6: Q 1
                simp only [jcmp_eq0] at *; first | (rw [cif_pos ((sOwn_eq a1).mpr (by omega))]) | (rw [cif_neg (fun w => by have := (sOwn_eq a1).mp w; omega)])
              · -- case ¬ ((jcmp a1 24947) = 0)
                refine ⟨fun hc => ?_, fun hc => ?_⟩ -- c8
                · -- case ((jcmp a1 426953501796) = 0)
                  -- l7: Q 1
                  simp only [jcmp_eq0] at *; first | (rw [cif_pos ((sOwn_eq a1).mpr (by omega))]) | (rw [cif_neg (fun w => by have := (sOwn_eq a1).mp w; omega)])
                · -- case ¬ ((jcmp a1 426953501796) = 0)
                  refine ⟨fun hc => ?_, fun hc => ?_⟩ -- c9
                  · -- case ((jcmp a1 28518) = 0)
                    -- l8: Q 1
                    simp only [jcmp_eq0] at *; first | (rw [cif_pos ((sOwn_eq a1).mpr (by omega))]) | (rw [cif_neg (fun w => by have := (sOwn_eq a1).mp w; omega)])
                  · -- case ¬ ((jcmp a1 28518) = 0)
                    refine ⟨fun hc => ?_, fun hc => ?_⟩ -- c10
                    · -- case (¬ (jcmp a1 448545973363) = 0)
                      refine ⟨fun hc => ?_, fun hc => ?_⟩ -- c11
                      · -- case ((jcmp a1 7102839) = 0)
                        -- l9: Q 1
                        simp only [jcmp_eq0] at *; first | (rw [cif_pos ((sOwn_eq a1).mpr (by omega))]) | (rw [cif_neg (fun w => by have := (sOwn_eq a1).mp w; omega)])
                      · -- case ¬ ((jcmp a1 7102839) = 0)
                        refine ⟨fun hc => ?_, fun hc => ?_⟩ -- c12
                        · -- case ((jcmp a1 1937075815) = 0)
                          -- l10: Q 1
                          simp only [jcmp_eq0] at *; first | (rw [cif_pos ((sOwn_eq a1).mpr (by omega))]) | (rw [cif_neg (fun w => by have := (sOwn_eq a1).mp w; omega)])
                        · -- case ¬ ((jcmp a1 1937075815) = 0)
                          refine ⟨fun hc => ?_, fun hc => ?_⟩ -- c13
                          · -- case ((jcmp a1 1935767923) = 0)
                            -- l11: Q 1
                            simp only [jcmp_eq0] at *; first | (rw [cif_pos ((sOwn_eq a1).mpr (by omega))]) | (rw [cif_neg (fun w => by have := (sOwn_eq a1).mp w; omega)])
                          · -- case ¬ ((jcmp a1 1935767923) = 0)
                            refine ⟨fun hc => ?_, fun hc => ?_⟩ -- c14
                            · -- case ((jcmp a1 6452596) = 0)
                              -- l12: Q 1
                              simp only [jcmp_eq0] at *; first | (rw [cif_pos ((sOwn_eq a1).mpr (by omega))]) | (rw [cif_neg (fun w => by have := (sOwn_eq a1).mp w; omega)])
                            · -- case ¬ ((jcmp a1 6452596) = 0)
                              refine ⟨fun hc => ?_, fun hc => ?_⟩ -- c15
                              · -- case (¬ (jcmp a1 1751474532) = 0)
                                refine ⟨fun hc => ?_, fun hc => ?_⟩ -- c16
                                · -- case ((jcmp a1 1835363940) = 0)
                                  -- l13: Q 1
                                  simp only [jcmp_eq0] at *; first | (rw [cif_pos ((sOwn_eq a1).mpr (by omega))]) | (rw [cif_neg (fun w => by have := (sOwn_eq a1).mp w; omega)])
                                · -- case ¬ ((jcmp a1 1835363940) = 0)
                                  refine ⟨fun hc => ?_, fun hc => ?_⟩ -- c17
                                  · -- case (¬ (jcmp a1 1953853029) = 0)
                                    -- l14: Q 0
                                    simp only [jcmp_eq0] at *; first | (rw [cif_pos ((sOwn_eq a1).mpr (by omega))]) | (rw [cif_neg (fun w => by have := (sOwn_eq a1).mp w; omega)])
                                  · -- case ¬ (¬ (jcmp a1 1953853029) = 0)
                                    -- l15: Q 1
                                    simp only [jcmp_eq0] at *; first | (rw [cif_pos ((sOwn_eq a1).mpr (by omega))]) | (rw [cif_neg (fun w => by have := (sOwn_eq a1).mp w; omega)])
                              · -- case ¬ (¬ (jcmp a1 1751474532) = 0)
                                -- l16: Q 1
                                simp only [jcmp_eq0] at *; first | (rw [cif_pos ((sOwn_eq a1).mpr (by omega))]) | (rw [cif_neg (fun w => by have := (sOwn_eq a1).mp w; omega)])
                    · -- case ¬ (¬ (jcmp a1 448545973363) = 0)
                      -- l17: Q 1
                      simp only [jcmp_eq0] at *; first | (rw [cif_pos ((sOwn_eq a1).mpr (by omega))]) | (rw [cif_neg (fun w => by have := (sOwn_eq a1).mp w; omega)])
          · -- case ¬ (¬ (jcmp a1 474148660594) = 0)
            -- l18: Q 1
            simp only [jcmp_eq0] at *; first | (rw [cif_pos ((sOwn_eq a1).mpr (by omega))]) | (rw [cif_neg (fun w => by have := (sOwn_eq a1).mp w; omega)])

theorem sX9_manyOfN {o : Nat} {a1 : Int} {a2 : Int} {F : jFl} {A : jAr} {e : Int → Int} {m : Int} (h : mNm o F A a2 e m) (h1 : a1 = F 3114 o) : wpX9_manyOf o a1 a2 F A (fun z => z = m) := by
  unfold wpX9_manyOf
  obtain ⟨hb, hm, hk⟩ := h
  subst h1
  refine ⟨fun hc => ?_, fun hc => ?_⟩ -- c1
  · -- case (¬ a2 = 0)
    refine ⟨fun hc => ?_, fun hc => ?_⟩ -- c2
    · -- case (¬ a2 = 1)
      refine ⟨fun hc => ?_, fun hc => ?_⟩ -- c3
      · -- case (¬ a2 = 2)
        refine ⟨by omega, ?_⟩ -- s1: (0 ≤ a1 ∧ a1 < 2)
        -- l1: Q (A (o + 17) a1)
        omega
      · -- case ¬ (¬ a2 = 2)
        refine ⟨by omega, ?_⟩ -- s2: (0 ≤ a1 ∧ a1 < 2)
        -- l2: Q (A (o + 12) a1)
        omega
    · -- case ¬ (¬ a2 = 1)
      refine ⟨by omega, ?_⟩ -- s3: (0 ≤ a1 ∧ a1 < 2)
      -- l3: Q (A (o + 9) a1)
      omega
  · -- case ¬ (¬ a2 = 0)
    refine ⟨by omega, ?_⟩ -- s4: (0 ≤ a1 ∧ a1 < 2)
    -- l4: Q (A (o + 2) a1)
    omega

theorem sX9_nameOfN {o : Nat} {a1 : Int} {a2 : Int} {a3 : Int} {F : jFl} {A : jAr} {e : Int → Int} {m : Int} (h : mNm o F A a2 e m) (h1 : a1 = F 3114 o) (h3 : 0 ≤ a3 ∧ a3 < m) : wpX9_nameOf o a1 a2 a3 F A (fun z => z = e a3) := by
  unfold wpX9_nameOf
  obtain ⟨hb, hm, hk⟩ := h
  subst h1
  refine ⟨?_, ?_, ?_, ?_⟩ -- c1
  · intro hc -- case a2 = 0
    refine ⟨by omega, ?_⟩ -- s1: (0 ≤ (24 * a1) + a3 ∧ (24 * a1) + a3 < 48)
    -- l1: Q (A (o + 3) ((24 * a1) + a3))
    rcases hk with ⟨k1, k2, k3, k4⟩ | ⟨k1, k2, k3, k4⟩ | ⟨k1, k2, k3, k4⟩ | ⟨k1, k2, k3, k4⟩ <;> first | omega | exact k4 a3 h3.1 h3.2
  · intro hc -- case a2 = 1
    refine ⟨by omega, ?_⟩ -- s2: (0 ≤ (6 * a1) + a3 ∧ (6 * a1) + a3 < 12)
    -- l2: Q (A (o + 10) ((6 * a1) + a3))
    rcases hk with ⟨k1, k2, k3, k4⟩ | ⟨k1, k2, k3, k4⟩ | ⟨k1, k2, k3, k4⟩ | ⟨k1, k2, k3, k4⟩ <;> first | omega | exact k4 a3 h3.1 h3.2
  · intro hc -- case a2 = 2
    refine ⟨by omega, ?_⟩ -- s3: (0 ≤ (10 * a1) + a3 ∧ (10 * a1) + a3 < 20)
    -- l3: Q (A (o + 13) ((10 * a1) + a3))
    rcases hk with ⟨k1, k2, k3, k4⟩ | ⟨k1, k2, k3, k4⟩ | ⟨k1, k2, k3, k4⟩ | ⟨k1, k2, k3, k4⟩ <;> first | omega | exact k4 a3 h3.1 h3.2
  · intro hc1 hc2 hc3 -- case ¬ a2 = 0 ¬ a2 = 1 ¬ a2 = 2
    refine ⟨by omega, ?_⟩ -- s4: (0 ≤ (12 * a1) + a3 ∧ (12 * a1) + a3 < 24)
    -- l4: Q (A (o + 18) ((12 * a1) + a3))
    rcases hk with ⟨k1, k2, k3, k4⟩ | ⟨k1, k2, k3, k4⟩ | ⟨k1, k2, k3, k4⟩ | ⟨k1, k2, k3, k4⟩ <;> first | omega | exact k4 a3 h3.1 h3.2

theorem sX9_named {o : Nat} {a1 : Int} {a2 : Int} {F : jFl} {A : jAr} {e : Int → Int} {m : Int} (h : mNm o F A a1 e m) : wpX9_named o a1 a2 F A (fun z => z = nmd e m a2) := by
  unfold wpX9_named
  have hm := h.2.1
  have hm24 : m ≤ 24 := by have := h.2.2; omega
  refine ⟨fun (v1 : Int) => (0 ≤ v1 ∧ v1 ≤ m) ∧ ∀ j : Int, 0 ≤ j → j < v1 → e j ≠ a2, fun v1 => (m - v1).toNat, ?_, ?_⟩ -- loop I2 I2 0
  ·
    -- l1: I2 0
    exact ⟨by omega, fun j j0 j1 => by omega⟩
  intro v1 i2
  obtain ⟨i1, i2⟩ := i2
  refine ⟨_, sX9_manyOfN h rfl, ?_⟩ -- call wpX9_manyOf o (F 3114 o) a1 F A P4
  intro z6 p4
  refine ⟨fun hc => ?_, fun hc => ?_⟩ -- c1
  · -- case (z6 ≤ v1)
    -- l2: Q (-1)
    exact (nmd_no hm (fun j j0 j1 => i2 j j0 (by omega))).symm
  · -- case ¬ (z6 ≤ v1)
    refine ⟨_, sX9_nameOfN h rfl (by omega), ?_⟩ -- call wpX9_nameOf o (F 3114 o) a1 v1 F A P10
    intro z12 p10
    refine ⟨fun hc => ?_, fun hc => ?_⟩ -- c2
    · -- case (¬ (jcmp z12 a2) = 0)
      refine ⟨by omega, ?_⟩ -- s1: jR (v1 + 1)
      refine ⟨?_, ?_⟩ -- l3: I2 (v1 + 1)
      · rw [jcmp_eq0] at hc
        refine ⟨by omega, fun j j0 j1 => ?_⟩
        by_cases w : j = v1
        · rw [w, ← p10]; exact hc
        · exact i2 j j0 (by omega)
      · dsimp only; omega
    · -- case ¬ (¬ (jcmp z12 a2) = 0)
      -- l4: Q v1
      rw [jcmp_eq0] at hc
      exact (nmd_at ⟨i1.1, by omega⟩ (by rw [← p10]; omega) i2).symm

set_option maxHeartbeats 1000000 in
theorem sX9_looked {o : Nat} {a1 : Int} {F : jFl} {A : jAr} {e : Int → Int} {m : Int} {q : Int → Int} {n a : Int} (h0 : 0 ≤ F 3024 o) (hm : F 3024 o = 0 → mTk o F q n a) (ha : 0 ≤ a ∧ a ≤ n) (hN : mNm o F A a1 e m) : wpX9_looked o a1 F A (fun z F' A' => A' = A ∧ (0 < F 3024 o → z = 0 ∧ F' = F) ∧ (F 3024 o = 0 → (((knF e m q n a).1 = 0 → z = knV e m q n a ∧ F' = F) ∧ ((knF e m q n a).1 ≠ 0 → z = 0 ∧ F' = mfl o F (knF e m q n a))))) := by
  unfold wpX9_looked
  have hb := tkBad_ge (q := q) ha.1 ha.2
  have hm0 := hN.2.1
  refine ⟨_, sX9_lex, ?_⟩ -- call wpX9_lex o F A P1
  intro F4 A5 p1
  obtain ⟨r1, r2, r3⟩ := p1
  refine ⟨fun hc => ?_, fun hc => ?_⟩ -- c1
  · -- case ((F4 3024 o) ≤ 0)
    have z0 : F 3024 o = 0 := by
      by_cases w : 0 < F 3024 o
      · rw [r3 (Or.inl w)] at hc; omega
      · omega
    have t := hm z0
    obtain ⟨t1, t2, t3, t4, t5, t6, t7⟩ := id t
    have b : tkBad q n a = -1 := Classical.byContradiction (fun x => by
      rw [r2 ⟨by omega, by rw [t4]; exact x⟩, mfl_k] at hc
      exact absurd hc (by show ¬ (1 : Int) ≤ 0; decide))
    have eF : F4 = F := r3 (Or.inr (by rw [t4]; exact b))
    subst eF r1
    refine ⟨fun (F11 : jFl) (A12 : jAr) => A12 = A5 ∧ ((F11 = F4 ∧ tkKd q n a = 1 ∧ ¬ sOwn (tkC q n a)) ∨ (0 < F11 3024 o ∧ (knF e m q n a).1 ≠ 0 ∧ F11 = mfl o F4 (knF e m q n a))), ?_, ?_⟩ -- join K14
    · intro F11 A12 k14
      obtain ⟨x1, x2⟩ := k14
      subst x1
      refine ⟨fun (v18 : Int) => F11 = F4 → v18 = nmd e m (tkC q n a), ?_, ?_⟩ -- join K19
      · intro v18 k19
        refine ⟨fun hc => ?_, fun hc => ?_⟩ -- c2
        · -- case (¬ (F11 3024 o) = 0)
          refine ⟨fun hc => ?_, fun hc => ?_⟩ -- c3
          · -- case ((F11 3024 o) ≤ 0)
            -- l1: Q v18 F11 A12
            exact absurd hc (by
              rcases x2 with ⟨y1, -⟩ | ⟨y1, -⟩
              · have h1 : F11 3024 o = F4 3024 o := by rw [y1]
                omega
              · omega)
          · -- case ¬ ((F11 3024 o) ≤ 0)
            -- l2: Q 0 F11 A12
            rcases x2 with ⟨y1, -⟩ | ⟨y1, y2, y3⟩
            · rw [y1] at hc; omega
            · exact ⟨rfl, fun w => by omega, fun _ => ⟨fun w => absurd w y2, fun _ => ⟨rfl, y3⟩⟩⟩
        · -- case ¬ (¬ (F11 3024 o) = 0)
          obtain ⟨y1, y2, y3⟩ : F11 = F4 ∧ tkKd q n a = 1 ∧ ¬ sOwn (tkC q n a) := by
            rcases x2 with y | ⟨y1, -⟩
            · exact y
            · omega
          subst y1
          have k18 := k19 rfl
          refine ⟨fun hc => ?_, fun hc => ?_⟩ -- c4
          · -- case (¬ v18 = (-1))
            refine ⟨fun hc => ?_, fun hc => ?_⟩ -- c5
            · -- case ((F11 3024 o) ≤ 0)
              -- l3: Q v18 F11 A12
              refine ⟨rfl, fun w => by omega, fun _ => ?_⟩
              rw [knF_ok b y2 y3 (by rw [← k18]; exact by assumption)]
              exact ⟨fun _ => ⟨k18, rfl⟩, fun w => absurd rfl w⟩
            · -- case ¬ ((F11 3024 o) ≤ 0)
              -- l4: Q 0 F11 A12
              omega
          · -- case ¬ (¬ v18 = (-1))
            refine ⟨_, sX9_blame, ?_⟩ -- call wpX9_blame o 3 (F11 3012 o) F11 A12 P26
            intro F29 A30 p26
            obtain ⟨u1, u2, -⟩ := p26
            have u2 := u2 (by omega)
            rw [t1] at u2
            refine ⟨fun hc => ?_, fun hc => ?_⟩ -- c6
            · -- case ((F29 3024 o) ≤ 0)
              -- l5: Q v18 F29 A30
              rw [u2, mfl_k] at hc
              exact absurd hc (by show ¬ (3 : Int) ≤ 0; decide)
            · -- case ¬ ((F29 3024 o) ≤ 0)
              -- l6: Q 0 F29 A30
              refine ⟨u1, fun w => by omega, fun _ => ?_⟩
              rw [knF_no b y2 y3 (by omega)]
              exact ⟨fun w => absurd w (by show ¬ (3 : Int) = 0; decide), fun _ => ⟨rfl, u2⟩⟩
      refine ⟨fun hc => ?_, fun hc => ?_⟩ -- c7
      · -- case ((F11 3024 o) ≤ 0)
        refine ⟨_, sX9_named (hN.of (by rcases x2 with ⟨y1, -⟩ | ⟨-, -, y1⟩; rw [y1]; rw [y1, mfl_o (by decide)]) (fun _ _ _ => rfl)), ?_⟩ -- call wpX9_named o a1 (F11 3022 o) F11 A12 P35
        intro z37 p35
        -- l7: K19 z37
        intro w
        rw [p35, w, t5 (by
          rcases x2 with ⟨-, y2, -⟩ | ⟨y1, -⟩
          · exact y2
          · omega)]
      · -- case ¬ ((F11 3024 o) ≤ 0)
        -- l8: K19 0
        intro w
        rw [w] at hc
        omega
    refine ⟨fun hc => ?_, fun hc => ?_⟩ -- c8
    · -- case (¬ (F4 3009 o) = 1)
      refine ⟨_, sX9_blame, ?_⟩ -- call wpX9_blame o 1 (F4 3012 o) F4 A5 P40
      intro F43 A44 p40
      -- l9: K14 F43 A44
      obtain ⟨u1, u2, -⟩ := p40
      have u2 := u2 (by omega)
      rw [t1] at u2
      have kf := knF_own (e := e) (m := m) b (Or.inl (by rw [← t3]; exact hc))
      refine ⟨u1, Or.inr ⟨by rw [u2, mfl_k]; show (0 : Int) < 1; decide, by rw [kf]; show (1 : Int) ≠ 0; decide, by rw [u2, kf]⟩⟩
    · -- case ¬ (¬ (F4 3009 o) = 1)
      refine ⟨_, sX9_isOwn, ?_⟩ -- call wpX9_isOwn o (F4 3022 o) F4 A5 P48
      intro z50 p48
      have kd1 : tkKd q n a = 1 := by rw [← t3]; omega
      rw [t5 kd1] at p48
      refine ⟨fun hc => ?_, fun hc => ?_⟩ -- c9
      · -- case (z50 = 0)
        -- l10: K14 F4 A5
        exact ⟨rfl, Or.inl ⟨rfl, kd1, fun w => by rw [cif_pos w] at p48; omega⟩⟩
      · -- case ¬ (z50 = 0)
        refine ⟨_, sX9_blame, ?_⟩ -- call wpX9_blame o 1 (F4 3012 o) F4 A5 P54
        intro F57 A58 p54
        -- l11: K14 F57 A58
        obtain ⟨u1, u2, -⟩ := p54
        have u2 := u2 (by omega)
        rw [t1] at u2
        have ow : sOwn (tkC q n a) := Classical.byContradiction (fun w => by rw [cif_neg w] at p48; omega)
        have kf := knF_own (e := e) (m := m) b (Or.inr ow)
        refine ⟨u1, Or.inr ⟨by rw [u2, mfl_k]; show (0 : Int) < 1; decide, by rw [kf]; show (1 : Int) ≠ 0; decide, by rw [u2, kf]⟩⟩
  · -- case ¬ ((F4 3024 o) ≤ 0)
    -- l12: Q 0 F4 A5
    by_cases w : 0 < F 3024 o
    · exact ⟨r1, fun _ => ⟨rfl, r3 (Or.inl w)⟩, fun x => by omega⟩
    · have t := hm (by omega)
      have b : tkBad q n a ≠ -1 := fun x => by
        rw [r3 (Or.inr (by rw [t.2.2.2.1]; exact x))] at hc; omega
      refine ⟨r1, fun x => by omega, fun _ => ?_⟩
      rw [knF_bad (by omega)]
      refine ⟨fun x => absurd x (by show ¬ (1 : Int) = 0; decide), fun _ => ⟨rfl, ?_⟩⟩
      rw [r2 ⟨by omega, by rw [t.2.2.2.1]; exact b⟩, t.2.2.2.1]

theorem sX9_asked {o : Nat} {a1 : Int} {F : jFl} {A : jAr} {e : Int → Int} {m : Int} {q : Int → Int} {n a : Int} (h0 : 0 ≤ F 3024 o) (hm : F 3024 o = 0 → mTk o F q n a) (ha : 0 ≤ a ∧ a ≤ n) (hN : mNm o F A a1 e m) (hq : ∀ i : Int, 0 ≤ i → i < n → A (o + 1) i = q i ∧ 0 ≤ q i ∧ q i ≤ 255) (h6 : F 3006 o = n) (hn : 0 ≤ n ∧ n ≤ 1600) : wpX9_asked o a1 F A (fun z F' A' => A' = A ∧ (0 < F 3024 o → z = 0 ∧ F' = F) ∧ (F 3024 o = 0 → (((knF e m q n a).1 = 0 → z = knV e m q n a ∧ F' 3024 o = 0 ∧ mTk o F' q n (tkAt q n (tkEnd q n a)) ∧ mhF o F F') ∧ ((knF e m q n a).1 ≠ 0 → z = 0 ∧ F' = mfl o F (knF e m q n a))))) := by
  unfold wpX9_asked
  have he := tkEnd_le (q := q) ha.2
  have kc := knF_cases e m q n a ha.1 ha.2 hN.2.1
  refine ⟨_, sX9_looked h0 hm ha hN, ?_⟩ -- call wpX9_looked o a1 F A P1
  intro z3 F4 A5 p1
  obtain ⟨r1, r2, r3⟩ := p1
  subst r1
  refine ⟨fun hc => ?_, fun hc => ?_⟩ -- c1
  · -- case (¬ (F4 3024 o) = 0)
    refine ⟨fun hc => ?_, fun hc => ?_⟩ -- c2
    · -- case ((F4 3024 o) ≤ 0)
      -- l1: Q z3 F4 A5
      exfalso
      by_cases w : 0 < F 3024 o
      · have h1 : F4 3024 o = F 3024 o := by rw [(r2 w).2]
        omega
      · obtain ⟨r4, r5⟩ := r3 (by omega)
        by_cases x : (knF e m q n a).1 = 0
        · have h1 : F4 3024 o = F 3024 o := by rw [(r4 x).2]
          omega
        · have h1 : F4 3024 o = (knF e m q n a).1 := by rw [(r5 x).2, mfl_k]
          rcases kc with ⟨g, -⟩ | g
          · exact x (by rw [g])
          · omega
    · -- case ¬ ((F4 3024 o) ≤ 0)
      -- l2: Q 0 F4 A5
      refine ⟨rfl, fun w => ⟨rfl, (r2 w).2⟩, fun w => ?_⟩
      obtain ⟨r4, r5⟩ := r3 w
      refine ⟨fun x => ?_, fun x => ⟨rfl, (r5 x).2⟩⟩
      rw [(r4 x).2] at hc
      omega
  · -- case ¬ (¬ (F4 3024 o) = 0)
    have z0 : F 3024 o = 0 := by
      by_cases w : 0 < F 3024 o
      · rw [(r2 w).2] at hc; omega
      · omega
    obtain ⟨r4, r5⟩ := r3 z0
    have x0 : (knF e m q n a).1 = 0 := Classical.byContradiction (fun x => by rw [(r5 x).2, mfl_k] at hc; omega)
    obtain ⟨y1, y2⟩ := r4 x0
    subst y2
    refine ⟨_, sX9_ahead hq h6 hn (hm z0).2.1 (by omega), ?_⟩ -- call wpX9_ahead o F4 A5 P11
    intro F14 A15 p11
    obtain ⟨u1, u2, u3⟩ := p11
    subst u1
    have u4 : F14 3024 o = 0 := by rw [u3 _ _ (fun _ => by decide)]; exact z0
    refine ⟨fun hc => ?_, fun hc => ?_⟩ -- c3
    · -- case ((F14 3024 o) ≤ 0)
      -- l3: Q z3 F14 A15
      exact ⟨rfl, fun w => by omega, fun _ => ⟨fun _ => ⟨y1, u4, u2, u3⟩, fun w => absurd x0 w⟩⟩
    · -- case ¬ ((F14 3024 o) ≤ 0)
      -- l4: Q 0 F14 A15
      omega

set_option maxHeartbeats 1000000 in
theorem sX9_onePut {o : Nat} {a1 : Int} {F : jFl} {A : jAr} {e : Int → Int} {m : Int} {q : Int → Int} {n a : Int} (h0 : F 3024 o = 0) (hm : mTk o F q n a) (ha : 0 ≤ a ∧ a ≤ n) (hN : mNm o F A 0 e m) (hq : ∀ i : Int, 0 ≤ i → i < n → A (o + 1) i = q i ∧ 0 ≤ q i ∧ q i ≤ 255) (h6 : F 3006 o = n) (hn : 0 ≤ n ∧ n ≤ 1600) (hk : (knF e m q n a).1 = 0 → ¬ (a1 ≠ 0 ∧ tkKd q n a = 1 ∧ ¬ (tkBad q n a = -1 ∧ sOwn (tkC q n a))) → 0 ≤ F 3120 o + F 3123 o ∧ F 3120 o + F 3123 o < 12) : wpX9_onePut o a1 F A (fun F' A' => ((a1 ≠ 0 ∧ tkKd q n a = 1 ∧ ¬ (tkBad q n a = -1 ∧ sOwn (tkC q n a))) → A' = A ∧ F' = mfl o F (5, a)) ∧ (¬ (a1 ≠ 0 ∧ tkKd q n a = 1 ∧ ¬ (tkBad q n a = -1 ∧ sOwn (tkC q n a))) → ((knF e m q n a).1 ≠ 0 → A' = A ∧ F' = mfl o F (knF e m q n a)) ∧ ((knF e m q n a).1 = 0 → A' = upA A (o + 26) (F 3120 o + F 3123 o) (knV e m q n a) ∧ F' 3024 o = 0 ∧ mTk o F' q n (tkAt q n (tkEnd q n a)) ∧ mhF o F F'))) := by
  unfold wpX9_onePut
  obtain ⟨t1, t2, t3, t4, t5, t6, t7⟩ := id hm
  refine ⟨fun (F2 : jFl) (A3 : jAr) => A3 = A ∧ ((F2 = F ∧ ¬ (a1 ≠ 0 ∧ tkKd q n a = 1 ∧ ¬ (tkBad q n a = -1 ∧ sOwn (tkC q n a)))) ∨ ((a1 ≠ 0 ∧ tkKd q n a = 1 ∧ ¬ (tkBad q n a = -1 ∧ sOwn (tkC q n a))) ∧ F2 = mfl o F (5, a))), ?_, ?_⟩ -- join K5
  · intro F2 A3 k5
    obtain ⟨x1, x2⟩ := k5
    subst x1
    refine ⟨_, sX9_asked (e := e) (m := m) (q := q) (n := n) (a := a) (by rcases x2 with ⟨y, -⟩ | ⟨-, y⟩; rw [y, h0]; omega; rw [y, mfl_k]; show (0 : Int) ≤ 5; decide) (fun w => by rcases x2 with ⟨y, -⟩ | ⟨-, y⟩; rw [y]; exact hm; rw [y, mfl_k] at w; exact absurd w (by show ¬ (5 : Int) = 0; decide)) ha (hN.of (by rcases x2 with ⟨y, -⟩ | ⟨-, y⟩; rw [y]; rw [y, mfl_o (by decide)]) (fun _ _ _ => rfl)) hq (by rcases x2 with ⟨y, -⟩ | ⟨-, y⟩; rw [y]; exact h6; rw [y, mfl_o (by decide)]; exact h6) hn, ?_⟩ -- call wpX9_asked o 0 F2 A3 P8
    intro z10 F11 A12 p8
    obtain ⟨r1, r2, r3⟩ := p8
    subst r1
    refine ⟨fun hc => ?_, fun hc => ?_⟩ -- c1
    · -- case (¬ (F11 3024 o) = 0)
      -- l1: Q F11 A12
      rcases x2 with ⟨y, z⟩ | ⟨z, y⟩
      · subst y
        refine ⟨fun w => absurd w z, fun _ => ?_⟩
        obtain ⟨r4, r5⟩ := r3 h0
        exact ⟨fun w => ⟨rfl, (r5 w).2⟩, fun w => absurd (r4 w).2.1 hc⟩
      · refine ⟨fun _ => ⟨rfl, ?_⟩, fun w => absurd z w⟩
        rw [(r2 (by rw [y, mfl_k]; show (0 : Int) < 5; decide)).2, y]
    · -- case ¬ (¬ (F11 3024 o) = 0)
      have yz : F2 = F ∧ ¬ (a1 ≠ 0 ∧ tkKd q n a = 1 ∧ ¬ (tkBad q n a = -1 ∧ sOwn (tkC q n a))) := by
        rcases x2 with w | ⟨z, y⟩
        · exact w
        · exfalso
          have h2 : F11 3024 o = 5 := by rw [(r2 (by rw [y, mfl_k]; show (0 : Int) < 5; decide)).2, y, mfl_k]
          omega
      obtain ⟨y, z⟩ := yz
      subst y
      obtain ⟨r4, r5⟩ := r3 h0
      have x0 : (knF e m q n a).1 = 0 := Classical.byContradiction (fun x => by
        have h2 : F11 3024 o = (knF e m q n a).1 := by rw [(r5 x).2, mfl_k]
        omega)
      obtain ⟨u1, u2, u3, u4⟩ := r4 x0
      have hk2 := hk x0 z
      rw [u4 3120 o (fun _ => by decide), u4 3123 o (fun _ => by decide)]
      refine ⟨by exact hk2, ?_⟩ -- s1: (0 ≤ (F11 3120 o) + (F11 3123 o) ∧ (F11 3120 o) + (F11 3123 o) < 12)
      intro A18 e18
      -- l2: Q F11 A18
      refine ⟨fun w => absurd w z, fun _ => ⟨fun w => absurd x0 w, fun _ => ⟨by rw [e18, u1], u2, u3, u4⟩⟩⟩
  refine ⟨fun hc => ?_, fun hc => ?_⟩ -- c2
  · -- case (¬ (F 3024 o) = 0)
    -- l3: K5 F A
    exact absurd h0 hc
  · -- case ¬ (¬ (F 3024 o) = 0)
    refine ⟨fun hc => ?_, fun hc => ?_⟩ -- c3
    · -- case (a1 = 0)
      -- l4: K5 F A
      exact ⟨rfl, Or.inl ⟨rfl, fun w => w.1 hc⟩⟩
    · -- case ¬ (a1 = 0)
      refine ⟨fun hc => ?_, fun hc => ?_⟩ -- c4
      · -- case (¬ (F 3009 o) = 1)
        -- l5: K5 F A
        exact ⟨rfl, Or.inl ⟨rfl, fun w => by rw [t3] at hc; exact hc w.2.1⟩⟩
      · -- case ¬ (¬ (F 3009 o) = 1)
        refine ⟨fun hc => ?_, fun hc => ?_⟩ -- c5
        · -- case (¬ (F 3036 o) = (-1))
          refine ⟨_, sX9_blame, ?_⟩ -- call wpX9_blame o 5 (F 3012 o) F A P23
          intro F26 A27 p23
          -- l6: K5 F26 A27
          obtain ⟨u1, u2, -⟩ := p23
          have u2 := u2 (by omega)
          rw [t1] at u2
          exact ⟨u1, Or.inr ⟨⟨by assumption, by omega, fun w => by omega⟩, u2⟩⟩
        · -- case ¬ (¬ (F 3036 o) = (-1))
          refine ⟨_, sX9_isOwn, ?_⟩ -- call wpX9_isOwn o (F 3022 o) F A P31
          intro z33 p31
          have kd1 : tkKd q n a = 1 := by omega
          have bd : tkBad q n a = -1 := by omega
          rw [t5 kd1] at p31
          refine ⟨fun hc => ?_, fun hc => ?_⟩ -- c6
          · -- case (¬ z33 = 0)
            -- l7: K5 F A
            exact ⟨rfl, Or.inl ⟨rfl, fun w => w.2.2 ⟨bd, Classical.byContradiction (fun x => by rw [cif_neg x] at p31; exact hc p31)⟩⟩⟩
          · -- case ¬ (¬ z33 = 0)
            refine ⟨_, sX9_blame, ?_⟩ -- call wpX9_blame o 5 (F 3012 o) F A P37
            intro F40 A41 p37
            -- l8: K5 F40 A41
            obtain ⟨u1, u2, -⟩ := p37
            have u2 := u2 (by omega)
            rw [t1] at u2
            exact ⟨u1, Or.inr ⟨⟨by assumption, kd1, fun w => by rw [cif_pos w.2] at p31; omega⟩, u2⟩⟩

/-- so many words of a row lie there -/
def mWs (o : Nat) (A : jAr) (g : Int → Int) (k : Int) : Prop := ∀ i : Int, 0 ≤ i → i < k → A (o + 26) i = g i
theorem mWs.put {o : Nat} {A : jAr} {g : Int → Int} {k v : Int} (h : mWs o A g k) : mWs o (upA A (o + 26) k v) (upv g k v) (k + 1) := fun i i0 i1 => by
  by_cases w : i = k
  · rw [w, upA_s, upv_s]
  · rw [upA_i w, upv_n w]; exact h i i0 (by omega)
/-- one word more of a part, in the model -/
theorem rwS_mput {o : Nat} {F F' : jFl} {A A' : jAr} {e : Int → Int} {m : Int} {q : Int → Int} {n most fm p0 k p z : Int} {g0 g : Int → Int} (hm : 1 ≤ most) (hm0 : 0 ≤ m) (hp : 0 ≤ p ∧ p ≤ n) (h : rwS e m q n most fm p0 g0 k p g) (hz : z = if k = most then 1 else 0) (hi : F 3120 o + F 3123 o = fm + k) (hw : mWs o A g (fm + k))
    (hpost : ((z ≠ 0 ∧ tkKd q n (tkAt q n p) = 1 ∧ ¬ (tkBad q n (tkAt q n p) = -1 ∧ sOwn (tkC q n (tkAt q n p)))) → A' = A ∧ F' = mfl o F (5, tkAt q n p)) ∧ (¬ (z ≠ 0 ∧ tkKd q n (tkAt q n p) = 1 ∧ ¬ (tkBad q n (tkAt q n p) = -1 ∧ sOwn (tkC q n (tkAt q n p)))) → ((knF e m q n (tkAt q n p)).1 ≠ 0 → A' = A ∧ F' = mfl o F (knF e m q n (tkAt q n p))) ∧ ((knF e m q n (tkAt q n p)).1 = 0 → A' = upA A (o + 26) (F 3120 o + F 3123 o) (knV e m q n (tkAt q n p)) ∧ F' 3024 o = 0 ∧ mTk o F' q n (tkAt q n (tkEnd q n (tkAt q n p))) ∧ mhF o F F'))) :
    (∃ f : Int × Int, 0 < f.1 ∧ A' = A ∧ F' = mfl o F f ∧ ((rwW e m q n most fm p0 g0).1 = f ∨ (1 ≤ k ∧ rwW e m q n most fm p0 g0 = ((0, 0), (k, p), g) ∧ tkKd q n (tkAt q n p) = 1 ∧ tkBad q n (tkAt q n p) = -1 ∧ sOwn (tkC q n (tkAt q n p)) ∧ f = (1, tkAt q n p)))) ∨
    (F' 3024 o = 0 ∧ mhF o F F' ∧ (∀ b, b ≠ o + 26 → A' b = A b) ∧ (0 ≤ k ∧ k < most) ∧ ∃ (p' : Int) (g' : Int → Int), (0 ≤ p' ∧ p' ≤ n) ∧ awP q n p' ∧ mTk o F' q n (tkAt q n p') ∧ mWs o A' g' (fm + k + 1) ∧ rwW e m q n most fm p0 g0 = rwN e m q n most fm (most + 1 - (k + 1)).toNat (k + 1) p' g') := by
  obtain ⟨c1, c2⟩ := rwS_put hm hm0 hp h
  obtain ⟨d1, d2⟩ := hpost
  have zk : z ≠ 0 ↔ k = most := by rw [hz]; split <;> omega
  rw [zk] at d1 d2
  obtain ⟨a1, -, -⟩ := tkAt_all (q := q) hp.2
  by_cases w : k = most ∧ tkKd q n (tkAt q n p) = 1 ∧ ¬ (tkBad q n (tkAt q n p) = -1 ∧ sOwn (tkC q n (tkAt q n p)))
  · exact Or.inl ⟨(5, tkAt q n p), (by decide : (0 : Int) < 5), (d1 w).1, (d1 w).2, Or.inl (c1 w)⟩
  · obtain ⟨c3, c4⟩ := c2 w
    obtain ⟨d3, d4⟩ := d2 w
    by_cases x : (knF e m q n (tkAt q n p)).1 = 0
    · obtain ⟨c5, c6, c7, c8⟩ := c4 x
      obtain ⟨d5, d6, d7, d8⟩ := d4 x
      refine Or.inr ⟨d6, d8, fun b hb => by rw [d5, upA_o hb], c5, _, _, c6, c7, d7, ?_, by rw [show most + 1 - (k + 1) = most - k by omega]; exact c8⟩
      rw [d5, hi]
      exact hw.put
    · refine Or.inl ⟨knF e m q n (tkAt q n p), ?_, (d3 x).1, (d3 x).2, ?_⟩
      · rcases knF_cases e m q n (tkAt q n p) (by omega) a1.2 hm0 with y | y
        · exact absurd (by rw [y.1]) x
        · omega
      · rcases c3 x with y | ⟨y0, y1, y2, y3, y4, y5⟩
        · exact Or.inl y
        · exact Or.inr ⟨y0, y1, y2, y3, y4, y5⟩
/-- the index of a word more is in the row -/
theorem rwS_idx {e : Int → Int} {m : Int} {q : Int → Int} {n most fm p0 k p z : Int} {g0 g : Int → Int} (hm : 1 ≤ most) (hm0 : 0 ≤ m) (hp : 0 ≤ p ∧ p ≤ n) (h : rwS e m q n most fm p0 g0 k p g) (hz : z = if k = most then 1 else 0) (x : (knF e m q n (tkAt q n p)).1 = 0) (w : ¬ (z ≠ 0 ∧ tkKd q n (tkAt q n p) = 1 ∧ ¬ (tkBad q n (tkAt q n p) = -1 ∧ sOwn (tkC q n (tkAt q n p))))) : 0 ≤ k ∧ k < most := by
  have zk : z ≠ 0 ↔ k = most := by rw [hz]; split <;> omega
  rw [zk] at w
  exact (((rwS_put hm hm0 hp h).2 w).2 x).1
theorem roF_ne {q : Int → Int} {n : Int} {r : roR} (h : r.1.1 ≠ 0) : roF q n r = r.1 := if_neg h
theorem roF_word {q : Int → Int} {n : Int} {r : roR} (h : r.1.1 = 0) (h1 : tkKd q n (tkAt q n r.2.2.1) = 1) : roF q n r = (1, tkAt q n r.2.2.1) := (if_pos h).trans (if_pos h1)
theorem roF_ok {q : Int → Int} {n : Int} {r : roR} (h : r.1.1 = 0) (h1 : tkKd q n (tkAt q n r.2.2.1) ≠ 1) : roF q n r = (0, 0) := (if_pos h).trans (if_neg h1)
set_option maxHeartbeats 4000000 in
theorem sX9_rowing {o : Nat} {F : jFl} {A : jAr} {e : Int → Int} {m : Int} {q : Int → Int} {n a : Int} (h0 : F 3024 o = 0) (hm : mTk o F q n a) (ha : 0 ≤ a ∧ a ≤ n) (haa : tkAt q n a = a) (hN : mNm o F A 0 e m) (hq : ∀ i : Int, 0 ≤ i → i < n → A (o + 1) i = q i ∧ 0 ≤ q i ∧ q i ≤ 255) (h6 : F 3006 o = n) (hn : 0 ≤ n ∧ n ≤ 1600) : wpX9_rowing o F A (fun F' A' => mgF o F F' ∧ (∀ b, b ≠ o + 26 → A' b = A b) ∧ ((roF q n (roS e m q n a)).1 ≠ 0 → 0 < (roF q n (roS e m q n a)).1 ∧ F' 3024 o = (roF q n (roS e m q n a)).1 ∧ F' 3027 o = (roF q n (roS e m q n a)).2) ∧ ((roF q n (roS e m q n a)).1 = 0 → F' 3024 o = 0 ∧ F' 3027 o = F 3027 o ∧ mTk o F' q n (tkAt q n (roS e m q n a).2.2.1) ∧ F' 3120 o = (roS e m q n a).2.1.1 ∧ F' 3123 o = (roS e m q n a).2.1.2 ∧ mWs o A' (roS e m q n a).2.2.2 ((roS e m q n a).2.1.1 + (roS e m q n a).2.1.2))) := by
  unfold wpX9_rowing
  have hm0 := hN.2.1
  obtain ⟨RS, hRS⟩ : ∃ RS : roR, RS = roS e m q n a := ⟨_, rfl⟩
  rw [← hRS]
  intro F1 e1
  intro F3 e3
  have g3 : mgF o F F3 := by rw [e3, e1]; exact ((mgF.refl o F).up (by decide)).up (by decide)
  have x3 : F3 3123 o = 0 := by rw [e3, upF_s]
  have x4 : F3 3120 o = 0 := by rw [e3, upF_f (by decide), e1, upF_s]
  have f3 : ∀ f, f ≠ 3120 → f ≠ 3123 → F3 f o = F f o := fun f h1 h2 => by rw [e3, upF_f h2, e1, upF_f h1]
  refine ⟨fun (v5 : Int) (F6 : jFl) (A7 : jAr) => mgF o F F6 ∧ (∀ b, b ≠ o + 26 → A7 b = A b) ∧ F6 3123 o = 0 ∧ ((v5 = 1 ∧ (F6 3024 o = 0 ∧ F6 3027 o = F 3027 o) ∧ ∃ (k p : Int) (g : Int → Int), F6 3120 o = k ∧ (0 ≤ p ∧ p ≤ n) ∧ rwS e m q n 8 0 a (fun _ => 0) k p g ∧ (k ≠ 0 → tkBad q n (tkAt q n p) = -1 → ¬ isBut q n (tkAt q n p)) ∧ mTk o F6 q n (tkAt q n p) ∧ mWs o A7 g k) ∨ (v5 = 0 ∧ 0 < F6 3024 o ∧ (roF q n RS).1 = F6 3024 o ∧ (roF q n RS).2 = F6 3027 o) ∨ (v5 = 0 ∧ (F6 3024 o = 0 ∧ F6 3027 o = F 3027 o) ∧ ∃ (k p : Int) (g : Int → Int), F6 3120 o = k ∧ (0 ≤ k ∧ k ≤ 8) ∧ (0 ≤ p ∧ p ≤ n) ∧ rwW e m q n 8 0 a (fun _ => 0) = ((0, 0), (k, p), g) ∧ (tkKd q n (tkAt q n p) ≠ 1 ∨ isBut q n (tkAt q n p)) ∧ mTk o F6 q n (tkAt q n p) ∧ mWs o A7 g k)), fun v5 F6 A7 => if v5 = 0 then 0 else (20 - F6 3120 o).toNat, ?_, ?_⟩ -- loop I9 I9 1 F3 A
  ·
    -- l1: I9 1 F3 A
    refine ⟨g3, fun _ _ => rfl, x3, Or.inl ⟨rfl, ⟨by rw [f3 _ (by decide) (by decide)]; exact h0, f3 _ (by decide) (by decide)⟩, 0, a, fun _ => 0, x4, ha, Or.inl ⟨rfl, rfl, rfl⟩, fun w => absurd rfl w, ?_, fun i i0 i1 => by omega⟩⟩
    rw [haa]
    exact hm.of (fun f hf => f3 f (by omega) (by omega))
  intro v5 F6 A7 i9
  obtain ⟨i1, i2, i3, i4⟩ := i9
  have n6 : F6 3006 o = n := by rw [i1 _ _ (fun _ => by decide)]; exact h6
  have q6 : ∀ i : Int, 0 ≤ i → i < n → A7 (o + 1) i = q i ∧ 0 ≤ q i ∧ q i ≤ 255 := fun i i0 i1 => by rw [i2 (o + 1) (by omega)]; exact hq i i0 i1
  have N6 : mNm o F6 A7 0 e m := hN.of (i1 _ _ (fun _ => by decide)) (fun b b1 b2 => i2 b (by omega))
  refine ⟨fun hc => ?_, fun hc => ?_⟩ -- c1
  · -- case (v5 = 0)
    refine ⟨fun hc => ?_, fun hc => ?_⟩ -- c2
    · -- case (0 < (F6 3024 o))
      -- l2: Q F6 A7
      obtain ⟨w1, w2, w3⟩ : 0 < F6 3024 o ∧ (roF q n RS).1 = F6 3024 o ∧ (roF q n RS).2 = F6 3027 o := by
        rcases i4 with ⟨w, -⟩ | ⟨-, w⟩ | ⟨-, w, -⟩
        · omega
        · exact w
        · omega
      exact ⟨i1, i2, fun _ => ⟨by omega, w2.symm, w3.symm⟩, fun w => by omega⟩
    · -- case ¬ (0 < (F6 3024 o))
      obtain ⟨y0, k1, p1, g1, y1, y2, y3, y4, y5, y6, y7⟩ : (F6 3024 o = 0 ∧ F6 3027 o = F 3027 o) ∧ ∃ (k p : Int) (g : Int → Int), F6 3120 o = k ∧ (0 ≤ k ∧ k ≤ 8) ∧ (0 ≤ p ∧ p ≤ n) ∧ rwW e m q n 8 0 a (fun _ => 0) = ((0, 0), (k, p), g) ∧ (tkKd q n (tkAt q n p) ≠ 1 ∨ isBut q n (tkAt q n p)) ∧ mTk o F6 q n (tkAt q n p) ∧ mWs o A7 g k := by
        rcases i4 with ⟨w, -⟩ | ⟨-, w, -⟩ | ⟨-, w⟩
        · omega
        · omega
        · exact w
      have t1 := (tkAt_all (q := q) y3.2).1
      have te := tkEnd_le (q := q) t1.2
      refine ⟨fun hc => ?_, fun hc => ?_⟩ -- c3
      · -- case ((F6 3009 o) = 1)
        refine ⟨_, sX9_ahead q6 n6 hn y6.2.1 (by omega), ?_⟩ -- call wpX9_ahead o F6 A7 P14
        intro F17 A18 p14
        obtain ⟨u1, u2, u3⟩ := p14
        subst u1
        have kd1 : tkKd q n (tkAt q n p1) = 1 := by rw [← y6.2.2.1]; exact hc
        have bt : isBut q n (tkAt q n p1) := by
          rcases y5 with w | w
          · exact absurd kd1 w
          · exact w
        obtain ⟨R2, hR2⟩ : ∃ R2 : rwR, rwW e m q n 4 k1 (tkEnd q n (tkAt q n p1)) g1 = R2 := ⟨_, rfl⟩
        have eRS : RS = (R2.1, (k1, R2.2.1.1), R2.2.1.2, R2.2.2) := by rw [hRS]; exact roS_but y4 rfl bt hR2
        refine ⟨fun (v22 : Int) (F23 : jFl) (A24 : jAr) => mgF o F F23 ∧ (∀ b, b ≠ o + 26 → A24 b = A b) ∧ F23 3120 o = k1 ∧ ((v22 = 1 ∧ (F23 3024 o = 0 ∧ F23 3027 o = F 3027 o) ∧ ∃ (k p : Int) (g : Int → Int), F23 3123 o = k ∧ (0 ≤ p ∧ p ≤ n) ∧ rwS e m q n 4 k1 (tkEnd q n (tkAt q n p1)) g1 k p g ∧ mTk o F23 q n (tkAt q n p) ∧ mWs o A24 g (k1 + k)) ∨ (v22 = 0 ∧ 0 < F23 3024 o ∧ (roF q n RS).1 = F23 3024 o ∧ (roF q n RS).2 = F23 3027 o) ∨ (v22 = 0 ∧ (F23 3024 o = 0 ∧ F23 3027 o = F 3027 o) ∧ ∃ (k p : Int) (g : Int → Int), F23 3123 o = k ∧ (0 ≤ p ∧ p ≤ n) ∧ R2 = ((0, 0), (k, p), g) ∧ tkKd q n (tkAt q n p) ≠ 1 ∧ mTk o F23 q n (tkAt q n p) ∧ mWs o A24 g (k1 + k))), fun v22 F23 A24 => if v22 = 0 then 0 else (20 - F23 3123 o).toNat, ?_, ?_⟩ -- loop I26 I26 1 F17 A18
        ·
          -- l3: I26 1 F17 A18
          refine ⟨i1.trans u3.mgF, i2, by rw [u3 _ _ (fun _ => by decide)]; exact y1, Or.inl ⟨rfl, ⟨by rw [u3 _ _ (fun _ => by decide)]; exact y0.1, by rw [u3 _ _ (fun _ => by decide)]; exact y0.2⟩, 0, tkEnd q n (tkAt q n p1), g1, by rw [u3 _ _ (fun _ => by decide)]; exact i3, by omega, Or.inl ⟨rfl, rfl, rfl⟩, u2, by rw [show k1 + 0 = k1 by omega]; exact y7⟩⟩
        intro v22 F23 A24 i26
        obtain ⟨j1, j2, j3, j4⟩ := i26
        refine ⟨fun hc => ?_, fun hc => ?_⟩ -- c4
        · -- case (v22 = 0)
          -- l4: Q F23 A24
          rcases j4 with ⟨w, -⟩ | ⟨-, w1, w2, w3⟩ | ⟨-, w1, k, p, g, w2, w3, w4, w5, w6, w7⟩
          · omega
          · exact ⟨j1, j2, fun _ => ⟨by omega, w2.symm, w3.symm⟩, fun w => by omega⟩
          · rw [w4] at eRS
            have rf : roF q n RS = (0, 0) := by rw [eRS]; exact roF_ok rfl w5
            rw [rf, eRS]
            exact ⟨j1, j2, fun w => absurd rfl w, fun _ => ⟨w1.1, w1.2, w6, j3, w2, w7⟩⟩
        · -- case ¬ (v22 = 0)
          intro z30 e30
          obtain ⟨z0, k, p, g, z1, z2, z3, z4, z5⟩ : (F23 3024 o = 0 ∧ F23 3027 o = F 3027 o) ∧ ∃ (k p : Int) (g : Int → Int), F23 3123 o = k ∧ (0 ≤ p ∧ p ≤ n) ∧ rwS e m q n 4 k1 (tkEnd q n (tkAt q n p1)) g1 k p g ∧ mTk o F23 q n (tkAt q n p) ∧ mWs o A24 g (k1 + k) := by
            rcases j4 with ⟨-, w⟩ | ⟨w, -⟩ | ⟨w, -⟩
            · exact w
            · exact absurd w hc
            · exact absurd w hc
          have hz : z30 = if k = 4 then 1 else 0 := by rw [e30, z1]; by_cases w : k = 4; rw [if_neg (fun x => x w), if_pos w]; rw [if_pos w, if_neg w]
          have t2 := (tkAt_all (q := q) z2.2).1
          have ix : F23 3120 o + F23 3123 o = k1 + k := by omega
          refine ⟨_, sX9_onePut (e := e) (m := m) z0.1 z4 (by omega) (hN.of (j1 _ _ (fun _ => by decide)) (fun b b1 b2 => j2 b (by omega))) (fun i i0 i1 => by rw [j2 (o + 1) (by omega)]; exact hq i i0 i1) (by rw [j1 _ _ (fun _ => by decide)]; exact h6) hn (fun x w => by have := rwS_idx (by decide) hm0 z2 z3 hz x w; omega), ?_⟩ -- call wpX9_onePut o z30 F23 A24 P32
          intro F35 A36 p32
          have key := rwS_mput (by decide) hm0 z2 z3 hz ix z5 p32
          rw [hR2] at key
          intro z41 e41
          refine ⟨?_, ?_⟩ -- s1: jR ((F35 3123 o) + z41)
          · rcases key with ⟨f, k2, k3, k4, -⟩ | ⟨k2, k3, -, k5, -⟩
            rw [k4, mfl_o (by decide)]; rcases z3 with w | w <;> (split at e41 <;> omega)
            rw [k3 3123 o (fun _ => by decide)]; split at e41 <;> omega
          intro F44 e44
          have f44 : ∀ f, f ≠ 3123 → F44 f o = F35 f o := fun f hf => by rw [e44, upF_f hf]
          have g44 : mgF o F35 F44 := by rw [e44]; exact (mgF.refl o F35).up (by decide)
          refine ⟨fun hc => ?_, fun hc => ?_⟩ -- c5
          · -- case (¬ (F44 3024 o) = 0)
            refine ⟨?_, ?_⟩ -- l5: I26 0 F44 A36
            · rcases key with ⟨f, k2, k3, k4, k5⟩ | ⟨k2, -⟩
              · subst k3
                have a1 : F44 3024 o = f.1 := by rw [f44 _ (by decide), k4, mfl_k]
                have a2 : F44 3027 o = f.2 := by rw [f44 _ (by decide), k4, mfl_p]
                have g35 : mgF o F23 F35 := by rw [k4]; exact mfl_g
                have rf : roF q n RS = f := by
                  rcases k5 with w | ⟨-, w1, w2, -, -, w5⟩
                  · have : RS.1 = f := by rw [eRS]; exact w
                    rw [roF_ne (by rw [this]; omega), this]
                  · rw [w1] at eRS
                    rw [eRS, w5]
                    exact roF_word rfl w2
                refine ⟨(j1.trans g35).trans g44, j2, by rw [f44 _ (by decide), k4, mfl_o (by decide)]; exact j3, Or.inr (Or.inl ⟨rfl, by omega, by rw [rf, a1], by rw [rf, a2]⟩)⟩
              · rw [f44 _ (by decide)] at hc; omega
            · dsimp only
              rw [if_pos rfl, if_neg (by assumption)]
              have : F23 3123 o ≤ 4 := by
                rcases z3 with w | w <;> omega
              omega
          · -- case ¬ (¬ (F44 3024 o) = 0)
            intro z48 e48
            refine ⟨?_, ?_⟩ -- l6: I26 z48 F44 A36
            · rcases key with ⟨f, k2, k3, k4, k5⟩ | ⟨k2, k3, k4, k5, p', g', k6, k7, k8, k9, k10⟩
              · rw [f44 _ (by decide), k4, mfl_k] at hc; omega
              · rw [← hR2] at k10
                have nx := rwS_next k6 (by omega) k7 k10
                rw [hR2] at nx
                have c44 : F44 3123 o = k + 1 := by rw [e44, upF_s, k3 _ _ (fun _ => by decide), z1, e41, if_neg (by omega)]
                have mt : mTk o F44 q n (tkAt q n p') := k8.of (fun f hf => f44 f (by omega))
                have gg : mgF o F F44 := (j1.trans k3.mgF).trans g44
                have aa : ∀ b, b ≠ o + 26 → A36 b = A b := fun b hb => (k4 b hb).trans (j2 b hb)
                have l1 : F44 3120 o = k1 := by rw [f44 _ (by decide), k3 _ _ (fun _ => by decide)]; exact j3
                have ws : mWs o A36 g' (k1 + (k + 1)) := by rw [show k1 + (k + 1) = k1 + k + 1 by omega]; exact k9
                have f0 : F44 3024 o = 0 ∧ F44 3027 o = F 3027 o := ⟨by rw [f44 _ (by decide)]; exact k2, by rw [f44 _ (by decide), k3 _ _ (fun _ => by decide)]; exact z0.2⟩
                by_cases w : tkKd q n (tkAt q n p') = 1
                · rw [show z48 = 1 by rw [e48, if_neg (by rw [mt.2.2.1]; omega)]]
                  exact ⟨gg, aa, l1, Or.inl ⟨rfl, f0, k + 1, p', g', c44, k6, (nx.2 w).1, mt, ws⟩⟩
                · rw [show z48 = 0 by rw [e48, if_pos (by rw [mt.2.2.1]; omega)]]
                  exact ⟨gg, aa, l1, Or.inr (Or.inr ⟨rfl, f0, k + 1, p', g', c44, k6, nx.1 w, w, mt, ws⟩)⟩
            · dsimp only
              rcases key with ⟨f, k2, k3, k4, k5⟩ | ⟨k2, k3, k4, k5, -⟩
              · rw [f44 _ (by decide), k4, mfl_k] at hc; omega
              · have c44 : F44 3123 o = k + 1 := by rw [e44, upF_s, k3 _ _ (fun _ => by decide), z1, e41, if_neg (by omega)]
                rw [c44, z1, if_neg (show ¬ v22 = 0 by assumption)]
                split <;> omega
      · -- case ¬ ((F6 3009 o) = 1)
        -- l7: Q F6 A7
        have kd1 : tkKd q n (tkAt q n p1) ≠ 1 := by rw [← y6.2.2.1]; exact hc
        have eRS : RS = ((0, 0), (k1, 0), p1, g1) := by rw [hRS]; exact roS_main y4 rfl (fun w => kd1 w.1)
        have rf : roF q n RS = (0, 0) := by rw [eRS]; exact roF_ok rfl kd1
        rw [rf, eRS]
        exact ⟨i1, i2, fun w => absurd rfl w, fun _ => ⟨y0.1, y0.2, y6, y1, i3, by rw [show k1 + 0 = k1 by omega]; exact y7⟩⟩
  · -- case ¬ (v5 = 0)
    intro z51 e51
    obtain ⟨z0, k, p, g, z1, z2, z3, z4, z5, z6⟩ : (F6 3024 o = 0 ∧ F6 3027 o = F 3027 o) ∧ ∃ (k p : Int) (g : Int → Int), F6 3120 o = k ∧ (0 ≤ p ∧ p ≤ n) ∧ rwS e m q n 8 0 a (fun _ => 0) k p g ∧ (k ≠ 0 → tkBad q n (tkAt q n p) = -1 → ¬ isBut q n (tkAt q n p)) ∧ mTk o F6 q n (tkAt q n p) ∧ mWs o A7 g k := by
      rcases i4 with ⟨-, w⟩ | ⟨w, -⟩ | ⟨w, -⟩
      · exact w
      · exact absurd w hc
      · exact absurd w hc
    have hz : z51 = if k = 8 then 1 else 0 := by rw [e51, z1]; by_cases w : k = 8; rw [if_neg (fun x => x w), if_pos w]; rw [if_pos w, if_neg w]
    have t2 := (tkAt_all (q := q) z2.2).1
    have ix : F6 3120 o + F6 3123 o = 0 + k := by omega
    refine ⟨_, sX9_onePut (e := e) (m := m) z0.1 z5 (by omega) N6 q6 n6 hn (fun x w => by have := rwS_idx (by decide) hm0 z2 z3 hz x w; omega), ?_⟩ -- call wpX9_onePut o z51 F6 A7 P53
    intro F56 A57 p53
    have key := rwS_mput (by decide) hm0 z2 z3 hz ix (by rw [show (0 : Int) + k = k by omega]; exact z6) p53
    intro z62 e62
    refine ⟨?_, ?_⟩ -- s2: jR ((F56 3120 o) + z62)
    · rcases key with ⟨f, k2, k3, k4, -⟩ | ⟨k2, k3, -, k5, -⟩
      rw [k4, mfl_o (by decide)]; rcases z3 with w | w <;> (split at e62 <;> omega)
      rw [k3 3120 o (fun _ => by decide)]; split at e62 <;> omega
    intro F65 e65
    have f65 : ∀ f, f ≠ 3120 → F65 f o = F56 f o := fun f hf => by rw [e65, upF_f hf]
    have g65 : mgF o F56 F65 := by rw [e65]; exact (mgF.refl o F56).up (by decide)
    refine ⟨fun hc => ?_, fun hc => ?_⟩ -- c6
    · -- case (¬ (F65 3024 o) = 0)
      refine ⟨?_, ?_⟩ -- l8: I9 0 F65 A57
      · rcases key with ⟨f, k2, k3, k4, k5⟩ | ⟨k2, -⟩
        · subst k3
          have a1 : F65 3024 o = f.1 := by rw [f65 _ (by decide), k4, mfl_k]
          have a2 : F65 3027 o = f.2 := by rw [f65 _ (by decide), k4, mfl_p]
          have g35 : mgF o F6 F56 := by rw [k4]; exact mfl_g
          have rf : roF q n RS = f := by
            rcases k5 with w | ⟨w0, w1, w2, w3, -, w5⟩
            · have : RS.1 = f := by rw [hRS, roS_fault rfl (by rw [w]; omega)]; exact w
              rw [roF_ne (by rw [this]; omega), this]
            · have eRS : RS = ((0, 0), (k, 0), p, g) := by rw [hRS]; exact roS_main w1 rfl (z4 (by omega) w3)
              rw [eRS, w5]
              exact roF_word rfl w2
          refine ⟨(i1.trans g35).trans g65, i2, by rw [f65 _ (by decide), k4, mfl_o (by decide)]; exact i3, Or.inr (Or.inl ⟨rfl, by omega, by rw [rf, a1], by rw [rf, a2]⟩)⟩
        · rw [f65 _ (by decide)] at hc; omega
      · dsimp only
        rw [if_pos rfl, if_neg (by assumption)]
        have : F6 3120 o ≤ 8 := by
          rcases z3 with w | w <;> omega
        omega
    · -- case ¬ (¬ (F65 3024 o) = 0)
      obtain ⟨k2, k3, k4, k5, p', g', k6, k7, k8, k9, k10⟩ : F56 3024 o = 0 ∧ mhF o F6 F56 ∧ (∀ b, b ≠ o + 26 → A57 b = A7 b) ∧ (0 ≤ k ∧ k < 8) ∧ ∃ (p' : Int) (g' : Int → Int), (0 ≤ p' ∧ p' ≤ n) ∧ awP q n p' ∧ mTk o F56 q n (tkAt q n p') ∧ mWs o A57 g' (0 + k + 1) ∧ rwW e m q n 8 0 a (fun _ => 0) = rwN e m q n 8 0 (8 + 1 - (k + 1)).toNat (k + 1) p' g' := by
        rcases key with ⟨f, k2, k3, k4, k5⟩ | w
        · exfalso
          apply hc
          intro w
          rw [f65 _ (by decide), k4, mfl_k] at w; omega
        · exact w
      have nx := rwS_next k6 (by omega) k7 k10
      have c65 : F65 3120 o = k + 1 := by rw [e65, upF_s, k3 _ _ (fun _ => by decide), z1, e62, if_neg (by omega)]
      have mt : mTk o F65 q n (tkAt q n p') := k8.of (fun f hf => f65 f (by omega))
      have gg : mgF o F F65 := (i1.trans k3.mgF).trans g65
      have aa : ∀ b, b ≠ o + 26 → A57 b = A b := fun b hb => (k4 b hb).trans (i2 b hb)
      have l1 : F65 3123 o = 0 := by rw [f65 _ (by decide), k3 _ _ (fun _ => by decide)]; exact i3
      have ws : mWs o A57 g' (k + 1) := by rw [show k + 1 = 0 + k + 1 by omega]; exact k9
      have f0 : F65 3024 o = 0 ∧ F65 3027 o = F 3027 o := ⟨by rw [f65 _ (by decide)]; exact k2, by rw [f65 _ (by decide), k3 _ _ (fun _ => by decide)]; exact z0.2⟩
      refine ⟨fun hc => ?_, fun hc => ?_⟩ -- c7
      · -- case (¬ (F65 3009 o) = 1)
        refine ⟨?_, ?_⟩ -- l9: I9 0 F65 A57
        · have kd1 : tkKd q n (tkAt q n p') ≠ 1 := by rw [← mt.2.2.1]; exact hc
          exact ⟨gg, aa, l1, Or.inr (Or.inr ⟨rfl, f0, k + 1, p', g', c65, by omega, k6, nx.1 kd1, Or.inl kd1, mt, ws⟩)⟩
        · dsimp only
          rw [if_pos rfl, if_neg (by assumption)]
          omega
      · -- case ¬ (¬ (F65 3009 o) = 1)
        refine ⟨fun hc => ?_, fun hc => ?_⟩ -- c8
        · -- case (¬ (F65 3036 o) = (-1))
          refine ⟨?_, ?_⟩ -- l10: I9 1 F65 A57
          · have kd1 : tkKd q n (tkAt q n p') = 1 := by rw [← mt.2.2.1]; omega
            exact ⟨gg, aa, l1, Or.inl ⟨rfl, f0, k + 1, p', g', c65, k6, (nx.2 kd1).1, fun _ w => by rw [mt.2.2.2.1] at hc; exact absurd w hc, mt, ws⟩⟩
          · dsimp only
            rw [if_neg (by decide), if_neg (by assumption), c65, z1]
            omega
        · -- case ¬ (¬ (F65 3036 o) = (-1))
          refine ⟨_, sX9_isWord, ?_⟩ -- call wpX9_isWord o 6452596 F65 A57 P70
          intro z72 p70
          have kd1 : tkKd q n (tkAt q n p') = 1 := by rw [← mt.2.2.1]; omega
          have bd : tkBad q n (tkAt q n p') = -1 := by rw [← mt.2.2.2.1]; omega
          have wd : F65 3022 o = tkC q n (tkAt q n p') := mt.2.2.2.2.1 kd1
          intro z76 e76
          refine ⟨?_, ?_⟩ -- l11: I9 z76 F65 A57
          · by_cases w : tkC q n (tkAt q n p') = 6452596
            · rw [show z76 = 0 by rw [e76, if_pos (by rw [p70, if_pos ⟨by rw [mt.2.2.1]; exact kd1, by rw [wd]; exact w⟩]; decide)]]
              have ib : isBut q n (tkAt q n p') := ⟨kd1, w⟩
              exact ⟨gg, aa, l1, Or.inr (Or.inr ⟨rfl, f0, k + 1, p', g', c65, by omega, k6, (nx.2 kd1).2 bd (but_own ib), Or.inr ib, mt, ws⟩)⟩
            · rw [show z76 = 1 by rw [e76, if_neg (by rw [p70, if_neg (fun x => w (by rw [← wd]; exact x.2))]; decide)]]
              exact ⟨gg, aa, l1, Or.inl ⟨rfl, f0, k + 1, p', g', c65, k6, (nx.2 kd1).1, fun _ _ x => w x.2, mt, ws⟩⟩
          · dsimp only
            rw [c65, z1, if_neg (show ¬ v5 = 0 by assumption)]
            split <;> omega

