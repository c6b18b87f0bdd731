set_option maxRecDepth 100000
set_option linter.unusedVariables false
/-! the model writes its own cells alone; printed by gen/frame.py -/
def mo (o : Nat) (F : jFl) (A : jAr) (F' : jFl) (A' : jAr) : Prop := (∀ b : Nat, b ≠ o → ∀ f, F' f b = F f b) ∧ ∀ b : Nat, (b ≤ o ∨ o + 49 ≤ b) → A' b = A b
theorem mo.refl (o : Nat) (F : jFl) (A : jAr) : mo o F A F A := ⟨fun _ _ _ => rfl, fun _ _ => rfl⟩
theorem mo.trans {o : Nat} {F F' F'' : jFl} {A A' A'' : jAr} (h : mo o F A F' A') (h2 : mo o F' A' F'' A'') : mo o F A F'' A'' := ⟨fun b hb f => (h2.1 b hb f).trans (h.1 b hb f), fun b hb => (h2.2 b hb).trans (h.2 b hb)⟩
theorem mo.upF {o f : Nat} {F F' : jFl} {A A' : jAr} {z : Int} (h : mo o F A F' A') : mo o F A (upF F' f o z) A' := ⟨fun b hb g => by rw [upF_a hb]; exact h.1 b hb g, h.2⟩
theorem mo.upA {o a : Nat} {F F' : jFl} {A A' : jAr} {i z : Int} (h : mo o F A F' A') (ha : o < a ∧ a < o + 49) : mo o F A F' (upA A' a i z) := ⟨h.1, fun b hb => by rw [upA_o (by omega)]; exact h.2 b hb⟩
theorem fX9_refuses {o : Nat} {a1 : Int} {F : jFl} {A : jAr} {Q : Int → jFl → jAr → Prop} (h : wpX9_refuses o a1 F A Q) : wpX9_refuses o a1 F A (fun z F9 A9 => Q z F9 A9 ∧ mo o F A F9 A9) := by
  unfold wpX9_refuses at *
  have hm : mo o F A F A := mo.refl o F A
  refine ⟨h.1, ?_⟩
  replace h := h.2
  refine ⟨h.1, ?_⟩
  replace h := h.2
  refine ⟨h.1, ?_⟩
  replace h := h.2
  intro A4 e4
  replace h := h A4 e4
  have hm4 : mo o F A F A4 := by rw [e4]; exact hm.upA (by omega)
  exact ⟨h, hm4⟩
theorem fX9_copies {o : Nat} {a1 : Int} {a2 : Int} {F : jFl} {A : jAr} {Q : jFl → jAr → Prop} (h : wpX9_copies o a1 a2 F A Q) : wpX9_copies o a1 a2 F A (fun F9 A9 => Q F9 A9 ∧ mo o F A F9 A9) := by
  unfold wpX9_copies at *
  have hm : mo o F A F A := mo.refl o F A
  refine ⟨h.1, ?_⟩
  replace h := h.2
  refine ⟨h.1, ?_⟩
  replace h := h.2
  intro A3 e3
  replace h := h A3 e3
  have hm3 : mo o F A F A3 := by rw [e3]; exact hm.upA (by omega)
  obtain ⟨I8, m9, h0, h⟩ := h
  refine ⟨fun v5 A6 => I8 v5 A6 ∧ mo o F A F A6, m9, ⟨h0, hm3⟩, ?_⟩
  rintro v5 A6 ⟨hi8, hm8⟩
  replace h := h v5 A6 hi8
  refine ⟨?_, ?_⟩
  · intro c0
    replace h := h.1 c0
    refine ⟨h.1, ?_⟩
    replace h := h.2
    refine ⟨h.1, ?_⟩
    replace h := h.2
    intro A13 e13
    replace h := h A13 e13
    have hm13 : mo o F A F A13 := by rw [e13]; exact hm8.upA (by omega)
    obtain ⟨I18, m19, h0, h⟩ := h
    refine ⟨fun v15 A16 => I18 v15 A16 ∧ mo o F A F A16, m19, ⟨h0, hm13⟩, ?_⟩
    rintro v15 A16 ⟨hi18, hm18⟩
    replace h := h v15 A16 hi18
    refine ⟨h.1, ?_⟩
    replace h := h.2
    refine ⟨h.1, ?_⟩
    replace h := h.2
    refine ⟨?_, ?_⟩
    · intro c0
      replace h := h.1 c0
      exact ⟨h, hm18⟩
    · intro c0
      replace h := h.2 c0
      refine ⟨h.1, ?_⟩
      replace h := h.2
      refine ⟨h.1, ?_⟩
      replace h := h.2
      intro A25 e25
      replace h := h A25 e25
      have hm25 : mo o F A F A25 := by rw [e25]; exact hm18.upA (by omega)
      refine ⟨h.1, ?_⟩
      replace h := h.2
      exact ⟨⟨h.1, hm25⟩, h.2⟩
  · intro c0
    replace h := h.2 c0
    refine ⟨h.1, ?_⟩
    replace h := h.2
    intro v29 e29
    replace h := h v29 e29
    refine ⟨h.1, ?_⟩
    replace h := h.2
    intro v31 e31
    replace h := h v31 e31
    refine ⟨h.1, ?_⟩
    replace h := h.2
    refine ⟨h.1, ?_⟩
    replace h := h.2
    intro A34 e34
    replace h := h A34 e34
    have hm34 : mo o F A F A34 := by rw [e34]; exact hm8.upA (by omega)
    refine ⟨h.1, ?_⟩
    replace h := h.2
    refine ⟨h.1, ?_⟩
    replace h := h.2
    intro A38 e38
    replace h := h A38 e38
    have hm38 : mo o F A F A38 := by rw [e38]; exact hm34.upA (by omega)
    refine ⟨h.1, ?_⟩
    replace h := h.2
    refine ⟨h.1, ?_⟩
    replace h := h.2
    intro A42 e42
    replace h := h A42 e42
    have hm42 : mo o F A F A42 := by rw [e42]; exact hm38.upA (by omega)
    refine ⟨h.1, ?_⟩
    replace h := h.2
    refine ⟨h.1, ?_⟩
    replace h := h.2
    intro A46 e46
    replace h := h A46 e46
    have hm46 : mo o F A F A46 := by rw [e46]; exact hm42.upA (by omega)
    obtain ⟨I51, m52, h0, h⟩ := h
    refine ⟨fun v48 A49 => I51 v48 A49 ∧ mo o F A F A49, m52, ⟨h0, hm46⟩, ?_⟩
    rintro v48 A49 ⟨hi51, hm51⟩
    replace h := h v48 A49 hi51
    refine ⟨?_, ?_⟩
    · intro c0
      replace h := h.1 c0
      refine ⟨h.1, ?_⟩
      replace h := h.2
      exact ⟨⟨h.1, hm51⟩, h.2⟩
    · intro c0
      replace h := h.2 c0
      refine ⟨h.1, ?_⟩
      replace h := h.2
      refine ⟨h.1, ?_⟩
      replace h := h.2
      intro A57 e57
      replace h := h A57 e57
      have hm57 : mo o F A F A57 := by rw [e57]; exact hm51.upA (by omega)
      refine ⟨h.1, ?_⟩
      replace h := h.2
      exact ⟨⟨h.1, hm57⟩, h.2⟩
theorem fX9_loads {o : Nat} {a1 : Int} {a2 : Int} {F : jFl} {A : jAr} {Q : jFl → jAr → Prop} (h : wpX9_loads o a1 a2 F A Q) : wpX9_loads o a1 a2 F A (fun F9 A9 => Q F9 A9 ∧ mo o F A F9 A9) := by
  unfold wpX9_loads at *
  have hm : mo o F A F A := mo.refl o F A
  refine ⟨h.1, ?_⟩
  replace h := h.2
  intro v2 e2
  replace h := h v2 e2
  refine ⟨h.1, ?_⟩
  replace h := h.2
  intro F4 e4
  replace h := h F4 e4
  have hm4 : mo o F A F4 A := by rw [e4]; exact hm.upF
  refine ⟨h.1, ?_⟩
  replace h := h.2
  intro F7 e7
  replace h := h F7 e7
  have hm7 : mo o F A F7 A := by rw [e7]; exact hm4.upF
  refine ⟨h.1, ?_⟩
  replace h := h.2
  intro z11 e11
  replace h := h z11 e11
  intro F13 e13
  replace h := h F13 e13
  have hm13 : mo o F A F13 A := by rw [e13]; exact hm7.upF
  obtain ⟨I18, m19, h0, h⟩ := h
  refine ⟨fun v15 A16 => I18 v15 A16 ∧ mo o F A F13 A16, m19, ⟨h0, hm13⟩, ?_⟩
  rintro v15 A16 ⟨hi18, hm18⟩
  replace h := h v15 A16 hi18
  refine ⟨h.1, ?_⟩
  replace h := h.2
  refine ⟨?_, ?_⟩
  · intro c0
    replace h := h.1 c0
    exact ⟨h, hm18⟩
  · intro c0
    replace h := h.2 c0
    refine ⟨h.1, ?_⟩
    replace h := h.2
    refine ⟨h.1, ?_⟩
    replace h := h.2
    intro A24 e24
    replace h := h A24 e24
    have hm24 : mo o F A F13 A24 := by rw [e24]; exact hm18.upA (by omega)
    refine ⟨h.1, ?_⟩
    replace h := h.2
    exact ⟨⟨h.1, hm24⟩, h.2⟩
theorem fX9_notes {o : Nat} {a1 : Int} {a2 : Int} {a3 : Int} {a4 : Int} {F : jFl} {A : jAr} {Q : jFl → jAr → Prop} (h : wpX9_notes o a1 a2 a3 a4 F A Q) : wpX9_notes o a1 a2 a3 a4 F A (fun F9 A9 => Q F9 A9 ∧ mo o F A F9 A9) := by
  unfold wpX9_notes at *
  have hm : mo o F A F A := mo.refl o F A
  refine ⟨h.1, ?_⟩
  replace h := h.2
  refine ⟨?_, ?_⟩
  · intro c0
    replace h := h.1 c0
    refine ⟨h.1, ?_⟩
    replace h := h.2
    refine ⟨h.1, ?_⟩
    replace h := h.2
    intro v5 e5
    replace h := h v5 e5
    refine ⟨h.1, ?_⟩
    replace h := h.2
    refine ⟨h.1, ?_⟩
    replace h := h.2
    intro A8 e8
    replace h := h A8 e8
    have hm8 : mo o F A F A8 := by rw [e8]; exact hm.upA (by omega)
    refine ⟨h.1, ?_⟩
    replace h := h.2
    intro A11 e11
    replace h := h A11 e11
    have hm11 : mo o F A F A11 := by rw [e11]; exact hm8.upA (by omega)
    refine ⟨h.1, ?_⟩
    replace h := h.2
    intro A14 e14
    replace h := h A14 e14
    have hm14 : mo o F A F A14 := by rw [e14]; exact hm11.upA (by omega)
    refine ⟨h.1, ?_⟩
    replace h := h.2
    intro A17 e17
    replace h := h A17 e17
    have hm17 : mo o F A F A17 := by rw [e17]; exact hm14.upA (by omega)
    refine ⟨h.1, ?_⟩
    replace h := h.2
    refine ⟨h.1, ?_⟩
    replace h := h.2
    refine ⟨h.1, ?_⟩
    replace h := h.2
    intro A22 e22
    replace h := h A22 e22
    have hm22 : mo o F A F A22 := by rw [e22]; exact hm17.upA (by omega)
    exact ⟨h, hm22⟩
  · intro c0
    replace h := h.2 c0
    obtain ⟨I27, m28, h0, h⟩ := h
    refine ⟨fun v24 A25 => I27 v24 A25 ∧ mo o F A F A25, m28, ⟨h0, hm⟩, ?_⟩
    rintro v24 A25 ⟨hi27, hm27⟩
    replace h := h v24 A25 hi27
    refine ⟨?_, ?_⟩
    · intro c0
      replace h := h.1 c0
      refine ⟨h.1, ?_⟩
      replace h := h.2
      refine ⟨h.1, ?_⟩
      replace h := h.2
      refine ⟨h.1, ?_⟩
      replace h := h.2
      intro A33 e33
      replace h := h A33 e33
      have hm33 : mo o F A F A33 := by rw [e33]; exact hm27.upA (by omega)
      refine ⟨h.1, ?_⟩
      replace h := h.2
      refine ⟨h.1, ?_⟩
      replace h := h.2
      intro v37 e37
      replace h := h v37 e37
      refine ⟨h.1, ?_⟩
      replace h := h.2
      refine ⟨h.1, ?_⟩
      replace h := h.2
      intro A40 e40
      replace h := h A40 e40
      have hm40 : mo o F A F A40 := by rw [e40]; exact hm33.upA (by omega)
      refine ⟨h.1, ?_⟩
      replace h := h.2
      intro A43 e43
      replace h := h A43 e43
      have hm43 : mo o F A F A43 := by rw [e43]; exact hm40.upA (by omega)
      refine ⟨h.1, ?_⟩
      replace h := h.2
      intro A46 e46
      replace h := h A46 e46
      have hm46 : mo o F A F A46 := by rw [e46]; exact hm43.upA (by omega)
      refine ⟨h.1, ?_⟩
      replace h := h.2
      intro A49 e49
      replace h := h A49 e49
      have hm49 : mo o F A F A49 := by rw [e49]; exact hm46.upA (by omega)
      refine ⟨h.1, ?_⟩
      replace h := h.2
      refine ⟨h.1, ?_⟩
      replace h := h.2
      refine ⟨h.1, ?_⟩
      replace h := h.2
      intro A54 e54
      replace h := h A54 e54
      have hm54 : mo o F A F A54 := by rw [e54]; exact hm49.upA (by omega)
      exact ⟨h, hm54⟩
    · intro c0
      replace h := h.2 c0
      refine ⟨h.1, ?_⟩
      replace h := h.2
      refine ⟨h.1, ?_⟩
      replace h := h.2
      intro A58 e58
      replace h := h A58 e58
      have hm58 : mo o F A F A58 := by rw [e58]; exact hm27.upA (by omega)
      refine ⟨h.1, ?_⟩
      replace h := h.2
      exact ⟨⟨h.1, hm58⟩, h.2⟩
theorem fX9_blame {o : Nat} {a1 : Int} {a2 : Int} {F : jFl} {A : jAr} {Q : jFl → jAr → Prop} (h : wpX9_blame o a1 a2 F A Q) : wpX9_blame o a1 a2 F A (fun F9 A9 => Q F9 A9 ∧ mo o F A F9 A9) := by
  unfold wpX9_blame at *
  have hm : mo o F A F A := mo.refl o F A
  refine ⟨?_, ?_⟩
  · intro c0
    replace h := h.1 c0
    intro F2 e2
    replace h := h F2 e2
    have hm2 : mo o F A F2 A := by rw [e2]; exact hm.upF
    intro F4 e4
    replace h := h F4 e4
    have hm4 : mo o F A F4 A := by rw [e4]; exact hm2.upF
    exact ⟨h, hm4⟩
  · intro c0
    replace h := h.2 c0
    exact ⟨h, hm⟩
theorem fX9_remembers {o : Nat} {a1 : Int} {F : jFl} {A : jAr} {Q : jFl → jAr → Prop} (h : wpX9_remembers o a1 F A Q) : wpX9_remembers o a1 F A (fun F9 A9 => Q F9 A9 ∧ mo o F A F9 A9) := by
  unfold wpX9_remembers at *
  have hm : mo o F A F A := mo.refl o F A
  refine ⟨h.1, ?_⟩
  replace h := h.2
  intro A2 e2
  replace h := h A2 e2
  have hm2 : mo o F A F A2 := by rw [e2]; exact hm.upA (by omega)
  refine ⟨h.1, ?_⟩
  replace h := h.2
  intro A5 e5
  replace h := h A5 e5
  have hm5 : mo o F A F A5 := by rw [e5]; exact hm2.upA (by omega)
  obtain ⟨I10, m11, h0, h⟩ := h
  refine ⟨fun v7 A8 => I10 v7 A8 ∧ mo o F A F A8, m11, ⟨h0, hm5⟩, ?_⟩
  rintro v7 A8 ⟨hi10, hm10⟩
  replace h := h v7 A8 hi10
  refine ⟨h.1, ?_⟩
  replace h := h.2
  refine ⟨?_, ?_⟩
  · intro c0
    replace h := h.1 c0
    exact ⟨h, hm10⟩
  · intro c0
    replace h := h.2 c0
    refine ⟨h.1, ?_⟩
    replace h := h.2
    refine ⟨h.1, ?_⟩
    replace h := h.2
    intro A16 e16
    replace h := h A16 e16
    have hm16 : mo o F A F A16 := by rw [e16]; exact hm10.upA (by omega)
    refine ⟨h.1, ?_⟩
    replace h := h.2
    exact ⟨⟨h.1, hm16⟩, h.2⟩
theorem fX9_begin {o : Nat} {F : jFl} {A : jAr} {Q : jFl → jAr → Prop} (h : wpX9_begin o F A Q) : wpX9_begin o F A (fun F9 A9 => Q F9 A9 ∧ mo o F A F9 A9) := by
  unfold wpX9_begin at *
  have hm : mo o F A F A := mo.refl o F A
  intro A2 e2
  replace h := h A2 e2
  have hm2 : mo o F A F A2 := by rw [e2]; exact hm.upA (by omega)
  intro A5 e5
  replace h := h A5 e5
  have hm5 : mo o F A F A5 := by rw [e5]; exact hm2.upA (by omega)
  intro F7 e7
  replace h := h F7 e7
  have hm7 : mo o F A F7 A5 := by rw [e7]; exact hm5.upF
  obtain ⟨I12, m13, h0, h⟩ := h
  refine ⟨fun v9 A10 => I12 v9 A10 ∧ mo o F A F7 A10, m13, ⟨h0, hm7⟩, ?_⟩
  rintro v9 A10 ⟨hi12, hm12⟩
  replace h := h v9 A10 hi12
  refine ⟨h.1, ?_⟩
  replace h := h.2
  refine ⟨?_, ?_⟩
  · intro c0
    replace h := h.1 c0
    exact ⟨h, hm12⟩
  · intro c0
    replace h := h.2 c0
    refine ⟨h.1, ?_⟩
    replace h := h.2
    intro v17 e17
    replace h := h v17 e17
    refine ⟨h.1, ?_⟩
    replace h := h.2
    intro A19 e19
    replace h := h A19 e19
    have hm19 : mo o F A F7 A19 := by rw [e19]; exact hm12.upA (by omega)
    refine ⟨h.1, ?_⟩
    replace h := h.2
    refine ⟨h.1, ?_⟩
    replace h := h.2
    intro A23 e23
    replace h := h A23 e23
    have hm23 : mo o F A F7 A23 := by rw [e23]; exact hm19.upA (by omega)
    refine ⟨h.1, ?_⟩
    replace h := h.2
    refine ⟨h.1, ?_⟩
    replace h := h.2
    intro A27 e27
    replace h := h A27 e27
    have hm27 : mo o F A F7 A27 := by rw [e27]; exact hm23.upA (by omega)
    refine ⟨h.1, ?_⟩
    replace h := h.2
    refine ⟨h.1, ?_⟩
    replace h := h.2
    intro A31 e31
    replace h := h A31 e31
    have hm31 : mo o F A F7 A31 := by rw [e31]; exact hm27.upA (by omega)
    obtain ⟨I36, m37, h0, h⟩ := h
    refine ⟨fun v33 A34 => I36 v33 A34 ∧ mo o F A F7 A34, m37, ⟨h0, hm31⟩, ?_⟩
    rintro v33 A34 ⟨hi36, hm36⟩
    replace h := h v33 A34 hi36
    refine ⟨?_, ?_⟩
    · intro c0
      replace h := h.1 c0
      refine ⟨h.1, ?_⟩
      replace h := h.2
      exact ⟨⟨h.1, hm36⟩, h.2⟩
    · intro c0
      replace h := h.2 c0
      refine ⟨h.1, ?_⟩
      replace h := h.2
      refine ⟨h.1, ?_⟩
      replace h := h.2
      intro A42 e42
      replace h := h A42 e42
      have hm42 : mo o F A F7 A42 := by rw [e42]; exact hm36.upA (by omega)
      refine ⟨h.1, ?_⟩
      replace h := h.2
      exact ⟨⟨h.1, hm42⟩, h.2⟩
theorem fX9_firstPerm {o : Nat} {a1 : Int} {F : jFl} {A : jAr} {Q : jFl → jAr → Prop} (h : wpX9_firstPerm o a1 F A Q) : wpX9_firstPerm o a1 F A (fun F9 A9 => Q F9 A9 ∧ mo o F A F9 A9) := by
  unfold wpX9_firstPerm at *
  have hm : mo o F A F A := mo.refl o F A
  intro F1 e1
  replace h := h F1 e1
  have hm1 : mo o F A F1 A := by rw [e1]; exact hm.upF
  obtain ⟨I6, m7, h0, h⟩ := h
  refine ⟨fun v3 A4 => I6 v3 A4 ∧ mo o F A F1 A4, m7, ⟨h0, hm1⟩, ?_⟩
  rintro v3 A4 ⟨hi6, hm6⟩
  replace h := h v3 A4 hi6
  refine ⟨?_, ?_⟩
  · intro c0
    replace h := h.1 c0
    exact ⟨h, hm6⟩
  · intro c0
    replace h := h.2 c0
    refine ⟨h.1, ?_⟩
    replace h := h.2
    intro A10 e10
    replace h := h A10 e10
    have hm10 : mo o F A F1 A10 := by rw [e10]; exact hm6.upA (by omega)
    refine ⟨h.1, ?_⟩
    replace h := h.2
    exact ⟨⟨h.1, hm10⟩, h.2⟩
theorem fX9_changes {o : Nat} {a1 : Int} {a2 : Int} {F : jFl} {A : jAr} {Q : jFl → jAr → Prop} (h : wpX9_changes o a1 a2 F A Q) : wpX9_changes o a1 a2 F A (fun F9 A9 => Q F9 A9 ∧ mo o F A F9 A9) := by
  unfold wpX9_changes at *
  have hm : mo o F A F A := mo.refl o F A
  refine ⟨h.1, ?_⟩
  replace h := h.2
  intro v2 e2
  replace h := h v2 e2
  refine ⟨h.1, ?_⟩
  replace h := h.2
  refine ⟨h.1, ?_⟩
  replace h := h.2
  intro A5 e5
  replace h := h A5 e5
  have hm5 : mo o F A F A5 := by rw [e5]; exact hm.upA (by omega)
  refine ⟨h.1, ?_⟩
  replace h := h.2
  intro A8 e8
  replace h := h A8 e8
  have hm8 : mo o F A F A8 := by rw [e8]; exact hm5.upA (by omega)
  exact ⟨h, hm8⟩
theorem fX9_draw {o : Nat} {a1 : Int} {F : jFl} {A : jAr} {Q : Int → jFl → jAr → Prop} (h : wpX9_draw o a1 F A Q) : wpX9_draw o a1 F A (fun z F9 A9 => Q z F9 A9 ∧ mo o F A F9 A9) := by
  unfold wpX9_draw at *
  have hm : mo o F A F A := mo.refl o F A
  refine ⟨h.1, ?_⟩
  replace h := h.2
  refine ⟨h.1, ?_⟩
  replace h := h.2
  intro F3 e3
  replace h := h F3 e3
  have hm3 : mo o F A F3 A := by rw [e3]; exact hm.upF
  refine ⟨h.1, ?_⟩
  replace h := h.2
  refine ⟨h.1, ?_⟩
  replace h := h.2
  refine ⟨h.1, ?_⟩
  replace h := h.2
  exact ⟨h, hm3⟩
theorem fX9_put {o : Nat} {a1 : Int} {F : jFl} {A : jAr} {Q : jFl → jAr → Prop} (h : wpX9_put o a1 F A Q) : wpX9_put o a1 F A (fun F9 A9 => Q F9 A9 ∧ mo o F A F9 A9) := by
  unfold wpX9_put at *
  have hm : mo o F A F A := mo.refl o F A
  obtain ⟨I5, m6, h0, h⟩ := h
  refine ⟨fun v1 F2 A3 => I5 v1 F2 A3 ∧ mo o F A F2 A3, m6, ⟨h0, hm⟩, ?_⟩
  rintro v1 F2 A3 ⟨hi5, hm5⟩
  replace h := h v1 F2 A3 hi5
  refine ⟨?_, ?_⟩
  · intro c0
    replace h := h.1 c0
    exact ⟨h, hm5⟩
  · intro c0
    replace h := h.2 c0
    refine ⟨h.1, ?_⟩
    replace h := h.2
    refine ⟨h.1, ?_⟩
    replace h := h.2
    intro A10 e10
    replace h := h A10 e10
    have hm10 : mo o F A F2 A10 := by rw [e10]; exact hm5.upA (by omega)
    refine ⟨h.1, ?_⟩
    replace h := h.2
    intro F13 e13
    replace h := h F13 e13
    have hm13 : mo o F A F13 A10 := by rw [e13]; exact hm10.upF
    refine ⟨h.1, ?_⟩
    replace h := h.2
    exact ⟨⟨h.1, hm13⟩, h.2⟩
theorem fX9_saysAsTold {o : Nat} {F : jFl} {A : jAr} {Q : jFl → jAr → Prop} (h : wpX9_saysAsTold o F A Q) : wpX9_saysAsTold o F A (fun F9 A9 => Q F9 A9 ∧ mo o F A F9 A9) := by
  unfold wpX9_saysAsTold at *
  have hm : mo o F A F A := mo.refl o F A
  intro F1 e1
  replace h := h F1 e1
  have hm1 : mo o F A F1 A := by rw [e1]; exact hm.upF
  intro F3 e3
  replace h := h F3 e3
  have hm3 : mo o F A F3 A := by rw [e3]; exact hm1.upF
  obtain ⟨I8, m9, h0, h⟩ := h
  refine ⟨fun v5 A6 => I8 v5 A6 ∧ mo o F A F3 A6, m9, ⟨h0, hm3⟩, ?_⟩
  rintro v5 A6 ⟨hi8, hm8⟩
  replace h := h v5 A6 hi8
  refine ⟨h.1, ?_⟩
  replace h := h.2
  refine ⟨?_, ?_⟩
  · intro c0
    replace h := h.1 c0
    exact ⟨h, hm8⟩
  · intro c0
    replace h := h.2 c0
    refine ⟨h.1, ?_⟩
    replace h := h.2
    refine ⟨h.1, ?_⟩
    replace h := h.2
    intro A14 e14
    replace h := h A14 e14
    have hm14 : mo o F A F3 A14 := by rw [e14]; exact hm8.upA (by omega)
    refine ⟨h.1, ?_⟩
    replace h := h.2
    exact ⟨⟨h.1, hm14⟩, h.2⟩
theorem fX9_writes {o : Nat} {a1 : Int} {F : jFl} {A : jAr} {Q : jFl → jAr → Prop} (h : wpX9_writes o a1 F A Q) : wpX9_writes o a1 F A (fun F9 A9 => Q F9 A9 ∧ mo o F A F9 A9) := by
  unfold wpX9_writes at *
  have hm : mo o F A F A := mo.refl o F A
  refine ⟨h.1, ?_⟩
  replace h := h.2
  intro A2 e2
  replace h := h A2 e2
  have hm2 : mo o F A F A2 := by rw [e2]; exact hm.upA (by omega)
  refine ⟨h.1, ?_⟩
  replace h := h.2
  intro F5 e5
  replace h := h F5 e5
  have hm5 : mo o F A F5 A2 := by rw [e5]; exact hm2.upF
  exact ⟨h, hm5⟩
theorem fX9_tellsBack {o : Nat} {F : jFl} {A : jAr} {Q : jFl → jAr → Prop} (h : wpX9_tellsBack o F A Q) : wpX9_tellsBack o F A (fun F9 A9 => Q F9 A9 ∧ mo o F A F9 A9) := by
  unfold wpX9_tellsBack at *
  have hm : mo o F A F A := mo.refl o F A
  intro F1 e1
  replace h := h F1 e1
  have hm1 : mo o F A F1 A := by rw [e1]; exact hm.upF
  intro F3 e3
  replace h := h F3 e3
  have hm3 : mo o F A F3 A := by rw [e3]; exact hm1.upF
  obtain ⟨I8, m9, h0, h⟩ := h
  refine ⟨fun v5 A6 => I8 v5 A6 ∧ mo o F A F3 A6, m9, ⟨h0, hm3⟩, ?_⟩
  rintro v5 A6 ⟨hi8, hm8⟩
  replace h := h v5 A6 hi8
  refine ⟨h.1, ?_⟩
  replace h := h.2
  refine ⟨?_, ?_⟩
  · intro c0
    replace h := h.1 c0
    exact ⟨h, hm8⟩
  · intro c0
    replace h := h.2 c0
    refine ⟨h.1, ?_⟩
    replace h := h.2
    refine ⟨h.1, ?_⟩
    replace h := h.2
    intro A14 e14
    replace h := h A14 e14
    have hm14 : mo o F A F3 A14 := by rw [e14]; exact hm8.upA (by omega)
    refine ⟨h.1, ?_⟩
    replace h := h.2
    exact ⟨⟨h.1, hm14⟩, h.2⟩
theorem fX9_ahead {o : Nat} {F : jFl} {A : jAr} {Q : jFl → jAr → Prop} (h : wpX9_ahead o F A Q) : wpX9_ahead o F A (fun F9 A9 => Q F9 A9 ∧ mo o F A F9 A9) := by
  unfold wpX9_ahead at *
  have hm : mo o F A F A := mo.refl o F A
  intro v1 e1
  replace h := h v1 e1
  obtain ⟨I3, m4, h0, h⟩ := h
  refine ⟨I3, m4, h0, ?_⟩
  intro v2 hi3
  replace h := h v2 hi3
  obtain ⟨K6, hk6, h⟩ := h
  refine ⟨K6, ?_, ?_⟩
  · intro k6
    replace h := hk6 k6
    intro F9 e9
    replace h := h F9 e9
    have hm9 : mo o F A F9 A := by rw [e9]; exact hm.upF
    intro F11 e11
    replace h := h F11 e11
    have hm11 : mo o F A F11 A := by rw [e11]; exact hm9.upF
    intro F13 e13
    replace h := h F13 e13
    have hm13 : mo o F A F13 A := by rw [e13]; exact hm11.upF
    intro F15 e15
    replace h := h F15 e15
    have hm15 : mo o F A F15 A := by rw [e15]; exact hm13.upF
    refine ⟨?_, ?_⟩
    · intro c0
      replace h := h.1 c0
      refine ⟨h.1, ?_⟩
      replace h := h.2
      obtain ⟨P19, hp19, h⟩ := h
      refine ⟨_, hp19, ?_⟩
      intro z21 p19
      replace h := h z21 p19
      refine ⟨h.1, ?_⟩
      replace h := h.2
      obtain ⟨P25, hp25, h⟩ := h
      refine ⟨_, hp25, ?_⟩
      intro z27 p25
      replace h := h z27 p25
      obtain ⟨K33, hk33, h⟩ := h
      refine ⟨fun F31 => K33 F31 ∧ mo o F A F31 A, ?_, ?_⟩
      · rintro F31 ⟨k33, hm33⟩
        replace h := hk33 F31 k33
        intro F36 e36
        replace h := h F36 e36
        have hm36 : mo o F A F36 A := by rw [e36]; exact hm33.upF
        intro F38 e38
        replace h := h F38 e38
        have hm38 : mo o F A F38 A := by rw [e38]; exact hm36.upF
        intro F40 e40
        replace h := h F40 e40
        have hm40 : mo o F A F40 A := by rw [e40]; exact hm38.upF
        refine ⟨h.1, ?_⟩
        replace h := h.2
        intro F43 e43
        replace h := h F43 e43
        have hm43 : mo o F A F43 A := by rw [e43]; exact hm40.upF
        refine ⟨?_, ?_⟩
        · intro c0
          replace h := h.1 c0
          intro z47 e47
          replace h := h z47 e47
          intro F49 e49
          replace h := h F49 e49
          have hm49 : mo o F A F49 A := by rw [e49]; exact hm43.upF
          intro z52 e52
          replace h := h z52 e52
          obtain ⟨I58, m59, h0, h⟩ := h
          refine ⟨fun v54 v55 F56 => I58 v54 v55 F56 ∧ mo o F A F56 A, m59, ⟨h0, hm49⟩, ?_⟩
          rintro v54 v55 F56 ⟨hi58, hm58⟩
          replace h := h v54 v55 F56 hi58
          refine ⟨?_, ?_⟩
          · intro c0
            replace h := h.1 c0
            intro F61 e61
            replace h := h F61 e61
            have hm61 : mo o F A F61 A := by rw [e61]; exact hm58.upF
            exact ⟨h, hm61⟩
          · intro c0
            replace h := h.2 c0
            refine ⟨?_, ?_⟩
            · intro c0
              replace h := h.1 c0
              refine ⟨h.1, ?_⟩
              replace h := h.2
              obtain ⟨P65, hp65, h⟩ := h
              refine ⟨_, hp65, ?_⟩
              intro z67 p65
              replace h := h z67 p65
              refine ⟨?_, ?_⟩
              · intro c0
                replace h := h.1 c0
                intro F71 e71
                replace h := h F71 e71
                have hm71 : mo o F A F71 A := by rw [e71]; exact hm58.upF
                exact ⟨h, hm71⟩
              · intro c0
                replace h := h.2 c0
                obtain ⟨K76, hk76, h⟩ := h
                refine ⟨fun F74 => K76 F74 ∧ mo o F A F74 A, ?_, ?_⟩
                · rintro F74 ⟨k76, hm76⟩
                  replace h := hk76 F74 k76
                  obtain ⟨K82, hk82, h⟩ := h
                  refine ⟨fun F80 => K82 F80 ∧ mo o F A F80 A, ?_, ?_⟩
                  · rintro F80 ⟨k82, hm82⟩
                    replace h := hk82 F80 k82
                    refine ⟨?_, ?_⟩
                    · intro c0
                      replace h := h.1 c0
                      refine ⟨h.1, ?_⟩
                      replace h := h.2
                      refine ⟨h.1, ?_⟩
                      replace h := h.2
                      exact ⟨⟨h.1, hm82⟩, h.2⟩
                    · intro c0
                      replace h := h.2 c0
                      refine ⟨?_, ?_⟩
                      · intro c0
                        replace h := h.1 c0
                        refine ⟨h.1, ?_⟩
                        replace h := h.2
                        refine ⟨h.1, ?_⟩
                        replace h := h.2
                        exact ⟨⟨h.1, hm82⟩, h.2⟩
                      · intro c0
                        replace h := h.2 c0
                        refine ⟨h.1, ?_⟩
                        replace h := h.2
                        refine ⟨h.1, ?_⟩
                        replace h := h.2
                        intro F93 e93
                        replace h := h F93 e93
                        have hm93 : mo o F A F93 A := by rw [e93]; exact hm82.upF
                        refine ⟨h.1, ?_⟩
                        replace h := h.2
                        refine ⟨h.1, ?_⟩
                        replace h := h.2
                        exact ⟨⟨h.1, hm93⟩, h.2⟩
                  · refine ⟨?_, ?_⟩
                    · intro c0
                      replace h := h.1 c0
                      exact ⟨h, hm76⟩
                    · intro c0
                      replace h := h.2 c0
                      refine ⟨?_, ?_⟩
                      · intro c0
                        replace h := h.1 c0
                        exact ⟨h, hm76⟩
                      · intro c0
                        replace h := h.2 c0
                        refine ⟨h.1, ?_⟩
                        replace h := h.2
                        refine ⟨h.1, ?_⟩
                        replace h := h.2
                        refine ⟨h.1, ?_⟩
                        replace h := h.2
                        refine ⟨h.1, ?_⟩
                        replace h := h.2
                        intro F102 e102
                        replace h := h F102 e102
                        have hm102 : mo o F A F102 A := by rw [e102]; exact hm76.upF
                        exact ⟨h, hm102⟩
                · refine ⟨?_, ?_⟩
                  · intro c0
                    replace h := h.1 c0
                    exact ⟨h, hm58⟩
                  · intro c0
                    replace h := h.2 c0
                    refine ⟨?_, ?_⟩
                    · intro c0
                      replace h := h.1 c0
                      exact ⟨h, hm58⟩
                    · intro c0
                      replace h := h.2 c0
                      intro F105 e105
                      replace h := h F105 e105
                      have hm105 : mo o F A F105 A := by rw [e105]; exact hm58.upF
                      exact ⟨h, hm105⟩
            · intro c0
              replace h := h.2 c0
              refine ⟨h.1, ?_⟩
              replace h := h.2
              obtain ⟨P108, hp108, h⟩ := h
              refine ⟨_, hp108, ?_⟩
              intro z110 p108
              replace h := h z110 p108
              refine ⟨?_, ?_⟩
              · intro c0
                replace h := h.1 c0
                intro F114 e114
                replace h := h F114 e114
                have hm114 : mo o F A F114 A := by rw [e114]; exact hm58.upF
                exact ⟨h, hm114⟩
              · intro c0
                replace h := h.2 c0
                refine ⟨?_, ?_⟩
                · intro c0
                  replace h := h.1 c0
                  refine ⟨?_, ?_⟩
                  · intro c0
                    replace h := h.1 c0
                    refine ⟨?_, ?_⟩
                    · intro c0
                      replace h := h.1 c0
                      refine ⟨h.1, ?_⟩
                      replace h := h.2
                      refine ⟨h.1, ?_⟩
                      replace h := h.2
                      exact ⟨⟨h.1, hm58⟩, h.2⟩
                    · intro c0
                      replace h := h.2 c0
                      refine ⟨?_, ?_⟩
                      · intro c0
                        replace h := h.1 c0
                        refine ⟨h.1, ?_⟩
                        replace h := h.2
                        refine ⟨h.1, ?_⟩
                        replace h := h.2
                        exact ⟨⟨h.1, hm58⟩, h.2⟩
                      · intro c0
                        replace h := h.2 c0
                        refine ⟨h.1, ?_⟩
                        replace h := h.2
                        refine ⟨h.1, ?_⟩
                        replace h := h.2
                        intro F126 e126
                        replace h := h F126 e126
                        have hm126 : mo o F A F126 A := by rw [e126]; exact hm58.upF
                        refine ⟨h.1, ?_⟩
                        replace h := h.2
                        refine ⟨h.1, ?_⟩
                        replace h := h.2
                        exact ⟨⟨h.1, hm126⟩, h.2⟩
                  · intro c0
                    replace h := h.2 c0
                    refine ⟨?_, ?_⟩
                    · intro c0
                      replace h := h.1 c0
                      refine ⟨?_, ?_⟩
                      · intro c0
                        replace h := h.1 c0
                        refine ⟨h.1, ?_⟩
                        replace h := h.2
                        refine ⟨h.1, ?_⟩
                        replace h := h.2
                        exact ⟨⟨h.1, hm58⟩, h.2⟩
                      · intro c0
                        replace h := h.2 c0
                        refine ⟨?_, ?_⟩
                        · intro c0
                          replace h := h.1 c0
                          refine ⟨h.1, ?_⟩
                          replace h := h.2
                          refine ⟨h.1, ?_⟩
                          replace h := h.2
                          exact ⟨⟨h.1, hm58⟩, h.2⟩
                        · intro c0
                          replace h := h.2 c0
                          refine ⟨h.1, ?_⟩
                          replace h := h.2
                          refine ⟨h.1, ?_⟩
                          replace h := h.2
                          intro F139 e139
                          replace h := h F139 e139
                          have hm139 : mo o F A F139 A := by rw [e139]; exact hm58.upF
                          refine ⟨h.1, ?_⟩
                          replace h := h.2
                          refine ⟨h.1, ?_⟩
                          replace h := h.2
                          exact ⟨⟨h.1, hm139⟩, h.2⟩
                    · intro c0
                      replace h := h.2 c0
                      refine ⟨h.1, ?_⟩
                      replace h := h.2
                      refine ⟨h.1, ?_⟩
                      replace h := h.2
                      refine ⟨h.1, ?_⟩
                      replace h := h.2
                      refine ⟨h.1, ?_⟩
                      replace h := h.2
                      intro F147 e147
                      replace h := h F147 e147
                      have hm147 : mo o F A F147 A := by rw [e147]; exact hm58.upF
                      refine ⟨?_, ?_⟩
                      · intro c0
                        replace h := h.1 c0
                        refine ⟨h.1, ?_⟩
                        replace h := h.2
                        refine ⟨h.1, ?_⟩
                        replace h := h.2
                        exact ⟨⟨h.1, hm147⟩, h.2⟩
                      · intro c0
                        replace h := h.2 c0
                        refine ⟨?_, ?_⟩
                        · intro c0
                          replace h := h.1 c0
                          refine ⟨h.1, ?_⟩
                          replace h := h.2
                          refine ⟨h.1, ?_⟩
                          replace h := h.2
                          exact ⟨⟨h.1, hm147⟩, h.2⟩
                        · intro c0
                          replace h := h.2 c0
                          refine ⟨h.1, ?_⟩
                          replace h := h.2
                          refine ⟨h.1, ?_⟩
                          replace h := h.2
                          intro F157 e157
                          replace h := h F157 e157
                          have hm157 : mo o F A F157 A := by rw [e157]; exact hm147.upF
                          refine ⟨h.1, ?_⟩
                          replace h := h.2
                          refine ⟨h.1, ?_⟩
                          replace h := h.2
                          exact ⟨⟨h.1, hm157⟩, h.2⟩
                · intro c0
                  replace h := h.2 c0
                  refine ⟨?_, ?_⟩
                  · intro c0
                    replace h := h.1 c0
                    refine ⟨?_, ?_⟩
                    · intro c0
                      replace h := h.1 c0
                      refine ⟨?_, ?_⟩
                      · intro c0
                        replace h := h.1 c0
                        refine ⟨h.1, ?_⟩
                        replace h := h.2
                        refine ⟨h.1, ?_⟩
                        replace h := h.2
                        exact ⟨⟨h.1, hm58⟩, h.2⟩
                      · intro c0
                        replace h := h.2 c0
                        refine ⟨?_, ?_⟩
                        · intro c0
                          replace h := h.1 c0
                          refine ⟨h.1, ?_⟩
                          replace h := h.2
                          refine ⟨h.1, ?_⟩
                          replace h := h.2
                          exact ⟨⟨h.1, hm58⟩, h.2⟩
                        · intro c0
                          replace h := h.2 c0
                          refine ⟨h.1, ?_⟩
                          replace h := h.2
                          refine ⟨h.1, ?_⟩
                          replace h := h.2
                          intro F171 e171
                          replace h := h F171 e171
                          have hm171 : mo o F A F171 A := by rw [e171]; exact hm58.upF
                          refine ⟨h.1, ?_⟩
                          replace h := h.2
                          refine ⟨h.1, ?_⟩
                          replace h := h.2
                          exact ⟨⟨h.1, hm171⟩, h.2⟩
                    · intro c0
                      replace h := h.2 c0
                      refine ⟨?_, ?_⟩
                      · intro c0
                        replace h := h.1 c0
                        refine ⟨?_, ?_⟩
                        · intro c0
                          replace h := h.1 c0
                          refine ⟨h.1, ?_⟩
                          replace h := h.2
                          refine ⟨h.1, ?_⟩
                          replace h := h.2
                          exact ⟨⟨h.1, hm58⟩, h.2⟩
                        · intro c0
                          replace h := h.2 c0
                          refine ⟨?_, ?_⟩
                          · intro c0
                            replace h := h.1 c0
                            refine ⟨h.1, ?_⟩
                            replace h := h.2
                            refine ⟨h.1, ?_⟩
                            replace h := h.2
                            exact ⟨⟨h.1, hm58⟩, h.2⟩
                          · intro c0
                            replace h := h.2 c0
                            refine ⟨h.1, ?_⟩
                            replace h := h.2
                            refine ⟨h.1, ?_⟩
                            replace h := h.2
                            intro F184 e184
                            replace h := h F184 e184
                            have hm184 : mo o F A F184 A := by rw [e184]; exact hm58.upF
                            refine ⟨h.1, ?_⟩
                            replace h := h.2
                            refine ⟨h.1, ?_⟩
                            replace h := h.2
                            exact ⟨⟨h.1, hm184⟩, h.2⟩
                      · intro c0
                        replace h := h.2 c0
                        refine ⟨h.1, ?_⟩
                        replace h := h.2
                        refine ⟨h.1, ?_⟩
                        replace h := h.2
                        refine ⟨h.1, ?_⟩
                        replace h := h.2
                        refine ⟨h.1, ?_⟩
                        replace h := h.2
                        intro F192 e192
                        replace h := h F192 e192
                        have hm192 : mo o F A F192 A := by rw [e192]; exact hm58.upF
                        refine ⟨?_, ?_⟩
                        · intro c0
                          replace h := h.1 c0
                          refine ⟨h.1, ?_⟩
                          replace h := h.2
                          refine ⟨h.1, ?_⟩
                          replace h := h.2
                          exact ⟨⟨h.1, hm192⟩, h.2⟩
                        · intro c0
                          replace h := h.2 c0
                          refine ⟨?_, ?_⟩
                          · intro c0
                            replace h := h.1 c0
                            refine ⟨h.1, ?_⟩
                            replace h := h.2
                            refine ⟨h.1, ?_⟩
                            replace h := h.2
                            exact ⟨⟨h.1, hm192⟩, h.2⟩
                          · intro c0
                            replace h := h.2 c0
                            refine ⟨h.1, ?_⟩
                            replace h := h.2
                            refine ⟨h.1, ?_⟩
                            replace h := h.2
                            intro F202 e202
                            replace h := h F202 e202
                            have hm202 : mo o F A F202 A := by rw [e202]; exact hm192.upF
                            refine ⟨h.1, ?_⟩
                            replace h := h.2
                            refine ⟨h.1, ?_⟩
                            replace h := h.2
                            exact ⟨⟨h.1, hm202⟩, h.2⟩
                  · intro c0
                    replace h := h.2 c0
                    intro F206 e206
                    replace h := h F206 e206
                    have hm206 : mo o F A F206 A := by rw [e206]; exact hm58.upF
                    refine ⟨?_, ?_⟩
                    · intro c0
                      replace h := h.1 c0
                      refine ⟨?_, ?_⟩
                      · intro c0
                        replace h := h.1 c0
                        refine ⟨h.1, ?_⟩
                        replace h := h.2
                        refine ⟨h.1, ?_⟩
                        replace h := h.2
                        exact ⟨⟨h.1, hm206⟩, h.2⟩
                      · intro c0
                        replace h := h.2 c0
                        refine ⟨?_, ?_⟩
                        · intro c0
                          replace h := h.1 c0
                          refine ⟨h.1, ?_⟩
                          replace h := h.2
                          refine ⟨h.1, ?_⟩
                          replace h := h.2
                          exact ⟨⟨h.1, hm206⟩, h.2⟩
                        · intro c0
                          replace h := h.2 c0
                          refine ⟨h.1, ?_⟩
                          replace h := h.2
                          refine ⟨h.1, ?_⟩
                          replace h := h.2
                          intro F217 e217
                          replace h := h F217 e217
                          have hm217 : mo o F A F217 A := by rw [e217]; exact hm206.upF
                          refine ⟨h.1, ?_⟩
                          replace h := h.2
                          refine ⟨h.1, ?_⟩
                          replace h := h.2
                          exact ⟨⟨h.1, hm217⟩, h.2⟩
                    · intro c0
                      replace h := h.2 c0
                      refine ⟨?_, ?_⟩
                      · intro c0
                        replace h := h.1 c0
                        refine ⟨?_, ?_⟩
                        · intro c0
                          replace h := h.1 c0
                          refine ⟨h.1, ?_⟩
                          replace h := h.2
                          refine ⟨h.1, ?_⟩
                          replace h := h.2
                          exact ⟨⟨h.1, hm206⟩, h.2⟩
                        · intro c0
                          replace h := h.2 c0
                          refine ⟨?_, ?_⟩
                          · intro c0
                            replace h := h.1 c0
                            refine ⟨h.1, ?_⟩
                            replace h := h.2
                            refine ⟨h.1, ?_⟩
                            replace h := h.2
                            exact ⟨⟨h.1, hm206⟩, h.2⟩
                          · intro c0
                            replace h := h.2 c0
                            refine ⟨h.1, ?_⟩
                            replace h := h.2
                            refine ⟨h.1, ?_⟩
                            replace h := h.2
                            intro F230 e230
                            replace h := h F230 e230
                            have hm230 : mo o F A F230 A := by rw [e230]; exact hm206.upF
                            refine ⟨h.1, ?_⟩
                            replace h := h.2
                            refine ⟨h.1, ?_⟩
                            replace h := h.2
                            exact ⟨⟨h.1, hm230⟩, h.2⟩
                      · intro c0
                        replace h := h.2 c0
                        refine ⟨h.1, ?_⟩
                        replace h := h.2
                        refine ⟨h.1, ?_⟩
                        replace h := h.2
                        refine ⟨h.1, ?_⟩
                        replace h := h.2
                        refine ⟨h.1, ?_⟩
                        replace h := h.2
                        intro F238 e238
                        replace h := h F238 e238
                        have hm238 : mo o F A F238 A := by rw [e238]; exact hm206.upF
                        refine ⟨?_, ?_⟩
                        · intro c0
                          replace h := h.1 c0
                          refine ⟨h.1, ?_⟩
                          replace h := h.2
                          refine ⟨h.1, ?_⟩
                          replace h := h.2
                          exact ⟨⟨h.1, hm238⟩, h.2⟩
                        · intro c0
                          replace h := h.2 c0
                          refine ⟨?_, ?_⟩
                          · intro c0
                            replace h := h.1 c0
                            refine ⟨h.1, ?_⟩
                            replace h := h.2
                            refine ⟨h.1, ?_⟩
                            replace h := h.2
                            exact ⟨⟨h.1, hm238⟩, h.2⟩
                          · intro c0
                            replace h := h.2 c0
                            refine ⟨h.1, ?_⟩
                            replace h := h.2
                            refine ⟨h.1, ?_⟩
                            replace h := h.2
                            intro F248 e248
                            replace h := h F248 e248
                            have hm248 : mo o F A F248 A := by rw [e248]; exact hm238.upF
                            refine ⟨h.1, ?_⟩
                            replace h := h.2
                            refine ⟨h.1, ?_⟩
                            replace h := h.2
                            exact ⟨⟨h.1, hm248⟩, h.2⟩
        · intro c0
          replace h := h.2 c0
          refine ⟨?_, ?_⟩
          · intro c0
            replace h := h.1 c0
            intro z254 e254
            replace h := h z254 e254
            intro F256 e256
            replace h := h F256 e256
            have hm256 : mo o F A F256 A := by rw [e256]; exact hm43.upF
            intro z259 e259
            replace h := h z259 e259
            obtain ⟨I265, m266, h0, h⟩ := h
            refine ⟨fun v261 v262 F263 => I265 v261 v262 F263 ∧ mo o F A F263 A, m266, ⟨h0, hm256⟩, ?_⟩
            rintro v261 v262 F263 ⟨hi265, hm265⟩
            replace h := h v261 v262 F263 hi265
            refine ⟨?_, ?_⟩
            · intro c0
              replace h := h.1 c0
              intro F268 e268
              replace h := h F268 e268
              have hm268 : mo o F A F268 A := by rw [e268]; exact hm265.upF
              exact ⟨h, hm268⟩
            · intro c0
              replace h := h.2 c0
              refine ⟨?_, ?_⟩
              · intro c0
                replace h := h.1 c0
                refine ⟨h.1, ?_⟩
                replace h := h.2
                obtain ⟨P272, hp272, h⟩ := h
                refine ⟨_, hp272, ?_⟩
                intro z274 p272
                replace h := h z274 p272
                refine ⟨?_, ?_⟩
                · intro c0
                  replace h := h.1 c0
                  intro F278 e278
                  replace h := h F278 e278
                  have hm278 : mo o F A F278 A := by rw [e278]; exact hm265.upF
                  exact ⟨h, hm278⟩
                · intro c0
                  replace h := h.2 c0
                  obtain ⟨K283, hk283, h⟩ := h
                  refine ⟨fun F281 => K283 F281 ∧ mo o F A F281 A, ?_, ?_⟩
                  · rintro F281 ⟨k283, hm283⟩
                    replace h := hk283 F281 k283
                    obtain ⟨K289, hk289, h⟩ := h
                    refine ⟨fun F287 => K289 F287 ∧ mo o F A F287 A, ?_, ?_⟩
                    · rintro F287 ⟨k289, hm289⟩
                      replace h := hk289 F287 k289
                      refine ⟨?_, ?_⟩
                      · intro c0
                        replace h := h.1 c0
                        refine ⟨h.1, ?_⟩
                        replace h := h.2
                        refine ⟨h.1, ?_⟩
                        replace h := h.2
                        exact ⟨⟨h.1, hm289⟩, h.2⟩
                      · intro c0
                        replace h := h.2 c0
                        refine ⟨?_, ?_⟩
                        · intro c0
                          replace h := h.1 c0
                          refine ⟨h.1, ?_⟩
                          replace h := h.2
                          refine ⟨h.1, ?_⟩
                          replace h := h.2
                          exact ⟨⟨h.1, hm289⟩, h.2⟩
                        · intro c0
                          replace h := h.2 c0
                          refine ⟨h.1, ?_⟩
                          replace h := h.2
                          refine ⟨h.1, ?_⟩
                          replace h := h.2
                          intro F300 e300
                          replace h := h F300 e300
                          have hm300 : mo o F A F300 A := by rw [e300]; exact hm289.upF
                          refine ⟨h.1, ?_⟩
                          replace h := h.2
                          refine ⟨h.1, ?_⟩
                          replace h := h.2
                          exact ⟨⟨h.1, hm300⟩, h.2⟩
                    · refine ⟨?_, ?_⟩
                      · intro c0
                        replace h := h.1 c0
                        exact ⟨h, hm283⟩
                      · intro c0
                        replace h := h.2 c0
                        refine ⟨?_, ?_⟩
                        · intro c0
                          replace h := h.1 c0
                          exact ⟨h, hm283⟩
                        · intro c0
                          replace h := h.2 c0
                          refine ⟨h.1, ?_⟩
                          replace h := h.2
                          refine ⟨h.1, ?_⟩
                          replace h := h.2
                          refine ⟨h.1, ?_⟩
                          replace h := h.2
                          refine ⟨h.1, ?_⟩
                          replace h := h.2
                          intro F309 e309
                          replace h := h F309 e309
                          have hm309 : mo o F A F309 A := by rw [e309]; exact hm283.upF
                          exact ⟨h, hm309⟩
                  · refine ⟨?_, ?_⟩
                    · intro c0
                      replace h := h.1 c0
                      exact ⟨h, hm265⟩
                    · intro c0
                      replace h := h.2 c0
                      refine ⟨?_, ?_⟩
                      · intro c0
                        replace h := h.1 c0
                        exact ⟨h, hm265⟩
                      · intro c0
                        replace h := h.2 c0
                        intro F312 e312
                        replace h := h F312 e312
                        have hm312 : mo o F A F312 A := by rw [e312]; exact hm265.upF
                        exact ⟨h, hm312⟩
              · intro c0
                replace h := h.2 c0
                refine ⟨h.1, ?_⟩
                replace h := h.2
                obtain ⟨P315, hp315, h⟩ := h
                refine ⟨_, hp315, ?_⟩
                intro z317 p315
                replace h := h z317 p315
                refine ⟨?_, ?_⟩
                · intro c0
                  replace h := h.1 c0
                  intro F321 e321
                  replace h := h F321 e321
                  have hm321 : mo o F A F321 A := by rw [e321]; exact hm265.upF
                  exact ⟨h, hm321⟩
                · intro c0
                  replace h := h.2 c0
                  refine ⟨?_, ?_⟩
                  · intro c0
                    replace h := h.1 c0
                    refine ⟨?_, ?_⟩
                    · intro c0
                      replace h := h.1 c0
                      refine ⟨?_, ?_⟩
                      · intro c0
                        replace h := h.1 c0
                        refine ⟨h.1, ?_⟩
                        replace h := h.2
                        refine ⟨h.1, ?_⟩
                        replace h := h.2
                        exact ⟨⟨h.1, hm265⟩, h.2⟩
                      · intro c0
                        replace h := h.2 c0
                        refine ⟨?_, ?_⟩
                        · intro c0
                          replace h := h.1 c0
                          refine ⟨h.1, ?_⟩
                          replace h := h.2
                          refine ⟨h.1, ?_⟩
                          replace h := h.2
                          exact ⟨⟨h.1, hm265⟩, h.2⟩
                        · intro c0
                          replace h := h.2 c0
                          refine ⟨h.1, ?_⟩
                          replace h := h.2
                          refine ⟨h.1, ?_⟩
                          replace h := h.2
                          intro F333 e333
                          replace h := h F333 e333
                          have hm333 : mo o F A F333 A := by rw [e333]; exact hm265.upF
                          refine ⟨h.1, ?_⟩
                          replace h := h.2
                          refine ⟨h.1, ?_⟩
                          replace h := h.2
                          exact ⟨⟨h.1, hm333⟩, h.2⟩
                    · intro c0
                      replace h := h.2 c0
                      refine ⟨?_, ?_⟩
                      · intro c0
                        replace h := h.1 c0
                        refine ⟨?_, ?_⟩
                        · intro c0
                          replace h := h.1 c0
                          refine ⟨h.1, ?_⟩
                          replace h := h.2
                          refine ⟨h.1, ?_⟩
                          replace h := h.2
                          exact ⟨⟨h.1, hm265⟩, h.2⟩
                        · intro c0
                          replace h := h.2 c0
                          refine ⟨?_, ?_⟩
                          · intro c0
                            replace h := h.1 c0
                            refine ⟨h.1, ?_⟩
                            replace h := h.2
                            refine ⟨h.1, ?_⟩
                            replace h := h.2
                            exact ⟨⟨h.1, hm265⟩, h.2⟩
                          · intro c0
                            replace h := h.2 c0
                            refine ⟨h.1, ?_⟩
                            replace h := h.2
                            refine ⟨h.1, ?_⟩
                            replace h := h.2
                            intro F346 e346
                            replace h := h F346 e346
                            have hm346 : mo o F A F346 A := by rw [e346]; exact hm265.upF
                            refine ⟨h.1, ?_⟩
                            replace h := h.2
                            refine ⟨h.1, ?_⟩
                            replace h := h.2
                            exact ⟨⟨h.1, hm346⟩, h.2⟩
                      · intro c0
                        replace h := h.2 c0
                        refine ⟨h.1, ?_⟩
                        replace h := h.2
                        refine ⟨h.1, ?_⟩
                        replace h := h.2
                        refine ⟨h.1, ?_⟩
                        replace h := h.2
                        refine ⟨h.1, ?_⟩
                        replace h := h.2
                        intro F354 e354
                        replace h := h F354 e354
                        have hm354 : mo o F A F354 A := by rw [e354]; exact hm265.upF
                        refine ⟨?_, ?_⟩
                        · intro c0
                          replace h := h.1 c0
                          refine ⟨h.1, ?_⟩
                          replace h := h.2
                          refine ⟨h.1, ?_⟩
                          replace h := h.2
                          exact ⟨⟨h.1, hm354⟩, h.2⟩
                        · intro c0
                          replace h := h.2 c0
                          refine ⟨?_, ?_⟩
                          · intro c0
                            replace h := h.1 c0
                            refine ⟨h.1, ?_⟩
                            replace h := h.2
                            refine ⟨h.1, ?_⟩
                            replace h := h.2
                            exact ⟨⟨h.1, hm354⟩, h.2⟩
                          · intro c0
                            replace h := h.2 c0
                            refine ⟨h.1, ?_⟩
                            replace h := h.2
                            refine ⟨h.1, ?_⟩
                            replace h := h.2
                            intro F364 e364
                            replace h := h F364 e364
                            have hm364 : mo o F A F364 A := by rw [e364]; exact hm354.upF
                            refine ⟨h.1, ?_⟩
                            replace h := h.2
                            refine ⟨h.1, ?_⟩
                            replace h := h.2
                            exact ⟨⟨h.1, hm364⟩, h.2⟩
                  · intro c0
                    replace h := h.2 c0
                    refine ⟨?_, ?_⟩
                    · intro c0
                      replace h := h.1 c0
                      refine ⟨?_, ?_⟩
                      · intro c0
                        replace h := h.1 c0
                        refine ⟨?_, ?_⟩
                        · intro c0
                          replace h := h.1 c0
                          refine ⟨h.1, ?_⟩
                          replace h := h.2
                          refine ⟨h.1, ?_⟩
                          replace h := h.2
                          exact ⟨⟨h.1, hm265⟩, h.2⟩
                        · intro c0
                          replace h := h.2 c0
                          refine ⟨?_, ?_⟩
                          · intro c0
                            replace h := h.1 c0
                            refine ⟨h.1, ?_⟩
                            replace h := h.2
                            refine ⟨h.1, ?_⟩
                            replace h := h.2
                            exact ⟨⟨h.1, hm265⟩, h.2⟩
                          · intro c0
                            replace h := h.2 c0
                            refine ⟨h.1, ?_⟩
                            replace h := h.2
                            refine ⟨h.1, ?_⟩
                            replace h := h.2
                            intro F378 e378
                            replace h := h F378 e378
                            have hm378 : mo o F A F378 A := by rw [e378]; exact hm265.upF
                            refine ⟨h.1, ?_⟩
                            replace h := h.2
                            refine ⟨h.1, ?_⟩
                            replace h := h.2
                            exact ⟨⟨h.1, hm378⟩, h.2⟩
                      · intro c0
                        replace h := h.2 c0
                        refine ⟨?_, ?_⟩
                        · intro c0
                          replace h := h.1 c0
                          refine ⟨?_, ?_⟩
                          · intro c0
                            replace h := h.1 c0
                            refine ⟨h.1, ?_⟩
                            replace h := h.2
                            refine ⟨h.1, ?_⟩
                            replace h := h.2
                            exact ⟨⟨h.1, hm265⟩, h.2⟩
                          · intro c0
                            replace h := h.2 c0
                            refine ⟨?_, ?_⟩
                            · intro c0
                              replace h := h.1 c0
                              refine ⟨h.1, ?_⟩
                              replace h := h.2
                              refine ⟨h.1, ?_⟩
                              replace h := h.2
                              exact ⟨⟨h.1, hm265⟩, h.2⟩
                            · intro c0
                              replace h := h.2 c0
                              refine ⟨h.1, ?_⟩
                              replace h := h.2
                              refine ⟨h.1, ?_⟩
                              replace h := h.2
                              intro F391 e391
                              replace h := h F391 e391
                              have hm391 : mo o F A F391 A := by rw [e391]; exact hm265.upF
                              refine ⟨h.1, ?_⟩
                              replace h := h.2
                              refine ⟨h.1, ?_⟩
                              replace h := h.2
                              exact ⟨⟨h.1, hm391⟩, h.2⟩
                        · intro c0
                          replace h := h.2 c0
                          refine ⟨h.1, ?_⟩
                          replace h := h.2
                          refine ⟨h.1, ?_⟩
                          replace h := h.2
                          refine ⟨h.1, ?_⟩
                          replace h := h.2
                          refine ⟨h.1, ?_⟩
                          replace h := h.2
                          intro F399 e399
                          replace h := h F399 e399
                          have hm399 : mo o F A F399 A := by rw [e399]; exact hm265.upF
                          refine ⟨?_, ?_⟩
                          · intro c0
                            replace h := h.1 c0
                            refine ⟨h.1, ?_⟩
                            replace h := h.2
                            refine ⟨h.1, ?_⟩
                            replace h := h.2
                            exact ⟨⟨h.1, hm399⟩, h.2⟩
                          · intro c0
                            replace h := h.2 c0
                            refine ⟨?_, ?_⟩
                            · intro c0
                              replace h := h.1 c0
                              refine ⟨h.1, ?_⟩
                              replace h := h.2
                              refine ⟨h.1, ?_⟩
                              replace h := h.2
                              exact ⟨⟨h.1, hm399⟩, h.2⟩
                            · intro c0
                              replace h := h.2 c0
                              refine ⟨h.1, ?_⟩
                              replace h := h.2
                              refine ⟨h.1, ?_⟩
                              replace h := h.2
                              intro F409 e409
                              replace h := h F409 e409
                              have hm409 : mo o F A F409 A := by rw [e409]; exact hm399.upF
                              refine ⟨h.1, ?_⟩
                              replace h := h.2
                              refine ⟨h.1, ?_⟩
                              replace h := h.2
                              exact ⟨⟨h.1, hm409⟩, h.2⟩
                    · intro c0
                      replace h := h.2 c0
                      intro F413 e413
                      replace h := h F413 e413
                      have hm413 : mo o F A F413 A := by rw [e413]; exact hm265.upF
                      refine ⟨?_, ?_⟩
                      · intro c0
                        replace h := h.1 c0
                        refine ⟨?_, ?_⟩
                        · intro c0
                          replace h := h.1 c0
                          refine ⟨h.1, ?_⟩
                          replace h := h.2
                          refine ⟨h.1, ?_⟩
                          replace h := h.2
                          exact ⟨⟨h.1, hm413⟩, h.2⟩
                        · intro c0
                          replace h := h.2 c0
                          refine ⟨?_, ?_⟩
                          · intro c0
                            replace h := h.1 c0
                            refine ⟨h.1, ?_⟩
                            replace h := h.2
                            refine ⟨h.1, ?_⟩
                            replace h := h.2
                            exact ⟨⟨h.1, hm413⟩, h.2⟩
                          · intro c0
                            replace h := h.2 c0
                            refine ⟨h.1, ?_⟩
                            replace h := h.2
                            refine ⟨h.1, ?_⟩
                            replace h := h.2
                            intro F424 e424
                            replace h := h F424 e424
                            have hm424 : mo o F A F424 A := by rw [e424]; exact hm413.upF
                            refine ⟨h.1, ?_⟩
                            replace h := h.2
                            refine ⟨h.1, ?_⟩
                            replace h := h.2
                            exact ⟨⟨h.1, hm424⟩, h.2⟩
                      · intro c0
                        replace h := h.2 c0
                        refine ⟨?_, ?_⟩
                        · intro c0
                          replace h := h.1 c0
                          refine ⟨?_, ?_⟩
                          · intro c0
                            replace h := h.1 c0
                            refine ⟨h.1, ?_⟩
                            replace h := h.2
                            refine ⟨h.1, ?_⟩
                            replace h := h.2
                            exact ⟨⟨h.1, hm413⟩, h.2⟩
                          · intro c0
                            replace h := h.2 c0
                            refine ⟨?_, ?_⟩
                            · intro c0
                              replace h := h.1 c0
                              refine ⟨h.1, ?_⟩
                              replace h := h.2
                              refine ⟨h.1, ?_⟩
                              replace h := h.2
                              exact ⟨⟨h.1, hm413⟩, h.2⟩
                            · intro c0
                              replace h := h.2 c0
                              refine ⟨h.1, ?_⟩
                              replace h := h.2
                              refine ⟨h.1, ?_⟩
                              replace h := h.2
                              intro F437 e437
                              replace h := h F437 e437
                              have hm437 : mo o F A F437 A := by rw [e437]; exact hm413.upF
                              refine ⟨h.1, ?_⟩
                              replace h := h.2
                              refine ⟨h.1, ?_⟩
                              replace h := h.2
                              exact ⟨⟨h.1, hm437⟩, h.2⟩
                        · intro c0
                          replace h := h.2 c0
                          refine ⟨h.1, ?_⟩
                          replace h := h.2
                          refine ⟨h.1, ?_⟩
                          replace h := h.2
                          refine ⟨h.1, ?_⟩
                          replace h := h.2
                          refine ⟨h.1, ?_⟩
                          replace h := h.2
                          intro F445 e445
                          replace h := h F445 e445
                          have hm445 : mo o F A F445 A := by rw [e445]; exact hm413.upF
                          refine ⟨?_, ?_⟩
                          · intro c0
                            replace h := h.1 c0
                            refine ⟨h.1, ?_⟩
                            replace h := h.2
                            refine ⟨h.1, ?_⟩
                            replace h := h.2
                            exact ⟨⟨h.1, hm445⟩, h.2⟩
                          · intro c0
                            replace h := h.2 c0
                            refine ⟨?_, ?_⟩
                            · intro c0
                              replace h := h.1 c0
                              refine ⟨h.1, ?_⟩
                              replace h := h.2
                              refine ⟨h.1, ?_⟩
                              replace h := h.2
                              exact ⟨⟨h.1, hm445⟩, h.2⟩
                            · intro c0
                              replace h := h.2 c0
                              refine ⟨h.1, ?_⟩
                              replace h := h.2
                              refine ⟨h.1, ?_⟩
                              replace h := h.2
                              intro F455 e455
                              replace h := h F455 e455
                              have hm455 : mo o F A F455 A := by rw [e455]; exact hm445.upF
                              refine ⟨h.1, ?_⟩
                              replace h := h.2
                              refine ⟨h.1, ?_⟩
                              replace h := h.2
                              exact ⟨⟨h.1, hm455⟩, h.2⟩
          · intro c0
            replace h := h.2 c0
            refine ⟨h.1, ?_⟩
            replace h := h.2
            intro F460 e460
            replace h := h F460 e460
            have hm460 : mo o F A F460 A := by rw [e460]; exact hm43.upF
            exact ⟨h, hm460⟩
      · refine ⟨?_, ?_⟩
        · intro c0
          replace h := h.1 c0
          refine ⟨?_, ?_⟩
          · intro c0
            replace h := h.1 c0
            exact ⟨h, hm15⟩
          · intro c0
            replace h := h.2 c0
            refine ⟨h.1, ?_⟩
            replace h := h.2
            obtain ⟨P464, hp464, h⟩ := h
            refine ⟨_, hp464, ?_⟩
            intro z466 p464
            replace h := h z466 p464
            refine ⟨?_, ?_⟩
            · intro c0
              replace h := h.1 c0
              intro F470 e470
              replace h := h F470 e470
              have hm470 : mo o F A F470 A := by rw [e470]; exact hm15.upF
              exact ⟨h, hm470⟩
            · intro c0
              replace h := h.2 c0
              refine ⟨h.1, ?_⟩
              replace h := h.2
              obtain ⟨P473, hp473, h⟩ := h
              refine ⟨_, hp473, ?_⟩
              intro z475 p473
              replace h := h z475 p473
              refine ⟨?_, ?_⟩
              · intro c0
                replace h := h.1 c0
                exact ⟨h, hm15⟩
              · intro c0
                replace h := h.2 c0
                intro F479 e479
                replace h := h F479 e479
                have hm479 : mo o F A F479 A := by rw [e479]; exact hm15.upF
                exact ⟨h, hm479⟩
        · intro c0
          replace h := h.2 c0
          refine ⟨?_, ?_⟩
          · intro c0
            replace h := h.1 c0
            exact ⟨h, hm15⟩
          · intro c0
            replace h := h.2 c0
            refine ⟨?_, ?_⟩
            · intro c0
              replace h := h.1 c0
              exact ⟨h, hm15⟩
            · intro c0
              replace h := h.2 c0
              refine ⟨h.1, ?_⟩
              replace h := h.2
              obtain ⟨P484, hp484, h⟩ := h
              refine ⟨_, hp484, ?_⟩
              intro z486 p484
              replace h := h z486 p484
              refine ⟨?_, ?_⟩
              · intro c0
                replace h := h.1 c0
                intro F490 e490
                replace h := h F490 e490
                have hm490 : mo o F A F490 A := by rw [e490]; exact hm15.upF
                exact ⟨h, hm490⟩
              · intro c0
                replace h := h.2 c0
                refine ⟨h.1, ?_⟩
                replace h := h.2
                obtain ⟨P493, hp493, h⟩ := h
                refine ⟨_, hp493, ?_⟩
                intro z495 p493
                replace h := h z495 p493
                refine ⟨?_, ?_⟩
                · intro c0
                  replace h := h.1 c0
                  exact ⟨h, hm15⟩
                · intro c0
                  replace h := h.2 c0
                  intro F499 e499
                  replace h := h F499 e499
                  have hm499 : mo o F A F499 A := by rw [e499]; exact hm15.upF
                  exact ⟨h, hm499⟩
    · intro c0
      replace h := h.2 c0
      exact ⟨h, hm15⟩
  · refine ⟨?_, ?_⟩
    · intro c0
      replace h := h.1 c0
      exact h
    · intro c0
      replace h := h.2 c0
      refine ⟨h.1, ?_⟩
      replace h := h.2
      refine ⟨?_, ?_⟩
      · intro c0
        replace h := h.1 c0
        refine ⟨h.1, ?_⟩
        replace h := h.2
        exact h
      · intro c0
        replace h := h.2 c0
        refine ⟨h.1, ?_⟩
        replace h := h.2
        refine ⟨?_, ?_⟩
        · intro c0
          replace h := h.1 c0
          exact h
        · intro c0
          replace h := h.2 c0
          refine ⟨h.1, ?_⟩
          replace h := h.2
          exact h
theorem fX9_keeps {o : Nat} {F : jFl} {A : jAr} {Q : jFl → jAr → Prop} (h : wpX9_keeps o F A Q) : wpX9_keeps o F A (fun F9 A9 => Q F9 A9 ∧ mo o F A F9 A9) := by
  unfold wpX9_keeps at *
  have hm : mo o F A F A := mo.refl o F A
  obtain ⟨K4, hk4, h⟩ := h
  refine ⟨fun F2 => K4 F2 ∧ mo o F A F2 A, ?_, ?_⟩
  · rintro F2 ⟨k4, hm4⟩
    replace h := hk4 F2 k4
    obtain ⟨P7, hp7, h⟩ := h
    refine ⟨_, hp7, ?_⟩
    intro z9 p7
    replace h := h z9 p7
    obtain ⟨P12, hp12, h⟩ := h
    refine ⟨_, fX9_copies hp12, ?_⟩
    rintro F15 A16 ⟨p12, q12⟩
    have hm12 : mo o F A F15 A16 := hm4.trans q12
    replace h := h F15 A16 p12
    refine ⟨h.1, ?_⟩
    replace h := h.2
    intro F21 e21
    replace h := h F21 e21
    have hm21 : mo o F A F21 A16 := by rw [e21]; exact hm12.upF
    exact ⟨h, hm21⟩
  · refine ⟨?_, ?_⟩
    · intro c0
      replace h := h.1 c0
      exact ⟨h, hm⟩
    · intro c0
      replace h := h.2 c0
      refine ⟨h.1, ?_⟩
      replace h := h.2
      refine ⟨h.1, ?_⟩
      replace h := h.2
      intro F25 e25
      replace h := h F25 e25
      have hm25 : mo o F A F25 A := by rw [e25]; exact hm.upF
      refine ⟨h.1, ?_⟩
      replace h := h.2
      intro F28 e28
      replace h := h F28 e28
      have hm28 : mo o F A F28 A := by rw [e28]; exact hm25.upF
      exact ⟨h, hm28⟩
theorem fX9_seatsOf {o : Nat} {a1 : Int} {F : jFl} {A : jAr} {Q : jFl → jAr → Prop} (h : wpX9_seatsOf o a1 F A Q) : wpX9_seatsOf o a1 F A (fun F9 A9 => Q F9 A9 ∧ mo o F A F9 A9) := by
  unfold wpX9_seatsOf at *
  have hm : mo o F A F A := mo.refl o F A
  intro F1 e1
  replace h := h F1 e1
  have hm1 : mo o F A F1 A := by rw [e1]; exact hm.upF
  obtain ⟨I7, m8, h0, h⟩ := h
  refine ⟨fun v3 F4 A5 => I7 v3 F4 A5 ∧ mo o F A F4 A5, m8, ⟨h0, hm1⟩, ?_⟩
  rintro v3 F4 A5 ⟨hi7, hm7⟩
  replace h := h v3 F4 A5 hi7
  refine ⟨h.1, ?_⟩
  replace h := h.2
  refine ⟨?_, ?_⟩
  · intro c0
    replace h := h.1 c0
    exact ⟨h, hm7⟩
  · intro c0
    replace h := h.2 c0
    refine ⟨h.1, ?_⟩
    replace h := h.2
    intro v12 e12
    replace h := h v12 e12
    obtain ⟨P13, hp13, h⟩ := h
    refine ⟨_, hp13, ?_⟩
    intro z15 p13
    replace h := h z15 p13
    refine ⟨?_, ?_⟩
    · intro c0
      replace h := h.1 c0
      refine ⟨h.1, ?_⟩
      replace h := h.2
      intro A20 e20
      replace h := h A20 e20
      have hm20 : mo o F A F4 A20 := by rw [e20]; exact hm7.upA (by omega)
      refine ⟨h.1, ?_⟩
      replace h := h.2
      intro F23 e23
      replace h := h F23 e23
      have hm23 : mo o F A F23 A20 := by rw [e23]; exact hm20.upF
      refine ⟨h.1, ?_⟩
      replace h := h.2
      exact ⟨⟨h.1, hm23⟩, h.2⟩
    · intro c0
      replace h := h.2 c0
      refine ⟨h.1, ?_⟩
      replace h := h.2
      exact ⟨⟨h.1, hm7⟩, h.2⟩
theorem fX9_becomesSaid {o : Nat} {a1 : Int} {a2 : Int} {a3 : Int} {a4 : Int} {F : jFl} {A : jAr} {Q : jFl → jAr → Prop} (h : wpX9_becomesSaid o a1 a2 a3 a4 F A Q) : wpX9_becomesSaid o a1 a2 a3 a4 F A (fun F9 A9 => Q F9 A9 ∧ mo o F A F9 A9) := by
  unfold wpX9_becomesSaid at *
  have hm : mo o F A F A := mo.refl o F A
  refine ⟨h.1, ?_⟩
  replace h := h.2
  intro v2 e2
  replace h := h v2 e2
  refine ⟨h.1, ?_⟩
  replace h := h.2
  obtain ⟨K6, hk6, h⟩ := h
  refine ⟨K6, ?_, ?_⟩
  · intro v5 k6
    replace h := hk6 v5 k6
    obtain ⟨I11, m12, h0, h⟩ := h
    refine ⟨I11, m12, h0, ?_⟩
    intro v9 v10 hi11
    replace h := h v9 v10 hi11
    refine ⟨h.1, ?_⟩
    replace h := h.2
    obtain ⟨K15, hk15, h⟩ := h
    refine ⟨K15, ?_, ?_⟩
    · intro k15
      replace h := hk15 k15
      refine ⟨?_, ?_⟩
      · intro c0
        replace h := h.1 c0
        refine ⟨h.1, ?_⟩
        replace h := h.2
        intro A20 e20
        replace h := h A20 e20
        have hm20 : mo o F A F A20 := by rw [e20]; exact hm.upA (by omega)
        refine ⟨h.1, ?_⟩
        replace h := h.2
        intro A23 e23
        replace h := h A23 e23
        have hm23 : mo o F A F A23 := by rw [e23]; exact hm20.upA (by omega)
        obtain ⟨I28, m29, h0, h⟩ := h
        refine ⟨fun v25 A26 => I28 v25 A26 ∧ mo o F A F A26, m29, ⟨h0, hm23⟩, ?_⟩
        rintro v25 A26 ⟨hi28, hm28⟩
        replace h := h v25 A26 hi28
        refine ⟨h.1, ?_⟩
        replace h := h.2
        refine ⟨?_, ?_⟩
        · intro c0
          replace h := h.1 c0
          obtain ⟨P32, hp32, h⟩ := h
          refine ⟨_, fX9_notes hp32, ?_⟩
          rintro F35 A36 ⟨p32, q32⟩
          have hm32 : mo o F A F35 A36 := hm28.trans q32
          replace h := h F35 A36 p32
          exact ⟨h, hm32⟩
        · intro c0
          replace h := h.2 c0
          refine ⟨h.1, ?_⟩
          replace h := h.2
          refine ⟨h.1, ?_⟩
          replace h := h.2
          intro A42 e42
          replace h := h A42 e42
          have hm42 : mo o F A F A42 := by rw [e42]; exact hm28.upA (by omega)
          refine ⟨h.1, ?_⟩
          replace h := h.2
          exact ⟨⟨h.1, hm42⟩, h.2⟩
      · intro c0
        replace h := h.2 c0
        exact ⟨h, hm⟩
    · refine ⟨?_, ?_⟩
      · intro c0
        replace h := h.1 c0
        exact h
      · intro c0
        replace h := h.2 c0
        refine ⟨?_, ?_⟩
        · intro c0
          replace h := h.1 c0
          exact h
        · intro c0
          replace h := h.2 c0
          refine ⟨h.1, ?_⟩
          replace h := h.2
          refine ⟨h.1, ?_⟩
          replace h := h.2
          intro z49 e49
          replace h := h z49 e49
          refine ⟨h.1, ?_⟩
          replace h := h.2
          exact h
  · refine ⟨?_, ?_⟩
    · intro c0
      replace h := h.1 c0
      exact h
    · intro c0
      replace h := h.2 c0
      refine ⟨h.1, ?_⟩
      replace h := h.2
      intro z54 e54
      replace h := h z54 e54
      exact h
theorem fX9_lex {o : Nat} {F : jFl} {A : jAr} {Q : jFl → jAr → Prop} (h : wpX9_lex o F A Q) : wpX9_lex o F A (fun F9 A9 => Q F9 A9 ∧ mo o F A F9 A9) := by
  unfold wpX9_lex at *
  have hm : mo o F A F A := mo.refl o F A
  refine ⟨?_, ?_⟩
  · intro c0
    replace h := h.1 c0
    exact ⟨h, hm⟩
  · intro c0
    replace h := h.2 c0
    obtain ⟨P2, hp2, h⟩ := h
    refine ⟨_, fX9_blame hp2, ?_⟩
    rintro F5 A6 ⟨p2, q2⟩
    have hm2 : mo o F A F5 A6 := hm.trans q2
    replace h := h F5 A6 p2
    exact ⟨h, hm2⟩
theorem fX9_nextPerm {o : Nat} {F : jFl} {A : jAr} {Q : Int → jFl → jAr → Prop} (h : wpX9_nextPerm o F A Q) : wpX9_nextPerm o F A (fun z F9 A9 => Q z F9 A9 ∧ mo o F A F9 A9) := by
  unfold wpX9_nextPerm at *
  have hm : mo o F A F A := mo.refl o F A
  refine ⟨h.1, ?_⟩
  replace h := h.2
  intro v2 e2
  replace h := h v2 e2
  obtain ⟨I4, m5, h0, h⟩ := h
  refine ⟨I4, m5, h0, ?_⟩
  intro v3 hi4
  replace h := h v3 hi4
  obtain ⟨K7, hk7, h⟩ := h
  refine ⟨K7, ?_, ?_⟩
  · intro k7
    replace h := hk7 k7
    refine ⟨?_, ?_⟩
    · intro c0
      replace h := h.1 c0
      refine ⟨h.1, ?_⟩
      replace h := h.2
      intro v12 e12
      replace h := h v12 e12
      obtain ⟨I14, m15, h0, h⟩ := h
      refine ⟨I14, m15, h0, ?_⟩
      intro v13 hi14
      replace h := h v13 hi14
      refine ⟨h.1, ?_⟩
      replace h := h.2
      refine ⟨h.1, ?_⟩
      replace h := h.2
      refine ⟨?_, ?_⟩
      · intro c0
        replace h := h.1 c0
        obtain ⟨P19, hp19, h⟩ := h
        refine ⟨_, fX9_changes hp19, ?_⟩
        rintro F22 A23 ⟨p19, q19⟩
        have hm19 : mo o F A F22 A23 := hm.trans q19
        replace h := h F22 A23 p19
        refine ⟨h.1, ?_⟩
        replace h := h.2
        intro v28 e28
        replace h := h v28 e28
        refine ⟨h.1, ?_⟩
        replace h := h.2
        intro v30 e30
        replace h := h v30 e30
        obtain ⟨I36, m37, h0, h⟩ := h
        refine ⟨fun v31 v32 F33 A34 => I36 v31 v32 F33 A34 ∧ mo o F A F33 A34, m37, ⟨h0, hm19⟩, ?_⟩
        rintro v31 v32 F33 A34 ⟨hi36, hm36⟩
        replace h := h v31 v32 F33 A34 hi36
        refine ⟨?_, ?_⟩
        · intro c0
          replace h := h.1 c0
          exact ⟨h, hm36⟩
        · intro c0
          replace h := h.2 c0
          obtain ⟨P39, hp39, h⟩ := h
          refine ⟨_, fX9_changes hp39, ?_⟩
          rintro F42 A43 ⟨p39, q39⟩
          have hm39 : mo o F A F42 A43 := hm36.trans q39
          replace h := h F42 A43 p39
          refine ⟨h.1, ?_⟩
          replace h := h.2
          refine ⟨h.1, ?_⟩
          replace h := h.2
          exact ⟨⟨h.1, hm39⟩, h.2⟩
      · intro c0
        replace h := h.2 c0
        refine ⟨h.1, ?_⟩
        replace h := h.2
        exact h
    · intro c0
      replace h := h.2 c0
      exact ⟨h, hm⟩
  · refine ⟨?_, ?_⟩
    · intro c0
      replace h := h.1 c0
      exact h
    · intro c0
      replace h := h.2 c0
      refine ⟨h.1, ?_⟩
      replace h := h.2
      refine ⟨h.1, ?_⟩
      replace h := h.2
      refine ⟨?_, ?_⟩
      · intro c0
        replace h := h.1 c0
        exact h
      · intro c0
        replace h := h.2 c0
        refine ⟨h.1, ?_⟩
        replace h := h.2
        exact h
theorem fX9_end {o : Nat} {a1 : Int} {F : jFl} {A : jAr} {Q : Int → jFl → jAr → Prop} (h : wpX9_end o a1 F A Q) : wpX9_end o a1 F A (fun z F9 A9 => Q z F9 A9 ∧ mo o F A F9 A9) := by
  unfold wpX9_end at *
  have hm : mo o F A F A := mo.refl o F A
  refine ⟨?_, ?_⟩
  · intro c0
    replace h := h.1 c0
    obtain ⟨P2, hp2, h⟩ := h
    refine ⟨_, fX9_refuses hp2, ?_⟩
    rintro z4 F5 A6 ⟨p2, q2⟩
    have hm2 : mo o F A F5 A6 := hm.trans q2
    replace h := h z4 F5 A6 p2
    intro z11 e11
    replace h := h z11 e11
    exact ⟨h, hm2⟩
  · intro c0
    replace h := h.2 c0
    refine ⟨?_, ?_⟩
    · intro c0
      replace h := h.1 c0
      intro F14 e14
      replace h := h F14 e14
      have hm14 : mo o F A F14 A := by rw [e14]; exact hm.upF
      exact ⟨h, hm14⟩
    · intro c0
      replace h := h.2 c0
      obtain ⟨P16, hp16, h⟩ := h
      refine ⟨_, fX9_refuses hp16, ?_⟩
      rintro z18 F19 A20 ⟨p16, q16⟩
      have hm16 : mo o F A F19 A20 := hm.trans q16
      replace h := h z18 F19 A20 p16
      intro z25 e25
      replace h := h z25 e25
      exact ⟨h, hm16⟩
theorem fX9_feed {o : Nat} {a1 : Int} {a2 : Int} {a3 : Int} {a4 : Int} {a5 : Int} {F : jFl} {A : jAr} {Q : Int → jFl → jAr → Prop} (h : wpX9_feed o a1 a2 a3 a4 a5 F A Q) : wpX9_feed o a1 a2 a3 a4 a5 F A (fun z F9 A9 => Q z F9 A9 ∧ mo o F A F9 A9) := by
  unfold wpX9_feed at *
  have hm : mo o F A F A := mo.refl o F A
  refine ⟨h.1, ?_⟩
  replace h := h.2
  refine ⟨?_, ?_⟩
  · intro c0
    replace h := h.1 c0
    obtain ⟨P3, hp3, h⟩ := h
    refine ⟨_, fX9_put hp3, ?_⟩
    rintro F6 A7 ⟨p3, q3⟩
    have hm3 : mo o F A F6 A7 := hm.trans q3
    replace h := h F6 A7 p3
    obtain ⟨P11, hp11, h⟩ := h
    refine ⟨_, fX9_put hp11, ?_⟩
    rintro F14 A15 ⟨p11, q11⟩
    have hm11 : mo o F A F14 A15 := hm3.trans q11
    replace h := h F14 A15 p11
    obtain ⟨P19, hp19, h⟩ := h
    refine ⟨_, fX9_put hp19, ?_⟩
    rintro F22 A23 ⟨p19, q19⟩
    have hm19 : mo o F A F22 A23 := hm11.trans q19
    replace h := h F22 A23 p19
    obtain ⟨P27, hp27, h⟩ := h
    refine ⟨_, fX9_put hp27, ?_⟩
    rintro F30 A31 ⟨p27, q27⟩
    have hm27 : mo o F A F30 A31 := hm19.trans q27
    replace h := h F30 A31 p27
    obtain ⟨P35, hp35, h⟩ := h
    refine ⟨_, fX9_put hp35, ?_⟩
    rintro F38 A39 ⟨p35, q35⟩
    have hm35 : mo o F A F38 A39 := hm27.trans q35
    replace h := h F38 A39 p35
    exact ⟨h, hm35⟩
  · intro c0
    replace h := h.2 c0
    obtain ⟨P43, hp43, h⟩ := h
    refine ⟨_, fX9_refuses hp43, ?_⟩
    rintro z45 F46 A47 ⟨p43, q43⟩
    have hm43 : mo o F A F46 A47 := hm.trans q43
    replace h := h z45 F46 A47 p43
    exact ⟨h, hm43⟩
theorem fX9_image {o : Nat} {F : jFl} {A : jAr} {Q : Int → jFl → jAr → Prop} (h : wpX9_image o F A Q) : wpX9_image o F A (fun z F9 A9 => Q z F9 A9 ∧ mo o F A F9 A9) := by
  unfold wpX9_image at *
  have hm : mo o F A F A := mo.refl o F A
  intro F1 e1
  replace h := h F1 e1
  have hm1 : mo o F A F1 A := by rw [e1]; exact hm.upF
  refine ⟨h.1, ?_⟩
  replace h := h.2
  obtain ⟨P5, hp5, h⟩ := h
  refine ⟨_, fX9_writes hp5, ?_⟩
  rintro F8 A9 ⟨p5, q5⟩
  have hm5 : mo o F A F8 A9 := hm1.trans q5
  replace h := h F8 A9 p5
  obtain ⟨P14, hp14, h⟩ := h
  refine ⟨_, fX9_writes hp14, ?_⟩
  rintro F17 A18 ⟨p14, q14⟩
  have hm14 : mo o F A F17 A18 := hm5.trans q14
  replace h := h F17 A18 p14
  refine ⟨h.1, ?_⟩
  replace h := h.2
  obtain ⟨P23, hp23, h⟩ := h
  refine ⟨_, fX9_writes hp23, ?_⟩
  rintro F26 A27 ⟨p23, q23⟩
  have hm23 : mo o F A F26 A27 := hm14.trans q23
  replace h := h F26 A27 p23
  obtain ⟨I35, m36, h0, h⟩ := h
  refine ⟨fun v31 F32 A33 => I35 v31 F32 A33 ∧ mo o F A F32 A33, m36, ⟨h0, hm23⟩, ?_⟩
  rintro v31 F32 A33 ⟨hi35, hm35⟩
  replace h := h v31 F32 A33 hi35
  refine ⟨h.1, ?_⟩
  replace h := h.2
  refine ⟨?_, ?_⟩
  · intro c0
    replace h := h.1 c0
    obtain ⟨I43, m44, h0, h⟩ := h
    refine ⟨fun v39 F40 A41 => I43 v39 F40 A41 ∧ mo o F A F40 A41, m44, ⟨h0, hm35⟩, ?_⟩
    rintro v39 F40 A41 ⟨hi43, hm43⟩
    replace h := h v39 F40 A41 hi43
    refine ⟨h.1, ?_⟩
    replace h := h.2
    refine ⟨?_, ?_⟩
    · intro c0
      replace h := h.1 c0
      obtain ⟨I49, m50, h0, h⟩ := h
      refine ⟨I49, m50, h0, ?_⟩
      intro v47 v48 hi49
      replace h := h v47 v48 hi49
      refine ⟨?_, ?_⟩
      · intro c0
        replace h := h.1 c0
        obtain ⟨P52, hp52, h⟩ := h
        refine ⟨_, fX9_writes hp52, ?_⟩
        rintro F55 A56 ⟨p52, q52⟩
        have hm52 : mo o F A F55 A56 := hm43.trans q52
        replace h := h F55 A56 p52
        exact ⟨h, hm52⟩
      · intro c0
        replace h := h.2 c0
        refine ⟨h.1, ?_⟩
        replace h := h.2
        refine ⟨h.1, ?_⟩
        replace h := h.2
        refine ⟨h.1, ?_⟩
        replace h := h.2
        intro v63 e63
        replace h := h v63 e63
        refine ⟨h.1, ?_⟩
        replace h := h.2
        exact h
    · intro c0
      replace h := h.2 c0
      refine ⟨h.1, ?_⟩
      replace h := h.2
      obtain ⟨P66, hp66, h⟩ := h
      refine ⟨_, fX9_writes hp66, ?_⟩
      rintro F69 A70 ⟨p66, q66⟩
      have hm66 : mo o F A F69 A70 := hm43.trans q66
      replace h := h F69 A70 p66
      refine ⟨h.1, ?_⟩
      replace h := h.2
      obtain ⟨P75, hp75, h⟩ := h
      refine ⟨_, fX9_writes hp75, ?_⟩
      rintro F78 A79 ⟨p75, q75⟩
      have hm75 : mo o F A F78 A79 := hm66.trans q75
      replace h := h F78 A79 p75
      refine ⟨h.1, ?_⟩
      replace h := h.2
      obtain ⟨P84, hp84, h⟩ := h
      refine ⟨_, fX9_writes hp84, ?_⟩
      rintro F87 A88 ⟨p84, q84⟩
      have hm84 : mo o F A F87 A88 := hm75.trans q84
      replace h := h F87 A88 p84
      obtain ⟨I96, m97, h0, h⟩ := h
      refine ⟨fun v92 F93 A94 => I96 v92 F93 A94 ∧ mo o F A F93 A94, m97, ⟨h0, hm84⟩, ?_⟩
      rintro v92 F93 A94 ⟨hi96, hm96⟩
      replace h := h v92 F93 A94 hi96
      refine ⟨h.1, ?_⟩
      replace h := h.2
      refine ⟨h.1, ?_⟩
      replace h := h.2
      refine ⟨h.1, ?_⟩
      replace h := h.2
      refine ⟨?_, ?_⟩
      · intro c0
        replace h := h.1 c0
        refine ⟨h.1, ?_⟩
        replace h := h.2
        exact ⟨⟨h.1, hm96⟩, h.2⟩
      · intro c0
        replace h := h.2 c0
        refine ⟨h.1, ?_⟩
        replace h := h.2
        obtain ⟨P104, hp104, h⟩ := h
        refine ⟨_, fX9_writes hp104, ?_⟩
        rintro F107 A108 ⟨p104, q104⟩
        have hm104 : mo o F A F107 A108 := hm96.trans q104
        replace h := h F107 A108 p104
        refine ⟨h.1, ?_⟩
        replace h := h.2
        exact ⟨⟨h.1, hm104⟩, h.2⟩
  · intro c0
    replace h := h.2 c0
    refine ⟨h.1, ?_⟩
    replace h := h.2
    obtain ⟨P114, hp114, h⟩ := h
    refine ⟨_, fX9_writes hp114, ?_⟩
    rintro F117 A118 ⟨p114, q114⟩
    have hm114 : mo o F A F117 A118 := hm35.trans q114
    replace h := h F117 A118 p114
    refine ⟨h.1, ?_⟩
    replace h := h.2
    exact ⟨⟨h.1, hm114⟩, h.2⟩
theorem fX9_seed {o : Nat} {a1 : Int} {F : jFl} {A : jAr} {Q : Int → jFl → jAr → Prop} (h : wpX9_seed o a1 F A Q) : wpX9_seed o a1 F A (fun z F9 A9 => Q z F9 A9 ∧ mo o F A F9 A9) := by
  unfold wpX9_seed at *
  have hm : mo o F A F A := mo.refl o F A
  refine ⟨?_, ?_⟩
  · intro c0
    replace h := h.1 c0
    intro F2 e2
    replace h := h F2 e2
    have hm2 : mo o F A F2 A := by rw [e2]; exact hm.upF
    exact ⟨h, hm2⟩
  · intro c0
    replace h := h.2 c0
    obtain ⟨P4, hp4, h⟩ := h
    refine ⟨_, fX9_refuses hp4, ?_⟩
    rintro z6 F7 A8 ⟨p4, q4⟩
    have hm4 : mo o F A F7 A8 := hm.trans q4
    replace h := h z6 F7 A8 p4
    intro z13 e13
    replace h := h z13 e13
    exact ⟨h, hm4⟩
theorem fX9_undo {o : Nat} {F : jFl} {A : jAr} {Q : Int → jFl → jAr → Prop} (h : wpX9_undo o F A Q) : wpX9_undo o F A (fun z F9 A9 => Q z F9 A9 ∧ mo o F A F9 A9) := by
  unfold wpX9_undo at *
  have hm : mo o F A F A := mo.refl o F A
  refine ⟨?_, ?_⟩
  · intro c0
    replace h := h.1 c0
    refine ⟨h.1, ?_⟩
    replace h := h.2
    intro F3 e3
    replace h := h F3 e3
    have hm3 : mo o F A F3 A := by rw [e3]; exact hm.upF
    obtain ⟨P5, hp5, h⟩ := h
    refine ⟨_, hp5, ?_⟩
    intro z7 p5
    replace h := h z7 p5
    obtain ⟨P10, hp10, h⟩ := h
    refine ⟨_, fX9_copies hp10, ?_⟩
    rintro F13 A14 ⟨p10, q10⟩
    have hm10 : mo o F A F13 A14 := hm3.trans q10
    replace h := h F13 A14 p10
    exact ⟨h, hm10⟩
  · intro c0
    replace h := h.2 c0
    obtain ⟨P18, hp18, h⟩ := h
    refine ⟨_, fX9_refuses hp18, ?_⟩
    rintro z20 F21 A22 ⟨p18, q18⟩
    have hm18 : mo o F A F21 A22 := hm.trans q18
    replace h := h z20 F21 A22 p18
    intro z27 e27
    replace h := h z27 e27
    exact ⟨h, hm18⟩
theorem fX9_utters {o : Nat} {a1 : Int} {F : jFl} {A : jAr} {Q : jFl → jAr → Prop} (h : wpX9_utters o a1 F A Q) : wpX9_utters o a1 F A (fun F9 A9 => Q F9 A9 ∧ mo o F A F9 A9) := by
  unfold wpX9_utters at *
  have hm : mo o F A F A := mo.refl o F A
  obtain ⟨K3, hk3, h⟩ := h
  refine ⟨K3, ?_, ?_⟩
  · intro v2 k3
    replace h := hk3 v2 k3
    obtain ⟨K8, hk8, h⟩ := h
    refine ⟨K8, ?_, ?_⟩
    · intro v7 k8
      replace h := hk8 v7 k8
      refine ⟨h.1, ?_⟩
      replace h := h.2
      intro v12 e12
      replace h := h v12 e12
      intro F13 e13
      replace h := h F13 e13
      have hm13 : mo o F A F13 A := by rw [e13]; exact hm.upF
      intro F15 e15
      replace h := h F15 e15
      have hm15 : mo o F A F15 A := by rw [e15]; exact hm13.upF
      intro F17 e17
      replace h := h F17 e17
      have hm17 : mo o F A F17 A := by rw [e17]; exact hm15.upF
      obtain ⟨I26, m27, h0, h⟩ := h
      refine ⟨fun v19 v20 v21 v22 F23 A24 => I26 v19 v20 v21 v22 F23 A24 ∧ mo o F A F23 A24, m27, ⟨h0, hm17⟩, ?_⟩
      rintro v19 v20 v21 v22 F23 A24 ⟨hi26, hm26⟩
      replace h := h v19 v20 v21 v22 F23 A24 hi26
      refine ⟨?_, ?_⟩
      · intro c0
        replace h := h.1 c0
        intro z30 e30
        replace h := h z30 e30
        refine ⟨h.1, ?_⟩
        replace h := h.2
        intro v33 e33
        replace h := h v33 e33
        obtain ⟨I40, m41, h0, h⟩ := h
        refine ⟨fun v34 v35 v36 v37 A38 => I40 v34 v35 v36 v37 A38 ∧ mo o F A F23 A38, m41, ⟨h0, hm26⟩, ?_⟩
        rintro v34 v35 v36 v37 A38 ⟨hi40, hm40⟩
        replace h := h v34 v35 v36 v37 A38 hi40
        obtain ⟨K43, hk43, h⟩ := h
        refine ⟨K43, ?_, ?_⟩
        · intro k43
          replace h := hk43 k43
          obtain ⟨K48, hk48, h⟩ := h
          refine ⟨K48, ?_, ?_⟩
          · intro v47 k48
            replace h := hk48 v47 k48
            intro F51 e51
            replace h := h F51 e51
            have hm51 : mo o F A F51 A38 := by rw [e51]; exact hm40.upF
            intro z55 e55
            replace h := h z55 e55
            intro F57 e57
            replace h := h F57 e57
            have hm57 : mo o F A F57 A38 := by rw [e57]; exact hm51.upF
            exact ⟨h, hm57⟩
          · refine ⟨?_, ?_⟩
            · intro c0
              replace h := h.1 c0
              exact h
            · intro c0
              replace h := h.2 c0
              exact h
        · refine ⟨?_, ?_⟩
          · intro c0
            replace h := h.1 c0
            exact h
          · intro c0
            replace h := h.2 c0
            refine ⟨?_, ?_⟩
            · intro c0
              replace h := h.1 c0
              exact h
            · intro c0
              replace h := h.2 c0
              refine ⟨h.1, ?_⟩
              replace h := h.2
              obtain ⟨P61, hp61, h⟩ := h
              refine ⟨_, hp61, ?_⟩
              intro z63 p61
              replace h := h z63 p61
              obtain ⟨P66, hp66, h⟩ := h
              refine ⟨_, hp66, ?_⟩
              intro z68 p66
              replace h := h z68 p66
              refine ⟨h.1, ?_⟩
              replace h := h.2
              intro v72 e72
              replace h := h v72 e72
              refine ⟨h.1, ?_⟩
              replace h := h.2
              intro A74 e74
              replace h := h A74 e74
              have hm74 : mo o F A F23 A74 := by rw [e74]; exact hm40.upA (by omega)
              refine ⟨?_, ?_⟩
              · intro c0
                replace h := h.1 c0
                refine ⟨h.1, ?_⟩
                replace h := h.2
                exact ⟨⟨h.1, hm74⟩, h.2⟩
              · intro c0
                replace h := h.2 c0
                refine ⟨h.1, ?_⟩
                replace h := h.2
                intro z80 e80
                replace h := h z80 e80
                refine ⟨h.1, ?_⟩
                replace h := h.2
                exact ⟨⟨h.1, hm74⟩, h.2⟩
      · intro c0
        replace h := h.2 c0
        refine ⟨h.1, ?_⟩
        replace h := h.2
        obtain ⟨P84, hp84, h⟩ := h
        refine ⟨_, hp84, ?_⟩
        intro z86 p84
        replace h := h z86 p84
        obtain ⟨P89, hp89, h⟩ := h
        refine ⟨_, hp89, ?_⟩
        intro z91 p89
        replace h := h z91 p89
        refine ⟨h.1, ?_⟩
        replace h := h.2
        intro v95 e95
        replace h := h v95 e95
        refine ⟨?_, ?_⟩
        · intro c0
          replace h := h.1 c0
          refine ⟨h.1, ?_⟩
          replace h := h.2
          intro A98 e98
          replace h := h A98 e98
          have hm98 : mo o F A F23 A98 := by rw [e98]; exact hm26.upA (by omega)
          obtain ⟨K102, hk102, h⟩ := h
          refine ⟨K102, ?_, ?_⟩
          · intro v101 k102
            replace h := hk102 v101 k102
            refine ⟨h.1, ?_⟩
            replace h := h.2
            intro F106 e106
            replace h := h F106 e106
            have hm106 : mo o F A F106 A98 := by rw [e106]; exact hm98.upF
            refine ⟨h.1, ?_⟩
            replace h := h.2
            exact ⟨⟨h.1, hm106⟩, h.2⟩
          · refine ⟨?_, ?_⟩
            · intro c0
              replace h := h.1 c0
              exact h
            · intro c0
              replace h := h.2 c0
              refine ⟨h.1, ?_⟩
              replace h := h.2
              intro z111 e111
              replace h := h z111 e111
              exact h
        · intro c0
          replace h := h.2 c0
          intro F113 e113
          replace h := h F113 e113
          have hm113 : mo o F A F113 A24 := by rw [e113]; exact hm26.upF
          exact ⟨h, hm113⟩
    · refine ⟨?_, ?_⟩
      · intro c0
        replace h := h.1 c0
        exact h
      · intro c0
        replace h := h.2 c0
        refine ⟨h.1, ?_⟩
        replace h := h.2
        exact h
  · refine ⟨?_, ?_⟩
    · intro c0
      replace h := h.1 c0
      exact h
    · intro c0
      replace h := h.2 c0
      refine ⟨h.1, ?_⟩
      replace h := h.2
      exact h
