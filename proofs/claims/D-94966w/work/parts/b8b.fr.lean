set_option maxRecDepth 100000
set_option linter.unusedVariables false
theorem fX9_looked {o : Nat} {a1 : Int} {F : jFl} {A : jAr} {Q : Int → jFl → jAr → Prop} (h : wpX9_looked o a1 F A Q) : wpX9_looked o a1 F A (fun z F9 A9 => Q z F9 A9 ∧ mo o F A F9 A9) := by
  unfold wpX9_looked at *
  have hm : mo o F A F A := mo.refl o F A
  obtain ⟨P1, hp1, h⟩ := h
  refine ⟨_, fX9_lex hp1, ?_⟩
  rintro F4 A5 ⟨p1, q1⟩
  have hm1 : mo o F A F4 A5 := hm.trans q1
  replace h := h F4 A5 p1
  refine ⟨?_, ?_⟩
  · intro c0
    replace h := h.1 c0
    obtain ⟨K14, hk14, h⟩ := h
    refine ⟨fun F11 A12 => K14 F11 A12 ∧ mo o F A F11 A12, ?_, ?_⟩
    · rintro F11 A12 ⟨k14, hm14⟩
      replace h := hk14 F11 A12 k14
      obtain ⟨K19, hk19, h⟩ := h
      refine ⟨K19, ?_, ?_⟩
      · intro v18 k19
        replace h := hk19 v18 k19
        refine ⟨?_, ?_⟩
        · intro c0
          replace h := h.1 c0
          refine ⟨?_, ?_⟩
          · intro c0
            replace h := h.1 c0
            exact ⟨h, hm14⟩
          · intro c0
            replace h := h.2 c0
            exact ⟨h, hm14⟩
        · intro c0
          replace h := h.2 c0
          refine ⟨?_, ?_⟩
          · intro c0
            replace h := h.1 c0
            refine ⟨?_, ?_⟩
            · intro c0
              replace h := h.1 c0
              exact ⟨h, hm14⟩
            · intro c0
              replace h := h.2 c0
              exact ⟨h, hm14⟩
          · intro c0
            replace h := h.2 c0
            obtain ⟨P26, hp26, h⟩ := h
            refine ⟨_, fX9_blame hp26, ?_⟩
            rintro F29 A30 ⟨p26, q26⟩
            have hm26 : mo o F A F29 A30 := hm14.trans q26
            replace h := h F29 A30 p26
            refine ⟨?_, ?_⟩
            · intro c0
              replace h := h.1 c0
              exact ⟨h, hm26⟩
            · intro c0
              replace h := h.2 c0
              exact ⟨h, hm26⟩
      · refine ⟨?_, ?_⟩
        · intro c0
          replace h := h.1 c0
          obtain ⟨P35, hp35, h⟩ := h
          refine ⟨_, hp35, ?_⟩
          intro z37 p35
          replace h := h z37 p35
          exact h
        · intro c0
          replace h := h.2 c0
          exact h
    · refine ⟨?_, ?_⟩
      · intro c0
        replace h := h.1 c0
        obtain ⟨P40, hp40, h⟩ := h
        refine ⟨_, fX9_blame hp40, ?_⟩
        rintro F43 A44 ⟨p40, q40⟩
        have hm40 : mo o F A F43 A44 := hm1.trans q40
        replace h := h F43 A44 p40
        exact ⟨h, hm40⟩
      · intro c0
        replace h := h.2 c0
        obtain ⟨P48, hp48, h⟩ := h
        refine ⟨_, hp48, ?_⟩
        intro z50 p48
        replace h := h z50 p48
        refine ⟨?_, ?_⟩
        · intro c0
          replace h := h.1 c0
          exact ⟨h, hm1⟩
        · intro c0
          replace h := h.2 c0
          obtain ⟨P54, hp54, h⟩ := h
          refine ⟨_, fX9_blame hp54, ?_⟩
          rintro F57 A58 ⟨p54, q54⟩
          have hm54 : mo o F A F57 A58 := hm1.trans q54
          replace h := h F57 A58 p54
          exact ⟨h, hm54⟩
  · intro c0
    replace h := h.2 c0
    exact ⟨h, hm1⟩
theorem fX9_counts {o : Nat} {a1 : Int} {F : jFl} {A : jAr} {Q : Int → jFl → jAr → Prop} (h : wpX9_counts o a1 F A Q) : wpX9_counts o a1 F A (fun z F9 A9 => Q z F9 A9 ∧ mo o F A F9 A9) := by
  unfold wpX9_counts at *
  have hm : mo o F A F A := mo.refl o F A
  obtain ⟨K5, hk5, h⟩ := h
  refine ⟨fun F2 A3 => K5 F2 A3 ∧ mo o F A F2 A3, ?_, ?_⟩
  · rintro F2 A3 ⟨k5, hm5⟩
    replace h := hk5 F2 A3 k5
    refine ⟨?_, ?_⟩
    · intro c0
      replace h := h.1 c0
      intro z10 e10
      replace h := h z10 e10
      exact ⟨h, hm5⟩
    · intro c0
      replace h := h.2 c0
      obtain ⟨P12, hp12, h⟩ := h
      refine ⟨_, fX9_ahead hp12, ?_⟩
      rintro F15 A16 ⟨p12, q12⟩
      have hm12 : mo o F A F15 A16 := hm5.trans q12
      replace h := h F15 A16 p12
      intro z21 e21
      replace h := h z21 e21
      exact ⟨h, hm12⟩
  · refine ⟨?_, ?_⟩
    · intro c0
      replace h := h.1 c0
      exact ⟨h, hm⟩
    · intro c0
      replace h := h.2 c0
      refine ⟨?_, ?_⟩
      · intro c0
        replace h := h.1 c0
        exact ⟨h, hm⟩
      · intro c0
        replace h := h.2 c0
        obtain ⟨P24, hp24, h⟩ := h
        refine ⟨_, fX9_blame hp24, ?_⟩
        rintro F27 A28 ⟨p24, q24⟩
        have hm24 : mo o F A F27 A28 := hm.trans q24
        replace h := h F27 A28 p24
        exact ⟨h, hm24⟩
theorem fX9_fresh {o : Nat} {F : jFl} {A : jAr} {Q : Int → jFl → jAr → Prop} (h : wpX9_fresh o F A Q) : wpX9_fresh o F A (fun z F9 A9 => Q z F9 A9 ∧ mo o F A F9 A9) := by
  unfold wpX9_fresh at *
  have hm : mo o F A F A := mo.refl o F A
  obtain ⟨P1, hp1, h⟩ := h
  refine ⟨_, fX9_lex hp1, ?_⟩
  rintro F4 A5 ⟨p1, q1⟩
  have hm1 : mo o F A F4 A5 := hm.trans q1
  replace h := h F4 A5 p1
  refine ⟨?_, ?_⟩
  · intro c0
    replace h := h.1 c0
    obtain ⟨K14, hk14, h⟩ := h
    refine ⟨fun F11 A12 => K14 F11 A12 ∧ mo o F A F11 A12, ?_, ?_⟩
    · rintro F11 A12 ⟨k14, hm14⟩
      replace h := hk14 F11 A12 k14
      obtain ⟨I21, m22, h0, h⟩ := h
      refine ⟨fun v17 F18 A19 => I21 v17 F18 A19 ∧ mo o F A F18 A19, m22, ⟨h0, hm14⟩, ?_⟩
      rintro v17 F18 A19 ⟨hi21, hm21⟩
      replace h := h v17 F18 A19 hi21
      obtain ⟨K24, hk24, h⟩ := h
      refine ⟨K24, ?_, ?_⟩
      · intro k24
        replace h := hk24 k24
        intro v27 e27
        replace h := h v27 e27
        refine ⟨?_, ?_⟩
        · intro c0
          replace h := h.1 c0
          exact ⟨h, hm21⟩
        · intro c0
          replace h := h.2 c0
          obtain ⟨P29, hp29, h⟩ := h
          refine ⟨_, fX9_ahead hp29, ?_⟩
          rintro F32 A33 ⟨p29, q29⟩
          have hm29 : mo o F A F32 A33 := hm21.trans q29
          replace h := h F32 A33 p29
          exact ⟨h, hm29⟩
      · refine ⟨?_, ?_⟩
        · intro c0
          replace h := h.1 c0
          exact h
        · intro c0
          replace h := h.2 c0
          refine ⟨?_, ?_⟩
          · intro c0
            replace h := h.1 c0
            exact h
          · intro c0
            replace h := h.2 c0
            obtain ⟨P38, hp38, h⟩ := h
            refine ⟨_, hp38, ?_⟩
            intro z40 p38
            replace h := h z40 p38
            refine ⟨?_, ?_⟩
            · intro c0
              replace h := h.1 c0
              refine ⟨h.1, ?_⟩
              replace h := h.2
              exact ⟨⟨h.1, hm21⟩, h.2⟩
            · intro c0
              replace h := h.2 c0
              obtain ⟨P45, hp45, h⟩ := h
              refine ⟨_, fX9_blame hp45, ?_⟩
              rintro F48 A49 ⟨p45, q45⟩
              have hm45 : mo o F A F48 A49 := hm21.trans q45
              replace h := h F48 A49 p45
              refine ⟨h.1, ?_⟩
              replace h := h.2
              exact ⟨⟨h.1, hm45⟩, h.2⟩
    · refine ⟨?_, ?_⟩
      · intro c0
        replace h := h.1 c0
        obtain ⟨P54, hp54, h⟩ := h
        refine ⟨_, fX9_blame hp54, ?_⟩
        rintro F57 A58 ⟨p54, q54⟩
        have hm54 : mo o F A F57 A58 := hm1.trans q54
        replace h := h F57 A58 p54
        exact ⟨h, hm54⟩
      · intro c0
        replace h := h.2 c0
        obtain ⟨P62, hp62, h⟩ := h
        refine ⟨_, hp62, ?_⟩
        intro z64 p62
        replace h := h z64 p62
        refine ⟨?_, ?_⟩
        · intro c0
          replace h := h.1 c0
          exact ⟨h, hm1⟩
        · intro c0
          replace h := h.2 c0
          obtain ⟨P68, hp68, h⟩ := h
          refine ⟨_, fX9_blame hp68, ?_⟩
          rintro F71 A72 ⟨p68, q68⟩
          have hm68 : mo o F A F71 A72 := hm1.trans q68
          replace h := h F71 A72 p68
          exact ⟨h, hm68⟩
  · intro c0
    replace h := h.2 c0
    exact ⟨h, hm1⟩
theorem fX9_must {o : Nat} {a1 : Int} {F : jFl} {A : jAr} {Q : jFl → jAr → Prop} (h : wpX9_must o a1 F A Q) : wpX9_must o a1 F A (fun F9 A9 => Q F9 A9 ∧ mo o F A F9 A9) := by
  unfold wpX9_must at *
  have hm : mo o F A F A := mo.refl o F A
  obtain ⟨P1, hp1, h⟩ := h
  refine ⟨_, fX9_lex hp1, ?_⟩
  rintro F4 A5 ⟨p1, q1⟩
  have hm1 : mo o F A F4 A5 := hm.trans q1
  replace h := h F4 A5 p1
  refine ⟨?_, ?_⟩
  · intro c0
    replace h := h.1 c0
    obtain ⟨P10, hp10, h⟩ := h
    refine ⟨_, hp10, ?_⟩
    intro z12 p10
    replace h := h z12 p10
    refine ⟨?_, ?_⟩
    · intro c0
      replace h := h.1 c0
      refine ⟨?_, ?_⟩
      · intro c0
        replace h := h.1 c0
        exact ⟨h, hm1⟩
      · intro c0
        replace h := h.2 c0
        obtain ⟨P17, hp17, h⟩ := h
        refine ⟨_, fX9_ahead hp17, ?_⟩
        rintro F20 A21 ⟨p17, q17⟩
        have hm17 : mo o F A F20 A21 := hm1.trans q17
        replace h := h F20 A21 p17
        exact ⟨h, hm17⟩
    · intro c0
      replace h := h.2 c0
      obtain ⟨P25, hp25, h⟩ := h
      refine ⟨_, fX9_blame hp25, ?_⟩
      rintro F28 A29 ⟨p25, q25⟩
      have hm25 : mo o F A F28 A29 := hm1.trans q25
      replace h := h F28 A29 p25
      refine ⟨?_, ?_⟩
      · intro c0
        replace h := h.1 c0
        exact ⟨h, hm25⟩
      · intro c0
        replace h := h.2 c0
        obtain ⟨P34, hp34, h⟩ := h
        refine ⟨_, fX9_ahead hp34, ?_⟩
        rintro F37 A38 ⟨p34, q34⟩
        have hm34 : mo o F A F37 A38 := hm25.trans q34
        replace h := h F37 A38 p34
        exact ⟨h, hm34⟩
  · intro c0
    replace h := h.2 c0
    exact ⟨h, hm1⟩
theorem fX9_number {o : Nat} {a1 : Int} {a2 : Int} {F : jFl} {A : jAr} {Q : Int → jFl → jAr → Prop} (h : wpX9_number o a1 a2 F A Q) : wpX9_number o a1 a2 F A (fun z F9 A9 => Q z F9 A9 ∧ mo o F A F9 A9) := by
  unfold wpX9_number at *
  have hm : mo o F A F A := mo.refl o F A
  obtain ⟨P1, hp1, h⟩ := h
  refine ⟨_, fX9_lex hp1, ?_⟩
  rintro F4 A5 ⟨p1, q1⟩
  have hm1 : mo o F A F4 A5 := hm.trans q1
  replace h := h F4 A5 p1
  refine ⟨?_, ?_⟩
  · intro c0
    replace h := h.1 c0
    obtain ⟨K14, hk14, h⟩ := h
    refine ⟨fun F11 A12 => K14 F11 A12 ∧ mo o F A F11 A12, ?_, ?_⟩
    · rintro F11 A12 ⟨k14, hm14⟩
      replace h := hk14 F11 A12 k14
      obtain ⟨K21, hk21, h⟩ := h
      refine ⟨fun F18 A19 => K21 F18 A19 ∧ mo o F A F18 A19, ?_, ?_⟩
      · rintro F18 A19 ⟨k21, hm21⟩
        replace h := hk21 F18 A19 k21
        intro v24 e24
        replace h := h v24 e24
        refine ⟨?_, ?_⟩
        · intro c0
          replace h := h.1 c0
          exact ⟨h, hm21⟩
        · intro c0
          replace h := h.2 c0
          obtain ⟨P26, hp26, h⟩ := h
          refine ⟨_, fX9_ahead hp26, ?_⟩
          rintro F29 A30 ⟨p26, q26⟩
          have hm26 : mo o F A F29 A30 := hm21.trans q26
          replace h := h F29 A30 p26
          exact ⟨h, hm26⟩
      · refine ⟨?_, ?_⟩
        · intro c0
          replace h := h.1 c0
          exact ⟨h, hm14⟩
        · intro c0
          replace h := h.2 c0
          obtain ⟨P34, hp34, h⟩ := h
          refine ⟨_, hp34, ?_⟩
          intro z36 p34
          replace h := h z36 p34
          refine ⟨?_, ?_⟩
          · intro c0
            replace h := h.1 c0
            exact ⟨h, hm14⟩
          · intro c0
            replace h := h.2 c0
            obtain ⟨P40, hp40, h⟩ := h
            refine ⟨_, fX9_blame hp40, ?_⟩
            rintro F43 A44 ⟨p40, q40⟩
            have hm40 : mo o F A F43 A44 := hm14.trans q40
            replace h := h F43 A44 p40
            exact ⟨h, hm40⟩
    · refine ⟨?_, ?_⟩
      · intro c0
        replace h := h.1 c0
        exact ⟨h, hm1⟩
      · intro c0
        replace h := h.2 c0
        obtain ⟨P48, hp48, h⟩ := h
        refine ⟨_, fX9_blame hp48, ?_⟩
        rintro F51 A52 ⟨p48, q48⟩
        have hm48 : mo o F A F51 A52 := hm1.trans q48
        replace h := h F51 A52 p48
        exact ⟨h, hm48⟩
  · intro c0
    replace h := h.2 c0
    exact ⟨h, hm1⟩
theorem fX9_takesTape {o : Nat} {F : jFl} {A : jAr} {Q : jFl → jAr → Prop} (h : wpX9_takesTape o F A Q) : wpX9_takesTape o F A (fun F9 A9 => Q F9 A9 ∧ mo o F A F9 A9) := by
  unfold wpX9_takesTape at *
  have hm : mo o F A F A := mo.refl o F A
  intro F1 e1
  replace h := h F1 e1
  have hm1 : mo o F A F1 A := by rw [e1]; exact hm.upF
  intro F3 e3
  replace h := h F3 e3
  have hm3 : mo o F A F3 A := by rw [e3]; exact hm1.upF
  intro F5 e5
  replace h := h F5 e5
  have hm5 : mo o F A F5 A := by rw [e5]; exact hm3.upF
  intro F7 e7
  replace h := h F7 e7
  have hm7 : mo o F A F7 A := by rw [e7]; exact hm5.upF
  intro F9 e9
  replace h := h F9 e9
  have hm9 : mo o F A F9 A := by rw [e9]; exact hm7.upF
  obtain ⟨P11, hp11, h⟩ := h
  refine ⟨_, fX9_ahead hp11, ?_⟩
  rintro F14 A15 ⟨p11, q11⟩
  have hm11 : mo o F A F14 A15 := hm9.trans q11
  replace h := h F14 A15 p11
  exact ⟨h, hm11⟩
theorem fX9_must_2 {o : Nat} {a1 : Int} {F : jFl} {A : jAr} {Q : jFl → jAr → Prop} (h : wpX9_must_2 o a1 F A Q) : wpX9_must_2 o a1 F A (fun F9 A9 => Q F9 A9 ∧ mo o F A F9 A9) := by
  unfold wpX9_must_2 at *
  have hm : mo o F A F A := mo.refl o F A
  obtain ⟨P1, hp1, h⟩ := h
  refine ⟨_, fX9_lex hp1, ?_⟩
  rintro F4 A5 ⟨p1, q1⟩
  have hm1 : mo o F A F4 A5 := hm.trans q1
  replace h := h F4 A5 p1
  obtain ⟨P9, hp9, h⟩ := h
  refine ⟨_, hp9, ?_⟩
  intro z11 p9
  replace h := h z11 p9
  refine ⟨?_, ?_⟩
  · intro c0
    replace h := h.1 c0
    refine ⟨?_, ?_⟩
    · intro c0
      replace h := h.1 c0
      exact ⟨h, hm1⟩
    · intro c0
      replace h := h.2 c0
      obtain ⟨P16, hp16, h⟩ := h
      refine ⟨_, fX9_ahead hp16, ?_⟩
      rintro F19 A20 ⟨p16, q16⟩
      have hm16 : mo o F A F19 A20 := hm1.trans q16
      replace h := h F19 A20 p16
      exact ⟨h, hm16⟩
  · intro c0
    replace h := h.2 c0
    obtain ⟨P24, hp24, h⟩ := h
    refine ⟨_, fX9_blame hp24, ?_⟩
    rintro F27 A28 ⟨p24, q24⟩
    have hm24 : mo o F A F27 A28 := hm1.trans q24
    replace h := h F27 A28 p24
    refine ⟨?_, ?_⟩
    · intro c0
      replace h := h.1 c0
      exact ⟨h, hm24⟩
    · intro c0
      replace h := h.2 c0
      obtain ⟨P33, hp33, h⟩ := h
      refine ⟨_, fX9_ahead hp33, ?_⟩
      rintro F36 A37 ⟨p33, q33⟩
      have hm33 : mo o F A F36 A37 := hm24.trans q33
      replace h := h F36 A37 p33
      exact ⟨h, hm33⟩
theorem fX9_meaning {o : Nat} {a1 : Int} {F : jFl} {A : jAr} {Q : Int → jFl → jAr → Prop} (h : wpX9_meaning o a1 F A Q) : wpX9_meaning o a1 F A (fun z F9 A9 => Q z F9 A9 ∧ mo o F A F9 A9) := by
  unfold wpX9_meaning at *
  have hm : mo o F A F A := mo.refl o F A
  obtain ⟨P1, hp1, h⟩ := h
  refine ⟨_, hp1, ?_⟩
  intro z3 p1
  replace h := h z3 p1
  refine ⟨?_, ?_⟩
  · intro c0
    replace h := h.1 c0
    obtain ⟨P7, hp7, h⟩ := h
    refine ⟨_, fX9_loads hp7, ?_⟩
    rintro F10 A11 ⟨p7, q7⟩
    have hm7 : mo o F A F10 A11 := hm.trans q7
    replace h := h F10 A11 p7
    obtain ⟨P15, hp15, h⟩ := h
    refine ⟨_, fX9_saysAsTold hp15, ?_⟩
    rintro F18 A19 ⟨p15, q15⟩
    have hm15 : mo o F A F18 A19 := hm7.trans q15
    replace h := h F18 A19 p15
    obtain ⟨P23, hp23, h⟩ := h
    refine ⟨_, hp23, ?_⟩
    intro z25 p23
    replace h := h z25 p23
    exact ⟨h, hm15⟩
  · intro c0
    replace h := h.2 c0
    exact ⟨h, hm⟩
theorem fX9_sing {o : Nat} {a1 : Int} {a2 : Int} {F : jFl} {A : jAr} {Q : Int → jFl → jAr → Prop} (h : wpX9_sing o a1 a2 F A Q) : wpX9_sing o a1 a2 F A (fun z F9 A9 => Q z F9 A9 ∧ mo o F A F9 A9) := by
  unfold wpX9_sing at *
  have hm : mo o F A F A := mo.refl o F A
  obtain ⟨P1, hp1, h⟩ := h
  refine ⟨_, hp1, ?_⟩
  intro z3 p1
  replace h := h z3 p1
  refine ⟨?_, ?_⟩
  · intro c0
    replace h := h.1 c0
    obtain ⟨P7, hp7, h⟩ := h
    refine ⟨_, fX9_refuses hp7, ?_⟩
    rintro z9 F10 A11 ⟨p7, q7⟩
    have hm7 : mo o F A F10 A11 := hm.trans q7
    replace h := h z9 F10 A11 p7
    intro z16 e16
    replace h := h z16 e16
    exact ⟨h, hm7⟩
  · intro c0
    replace h := h.2 c0
    refine ⟨h.1, ?_⟩
    replace h := h.2
    intro z20 e20
    replace h := h z20 e20
    refine ⟨?_, ?_⟩
    · intro c0
      replace h := h.1 c0
      obtain ⟨P23, hp23, h⟩ := h
      refine ⟨_, fX9_keeps hp23, ?_⟩
      rintro F26 A27 ⟨p23, q23⟩
      have hm23 : mo o F A F26 A27 := hm.trans q23
      replace h := h F26 A27 p23
      intro z32 e32
      replace h := h z32 e32
      refine ⟨h.1, ?_⟩
      replace h := h.2
      intro A35 e35
      replace h := h A35 e35
      have hm35 : mo o F A F26 A35 := by rw [e35]; exact hm23.upA (by omega)
      exact ⟨h, hm35⟩
    · intro c0
      replace h := h.2 c0
      obtain ⟨P37, hp37, h⟩ := h
      refine ⟨_, fX9_refuses hp37, ?_⟩
      rintro z39 F40 A41 ⟨p37, q37⟩
      have hm37 : mo o F A F40 A41 := hm.trans q37
      replace h := h z39 F40 A41 p37
      intro z46 e46
      replace h := h z46 e46
      exact ⟨h, hm37⟩
theorem fX9_swap {o : Nat} {a1 : Int} {a2 : Int} {F : jFl} {A : jAr} {Q : Int → jFl → jAr → Prop} (h : wpX9_swap o a1 a2 F A Q) : wpX9_swap o a1 a2 F A (fun z F9 A9 => Q z F9 A9 ∧ mo o F A F9 A9) := by
  unfold wpX9_swap at *
  have hm : mo o F A F A := mo.refl o F A
  obtain ⟨P1, hp1, h⟩ := h
  refine ⟨_, hp1, ?_⟩
  intro z3 p1
  replace h := h z3 p1
  refine ⟨?_, ?_⟩
  · intro c0
    replace h := h.1 c0
    obtain ⟨P7, hp7, h⟩ := h
    refine ⟨_, fX9_refuses hp7, ?_⟩
    rintro z9 F10 A11 ⟨p7, q7⟩
    have hm7 : mo o F A F10 A11 := hm.trans q7
    replace h := h z9 F10 A11 p7
    intro z16 e16
    replace h := h z16 e16
    exact ⟨h, hm7⟩
  · intro c0
    replace h := h.2 c0
    obtain ⟨P18, hp18, h⟩ := h
    refine ⟨_, hp18, ?_⟩
    intro z20 p18
    replace h := h z20 p18
    refine ⟨?_, ?_⟩
    · intro c0
      replace h := h.1 c0
      obtain ⟨P24, hp24, h⟩ := h
      refine ⟨_, fX9_refuses hp24, ?_⟩
      rintro z26 F27 A28 ⟨p24, q24⟩
      have hm24 : mo o F A F27 A28 := hm.trans q24
      replace h := h z26 F27 A28 p24
      intro z33 e33
      replace h := h z33 e33
      exact ⟨h, hm24⟩
    · intro c0
      replace h := h.2 c0
      refine ⟨?_, ?_⟩
      · intro c0
        replace h := h.1 c0
        obtain ⟨P36, hp36, h⟩ := h
        refine ⟨_, fX9_keeps hp36, ?_⟩
        rintro F39 A40 ⟨p36, q36⟩
        have hm36 : mo o F A F39 A40 := hm.trans q36
        replace h := h F39 A40 p36
        refine ⟨h.1, ?_⟩
        replace h := h.2
        intro v45 e45
        replace h := h v45 e45
        refine ⟨h.1, ?_⟩
        replace h := h.2
        refine ⟨h.1, ?_⟩
        replace h := h.2
        intro A48 e48
        replace h := h A48 e48
        have hm48 : mo o F A F39 A48 := by rw [e48]; exact hm36.upA (by omega)
        refine ⟨h.1, ?_⟩
        replace h := h.2
        intro A51 e51
        replace h := h A51 e51
        have hm51 : mo o F A F39 A51 := by rw [e51]; exact hm48.upA (by omega)
        exact ⟨h, hm51⟩
      · intro c0
        replace h := h.2 c0
        obtain ⟨P53, hp53, h⟩ := h
        refine ⟨_, fX9_refuses hp53, ?_⟩
        rintro z55 F56 A57 ⟨p53, q53⟩
        have hm53 : mo o F A F56 A57 := hm.trans q53
        replace h := h z55 F56 A57 p53
        intro z62 e62
        replace h := h z62 e62
        exact ⟨h, hm53⟩
theorem fX9_sittingOf {o : Nat} {a1 : Int} {a2 : Int} {F : jFl} {A : jAr} {Q : jFl → jAr → Prop} (h : wpX9_sittingOf o a1 a2 F A Q) : wpX9_sittingOf o a1 a2 F A (fun F9 A9 => Q F9 A9 ∧ mo o F A F9 A9) := by
  unfold wpX9_sittingOf at *
  have hm : mo o F A F A := mo.refl o F A
  obtain ⟨I6, m7, h0, h⟩ := h
  refine ⟨fun v1 v2 F3 A4 => I6 v1 v2 F3 A4 ∧ mo o F A F3 A4, m7, ⟨h0, hm⟩, ?_⟩
  rintro v1 v2 F3 A4 ⟨hi6, hm6⟩
  replace h := h v1 v2 F3 A4 hi6
  refine ⟨?_, ?_⟩
  · intro c0
    replace h := h.1 c0
    exact ⟨h, hm6⟩
  · intro c0
    replace h := h.2 c0
    refine ⟨h.1, ?_⟩
    replace h := h.2
    intro v10 e10
    replace h := h v10 e10
    obtain ⟨P11, hp11, h⟩ := h
    refine ⟨_, fX9_loads hp11, ?_⟩
    rintro F14 A15 ⟨p11, q11⟩
    have hm11 : mo o F A F14 A15 := hm6.trans q11
    replace h := h F14 A15 p11
    refine ⟨h.1, ?_⟩
    replace h := h.2
    obtain ⟨K24, hk24, h⟩ := h
    refine ⟨fun F21 A22 => K24 F21 A22 ∧ mo o F A F21 A22, ?_, ?_⟩
    · rintro F21 A22 ⟨k24, hm24⟩
      replace h := hk24 F21 A22 k24
      obtain ⟨K29, hk29, h⟩ := h
      refine ⟨K29, ?_, ?_⟩
      · intro v28 k29
        replace h := hk29 v28 k29
        obtain ⟨K34, hk34, h⟩ := h
        refine ⟨K34, ?_, ?_⟩
        · intro v33 k34
          replace h := hk34 v33 k34
          refine ⟨h.1, ?_⟩
          replace h := h.2
          intro A38 e38
          replace h := h A38 e38
          have hm38 : mo o F A F21 A38 := by rw [e38]; exact hm24.upA (by omega)
          obtain ⟨K42, hk42, h⟩ := h
          refine ⟨K42, ?_, ?_⟩
          · intro v41 k42
            replace h := hk42 v41 k42
            refine ⟨h.1, ?_⟩
            replace h := h.2
            intro A46 e46
            replace h := h A46 e46
            have hm46 : mo o F A F21 A46 := by rw [e46]; exact hm38.upA (by omega)
            obtain ⟨K50, hk50, h⟩ := h
            refine ⟨K50, ?_, ?_⟩
            · intro v49 k50
              replace h := hk50 v49 k50
              refine ⟨h.1, ?_⟩
              replace h := h.2
              intro A54 e54
              replace h := h A54 e54
              have hm54 : mo o F A F21 A54 := by rw [e54]; exact hm46.upA (by omega)
              obtain ⟨I59, m60, h0, h⟩ := h
              refine ⟨fun v56 A57 => I59 v56 A57 ∧ mo o F A F21 A57, m60, ⟨h0, hm54⟩, ?_⟩
              rintro v56 A57 ⟨hi59, hm59⟩
              replace h := h v56 A57 hi59
              refine ⟨?_, ?_⟩
              · intro c0
                replace h := h.1 c0
                intro z63 e63
                replace h := h z63 e63
                refine ⟨h.1, ?_⟩
                replace h := h.2
                intro v66 e66
                replace h := h v66 e66
                refine ⟨h.1, ?_⟩
                replace h := h.2
                exact ⟨⟨h.1, hm59⟩, h.2⟩
              · intro c0
                replace h := h.2 c0
                refine ⟨?_, ?_⟩
                · intro c0
                  replace h := h.1 c0
                  refine ⟨h.1, ?_⟩
                  replace h := h.2
                  refine ⟨h.1, ?_⟩
                  replace h := h.2
                  intro A71 e71
                  replace h := h A71 e71
                  have hm71 : mo o F A F21 A71 := by rw [e71]; exact hm59.upA (by omega)
                  refine ⟨h.1, ?_⟩
                  replace h := h.2
                  exact ⟨⟨h.1, hm71⟩, h.2⟩
                · intro c0
                  replace h := h.2 c0
                  refine ⟨h.1, ?_⟩
                  replace h := h.2
                  refine ⟨h.1, ?_⟩
                  replace h := h.2
                  intro A76 e76
                  replace h := h A76 e76
                  have hm76 : mo o F A F21 A76 := by rw [e76]; exact hm59.upA (by omega)
                  refine ⟨h.1, ?_⟩
                  replace h := h.2
                  exact ⟨⟨h.1, hm76⟩, h.2⟩
            · refine ⟨?_, ?_⟩
              · intro c0
                replace h := h.1 c0
                exact h
              · intro c0
                replace h := h.2 c0
                refine ⟨h.1, ?_⟩
                replace h := h.2
                exact h
          · refine ⟨?_, ?_⟩
            · intro c0
              replace h := h.1 c0
              exact h
            · intro c0
              replace h := h.2 c0
              refine ⟨h.1, ?_⟩
              replace h := h.2
              exact h
        · refine ⟨?_, ?_⟩
          · intro c0
            replace h := h.1 c0
            exact h
          · intro c0
            replace h := h.2 c0
            exact h
      · refine ⟨?_, ?_⟩
        · intro c0
          replace h := h.1 c0
          obtain ⟨P81, hp81, h⟩ := h
          refine ⟨_, hp81, ?_⟩
          intro z83 p81
          replace h := h z83 p81
          exact h
        · intro c0
          replace h := h.2 c0
          exact h
    · refine ⟨?_, ?_⟩
      · intro c0
        replace h := h.1 c0
        intro F86 e86
        replace h := h F86 e86
        have hm86 : mo o F A F86 A15 := by rw [e86]; exact hm11.upF
        intro F88 e88
        replace h := h F88 e88
        have hm88 : mo o F A F88 A15 := by rw [e88]; exact hm86.upF
        intro F90 e90
        replace h := h F90 e90
        have hm90 : mo o F A F90 A15 := by rw [e90]; exact hm88.upF
        exact ⟨h, hm90⟩
      · intro c0
        replace h := h.2 c0
        obtain ⟨P92, hp92, h⟩ := h
        refine ⟨_, fX9_utters hp92, ?_⟩
        rintro F95 A96 ⟨p92, q92⟩
        have hm92 : mo o F A F95 A96 := hm11.trans q92
        replace h := h F95 A96 p92
        exact ⟨h, hm92⟩
theorem fX9_asked {o : Nat} {a1 : Int} {F : jFl} {A : jAr} {Q : Int → jFl → jAr → Prop} (h : wpX9_asked o a1 F A Q) : wpX9_asked o a1 F A (fun z F9 A9 => Q z F9 A9 ∧ mo o F A F9 A9) := by
  unfold wpX9_asked at *
  have hm : mo o F A F A := mo.refl o F A
  obtain ⟨P1, hp1, h⟩ := h
  refine ⟨_, fX9_looked hp1, ?_⟩
  rintro z3 F4 A5 ⟨p1, q1⟩
  have hm1 : mo o F A F4 A5 := hm.trans q1
  replace h := h z3 F4 A5 p1
  refine ⟨?_, ?_⟩
  · intro c0
    replace h := h.1 c0
    refine ⟨?_, ?_⟩
    · intro c0
      replace h := h.1 c0
      exact ⟨h, hm1⟩
    · intro c0
      replace h := h.2 c0
      exact ⟨h, hm1⟩
  · intro c0
    replace h := h.2 c0
    obtain ⟨P11, hp11, h⟩ := h
    refine ⟨_, fX9_ahead hp11, ?_⟩
    rintro F14 A15 ⟨p11, q11⟩
    have hm11 : mo o F A F14 A15 := hm1.trans q11
    replace h := h F14 A15 p11
    refine ⟨?_, ?_⟩
    · intro c0
      replace h := h.1 c0
      exact ⟨h, hm11⟩
    · intro c0
      replace h := h.2 c0
      exact ⟨h, hm11⟩
theorem fX9_becomes {o : Nat} {a1 : Int} {a2 : Int} {a3 : Int} {F : jFl} {A : jAr} {Q : Int → jFl → jAr → Prop} (h : wpX9_becomes o a1 a2 a3 F A Q) : wpX9_becomes o a1 a2 a3 F A (fun z F9 A9 => Q z F9 A9 ∧ mo o F A F9 A9) := by
  unfold wpX9_becomes at *
  have hm : mo o F A F A := mo.refl o F A
  obtain ⟨P1, hp1, h⟩ := h
  refine ⟨_, hp1, ?_⟩
  intro z3 p1
  replace h := h z3 p1
  refine ⟨?_, ?_⟩
  · intro c0
    replace h := h.1 c0
    exact ⟨h, hm⟩
  · intro c0
    replace h := h.2 c0
    refine ⟨h.1, ?_⟩
    replace h := h.2
    refine ⟨?_, ?_⟩
    · intro c0
      replace h := h.1 c0
      obtain ⟨P9, hp9, h⟩ := h
      refine ⟨_, fX9_loads hp9, ?_⟩
      rintro F12 A13 ⟨p9, q9⟩
      have hm9 : mo o F A F12 A13 := hm.trans q9
      replace h := h F12 A13 p9
      obtain ⟨I22, m23, h0, h⟩ := h
      refine ⟨fun v17 v18 F19 A20 => I22 v17 v18 F19 A20 ∧ mo o F A F19 A20, m23, ⟨h0, hm9⟩, ?_⟩
      rintro v17 v18 F19 A20 ⟨hi22, hm22⟩
      replace h := h v17 v18 F19 A20 hi22
      refine ⟨h.1, ?_⟩
      replace h := h.2
      refine ⟨?_, ?_⟩
      · intro c0
        replace h := h.1 c0
        refine ⟨?_, ?_⟩
        · intro c0
          replace h := h.1 c0
          refine ⟨h.1, ?_⟩
          replace h := h.2
          obtain ⟨P28, hp28, h⟩ := h
          refine ⟨_, hp28, ?_⟩
          intro z30 p28
          replace h := h z30 p28
          refine ⟨?_, ?_⟩
          · intro c0
            replace h := h.1 c0
            refine ⟨?_, ?_⟩
            · intro c0
              replace h := h.1 c0
              refine ⟨h.1, ?_⟩
              replace h := h.2
              exact ⟨h, hm22⟩
            · intro c0
              replace h := h.2 c0
              refine ⟨h.1, ?_⟩
              replace h := h.2
              exact ⟨h, hm22⟩
          · intro c0
            replace h := h.2 c0
            exact ⟨h, hm22⟩
        · intro c0
          replace h := h.2 c0
          exact ⟨h, hm22⟩
      · intro c0
        replace h := h.2 c0
        obtain ⟨P37, hp37, h⟩ := h
        refine ⟨_, fX9_utters hp37, ?_⟩
        rintro F40 A41 ⟨p37, q37⟩
        have hm37 : mo o F A F40 A41 := hm22.trans q37
        replace h := h F40 A41 p37
        obtain ⟨P45, hp45, h⟩ := h
        refine ⟨_, hp45, ?_⟩
        intro z47 p45
        replace h := h z47 p45
        refine ⟨?_, ?_⟩
        · intro c0
          replace h := h.1 c0
          obtain ⟨P51, hp51, h⟩ := h
          refine ⟨_, fX9_remembers hp51, ?_⟩
          rintro F54 A55 ⟨p51, q51⟩
          have hm51 : mo o F A F54 A55 := hm37.trans q51
          replace h := h F54 A55 p51
          refine ⟨h.1, ?_⟩
          replace h := h.2
          intro A60 e60
          replace h := h A60 e60
          have hm60 : mo o F A F54 A60 := by rw [e60]; exact hm51.upA (by omega)
          refine ⟨h.1, ?_⟩
          replace h := h.2
          intro A63 e63
          replace h := h A63 e63
          have hm63 : mo o F A F54 A63 := by rw [e63]; exact hm60.upA (by omega)
          refine ⟨h.1, ?_⟩
          replace h := h.2
          refine ⟨h.1, ?_⟩
          replace h := h.2
          exact ⟨⟨h.1, hm63⟩, h.2⟩
        · intro c0
          replace h := h.2 c0
          refine ⟨h.1, ?_⟩
          replace h := h.2
          refine ⟨h.1, ?_⟩
          replace h := h.2
          refine ⟨h.1, ?_⟩
          replace h := h.2
          intro A70 e70
          replace h := h A70 e70
          have hm70 : mo o F A F40 A70 := by rw [e70]; exact hm37.upA (by omega)
          refine ⟨h.1, ?_⟩
          replace h := h.2
          exact ⟨⟨h.1, hm70⟩, h.2⟩
    · intro c0
      replace h := h.2 c0
      exact ⟨h, hm⟩
theorem fX9_wholeBy {o : Nat} {a1 : Int} {F : jFl} {A : jAr} {Q : Int → jFl → jAr → Prop} (h : wpX9_wholeBy o a1 F A Q) : wpX9_wholeBy o a1 F A (fun z F9 A9 => Q z F9 A9 ∧ mo o F A F9 A9) := by
  unfold wpX9_wholeBy at *
  have hm : mo o F A F A := mo.refl o F A
  obtain ⟨P1, hp1, h⟩ := h
  refine ⟨_, fX9_loads hp1, ?_⟩
  rintro F4 A5 ⟨p1, q1⟩
  have hm1 : mo o F A F4 A5 := hm.trans q1
  replace h := h F4 A5 p1
  obtain ⟨I12, m13, h0, h⟩ := h
  refine ⟨fun v9 A10 => I12 v9 A10 ∧ mo o F A F4 A10, m13, ⟨h0, hm1⟩, ?_⟩
  rintro v9 A10 ⟨hi12, hm12⟩
  replace h := h v9 A10 hi12
  refine ⟨?_, ?_⟩
  · intro c0
    replace h := h.1 c0
    obtain ⟨I20, m21, h0, h⟩ := h
    refine ⟨fun v15 v16 F17 A18 => I20 v15 v16 F17 A18 ∧ mo o F A F17 A18, m21, ⟨h0, hm12⟩, ?_⟩
    rintro v15 v16 F17 A18 ⟨hi20, hm20⟩
    replace h := h v15 v16 F17 A18 hi20
    refine ⟨h.1, ?_⟩
    replace h := h.2
    refine ⟨?_, ?_⟩
    · intro c0
      replace h := h.1 c0
      exact ⟨h, hm20⟩
    · intro c0
      replace h := h.2 c0
      obtain ⟨P24, hp24, h⟩ := h
      refine ⟨_, fX9_utters hp24, ?_⟩
      rintro F27 A28 ⟨p24, q24⟩
      have hm24 : mo o F A F27 A28 := hm20.trans q24
      replace h := h F27 A28 p24
      intro z33 e33
      replace h := h z33 e33
      refine ⟨h.1, ?_⟩
      replace h := h.2
      intro v36 e36
      replace h := h v36 e36
      refine ⟨h.1, ?_⟩
      replace h := h.2
      exact ⟨⟨h.1, hm24⟩, h.2⟩
  · intro c0
    replace h := h.2 c0
    refine ⟨h.1, ?_⟩
    replace h := h.2
    refine ⟨h.1, ?_⟩
    replace h := h.2
    refine ⟨h.1, ?_⟩
    replace h := h.2
    intro A41 e41
    replace h := h A41 e41
    have hm41 : mo o F A F4 A41 := by rw [e41]; exact hm12.upA (by omega)
    refine ⟨h.1, ?_⟩
    replace h := h.2
    exact ⟨⟨h.1, hm41⟩, h.2⟩
theorem fX9_standsBy {o : Nat} {a1 : Int} {a2 : Int} {F : jFl} {A : jAr} {Q : Int → jFl → jAr → Prop} (h : wpX9_standsBy o a1 a2 F A Q) : wpX9_standsBy o a1 a2 F A (fun z F9 A9 => Q z F9 A9 ∧ mo o F A F9 A9) := by
  unfold wpX9_standsBy at *
  have hm : mo o F A F A := mo.refl o F A
  obtain ⟨P1, hp1, h⟩ := h
  refine ⟨_, fX9_loads hp1, ?_⟩
  rintro F4 A5 ⟨p1, q1⟩
  have hm1 : mo o F A F4 A5 := hm.trans q1
  replace h := h F4 A5 p1
  obtain ⟨P9, hp9, h⟩ := h
  refine ⟨_, fX9_utters hp9, ?_⟩
  rintro F12 A13 ⟨p9, q9⟩
  have hm9 : mo o F A F12 A13 := hm1.trans q9
  replace h := h F12 A13 p9
  intro z18 e18
  replace h := h z18 e18
  exact ⟨h, hm9⟩
theorem fX9_finishes {o : Nat} {a1 : Int} {F : jFl} {A : jAr} {Q : jFl → jAr → Prop} (h : wpX9_finishes o a1 F A Q) : wpX9_finishes o a1 F A (fun F9 A9 => Q F9 A9 ∧ mo o F A F9 A9) := by
  unfold wpX9_finishes at *
  have hm : mo o F A F A := mo.refl o F A
  obtain ⟨P1, hp1, h⟩ := h
  refine ⟨_, fX9_lex hp1, ?_⟩
  rintro F4 A5 ⟨p1, q1⟩
  have hm1 : mo o F A F4 A5 := hm.trans q1
  replace h := h F4 A5 p1
  refine ⟨?_, ?_⟩
  · intro c0
    replace h := h.1 c0
    intro v10 e10
    replace h := h v10 e10
    obtain ⟨I12, m13, h0, h⟩ := h
    refine ⟨I12, m13, h0, ?_⟩
    intro v11 hi12
    replace h := h v11 hi12
    obtain ⟨K15, hk15, h⟩ := h
    refine ⟨K15, ?_, ?_⟩
    · intro k15
      replace h := hk15 k15
      obtain ⟨P18, hp18, h⟩ := h
      refine ⟨_, hp18, ?_⟩
      intro z20 p18
      replace h := h z20 p18
      refine ⟨?_, ?_⟩
      · intro c0
        replace h := h.1 c0
        obtain ⟨P24, hp24, h⟩ := h
        refine ⟨_, fX9_must_2 hp24, ?_⟩
        rintro F27 A28 ⟨p24, q24⟩
        have hm24 : mo o F A F27 A28 := hm1.trans q24
        replace h := h F27 A28 p24
        exact ⟨h, hm24⟩
      · intro c0
        replace h := h.2 c0
        refine ⟨?_, ?_⟩
        · intro c0
          replace h := h.1 c0
          obtain ⟨P33, hp33, h⟩ := h
          refine ⟨_, fX9_must_2 hp33, ?_⟩
          rintro F36 A37 ⟨p33, q33⟩
          have hm33 : mo o F A F36 A37 := hm1.trans q33
          replace h := h F36 A37 p33
          exact ⟨h, hm33⟩
        · intro c0
          replace h := h.2 c0
          refine ⟨?_, ?_⟩
          · intro c0
            replace h := h.1 c0
            obtain ⟨P42, hp42, h⟩ := h
            refine ⟨_, fX9_must_2 hp42, ?_⟩
            rintro F45 A46 ⟨p42, q42⟩
            have hm42 : mo o F A F45 A46 := hm1.trans q42
            replace h := h F45 A46 p42
            exact ⟨h, hm42⟩
          · intro c0
            replace h := h.2 c0
            obtain ⟨P50, hp50, h⟩ := h
            refine ⟨_, fX9_blame hp50, ?_⟩
            rintro F53 A54 ⟨p50, q50⟩
            have hm50 : mo o F A F53 A54 := hm1.trans q50
            replace h := h F53 A54 p50
            obtain ⟨P58, hp58, h⟩ := h
            refine ⟨_, fX9_must_2 hp58, ?_⟩
            rintro F61 A62 ⟨p58, q58⟩
            have hm58 : mo o F A F61 A62 := hm50.trans q58
            replace h := h F61 A62 p58
            exact ⟨h, hm58⟩
    · refine ⟨?_, ?_⟩
      · intro c0
        replace h := h.1 c0
        exact h
      · intro c0
        replace h := h.2 c0
        refine ⟨h.1, ?_⟩
        replace h := h.2
        refine ⟨?_, ?_⟩
        · intro c0
          replace h := h.1 c0
          refine ⟨h.1, ?_⟩
          replace h := h.2
          exact h
        · intro c0
          replace h := h.2 c0
          refine ⟨h.1, ?_⟩
          replace h := h.2
          refine ⟨?_, ?_⟩
          · intro c0
            replace h := h.1 c0
            exact h
          · intro c0
            replace h := h.2 c0
            refine ⟨h.1, ?_⟩
            replace h := h.2
            exact h
  · intro c0
    replace h := h.2 c0
    exact ⟨h, hm1⟩
theorem fX9_on {o : Nat} {F : jFl} {A : jAr} {Q : Int → jFl → jAr → Prop} (h : wpX9_on o F A Q) : wpX9_on o F A (fun z F9 A9 => Q z F9 A9 ∧ mo o F A F9 A9) := by
  unfold wpX9_on at *
  have hm : mo o F A F A := mo.refl o F A
  intro v1 e1
  replace h := h v1 e1
  intro F2 e2
  replace h := h F2 e2
  have hm2 : mo o F A F2 A := by rw [e2]; exact hm.upF
  obtain ⟨P4, hp4, h⟩ := h
  refine ⟨_, hp4, ?_⟩
  intro z6 p4
  replace h := h z6 p4
  refine ⟨?_, ?_⟩
  · intro c0
    replace h := h.1 c0
    refine ⟨h.1, ?_⟩
    replace h := h.2
    refine ⟨h.1, ?_⟩
    replace h := h.2
    refine ⟨h.1, ?_⟩
    replace h := h.2
    intro A16 e16
    replace h := h A16 e16
    have hm16 : mo o F A F2 A16 := by rw [e16]; exact hm2.upA (by omega)
    obtain ⟨I21, m22, h0, h⟩ := h
    refine ⟨fun v18 A19 => I21 v18 A19 ∧ mo o F A F2 A19, m22, ⟨h0, hm16⟩, ?_⟩
    rintro v18 A19 ⟨hi21, hm21⟩
    replace h := h v18 A19 hi21
    refine ⟨h.1, ?_⟩
    replace h := h.2
    refine ⟨?_, ?_⟩
    · intro c0
      replace h := h.1 c0
      refine ⟨h.1, ?_⟩
      replace h := h.2
      refine ⟨h.1, ?_⟩
      replace h := h.2
      intro v27 e27
      replace h := h v27 e27
      obtain ⟨I32, m33, h0, h⟩ := h
      refine ⟨fun v28 v29 A30 => I32 v28 v29 A30 ∧ mo o F A F2 A30, m33, ⟨h0, hm21⟩, ?_⟩
      rintro v28 v29 A30 ⟨hi32, hm32⟩
      replace h := h v28 v29 A30 hi32
      refine ⟨h.1, ?_⟩
      replace h := h.2
      refine ⟨?_, ?_⟩
      · intro c0
        replace h := h.1 c0
        intro A37 e37
        replace h := h A37 e37
        have hm37 : mo o F A F2 A37 := by rw [e37]; exact hm32.upA (by omega)
        intro F39 e39
        replace h := h F39 e39
        have hm39 : mo o F A F39 A37 := by rw [e39]; exact hm37.upF
        exact ⟨h, hm39⟩
      · intro c0
        replace h := h.2 c0
        refine ⟨h.1, ?_⟩
        replace h := h.2
        refine ⟨h.1, ?_⟩
        replace h := h.2
        intro A43 e43
        replace h := h A43 e43
        have hm43 : mo o F A F2 A43 := by rw [e43]; exact hm32.upA (by omega)
        refine ⟨h.1, ?_⟩
        replace h := h.2
        refine ⟨h.1, ?_⟩
        replace h := h.2
        intro A47 e47
        replace h := h A47 e47
        have hm47 : mo o F A F2 A47 := by rw [e47]; exact hm43.upA (by omega)
        refine ⟨h.1, ?_⟩
        replace h := h.2
        refine ⟨h.1, ?_⟩
        replace h := h.2
        intro A51 e51
        replace h := h A51 e51
        have hm51 : mo o F A F2 A51 := by rw [e51]; exact hm47.upA (by omega)
        obtain ⟨I56, m57, h0, h⟩ := h
        refine ⟨fun v53 A54 => I56 v53 A54 ∧ mo o F A F2 A54, m57, ⟨h0, hm51⟩, ?_⟩
        rintro v53 A54 ⟨hi56, hm56⟩
        replace h := h v53 A54 hi56
        refine ⟨h.1, ?_⟩
        replace h := h.2
        refine ⟨h.1, ?_⟩
        replace h := h.2
        refine ⟨h.1, ?_⟩
        replace h := h.2
        refine ⟨?_, ?_⟩
        · intro c0
          replace h := h.1 c0
          refine ⟨h.1, ?_⟩
          replace h := h.2
          refine ⟨h.1, ?_⟩
          replace h := h.2
          refine ⟨h.1, ?_⟩
          replace h := h.2
          intro v65 e65
          replace h := h v65 e65
          refine ⟨h.1, ?_⟩
          replace h := h.2
          exact ⟨⟨h.1, hm56⟩, h.2⟩
        · intro c0
          replace h := h.2 c0
          refine ⟨h.1, ?_⟩
          replace h := h.2
          refine ⟨h.1, ?_⟩
          replace h := h.2
          intro A69 e69
          replace h := h A69 e69
          have hm69 : mo o F A F2 A69 := by rw [e69]; exact hm56.upA (by omega)
          refine ⟨h.1, ?_⟩
          replace h := h.2
          exact ⟨⟨h.1, hm69⟩, h.2⟩
    · intro c0
      replace h := h.2 c0
      refine ⟨h.1, ?_⟩
      replace h := h.2
      refine ⟨h.1, ?_⟩
      replace h := h.2
      intro A74 e74
      replace h := h A74 e74
      have hm74 : mo o F A F2 A74 := by rw [e74]; exact hm21.upA (by omega)
      refine ⟨h.1, ?_⟩
      replace h := h.2
      exact ⟨⟨h.1, hm74⟩, h.2⟩
  · intro c0
    replace h := h.2 c0
    obtain ⟨P77, hp77, h⟩ := h
    refine ⟨_, fX9_refuses hp77, ?_⟩
    rintro z79 F80 A81 ⟨p77, q77⟩
    have hm77 : mo o F A F80 A81 := hm2.trans q77
    replace h := h z79 F80 A81 p77
    intro z86 e86
    replace h := h z86 e86
    exact ⟨h, hm77⟩
theorem fX9_once {o : Nat} {a1 : Int} {a2 : Int} {a3 : Int} {a4 : Int} {F : jFl} {A : jAr} {Q : Int → jFl → jAr → Prop} (h : wpX9_once o a1 a2 a3 a4 F A Q) : wpX9_once o a1 a2 a3 a4 F A (fun z F9 A9 => Q z F9 A9 ∧ mo o F A F9 A9) := by
  unfold wpX9_once at *
  have hm : mo o F A F A := mo.refl o F A
  obtain ⟨P1, hp1, h⟩ := h
  refine ⟨_, hp1, ?_⟩
  intro z3 p1
  replace h := h z3 p1
  refine ⟨?_, ?_⟩
  · intro c0
    replace h := h.1 c0
    exact ⟨h, hm⟩
  · intro c0
    replace h := h.2 c0
    obtain ⟨P7, hp7, h⟩ := h
    refine ⟨_, hp7, ?_⟩
    intro z9 p7
    replace h := h z9 p7
    refine ⟨?_, ?_⟩
    · intro c0
      replace h := h.1 c0
      exact ⟨h, hm⟩
    · intro c0
      replace h := h.2 c0
      refine ⟨h.1, ?_⟩
      replace h := h.2
      refine ⟨?_, ?_⟩
      · intro c0
        replace h := h.1 c0
        exact ⟨h, hm⟩
      · intro c0
        replace h := h.2 c0
        refine ⟨?_, ?_⟩
        · intro c0
          replace h := h.1 c0
          obtain ⟨I18, m19, h0, h⟩ := h
          refine ⟨I18, m19, h0, ?_⟩
          intro v16 v17 hi18
          replace h := h v16 v17 hi18
          refine ⟨h.1, ?_⟩
          replace h := h.2
          refine ⟨?_, ?_⟩
          · intro c0
            replace h := h.1 c0
            refine ⟨h.1, ?_⟩
            replace h := h.2
            intro F23 e23
            replace h := h F23 e23
            have hm23 : mo o F A F23 A := by rw [e23]; exact hm.upF
            intro F25 e25
            replace h := h F25 e25
            have hm25 : mo o F A F25 A := by rw [e25]; exact hm23.upF
            intro F27 e27
            replace h := h F27 e27
            have hm27 : mo o F A F27 A := by rw [e27]; exact hm25.upF
            obtain ⟨I34, m35, h0, h⟩ := h
            refine ⟨fun v29 v30 F31 A32 => I34 v29 v30 F31 A32 ∧ mo o F A F31 A32, m35, ⟨h0, hm27⟩, ?_⟩
            rintro v29 v30 F31 A32 ⟨hi34, hm34⟩
            replace h := h v29 v30 F31 A32 hi34
            refine ⟨?_, ?_⟩
            · intro c0
              replace h := h.1 c0
              exact ⟨h, hm34⟩
            · intro c0
              replace h := h.2 c0
              obtain ⟨I41, m42, h0, h⟩ := h
              refine ⟨fun v37 v38 A39 => I41 v37 v38 A39 ∧ mo o F A F31 A39, m42, ⟨h0, hm34⟩, ?_⟩
              rintro v37 v38 A39 ⟨hi41, hm41⟩
              replace h := h v37 v38 A39 hi41
              refine ⟨?_, ?_⟩
              · intro c0
                replace h := h.1 c0
                obtain ⟨P44, hp44, h⟩ := h
                refine ⟨_, fX9_utters hp44, ?_⟩
                rintro F47 A48 ⟨p44, q44⟩
                have hm44 : mo o F A F47 A48 := hm41.trans q44
                replace h := h F47 A48 p44
                obtain ⟨K54, hk54, h⟩ := h
                refine ⟨K54, ?_, ?_⟩
                · intro v53 k54
                  replace h := hk54 v53 k54
                  obtain ⟨I59, m60, h0, h⟩ := h
                  refine ⟨I59, m60, h0, ?_⟩
                  intro v57 v58 hi59
                  replace h := h v57 v58 hi59
                  obtain ⟨K62, hk62, h⟩ := h
                  refine ⟨K62, ?_, ?_⟩
                  · intro k62
                    replace h := hk62 k62
                    intro z66 e66
                    replace h := h z66 e66
                    refine ⟨h.1, ?_⟩
                    replace h := h.2
                    intro v69 e69
                    replace h := h v69 e69
                    refine ⟨h.1, ?_⟩
                    replace h := h.2
                    exact ⟨⟨h.1, hm44⟩, h.2⟩
                  · refine ⟨?_, ?_⟩
                    · intro c0
                      replace h := h.1 c0
                      exact h
                    · intro c0
                      replace h := h.2 c0
                      refine ⟨?_, ?_⟩
                      · intro c0
                        replace h := h.1 c0
                        exact h
                      · intro c0
                        replace h := h.2 c0
                        refine ⟨h.1, ?_⟩
                        replace h := h.2
                        refine ⟨h.1, ?_⟩
                        replace h := h.2
                        intro z75 e75
                        replace h := h z75 e75
                        refine ⟨h.1, ?_⟩
                        replace h := h.2
                        exact h
                · refine ⟨?_, ?_⟩
                  · intro c0
                    replace h := h.1 c0
                    exact h
                  · intro c0
                    replace h := h.2 c0
                    refine ⟨?_, ?_⟩
                    · intro c0
                      replace h := h.1 c0
                      exact h
                    · intro c0
                      replace h := h.2 c0
                      refine ⟨h.1, ?_⟩
                      replace h := h.2
                      intro z81 e81
                      replace h := h z81 e81
                      exact h
              · intro c0
                replace h := h.2 c0
                refine ⟨h.1, ?_⟩
                replace h := h.2
                refine ⟨h.1, ?_⟩
                replace h := h.2
                refine ⟨h.1, ?_⟩
                replace h := h.2
                refine ⟨h.1, ?_⟩
                replace h := h.2
                intro A87 e87
                replace h := h A87 e87
                have hm87 : mo o F A F31 A87 := by rw [e87]; exact hm41.upA (by omega)
                refine ⟨h.1, ?_⟩
                replace h := h.2
                refine ⟨h.1, ?_⟩
                replace h := h.2
                refine ⟨h.1, ?_⟩
                replace h := h.2
                intro v92 e92
                replace h := h v92 e92
                refine ⟨h.1, ?_⟩
                replace h := h.2
                exact ⟨⟨h.1, hm87⟩, h.2⟩
          · intro c0
            replace h := h.2 c0
            refine ⟨h.1, ?_⟩
            replace h := h.2
            refine ⟨h.1, ?_⟩
            replace h := h.2
            intro v96 e96
            replace h := h v96 e96
            refine ⟨h.1, ?_⟩
            replace h := h.2
            exact h
        · intro c0
          replace h := h.2 c0
          refine ⟨h.1, ?_⟩
          replace h := h.2
          refine ⟨h.1, ?_⟩
          replace h := h.2
          obtain ⟨P100, hp100, h⟩ := h
          refine ⟨_, hp100, ?_⟩
          intro z102 p100
          replace h := h z102 p100
          refine ⟨?_, ?_⟩
          · intro c0
            replace h := h.1 c0
            exact ⟨h, hm⟩
          · intro c0
            replace h := h.2 c0
            obtain ⟨P106, hp106, h⟩ := h
            refine ⟨_, hp106, ?_⟩
            intro z108 p106
            replace h := h z108 p106
            refine ⟨?_, ?_⟩
            · intro c0
              replace h := h.1 c0
              obtain ⟨I114, m115, h0, h⟩ := h
              refine ⟨I114, m115, h0, ?_⟩
              intro v112 v113 hi114
              replace h := h v112 v113 hi114
              refine ⟨h.1, ?_⟩
              replace h := h.2
              refine ⟨?_, ?_⟩
              · intro c0
                replace h := h.1 c0
                refine ⟨h.1, ?_⟩
                replace h := h.2
                intro F119 e119
                replace h := h F119 e119
                have hm119 : mo o F A F119 A := by rw [e119]; exact hm.upF
                intro F121 e121
                replace h := h F121 e121
                have hm121 : mo o F A F121 A := by rw [e121]; exact hm119.upF
                intro F123 e123
                replace h := h F123 e123
                have hm123 : mo o F A F123 A := by rw [e123]; exact hm121.upF
                obtain ⟨I130, m131, h0, h⟩ := h
                refine ⟨fun v125 v126 F127 A128 => I130 v125 v126 F127 A128 ∧ mo o F A F127 A128, m131, ⟨h0, hm123⟩, ?_⟩
                rintro v125 v126 F127 A128 ⟨hi130, hm130⟩
                replace h := h v125 v126 F127 A128 hi130
                refine ⟨?_, ?_⟩
                · intro c0
                  replace h := h.1 c0
                  exact ⟨h, hm130⟩
                · intro c0
                  replace h := h.2 c0
                  obtain ⟨I137, m138, h0, h⟩ := h
                  refine ⟨fun v133 v134 A135 => I137 v133 v134 A135 ∧ mo o F A F127 A135, m138, ⟨h0, hm130⟩, ?_⟩
                  rintro v133 v134 A135 ⟨hi137, hm137⟩
                  replace h := h v133 v134 A135 hi137
                  refine ⟨?_, ?_⟩
                  · intro c0
                    replace h := h.1 c0
                    obtain ⟨P140, hp140, h⟩ := h
                    refine ⟨_, fX9_utters hp140, ?_⟩
                    rintro F143 A144 ⟨p140, q140⟩
                    have hm140 : mo o F A F143 A144 := hm137.trans q140
                    replace h := h F143 A144 p140
                    obtain ⟨K150, hk150, h⟩ := h
                    refine ⟨K150, ?_, ?_⟩
                    · intro v149 k150
                      replace h := hk150 v149 k150
                      obtain ⟨I155, m156, h0, h⟩ := h
                      refine ⟨I155, m156, h0, ?_⟩
                      intro v153 v154 hi155
                      replace h := h v153 v154 hi155
                      obtain ⟨K158, hk158, h⟩ := h
                      refine ⟨K158, ?_, ?_⟩
                      · intro k158
                        replace h := hk158 k158
                        intro z162 e162
                        replace h := h z162 e162
                        refine ⟨h.1, ?_⟩
                        replace h := h.2
                        intro v165 e165
                        replace h := h v165 e165
                        refine ⟨h.1, ?_⟩
                        replace h := h.2
                        exact ⟨⟨h.1, hm140⟩, h.2⟩
                      · refine ⟨?_, ?_⟩
                        · intro c0
                          replace h := h.1 c0
                          exact h
                        · intro c0
                          replace h := h.2 c0
                          refine ⟨?_, ?_⟩
                          · intro c0
                            replace h := h.1 c0
                            exact h
                          · intro c0
                            replace h := h.2 c0
                            refine ⟨h.1, ?_⟩
                            replace h := h.2
                            refine ⟨h.1, ?_⟩
                            replace h := h.2
                            intro z171 e171
                            replace h := h z171 e171
                            refine ⟨h.1, ?_⟩
                            replace h := h.2
                            exact h
                    · refine ⟨?_, ?_⟩
                      · intro c0
                        replace h := h.1 c0
                        exact h
                      · intro c0
                        replace h := h.2 c0
                        refine ⟨?_, ?_⟩
                        · intro c0
                          replace h := h.1 c0
                          exact h
                        · intro c0
                          replace h := h.2 c0
                          refine ⟨h.1, ?_⟩
                          replace h := h.2
                          intro z177 e177
                          replace h := h z177 e177
                          exact h
                  · intro c0
                    replace h := h.2 c0
                    refine ⟨h.1, ?_⟩
                    replace h := h.2
                    refine ⟨h.1, ?_⟩
                    replace h := h.2
                    refine ⟨h.1, ?_⟩
                    replace h := h.2
                    refine ⟨h.1, ?_⟩
                    replace h := h.2
                    intro A183 e183
                    replace h := h A183 e183
                    have hm183 : mo o F A F127 A183 := by rw [e183]; exact hm137.upA (by omega)
                    refine ⟨h.1, ?_⟩
                    replace h := h.2
                    refine ⟨h.1, ?_⟩
                    replace h := h.2
                    refine ⟨h.1, ?_⟩
                    replace h := h.2
                    intro v188 e188
                    replace h := h v188 e188
                    refine ⟨h.1, ?_⟩
                    replace h := h.2
                    exact ⟨⟨h.1, hm183⟩, h.2⟩
              · intro c0
                replace h := h.2 c0
                refine ⟨h.1, ?_⟩
                replace h := h.2
                refine ⟨h.1, ?_⟩
                replace h := h.2
                intro v192 e192
                replace h := h v192 e192
                refine ⟨h.1, ?_⟩
                replace h := h.2
                exact h
            · intro c0
              replace h := h.2 c0
              exact ⟨h, hm⟩
theorem fX9_round {o : Nat} {a1 : Int} {a2 : Int} {a3 : Int} {F : jFl} {A : jAr} {Q : Int → jFl → jAr → Prop} (h : wpX9_round o a1 a2 a3 F A Q) : wpX9_round o a1 a2 a3 F A (fun z F9 A9 => Q z F9 A9 ∧ mo o F A F9 A9) := by
  unfold wpX9_round at *
  have hm : mo o F A F A := mo.refl o F A
  obtain ⟨P1, hp1, h⟩ := h
  refine ⟨_, hp1, ?_⟩
  intro z3 p1
  replace h := h z3 p1
  refine ⟨?_, ?_⟩
  · intro c0
    replace h := h.1 c0
    exact ⟨h, hm⟩
  · intro c0
    replace h := h.2 c0
    obtain ⟨P7, hp7, h⟩ := h
    refine ⟨_, hp7, ?_⟩
    intro z9 p7
    replace h := h z9 p7
    refine ⟨?_, ?_⟩
    · intro c0
      replace h := h.1 c0
      exact ⟨h, hm⟩
    · intro c0
      replace h := h.2 c0
      obtain ⟨P13, hp13, h⟩ := h
      refine ⟨_, hp13, ?_⟩
      intro z15 p13
      replace h := h z15 p13
      refine ⟨?_, ?_⟩
      · intro c0
        replace h := h.1 c0
        obtain ⟨P19, hp19, h⟩ := h
        refine ⟨_, fX9_loads hp19, ?_⟩
        rintro F22 A23 ⟨p19, q19⟩
        have hm19 : mo o F A F22 A23 := hm.trans q19
        replace h := h F22 A23 p19
        obtain ⟨P27, hp27, h⟩ := h
        refine ⟨_, fX9_saysAsTold hp27, ?_⟩
        rintro F30 A31 ⟨p27, q27⟩
        have hm27 : mo o F A F30 A31 := hm19.trans q27
        replace h := h F30 A31 p27
        obtain ⟨P35, hp35, h⟩ := h
        refine ⟨_, fX9_remembers hp35, ?_⟩
        rintro F38 A39 ⟨p35, q35⟩
        have hm35 : mo o F A F38 A39 := hm27.trans q35
        replace h := h F38 A39 p35
        intro F43 e43
        replace h := h F43 e43
        have hm43 : mo o F A F43 A39 := by rw [e43]; exact hm35.upF
        obtain ⟨I50, m51, h0, h⟩ := h
        refine ⟨fun v45 v46 F47 A48 => I50 v45 v46 F47 A48 ∧ mo o F A F47 A48, m51, ⟨h0, hm43⟩, ?_⟩
        rintro v45 v46 F47 A48 ⟨hi50, hm50⟩
        replace h := h v45 v46 F47 A48 hi50
        obtain ⟨K53, hk53, h⟩ := h
        refine ⟨K53, ?_, ?_⟩
        · intro k53
          replace h := hk53 k53
          refine ⟨?_, ?_⟩
          · intro c0
            replace h := h.1 c0
            intro z59 e59
            replace h := h z59 e59
            refine ⟨h.1, ?_⟩
            replace h := h.2
            exact ⟨h, hm50⟩
          · intro c0
            replace h := h.2 c0
            exact ⟨h, hm50⟩
        · refine ⟨?_, ?_⟩
          · intro c0
            replace h := h.1 c0
            exact h
          · intro c0
            replace h := h.2 c0
            refine ⟨?_, ?_⟩
            · intro c0
              replace h := h.1 c0
              exact h
            · intro c0
              replace h := h.2 c0
              refine ⟨?_, ?_⟩
              · intro c0
                replace h := h.1 c0
                exact h
              · intro c0
                replace h := h.2 c0
                obtain ⟨P64, hp64, h⟩ := h
                refine ⟨_, fX9_utters hp64, ?_⟩
                rintro F67 A68 ⟨p64, q64⟩
                have hm64 : mo o F A F67 A68 := hm50.trans q64
                replace h := h F67 A68 p64
                refine ⟨h.1, ?_⟩
                replace h := h.2
                refine ⟨?_, ?_⟩
                · intro c0
                  replace h := h.1 c0
                  obtain ⟨P74, hp74, h⟩ := h
                  refine ⟨_, hp74, ?_⟩
                  intro z76 p74
                  replace h := h z76 p74
                  refine ⟨?_, ?_⟩
                  · intro c0
                    replace h := h.1 c0
                    obtain ⟨P80, hp80, h⟩ := h
                    refine ⟨_, fX9_tellsBack hp80, ?_⟩
                    rintro F83 A84 ⟨p80, q80⟩
                    have hm80 : mo o F A F83 A84 := hm64.trans q80
                    replace h := h F83 A84 p80
                    exact ⟨⟨h.1, hm80⟩, h.2⟩
                  · intro c0
                    replace h := h.2 c0
                    obtain ⟨P88, hp88, h⟩ := h
                    refine ⟨_, fX9_remembers hp88, ?_⟩
                    rintro F91 A92 ⟨p88, q88⟩
                    have hm88 : mo o F A F91 A92 := hm64.trans q88
                    replace h := h F91 A92 p88
                    obtain ⟨P96, hp96, h⟩ := h
                    refine ⟨_, fX9_tellsBack hp96, ?_⟩
                    rintro F99 A100 ⟨p96, q96⟩
                    have hm96 : mo o F A F99 A100 := hm88.trans q96
                    replace h := h F99 A100 p96
                    exact ⟨⟨h.1, hm96⟩, h.2⟩
                · intro c0
                  replace h := h.2 c0
                  exact ⟨⟨h.1, hm64⟩, h.2⟩
      · intro c0
        replace h := h.2 c0
        exact ⟨h, hm⟩
theorem fX9_says {o : Nat} {a1 : Int} {a2 : Int} {a3 : Int} {F : jFl} {A : jAr} {Q : Int → jFl → jAr → Prop} (h : wpX9_says o a1 a2 a3 F A Q) : wpX9_says o a1 a2 a3 F A (fun z F9 A9 => Q z F9 A9 ∧ mo o F A F9 A9) := by
  unfold wpX9_says at *
  have hm : mo o F A F A := mo.refl o F A
  obtain ⟨P1, hp1, h⟩ := h
  refine ⟨_, hp1, ?_⟩
  intro z3 p1
  replace h := h z3 p1
  refine ⟨?_, ?_⟩
  · intro c0
    replace h := h.1 c0
    exact ⟨h, hm⟩
  · intro c0
    replace h := h.2 c0
    obtain ⟨P7, hp7, h⟩ := h
    refine ⟨_, hp7, ?_⟩
    intro z9 p7
    replace h := h z9 p7
    refine ⟨?_, ?_⟩
    · intro c0
      replace h := h.1 c0
      obtain ⟨P13, hp13, h⟩ := h
      refine ⟨_, fX9_loads hp13, ?_⟩
      rintro F16 A17 ⟨p13, q13⟩
      have hm13 : mo o F A F16 A17 := hm.trans q13
      replace h := h F16 A17 p13
      obtain ⟨P21, hp21, h⟩ := h
      refine ⟨_, fX9_utters hp21, ?_⟩
      rintro F24 A25 ⟨p21, q21⟩
      have hm21 : mo o F A F24 A25 := hm13.trans q21
      replace h := h F24 A25 p21
      refine ⟨?_, ?_⟩
      · intro c0
        replace h := h.1 c0
        refine ⟨?_, ?_⟩
        · intro c0
          replace h := h.1 c0
          refine ⟨h.1, ?_⟩
          replace h := h.2
          obtain ⟨P32, hp32, h⟩ := h
          refine ⟨_, hp32, ?_⟩
          intro z34 p32
          replace h := h z34 p32
          refine ⟨?_, ?_⟩
          · intro c0
            replace h := h.1 c0
            exact ⟨h, hm21⟩
          · intro c0
            replace h := h.2 c0
            refine ⟨h.1, ?_⟩
            replace h := h.2
            exact ⟨h, hm21⟩
        · intro c0
          replace h := h.2 c0
          refine ⟨h.1, ?_⟩
          replace h := h.2
          exact ⟨h, hm21⟩
      · intro c0
        replace h := h.2 c0
        exact ⟨h, hm21⟩
    · intro c0
      replace h := h.2 c0
      exact ⟨h, hm⟩
theorem fX9_sets {o : Nat} {F : jFl} {A : jAr} {Q : jFl → jAr → Prop} (h : wpX9_sets o F A Q) : wpX9_sets o F A (fun F9 A9 => Q F9 A9 ∧ mo o F A F9 A9) := by
  unfold wpX9_sets at *
  have hm : mo o F A F A := mo.refl o F A
  obtain ⟨P1, hp1, h⟩ := h
  refine ⟨_, hp1, ?_⟩
  intro z3 p1
  replace h := h z3 p1
  obtain ⟨P6, hp6, h⟩ := h
  refine ⟨_, hp6, ?_⟩
  intro z8 p6
  replace h := h z8 p6
  obtain ⟨K15, hk15, h⟩ := h
  refine ⟨fun F12 A13 => K15 F12 A13 ∧ mo o F A F12 A13, ?_, ?_⟩
  · rintro F12 A13 ⟨k15, hm15⟩
    replace h := hk15 F12 A13 k15
    obtain ⟨P18, hp18, h⟩ := h
    refine ⟨_, fX9_counts hp18, ?_⟩
    rintro z20 F21 A22 ⟨p18, q18⟩
    have hm18 : mo o F A F21 A22 := hm15.trans q18
    replace h := h z20 F21 A22 p18
    refine ⟨?_, ?_⟩
    · intro c0
      replace h := h.1 c0
      obtain ⟨K32, hk32, h⟩ := h
      refine ⟨fun v28 F29 A30 => K32 v28 F29 A30 ∧ mo o F A F29 A30, ?_, ?_⟩
      · rintro v28 F29 A30 ⟨k32, hm32⟩
        replace h := hk32 v28 F29 A30 k32
        refine ⟨?_, ?_⟩
        · intro c0
          replace h := h.1 c0
          refine ⟨?_, ?_⟩
          · intro c0
            replace h := h.1 c0
            refine ⟨?_, ?_⟩
            · intro c0
              replace h := h.1 c0
              refine ⟨h.1, ?_⟩
              replace h := h.2
              intro A39 e39
              replace h := h A39 e39
              have hm39 : mo o F A F29 A39 := by rw [e39]; exact hm32.upA (by omega)
              exact ⟨h, hm39⟩
            · intro c0
              replace h := h.2 c0
              refine ⟨h.1, ?_⟩
              replace h := h.2
              intro A42 e42
              replace h := h A42 e42
              have hm42 : mo o F A F29 A42 := by rw [e42]; exact hm32.upA (by omega)
              exact ⟨h, hm42⟩
          · intro c0
            replace h := h.2 c0
            refine ⟨h.1, ?_⟩
            replace h := h.2
            intro A45 e45
            replace h := h A45 e45
            have hm45 : mo o F A F29 A45 := by rw [e45]; exact hm32.upA (by omega)
            exact ⟨h, hm45⟩
        · intro c0
          replace h := h.2 c0
          exact ⟨h, hm32⟩
      · refine ⟨?_, ?_⟩
        · intro c0
          replace h := h.1 c0
          refine ⟨?_, ?_⟩
          · intro c0
            replace h := h.1 c0
            obtain ⟨P48, hp48, h⟩ := h
            refine ⟨_, fX9_number hp48, ?_⟩
            rintro z50 F51 A52 ⟨p48, q48⟩
            have hm48 : mo o F A F51 A52 := hm18.trans q48
            replace h := h z50 F51 A52 p48
            exact ⟨h, hm48⟩
          · intro c0
            replace h := h.2 c0
            obtain ⟨P56, hp56, h⟩ := h
            refine ⟨_, fX9_number hp56, ?_⟩
            rintro z58 F59 A60 ⟨p56, q56⟩
            have hm56 : mo o F A F59 A60 := hm18.trans q56
            replace h := h z58 F59 A60 p56
            exact ⟨h, hm56⟩
        · intro c0
          replace h := h.2 c0
          obtain ⟨P64, hp64, h⟩ := h
          refine ⟨_, fX9_number hp64, ?_⟩
          rintro z66 F67 A68 ⟨p64, q64⟩
          have hm64 : mo o F A F67 A68 := hm18.trans q64
          replace h := h z66 F67 A68 p64
          exact ⟨h, hm64⟩
    · intro c0
      replace h := h.2 c0
      exact ⟨h, hm18⟩
  · refine ⟨?_, ?_⟩
    · intro c0
      replace h := h.1 c0
      exact ⟨h, hm⟩
    · intro c0
      replace h := h.2 c0
      refine ⟨?_, ?_⟩
      · intro c0
        replace h := h.1 c0
        exact ⟨h, hm⟩
      · intro c0
        replace h := h.2 c0
        obtain ⟨P73, hp73, h⟩ := h
        refine ⟨_, hp73, ?_⟩
        intro z75 p73
        replace h := h z75 p73
        refine ⟨?_, ?_⟩
        · intro c0
          replace h := h.1 c0
          exact ⟨h, hm⟩
        · intro c0
          replace h := h.2 c0
          obtain ⟨P79, hp79, h⟩ := h
          refine ⟨_, fX9_blame hp79, ?_⟩
          rintro F82 A83 ⟨p79, q79⟩
          have hm79 : mo o F A F82 A83 := hm.trans q79
          replace h := h F82 A83 p79
          exact ⟨h, hm79⟩
theorem fX9_wording {o : Nat} {F : jFl} {A : jAr} {Q : jFl → jAr → Prop} (h : wpX9_wording o F A Q) : wpX9_wording o F A (fun F9 A9 => Q F9 A9 ∧ mo o F A F9 A9) := by
  unfold wpX9_wording at *
  have hm : mo o F A F A := mo.refl o F A
  refine ⟨h.1, ?_⟩
  replace h := h.2
  intro z3 e3
  replace h := h z3 e3
  obtain ⟨P5, hp5, h⟩ := h
  refine ⟨_, fX9_counts hp5, ?_⟩
  rintro z7 F8 A9 ⟨p5, q5⟩
  have hm5 : mo o F A F8 A9 := hm.trans q5
  replace h := h z7 F8 A9 p5
  refine ⟨?_, ?_⟩
  · intro c0
    replace h := h.1 c0
    refine ⟨h.1, ?_⟩
    replace h := h.2
    refine ⟨h.1, ?_⟩
    replace h := h.2
    intro v16 e16
    replace h := h v16 e16
    obtain ⟨P17, hp17, h⟩ := h
    refine ⟨_, fX9_fresh hp17, ?_⟩
    rintro z19 F20 A21 ⟨p17, q17⟩
    have hm17 : mo o F A F20 A21 := hm5.trans q17
    replace h := h z19 F20 A21 p17
    refine ⟨h.1, ?_⟩
    replace h := h.2
    intro A26 e26
    replace h := h A26 e26
    have hm26 : mo o F A F20 A26 := by rw [e26]; exact hm17.upA (by omega)
    obtain ⟨P28, hp28, h⟩ := h
    refine ⟨_, fX9_must hp28, ?_⟩
    rintro F31 A32 ⟨p28, q28⟩
    have hm28 : mo o F A F31 A32 := hm26.trans q28
    replace h := h F31 A32 p28
    obtain ⟨P36, hp36, h⟩ := h
    refine ⟨_, fX9_number hp36, ?_⟩
    rintro z38 F39 A40 ⟨p36, q36⟩
    have hm36 : mo o F A F39 A40 := hm28.trans q36
    replace h := h z38 F39 A40 p36
    refine ⟨h.1, ?_⟩
    replace h := h.2
    intro A45 e45
    replace h := h A45 e45
    have hm45 : mo o F A F39 A45 := by rw [e45]; exact hm36.upA (by omega)
    obtain ⟨P47, hp47, h⟩ := h
    refine ⟨_, fX9_must hp47, ?_⟩
    rintro F50 A51 ⟨p47, q47⟩
    have hm47 : mo o F A F50 A51 := hm45.trans q47
    replace h := h F50 A51 p47
    obtain ⟨P55, hp55, h⟩ := h
    refine ⟨_, fX9_number hp55, ?_⟩
    rintro z57 F58 A59 ⟨p55, q55⟩
    have hm55 : mo o F A F58 A59 := hm47.trans q55
    replace h := h z57 F58 A59 p55
    refine ⟨h.1, ?_⟩
    replace h := h.2
    intro A64 e64
    replace h := h A64 e64
    have hm64 : mo o F A F58 A64 := by rw [e64]; exact hm55.upA (by omega)
    obtain ⟨P66, hp66, h⟩ := h
    refine ⟨_, fX9_number hp66, ?_⟩
    rintro z68 F69 A70 ⟨p66, q66⟩
    have hm66 : mo o F A F69 A70 := hm64.trans q66
    replace h := h z68 F69 A70 p66
    refine ⟨h.1, ?_⟩
    replace h := h.2
    intro A75 e75
    replace h := h A75 e75
    have hm75 : mo o F A F69 A75 := by rw [e75]; exact hm66.upA (by omega)
    obtain ⟨P77, hp77, h⟩ := h
    refine ⟨_, fX9_must hp77, ?_⟩
    rintro F80 A81 ⟨p77, q77⟩
    have hm77 : mo o F A F80 A81 := hm75.trans q77
    replace h := h F80 A81 p77
    obtain ⟨P85, hp85, h⟩ := h
    refine ⟨_, fX9_number hp85, ?_⟩
    rintro z87 F88 A89 ⟨p85, q85⟩
    have hm85 : mo o F A F88 A89 := hm77.trans q85
    replace h := h z87 F88 A89 p85
    refine ⟨h.1, ?_⟩
    replace h := h.2
    intro A94 e94
    replace h := h A94 e94
    have hm94 : mo o F A F88 A94 := by rw [e94]; exact hm85.upA (by omega)
    refine ⟨h.1, ?_⟩
    replace h := h.2
    intro A97 e97
    replace h := h A97 e97
    have hm97 : mo o F A F88 A97 := by rw [e97]; exact hm94.upA (by omega)
    obtain ⟨K103, hk103, h⟩ := h
    refine ⟨fun F100 A101 => K103 F100 A101 ∧ mo o F A F100 A101, ?_, ?_⟩
    · rintro F100 A101 ⟨k103, hm103⟩
      replace h := hk103 F100 A101 k103
      refine ⟨?_, ?_⟩
      · intro c0
        replace h := h.1 c0
        exact ⟨h, hm103⟩
      · intro c0
        replace h := h.2 c0
        refine ⟨h.1, ?_⟩
        replace h := h.2
        refine ⟨h.1, ?_⟩
        replace h := h.2
        refine ⟨h.1, ?_⟩
        replace h := h.2
        intro A110 e110
        replace h := h A110 e110
        have hm110 : mo o F A F100 A110 := by rw [e110]; exact hm103.upA (by omega)
        exact ⟨h, hm110⟩
    · refine ⟨?_, ?_⟩
      · intro c0
        replace h := h.1 c0
        exact ⟨h, hm97⟩
      · intro c0
        replace h := h.2 c0
        refine ⟨?_, ?_⟩
        · intro c0
          replace h := h.1 c0
          exact ⟨h, hm97⟩
        · intro c0
          replace h := h.2 c0
          obtain ⟨P113, hp113, h⟩ := h
          refine ⟨_, hp113, ?_⟩
          intro z115 p113
          replace h := h z115 p113
          refine ⟨?_, ?_⟩
          · intro c0
            replace h := h.1 c0
            exact ⟨h, hm97⟩
          · intro c0
            replace h := h.2 c0
            refine ⟨h.1, ?_⟩
            replace h := h.2
            intro A120 e120
            replace h := h A120 e120
            have hm120 : mo o F A F88 A120 := by rw [e120]; exact hm97.upA (by omega)
            obtain ⟨P122, hp122, h⟩ := h
            refine ⟨_, fX9_ahead hp122, ?_⟩
            rintro F125 A126 ⟨p122, q122⟩
            have hm122 : mo o F A F125 A126 := hm120.trans q122
            replace h := h F125 A126 p122
            exact ⟨h, hm122⟩
  · intro c0
    replace h := h.2 c0
    exact ⟨h, hm5⟩
theorem fX9_tell {o : Nat} {a1 : Int} {a2 : Int} {F : jFl} {A : jAr} {Q : Int → jFl → jAr → Prop} (h : wpX9_tell o a1 a2 F A Q) : wpX9_tell o a1 a2 F A (fun z F9 A9 => Q z F9 A9 ∧ mo o F A F9 A9) := by
  unfold wpX9_tell at *
  have hm : mo o F A F A := mo.refl o F A
  obtain ⟨P1, hp1, h⟩ := h
  refine ⟨_, hp1, ?_⟩
  intro z3 p1
  replace h := h z3 p1
  refine ⟨?_, ?_⟩
  · intro c0
    replace h := h.1 c0
    obtain ⟨P7, hp7, h⟩ := h
    refine ⟨_, fX9_refuses hp7, ?_⟩
    rintro z9 F10 A11 ⟨p7, q7⟩
    have hm7 : mo o F A F10 A11 := hm.trans q7
    replace h := h z9 F10 A11 p7
    exact ⟨h, hm7⟩
  · intro c0
    replace h := h.2 c0
    obtain ⟨P15, hp15, h⟩ := h
    refine ⟨_, hp15, ?_⟩
    intro z17 p15
    replace h := h z17 p15
    refine ⟨?_, ?_⟩
    · intro c0
      replace h := h.1 c0
      obtain ⟨P21, hp21, h⟩ := h
      refine ⟨_, fX9_keeps hp21, ?_⟩
      rintro F24 A25 ⟨p21, q21⟩
      have hm21 : mo o F A F24 A25 := hm.trans q21
      replace h := h F24 A25 p21
      obtain ⟨P29, hp29, h⟩ := h
      refine ⟨_, fX9_loads hp29, ?_⟩
      rintro F32 A33 ⟨p29, q29⟩
      have hm29 : mo o F A F32 A33 := hm21.trans q29
      replace h := h F32 A33 p29
      obtain ⟨P37, hp37, h⟩ := h
      refine ⟨_, fX9_utters hp37, ?_⟩
      rintro F40 A41 ⟨p37, q37⟩
      have hm37 : mo o F A F40 A41 := hm29.trans q37
      replace h := h F40 A41 p37
      intro v45 e45
      replace h := h v45 e45
      obtain ⟨P46, hp46, h⟩ := h
      refine ⟨_, fX9_becomesSaid hp46, ?_⟩
      rintro F49 A50 ⟨p46, q46⟩
      have hm46 : mo o F A F49 A50 := hm37.trans q46
      replace h := h F49 A50 p46
      exact ⟨h, hm46⟩
    · intro c0
      replace h := h.2 c0
      obtain ⟨P54, hp54, h⟩ := h
      refine ⟨_, fX9_refuses hp54, ?_⟩
      rintro z56 F57 A58 ⟨p54, q54⟩
      have hm54 : mo o F A F57 A58 := hm.trans q54
      replace h := h z56 F57 A58 p54
      exact ⟨h, hm54⟩
theorem fX9_renews {o : Nat} {a1 : Int} {a2 : Int} {F : jFl} {A : jAr} {Q : jFl → jAr → Prop} (h : wpX9_renews o a1 a2 F A Q) : wpX9_renews o a1 a2 F A (fun F9 A9 => Q F9 A9 ∧ mo o F A F9 A9) := by
  unfold wpX9_renews at *
  have hm : mo o F A F A := mo.refl o F A
  obtain ⟨P1, hp1, h⟩ := h
  refine ⟨_, fX9_seatsOf hp1, ?_⟩
  rintro F4 A5 ⟨p1, q1⟩
  have hm1 : mo o F A F4 A5 := hm.trans q1
  replace h := h F4 A5 p1
  obtain ⟨P9, hp9, h⟩ := h
  refine ⟨_, fX9_sittingOf hp9, ?_⟩
  rintro F12 A13 ⟨p9, q9⟩
  have hm9 : mo o F A F12 A13 := hm1.trans q9
  replace h := h F12 A13 p9
  obtain ⟨I21, m22, h0, h⟩ := h
  refine ⟨fun v17 F18 A19 => I21 v17 F18 A19 ∧ mo o F A F18 A19, m22, ⟨h0, hm9⟩, ?_⟩
  rintro v17 F18 A19 ⟨hi21, hm21⟩
  replace h := h v17 F18 A19 hi21
  refine ⟨?_, ?_⟩
  · intro c0
    replace h := h.1 c0
    exact ⟨h, hm21⟩
  · intro c0
    replace h := h.2 c0
    refine ⟨h.1, ?_⟩
    replace h := h.2
    intro v25 e25
    replace h := h v25 e25
    refine ⟨h.1, ?_⟩
    replace h := h.2
    intro F27 e27
    replace h := h F27 e27
    have hm27 : mo o F A F27 A19 := by rw [e27]; exact hm21.upF
    refine ⟨h.1, ?_⟩
    replace h := h.2
    intro F30 e30
    replace h := h F30 e30
    have hm30 : mo o F A F30 A19 := by rw [e30]; exact hm27.upF
    obtain ⟨I35, m36, h0, h⟩ := h
    refine ⟨fun v32 A33 => I35 v32 A33 ∧ mo o F A F30 A33, m36, ⟨h0, hm30⟩, ?_⟩
    rintro v32 A33 ⟨hi35, hm35⟩
    replace h := h v32 A33 hi35
    refine ⟨?_, ?_⟩
    · intro c0
      replace h := h.1 c0
      refine ⟨h.1, ?_⟩
      replace h := h.2
      obtain ⟨P39, hp39, h⟩ := h
      refine ⟨_, fX9_becomesSaid hp39, ?_⟩
      rintro F42 A43 ⟨p39, q39⟩
      have hm39 : mo o F A F42 A43 := hm35.trans q39
      replace h := h F42 A43 p39
      refine ⟨h.1, ?_⟩
      replace h := h.2
      exact ⟨⟨h.1, hm39⟩, h.2⟩
    · intro c0
      replace h := h.2 c0
      refine ⟨h.1, ?_⟩
      replace h := h.2
      refine ⟨h.1, ?_⟩
      replace h := h.2
      intro A50 e50
      replace h := h A50 e50
      have hm50 : mo o F A F30 A50 := by rw [e50]; exact hm35.upA (by omega)
      refine ⟨h.1, ?_⟩
      replace h := h.2
      exact ⟨⟨h.1, hm50⟩, h.2⟩
theorem fX9_best {o : Nat} {a1 : Int} {a2 : Int} {F : jFl} {A : jAr} {Q : Int → jFl → jAr → Prop} (h : wpX9_best o a1 a2 F A Q) : wpX9_best o a1 a2 F A (fun z F9 A9 => Q z F9 A9 ∧ mo o F A F9 A9) := by
  unfold wpX9_best at *
  have hm : mo o F A F A := mo.refl o F A
  obtain ⟨P1, hp1, h⟩ := h
  refine ⟨_, hp1, ?_⟩
  intro z3 p1
  replace h := h z3 p1
  refine ⟨?_, ?_⟩
  · intro c0
    replace h := h.1 c0
    exact ⟨h, hm⟩
  · intro c0
    replace h := h.2 c0
    refine ⟨h.1, ?_⟩
    replace h := h.2
    refine ⟨?_, ?_⟩
    · intro c0
      replace h := h.1 c0
      exact ⟨h, hm⟩
    · intro c0
      replace h := h.2 c0
      refine ⟨?_, ?_⟩
      · intro c0
        replace h := h.1 c0
        refine ⟨h.1, ?_⟩
        replace h := h.2
        obtain ⟨P11, hp11, h⟩ := h
        refine ⟨_, fX9_firstPerm hp11, ?_⟩
        rintro F14 A15 ⟨p11, q11⟩
        have hm11 : mo o F A F14 A15 := hm.trans q11
        replace h := h F14 A15 p11
        obtain ⟨I24, m25, h0, h⟩ := h
        refine ⟨fun v19 v20 F21 A22 => I24 v19 v20 F21 A22 ∧ mo o F A F21 A22, m25, ⟨h0, hm11⟩, ?_⟩
        rintro v19 v20 F21 A22 ⟨hi24, hm24⟩
        replace h := h v19 v20 F21 A22 hi24
        refine ⟨?_, ?_⟩
        · intro c0
          replace h := h.1 c0
          refine ⟨?_, ?_⟩
          · intro c0
            replace h := h.1 c0
            refine ⟨h.1, ?_⟩
            replace h := h.2
            exact ⟨h, hm24⟩
          · intro c0
            replace h := h.2 c0
            exact ⟨h, hm24⟩
        · intro c0
          replace h := h.2 c0
          obtain ⟨P29, hp29, h⟩ := h
          refine ⟨_, fX9_wholeBy hp29, ?_⟩
          rintro z31 F32 A33 ⟨p29, q29⟩
          have hm29 : mo o F A F32 A33 := hm24.trans q29
          replace h := h z31 F32 A33 p29
          refine ⟨?_, ?_⟩
          · intro c0
            replace h := h.1 c0
            obtain ⟨P38, hp38, h⟩ := h
            refine ⟨_, fX9_nextPerm hp38, ?_⟩
            rintro z40 F41 A42 ⟨p38, q38⟩
            have hm38 : mo o F A F41 A42 := hm29.trans q38
            replace h := h z40 F41 A42 p38
            exact ⟨⟨h.1, hm38⟩, h.2⟩
          · intro c0
            replace h := h.2 c0
            obtain ⟨I49, m50, h0, h⟩ := h
            refine ⟨fun v46 A47 => I49 v46 A47 ∧ mo o F A F32 A47, m50, ⟨h0, hm29⟩, ?_⟩
            rintro v46 A47 ⟨hi49, hm49⟩
            replace h := h v46 A47 hi49
            refine ⟨?_, ?_⟩
            · intro c0
              replace h := h.1 c0
              obtain ⟨P52, hp52, h⟩ := h
              refine ⟨_, fX9_nextPerm hp52, ?_⟩
              rintro z54 F55 A56 ⟨p52, q52⟩
              have hm52 : mo o F A F55 A56 := hm49.trans q52
              replace h := h z54 F55 A56 p52
              exact ⟨⟨h.1, hm52⟩, h.2⟩
            · intro c0
              replace h := h.2 c0
              refine ⟨h.1, ?_⟩
              replace h := h.2
              refine ⟨h.1, ?_⟩
              replace h := h.2
              intro A62 e62
              replace h := h A62 e62
              have hm62 : mo o F A F32 A62 := by rw [e62]; exact hm49.upA (by omega)
              refine ⟨h.1, ?_⟩
              replace h := h.2
              exact ⟨⟨h.1, hm62⟩, h.2⟩
      · intro c0
        replace h := h.2 c0
        refine ⟨h.1, ?_⟩
        replace h := h.2
        refine ⟨h.1, ?_⟩
        replace h := h.2
        obtain ⟨P67, hp67, h⟩ := h
        refine ⟨_, hp67, ?_⟩
        intro z69 p67
        replace h := h z69 p67
        refine ⟨?_, ?_⟩
        · intro c0
          replace h := h.1 c0
          refine ⟨h.1, ?_⟩
          replace h := h.2
          obtain ⟨P74, hp74, h⟩ := h
          refine ⟨_, fX9_firstPerm hp74, ?_⟩
          rintro F77 A78 ⟨p74, q74⟩
          have hm74 : mo o F A F77 A78 := hm.trans q74
          replace h := h F77 A78 p74
          obtain ⟨I87, m88, h0, h⟩ := h
          refine ⟨fun v82 v83 F84 A85 => I87 v82 v83 F84 A85 ∧ mo o F A F84 A85, m88, ⟨h0, hm74⟩, ?_⟩
          rintro v82 v83 F84 A85 ⟨hi87, hm87⟩
          replace h := h v82 v83 F84 A85 hi87
          refine ⟨?_, ?_⟩
          · intro c0
            replace h := h.1 c0
            refine ⟨?_, ?_⟩
            · intro c0
              replace h := h.1 c0
              refine ⟨h.1, ?_⟩
              replace h := h.2
              exact ⟨h, hm87⟩
            · intro c0
              replace h := h.2 c0
              exact ⟨h, hm87⟩
          · intro c0
            replace h := h.2 c0
            obtain ⟨P92, hp92, h⟩ := h
            refine ⟨_, fX9_wholeBy hp92, ?_⟩
            rintro z94 F95 A96 ⟨p92, q92⟩
            have hm92 : mo o F A F95 A96 := hm87.trans q92
            replace h := h z94 F95 A96 p92
            refine ⟨?_, ?_⟩
            · intro c0
              replace h := h.1 c0
              obtain ⟨P101, hp101, h⟩ := h
              refine ⟨_, fX9_nextPerm hp101, ?_⟩
              rintro z103 F104 A105 ⟨p101, q101⟩
              have hm101 : mo o F A F104 A105 := hm92.trans q101
              replace h := h z103 F104 A105 p101
              exact ⟨⟨h.1, hm101⟩, h.2⟩
            · intro c0
              replace h := h.2 c0
              obtain ⟨I112, m113, h0, h⟩ := h
              refine ⟨fun v109 A110 => I112 v109 A110 ∧ mo o F A F95 A110, m113, ⟨h0, hm92⟩, ?_⟩
              rintro v109 A110 ⟨hi112, hm112⟩
              replace h := h v109 A110 hi112
              refine ⟨?_, ?_⟩
              · intro c0
                replace h := h.1 c0
                obtain ⟨P115, hp115, h⟩ := h
                refine ⟨_, fX9_nextPerm hp115, ?_⟩
                rintro z117 F118 A119 ⟨p115, q115⟩
                have hm115 : mo o F A F118 A119 := hm112.trans q115
                replace h := h z117 F118 A119 p115
                exact ⟨⟨h.1, hm115⟩, h.2⟩
              · intro c0
                replace h := h.2 c0
                refine ⟨h.1, ?_⟩
                replace h := h.2
                refine ⟨h.1, ?_⟩
                replace h := h.2
                intro A125 e125
                replace h := h A125 e125
                have hm125 : mo o F A F95 A125 := by rw [e125]; exact hm112.upA (by omega)
                refine ⟨h.1, ?_⟩
                replace h := h.2
                exact ⟨⟨h.1, hm125⟩, h.2⟩
        · intro c0
          replace h := h.2 c0
          exact ⟨h, hm⟩
theorem fX9_child {o : Nat} {a1 : Int} {a2 : Int} {F : jFl} {A : jAr} {Q : Int → jFl → jAr → Prop} (h : wpX9_child o a1 a2 F A Q) : wpX9_child o a1 a2 F A (fun z F9 A9 => Q z F9 A9 ∧ mo o F A F9 A9) := by
  unfold wpX9_child at *
  have hm : mo o F A F A := mo.refl o F A
  obtain ⟨P1, hp1, h⟩ := h
  refine ⟨_, hp1, ?_⟩
  intro z3 p1
  replace h := h z3 p1
  refine ⟨?_, ?_⟩
  · intro c0
    replace h := h.1 c0
    refine ⟨?_, ?_, ?_, ?_, ?_⟩
    · intro c0
      replace h := h.1 c0
      refine ⟨h.1, ?_⟩
      replace h := h.2
      exact ⟨h, hm⟩
    · intro c0
      replace h := h.2.1 c0
      refine ⟨h.1, ?_⟩
      replace h := h.2
      exact ⟨h, hm⟩
    · intro c0
      replace h := h.2.2.1 c0
      obtain ⟨I11, m12, h0, h⟩ := h
      refine ⟨I11, m12, h0, ?_⟩
      intro v9 v10 hi11
      replace h := h v9 v10 hi11
      refine ⟨h.1, ?_⟩
      replace h := h.2
      refine ⟨?_, ?_⟩
      · intro c0
        replace h := h.1 c0
        exact ⟨h, hm⟩
      · intro c0
        replace h := h.2 c0
        obtain ⟨P15, hp15, h⟩ := h
        refine ⟨_, hp15, ?_⟩
        intro z17 p15
        replace h := h z17 p15
        intro z21 e21
        replace h := h z21 e21
        refine ⟨h.1, ?_⟩
        replace h := h.2
        intro v24 e24
        replace h := h v24 e24
        refine ⟨h.1, ?_⟩
        replace h := h.2
        exact h
    · intro c0
      replace h := h.2.2.2.1 c0
      obtain ⟨I31, m32, h0, h⟩ := h
      refine ⟨fun v26 v27 F28 A29 => I31 v26 v27 F28 A29 ∧ mo o F A F28 A29, m32, ⟨h0, hm⟩, ?_⟩
      rintro v26 v27 F28 A29 ⟨hi31, hm31⟩
      replace h := h v26 v27 F28 A29 hi31
      refine ⟨h.1, ?_⟩
      replace h := h.2
      refine ⟨?_, ?_⟩
      · intro c0
        replace h := h.1 c0
        exact ⟨h, hm31⟩
      · intro c0
        replace h := h.2 c0
        obtain ⟨P35, hp35, h⟩ := h
        refine ⟨_, hp35, ?_⟩
        intro z37 p35
        replace h := h z37 p35
        refine ⟨?_, ?_⟩
        · intro c0
          replace h := h.1 c0
          refine ⟨h.1, ?_⟩
          replace h := h.2
          intro v42 e42
          replace h := h v42 e42
          refine ⟨h.1, ?_⟩
          replace h := h.2
          exact ⟨⟨h.1, hm31⟩, h.2⟩
        · intro c0
          replace h := h.2 c0
          obtain ⟨P44, hp44, h⟩ := h
          refine ⟨_, fX9_standsBy hp44, ?_⟩
          rintro z46 F47 A48 ⟨p44, q44⟩
          have hm44 : mo o F A F47 A48 := hm31.trans q44
          replace h := h z46 F47 A48 p44
          intro z53 e53
          replace h := h z53 e53
          refine ⟨h.1, ?_⟩
          replace h := h.2
          intro v56 e56
          replace h := h v56 e56
          refine ⟨h.1, ?_⟩
          replace h := h.2
          exact ⟨⟨h.1, hm44⟩, h.2⟩
    · intro c0 c1 c2 c3
      replace h := h.2.2.2.2 c0 c1 c2 c3
      exact ⟨h, hm⟩
  · intro c0
    replace h := h.2 c0
    exact ⟨h, hm⟩
theorem fX9_childing {o : Nat} {F : jFl} {A : jAr} {Q : jFl → jAr → Prop} (h : wpX9_childing o F A Q) : wpX9_childing o F A (fun F9 A9 => Q F9 A9 ∧ mo o F A F9 A9) := by
  unfold wpX9_childing at *
  have hm : mo o F A F A := mo.refl o F A
  refine ⟨h.1, ?_⟩
  replace h := h.2
  intro z3 e3
  replace h := h z3 e3
  obtain ⟨P5, hp5, h⟩ := h
  refine ⟨_, fX9_counts hp5, ?_⟩
  rintro z7 F8 A9 ⟨p5, q5⟩
  have hm5 : mo o F A F8 A9 := hm.trans q5
  replace h := h z7 F8 A9 p5
  refine ⟨?_, ?_⟩
  · intro c0
    replace h := h.1 c0
    refine ⟨h.1, ?_⟩
    replace h := h.2
    refine ⟨h.1, ?_⟩
    replace h := h.2
    intro v16 e16
    replace h := h v16 e16
    obtain ⟨P17, hp17, h⟩ := h
    refine ⟨_, fX9_fresh hp17, ?_⟩
    rintro z19 F20 A21 ⟨p17, q17⟩
    have hm17 : mo o F A F20 A21 := hm5.trans q17
    replace h := h z19 F20 A21 p17
    refine ⟨h.1, ?_⟩
    replace h := h.2
    intro A26 e26
    replace h := h A26 e26
    have hm26 : mo o F A F20 A26 := by rw [e26]; exact hm17.upA (by omega)
    obtain ⟨P28, hp28, h⟩ := h
    refine ⟨_, fX9_must hp28, ?_⟩
    rintro F31 A32 ⟨p28, q28⟩
    have hm28 : mo o F A F31 A32 := hm26.trans q28
    replace h := h F31 A32 p28
    obtain ⟨P36, hp36, h⟩ := h
    refine ⟨_, fX9_asked hp36, ?_⟩
    rintro z38 F39 A40 ⟨p36, q36⟩
    have hm36 : mo o F A F39 A40 := hm28.trans q36
    replace h := h z38 F39 A40 p36
    refine ⟨h.1, ?_⟩
    replace h := h.2
    intro A45 e45
    replace h := h A45 e45
    have hm45 : mo o F A F39 A45 := by rw [e45]; exact hm36.upA (by omega)
    obtain ⟨P47, hp47, h⟩ := h
    refine ⟨_, fX9_must hp47, ?_⟩
    rintro F50 A51 ⟨p47, q47⟩
    have hm47 : mo o F A F50 A51 := hm45.trans q47
    replace h := h F50 A51 p47
    obtain ⟨P55, hp55, h⟩ := h
    refine ⟨_, fX9_number hp55, ?_⟩
    rintro z57 F58 A59 ⟨p55, q55⟩
    have hm55 : mo o F A F58 A59 := hm47.trans q55
    replace h := h z57 F58 A59 p55
    refine ⟨h.1, ?_⟩
    replace h := h.2
    intro A64 e64
    replace h := h A64 e64
    have hm64 : mo o F A F58 A64 := by rw [e64]; exact hm55.upA (by omega)
    obtain ⟨I69, m70, h0, h⟩ := h
    refine ⟨fun v66 A67 => I69 v66 A67 ∧ mo o F A F58 A67, m70, ⟨h0, hm64⟩, ?_⟩
    rintro v66 A67 ⟨hi69, hm69⟩
    replace h := h v66 A67 hi69
    refine ⟨?_, ?_⟩
    · intro c0
      replace h := h.1 c0
      obtain ⟨I75, m76, h0, h⟩ := h
      refine ⟨fun F72 A73 => I75 F72 A73 ∧ mo o F A F72 A73, m76, ⟨h0, hm69⟩, ?_⟩
      rintro F72 A73 ⟨hi75, hm75⟩
      replace h := h F72 A73 hi75
      obtain ⟨K78, hk78, h⟩ := h
      refine ⟨K78, ?_, ?_⟩
      · intro k78
        replace h := hk78 k78
        refine ⟨?_, ?_⟩
        · intro c0
          replace h := h.1 c0
          exact ⟨h, hm75⟩
        · intro c0
          replace h := h.2 c0
          refine ⟨h.1, ?_⟩
          replace h := h.2
          refine ⟨h.1, ?_⟩
          replace h := h.2
          refine ⟨h.1, ?_⟩
          replace h := h.2
          intro A85 e85
          replace h := h A85 e85
          have hm85 : mo o F A F72 A85 := by rw [e85]; exact hm75.upA (by omega)
          exact ⟨h, hm85⟩
      · refine ⟨?_, ?_⟩
        · intro c0
          replace h := h.1 c0
          exact h
        · intro c0
          replace h := h.2 c0
          refine ⟨?_, ?_⟩
          · intro c0
            replace h := h.1 c0
            exact h
          · intro c0
            replace h := h.2 c0
            obtain ⟨P88, hp88, h⟩ := h
            refine ⟨_, fX9_looked hp88, ?_⟩
            rintro z90 F91 A92 ⟨p88, q88⟩
            have hm88 : mo o F A F91 A92 := hm75.trans q88
            replace h := h z90 F91 A92 p88
            refine ⟨?_, ?_⟩
            · intro c0
              replace h := h.1 c0
              refine ⟨?_, ?_⟩
              · intro c0
                replace h := h.1 c0
                refine ⟨?_, ?_⟩
                · intro c0
                  replace h := h.1 c0
                  exact ⟨⟨h.1, hm88⟩, h.2⟩
                · intro c0
                  replace h := h.2 c0
                  refine ⟨h.1, ?_⟩
                  replace h := h.2
                  intro A100 e100
                  replace h := h A100 e100
                  have hm100 : mo o F A F91 A100 := by rw [e100]; exact hm88.upA (by omega)
                  exact ⟨⟨h.1, hm100⟩, h.2⟩
              · intro c0
                replace h := h.2 c0
                obtain ⟨P102, hp102, h⟩ := h
                refine ⟨_, fX9_ahead hp102, ?_⟩
                rintro F105 A106 ⟨p102, q102⟩
                have hm102 : mo o F A F105 A106 := hm88.trans q102
                replace h := h F105 A106 p102
                refine ⟨?_, ?_⟩
                · intro c0
                  replace h := h.1 c0
                  exact ⟨⟨h.1, hm102⟩, h.2⟩
                · intro c0
                  replace h := h.2 c0
                  refine ⟨h.1, ?_⟩
                  replace h := h.2
                  intro A112 e112
                  replace h := h A112 e112
                  have hm112 : mo o F A F105 A112 := by rw [e112]; exact hm102.upA (by omega)
                  exact ⟨⟨h.1, hm112⟩, h.2⟩
            · intro c0
              replace h := h.2 c0
              refine ⟨h.1, ?_⟩
              replace h := h.2
              refine ⟨?_, ?_⟩
              · intro c0
                replace h := h.1 c0
                refine ⟨?_, ?_⟩
                · intro c0
                  replace h := h.1 c0
                  refine ⟨?_, ?_⟩
                  · intro c0
                    replace h := h.1 c0
                    exact ⟨⟨h.1, hm88⟩, h.2⟩
                  · intro c0
                    replace h := h.2 c0
                    refine ⟨h.1, ?_⟩
                    replace h := h.2
                    intro A119 e119
                    replace h := h A119 e119
                    have hm119 : mo o F A F91 A119 := by rw [e119]; exact hm88.upA (by omega)
                    exact ⟨⟨h.1, hm119⟩, h.2⟩
                · intro c0
                  replace h := h.2 c0
                  obtain ⟨P121, hp121, h⟩ := h
                  refine ⟨_, fX9_ahead hp121, ?_⟩
                  rintro F124 A125 ⟨p121, q121⟩
                  have hm121 : mo o F A F124 A125 := hm88.trans q121
                  replace h := h F124 A125 p121
                  refine ⟨?_, ?_⟩
                  · intro c0
                    replace h := h.1 c0
                    exact ⟨⟨h.1, hm121⟩, h.2⟩
                  · intro c0
                    replace h := h.2 c0
                    refine ⟨h.1, ?_⟩
                    replace h := h.2
                    intro A131 e131
                    replace h := h A131 e131
                    have hm131 : mo o F A F124 A131 := by rw [e131]; exact hm121.upA (by omega)
                    exact ⟨⟨h.1, hm131⟩, h.2⟩
              · intro c0
                replace h := h.2 c0
                obtain ⟨P133, hp133, h⟩ := h
                refine ⟨_, fX9_blame hp133, ?_⟩
                rintro F136 A137 ⟨p133, q133⟩
                have hm133 : mo o F A F136 A137 := hm88.trans q133
                replace h := h F136 A137 p133
                refine ⟨?_, ?_⟩
                · intro c0
                  replace h := h.1 c0
                  refine ⟨?_, ?_⟩
                  · intro c0
                    replace h := h.1 c0
                    exact ⟨⟨h.1, hm133⟩, h.2⟩
                  · intro c0
                    replace h := h.2 c0
                    refine ⟨h.1, ?_⟩
                    replace h := h.2
                    intro A144 e144
                    replace h := h A144 e144
                    have hm144 : mo o F A F136 A144 := by rw [e144]; exact hm133.upA (by omega)
                    exact ⟨⟨h.1, hm144⟩, h.2⟩
                · intro c0
                  replace h := h.2 c0
                  obtain ⟨P146, hp146, h⟩ := h
                  refine ⟨_, fX9_ahead hp146, ?_⟩
                  rintro F149 A150 ⟨p146, q146⟩
                  have hm146 : mo o F A F149 A150 := hm133.trans q146
                  replace h := h F149 A150 p146
                  refine ⟨?_, ?_⟩
                  · intro c0
                    replace h := h.1 c0
                    exact ⟨⟨h.1, hm146⟩, h.2⟩
                  · intro c0
                    replace h := h.2 c0
                    refine ⟨h.1, ?_⟩
                    replace h := h.2
                    intro A156 e156
                    replace h := h A156 e156
                    have hm156 : mo o F A F149 A156 := by rw [e156]; exact hm146.upA (by omega)
                    exact ⟨⟨h.1, hm156⟩, h.2⟩
    · intro c0
      replace h := h.2 c0
      refine ⟨h.1, ?_⟩
      replace h := h.2
      intro A159 e159
      replace h := h A159 e159
      have hm159 : mo o F A F58 A159 := by rw [e159]; exact hm69.upA (by omega)
      refine ⟨h.1, ?_⟩
      replace h := h.2
      exact ⟨⟨h.1, hm159⟩, h.2⟩
  · intro c0
    replace h := h.2 c0
    exact ⟨h, hm5⟩
