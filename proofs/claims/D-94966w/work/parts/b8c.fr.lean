set_option maxRecDepth 100000
set_option linter.unusedVariables false
theorem fX9_childrenOf {o : Nat} {a1 : Int} {F : jFl} {A : jAr} {Q : Int → jFl → jAr → Prop} (h : wpX9_childrenOf o a1 F A Q) : wpX9_childrenOf o a1 F A (fun z F9 A9 => Q z F9 A9 ∧ mo o F A F9 A9) := by
  unfold wpX9_childrenOf at *
  have hm : mo o F A F A := mo.refl o F A
  obtain ⟨I6, m7, h0, h⟩ := h
  refine ⟨fun v1 v2 F3 A4 => I6 v1 v2 F3 A4 ∧ mo o F A F3 A4, m7, ⟨h0, hm⟩, ?_⟩
  rintro v1 v2 F3 A4 ⟨hi6, hm6⟩
  replace h := h v1 v2 F3 A4 hi6
  refine ⟨h.1, ?_⟩
  replace h := h.2
  refine ⟨?_, ?_⟩
  · intro c0
    replace h := h.1 c0
    exact ⟨h, hm6⟩
  · intro c0
    replace h := h.2 c0
    obtain ⟨P10, hp10, h⟩ := h
    refine ⟨_, fX9_standsBy hp10, ?_⟩
    rintro z12 F13 A14 ⟨p10, q10⟩
    have hm10 : mo o F A F13 A14 := hm6.trans q10
    replace h := h z12 F13 A14 p10
    intro z19 e19
    replace h := h z19 e19
    refine ⟨h.1, ?_⟩
    replace h := h.2
    intro v22 e22
    replace h := h v22 e22
    refine ⟨h.1, ?_⟩
    replace h := h.2
    exact ⟨⟨h.1, hm10⟩, h.2⟩
theorem fX9_onePut {o : Nat} {a1 : Int} {F : jFl} {A : jAr} {Q : jFl → jAr → Prop} (h : wpX9_onePut o a1 F A Q) : wpX9_onePut o a1 F A (fun F9 A9 => Q F9 A9 ∧ mo o F A F9 A9) := by
  unfold wpX9_onePut at *
  have hm : mo o F A F A := mo.refl o F A
  obtain ⟨K5, hk5, h⟩ := h
  refine ⟨fun F2 A3 => K5 F2 A3 ∧ mo o F A F2 A3, ?_, ?_⟩
  · rintro F2 A3 ⟨k5, hm5⟩
    replace h := hk5 F2 A3 k5
    obtain ⟨P8, hp8, h⟩ := h
    refine ⟨_, fX9_asked hp8, ?_⟩
    rintro z10 F11 A12 ⟨p8, q8⟩
    have hm8 : mo o F A F11 A12 := hm5.trans q8
    replace h := h z10 F11 A12 p8
    refine ⟨?_, ?_⟩
    · intro c0
      replace h := h.1 c0
      exact ⟨h, hm8⟩
    · intro c0
      replace h := h.2 c0
      refine ⟨h.1, ?_⟩
      replace h := h.2
      intro A18 e18
      replace h := h A18 e18
      have hm18 : mo o F A F11 A18 := by rw [e18]; exact hm8.upA (by omega)
      exact ⟨h, hm18⟩
  · refine ⟨?_, ?_⟩
    · intro c0
      replace h := h.1 c0
      exact ⟨h, hm⟩
    · intro c0
      replace h := h.2 c0
      refine ⟨?_, ?_⟩
      · intro c0
        replace h := h.1 c0
        exact ⟨h, hm⟩
      · intro c0
        replace h := h.2 c0
        refine ⟨?_, ?_⟩
        · intro c0
          replace h := h.1 c0
          exact ⟨h, hm⟩
        · intro c0
          replace h := h.2 c0
          refine ⟨?_, ?_⟩
          · intro c0
            replace h := h.1 c0
            obtain ⟨P23, hp23, h⟩ := h
            refine ⟨_, fX9_blame hp23, ?_⟩
            rintro F26 A27 ⟨p23, q23⟩
            have hm23 : mo o F A F26 A27 := hm.trans q23
            replace h := h F26 A27 p23
            exact ⟨h, hm23⟩
          · intro c0
            replace h := h.2 c0
            obtain ⟨P31, hp31, h⟩ := h
            refine ⟨_, hp31, ?_⟩
            intro z33 p31
            replace h := h z33 p31
            refine ⟨?_, ?_⟩
            · intro c0
              replace h := h.1 c0
              exact ⟨h, hm⟩
            · intro c0
              replace h := h.2 c0
              obtain ⟨P37, hp37, h⟩ := h
              refine ⟨_, fX9_blame hp37, ?_⟩
              rintro F40 A41 ⟨p37, q37⟩
              have hm37 : mo o F A F40 A41 := hm.trans q37
              replace h := h F40 A41 p37
              exact ⟨h, hm37⟩
theorem fX9_wholeOf {o : Nat} {a1 : Int} {F : jFl} {A : jAr} {Q : Int → jFl → jAr → Prop} (h : wpX9_wholeOf o a1 F A Q) : wpX9_wholeOf o a1 F A (fun z F9 A9 => Q z F9 A9 ∧ mo o F A F9 A9) := by
  unfold wpX9_wholeOf at *
  have hm : mo o F A F A := mo.refl o F A
  intro F1 e1
  replace h := h F1 e1
  have hm1 : mo o F A F1 A := by rw [e1]; exact hm.upF
  obtain ⟨I6, m7, h0, h⟩ := h
  refine ⟨fun v3 A4 => I6 v3 A4 ∧ mo o F A F1 A4, m7, ⟨h0, hm1⟩, ?_⟩
  rintro v3 A4 ⟨hi6, hm6⟩
  replace h := h v3 A4 hi6
  refine ⟨?_, ?_⟩
  · intro c0
    replace h := h.1 c0
    obtain ⟨P9, hp9, h⟩ := h
    refine ⟨_, fX9_sittingOf hp9, ?_⟩
    rintro F12 A13 ⟨p9, q9⟩
    have hm9 : mo o F A F12 A13 := hm6.trans q9
    replace h := h F12 A13 p9
    obtain ⟨I19, m20, h0, h⟩ := h
    refine ⟨I19, m20, h0, ?_⟩
    intro v17 v18 hi19
    replace h := h v17 v18 hi19
    refine ⟨?_, ?_⟩
    · intro c0
      replace h := h.1 c0
      exact ⟨h, hm9⟩
    · intro c0
      replace h := h.2 c0
      refine ⟨h.1, ?_⟩
      replace h := h.2
      refine ⟨h.1, ?_⟩
      replace h := h.2
      intro z25 e25
      replace h := h z25 e25
      refine ⟨h.1, ?_⟩
      replace h := h.2
      intro v28 e28
      replace h := h v28 e28
      refine ⟨h.1, ?_⟩
      replace h := h.2
      exact h
  · intro c0
    replace h := h.2 c0
    refine ⟨h.1, ?_⟩
    replace h := h.2
    refine ⟨h.1, ?_⟩
    replace h := h.2
    intro A32 e32
    replace h := h A32 e32
    have hm32 : mo o F A F1 A32 := by rw [e32]; exact hm6.upA (by omega)
    refine ⟨h.1, ?_⟩
    replace h := h.2
    exact ⟨⟨h.1, hm32⟩, h.2⟩
theorem fX9_sitsNow {o : Nat} {a1 : Int} {F : jFl} {A : jAr} {Q : Int → jFl → jAr → Prop} (h : wpX9_sitsNow o a1 F A Q) : wpX9_sitsNow o a1 F A (fun z F9 A9 => Q z F9 A9 ∧ mo o F A F9 A9) := by
  unfold wpX9_sitsNow at *
  have hm : mo o F A F A := mo.refl o F A
  obtain ⟨P1, hp1, h⟩ := h
  refine ⟨_, fX9_seatsOf hp1, ?_⟩
  rintro F4 A5 ⟨p1, q1⟩
  have hm1 : mo o F A F4 A5 := hm.trans q1
  replace h := h F4 A5 p1
  obtain ⟨P9, hp9, h⟩ := h
  refine ⟨_, fX9_sittingOf hp9, ?_⟩
  rintro F12 A13 ⟨p9, q9⟩
  have hm9 : mo o F A F12 A13 := hm1.trans q9
  replace h := h F12 A13 p9
  exact ⟨h, hm9⟩
theorem fX9_needs {o : Nat} {a1 : Int} {a2 : Int} {F : jFl} {A : jAr} {Q : Int → jFl → jAr → Prop} (h : wpX9_needs o a1 a2 F A Q) : wpX9_needs o a1 a2 F A (fun z F9 A9 => Q z F9 A9 ∧ mo o F A F9 A9) := by
  unfold wpX9_needs at *
  have hm : mo o F A F A := mo.refl o F A
  obtain ⟨P1, hp1, h⟩ := h
  refine ⟨_, hp1, ?_⟩
  intro z3 p1
  replace h := h z3 p1
  refine ⟨?_, ?_⟩
  · intro c0
    replace h := h.1 c0
    exact ⟨h, hm⟩
  · intro c0
    replace h := h.2 c0
    obtain ⟨P7, hp7, h⟩ := h
    refine ⟨_, hp7, ?_⟩
    intro z9 p7
    replace h := h z9 p7
    refine ⟨?_, ?_⟩
    · intro c0
      replace h := h.1 c0
      obtain ⟨I18, m19, h0, h⟩ := h
      refine ⟨fun v13 v14 F15 A16 => I18 v13 v14 F15 A16 ∧ mo o F A F15 A16, m19, ⟨h0, hm⟩, ?_⟩
      rintro v13 v14 F15 A16 ⟨hi18, hm18⟩
      replace h := h v13 v14 F15 A16 hi18
      refine ⟨?_, ?_⟩
      · intro c0
        replace h := h.1 c0
        intro F21 e21
        replace h := h F21 e21
        have hm21 : mo o F A F21 A16 := by rw [e21]; exact hm18.upF
        exact ⟨h, hm21⟩
      · intro c0
        replace h := h.2 c0
        refine ⟨?_, ?_⟩
        · intro c0
          replace h := h.1 c0
          intro F24 e24
          replace h := h F24 e24
          have hm24 : mo o F A F24 A16 := by rw [e24]; exact hm18.upF
          exact ⟨h, hm24⟩
        · intro c0
          replace h := h.2 c0
          intro F26 e26
          replace h := h F26 e26
          have hm26 : mo o F A F26 A16 := by rw [e26]; exact hm18.upF
          obtain ⟨P28, hp28, h⟩ := h
          refine ⟨_, fX9_standsBy hp28, ?_⟩
          rintro z30 F31 A32 ⟨p28, q28⟩
          have hm28 : mo o F A F31 A32 := hm26.trans q28
          replace h := h z30 F31 A32 p28
          intro z37 e37
          replace h := h z37 e37
          refine ⟨h.1, ?_⟩
          replace h := h.2
          exact ⟨⟨h.1, hm28⟩, h.2⟩
    · intro c0
      replace h := h.2 c0
      exact ⟨h, hm⟩
theorem fX9_streeting {o : Nat} {F : jFl} {A : jAr} {Q : jFl → jAr → Prop} (h : wpX9_streeting o F A Q) : wpX9_streeting o F A (fun F9 A9 => Q F9 A9 ∧ mo o F A F9 A9) := by
  unfold wpX9_streeting at *
  have hm : mo o F A F A := mo.refl o F A
  refine ⟨h.1, ?_⟩
  replace h := h.2
  intro z3 e3
  replace h := h z3 e3
  obtain ⟨P5, hp5, h⟩ := h
  refine ⟨_, fX9_counts hp5, ?_⟩
  rintro z7 F8 A9 ⟨p5, q5⟩
  have hm5 : mo o F A F8 A9 := hm.trans q5
  replace h := h z7 F8 A9 p5
  refine ⟨?_, ?_⟩
  · intro c0
    replace h := h.1 c0
    refine ⟨h.1, ?_⟩
    replace h := h.2
    refine ⟨h.1, ?_⟩
    replace h := h.2
    intro v16 e16
    replace h := h v16 e16
    obtain ⟨P17, hp17, h⟩ := h
    refine ⟨_, fX9_fresh hp17, ?_⟩
    rintro z19 F20 A21 ⟨p17, q17⟩
    have hm17 : mo o F A F20 A21 := hm5.trans q17
    replace h := h z19 F20 A21 p17
    refine ⟨h.1, ?_⟩
    replace h := h.2
    intro A26 e26
    replace h := h A26 e26
    have hm26 : mo o F A F20 A26 := by rw [e26]; exact hm17.upA (by omega)
    obtain ⟨I31, m32, h0, h⟩ := h
    refine ⟨fun v28 A29 => I31 v28 A29 ∧ mo o F A F20 A29, m32, ⟨h0, hm26⟩, ?_⟩
    rintro v28 A29 ⟨hi31, hm31⟩
    replace h := h v28 A29 hi31
    refine ⟨?_, ?_⟩
    · intro c0
      replace h := h.1 c0
      obtain ⟨I37, m38, h0, h⟩ := h
      refine ⟨fun F34 A35 => I37 F34 A35 ∧ mo o F A F34 A35, m38, ⟨h0, hm31⟩, ?_⟩
      rintro F34 A35 ⟨hi37, hm37⟩
      replace h := h F34 A35 hi37
      obtain ⟨K40, hk40, h⟩ := h
      refine ⟨K40, ?_, ?_⟩
      · intro k40
        replace h := hk40 k40
        refine ⟨?_, ?_⟩
        · intro c0
          replace h := h.1 c0
          exact ⟨h, hm37⟩
        · intro c0
          replace h := h.2 c0
          refine ⟨h.1, ?_⟩
          replace h := h.2
          refine ⟨h.1, ?_⟩
          replace h := h.2
          refine ⟨h.1, ?_⟩
          replace h := h.2
          intro A47 e47
          replace h := h A47 e47
          have hm47 : mo o F A F34 A47 := by rw [e47]; exact hm37.upA (by omega)
          exact ⟨h, hm47⟩
      · refine ⟨?_, ?_⟩
        · intro c0
          replace h := h.1 c0
          exact h
        · intro c0
          replace h := h.2 c0
          refine ⟨?_, ?_⟩
          · intro c0
            replace h := h.1 c0
            exact h
          · intro c0
            replace h := h.2 c0
            obtain ⟨P50, hp50, h⟩ := h
            refine ⟨_, fX9_looked hp50, ?_⟩
            rintro z52 F53 A54 ⟨p50, q50⟩
            have hm50 : mo o F A F53 A54 := hm37.trans q50
            replace h := h z52 F53 A54 p50
            refine ⟨?_, ?_⟩
            · intro c0
              replace h := h.1 c0
              refine ⟨?_, ?_⟩
              · intro c0
                replace h := h.1 c0
                obtain ⟨P60, hp60, h⟩ := h
                refine ⟨_, fX9_must hp60, ?_⟩
                rintro F63 A64 ⟨p60, q60⟩
                have hm60 : mo o F A F63 A64 := hm50.trans q60
                replace h := h F63 A64 p60
                obtain ⟨P68, hp68, h⟩ := h
                refine ⟨_, fX9_asked hp68, ?_⟩
                rintro z70 F71 A72 ⟨p68, q68⟩
                have hm68 : mo o F A F71 A72 := hm60.trans q68
                replace h := h z70 F71 A72 p68
                refine ⟨?_, ?_⟩
                · intro c0
                  replace h := h.1 c0
                  exact ⟨⟨h.1, hm68⟩, h.2⟩
                · intro c0
                  replace h := h.2 c0
                  refine ⟨h.1, ?_⟩
                  replace h := h.2
                  intro A78 e78
                  replace h := h A78 e78
                  have hm78 : mo o F A F71 A78 := by rw [e78]; exact hm68.upA (by omega)
                  exact ⟨⟨h.1, hm78⟩, h.2⟩
              · intro c0
                replace h := h.2 c0
                obtain ⟨P80, hp80, h⟩ := h
                refine ⟨_, fX9_ahead hp80, ?_⟩
                rintro F83 A84 ⟨p80, q80⟩
                have hm80 : mo o F A F83 A84 := hm50.trans q80
                replace h := h F83 A84 p80
                obtain ⟨P88, hp88, h⟩ := h
                refine ⟨_, fX9_must hp88, ?_⟩
                rintro F91 A92 ⟨p88, q88⟩
                have hm88 : mo o F A F91 A92 := hm80.trans q88
                replace h := h F91 A92 p88
                obtain ⟨P96, hp96, h⟩ := h
                refine ⟨_, fX9_asked hp96, ?_⟩
                rintro z98 F99 A100 ⟨p96, q96⟩
                have hm96 : mo o F A F99 A100 := hm88.trans q96
                replace h := h z98 F99 A100 p96
                refine ⟨?_, ?_⟩
                · intro c0
                  replace h := h.1 c0
                  exact ⟨⟨h.1, hm96⟩, h.2⟩
                · intro c0
                  replace h := h.2 c0
                  refine ⟨h.1, ?_⟩
                  replace h := h.2
                  intro A106 e106
                  replace h := h A106 e106
                  have hm106 : mo o F A F99 A106 := by rw [e106]; exact hm96.upA (by omega)
                  exact ⟨⟨h.1, hm106⟩, h.2⟩
            · intro c0
              replace h := h.2 c0
              refine ⟨h.1, ?_⟩
              replace h := h.2
              refine ⟨?_, ?_⟩
              · intro c0
                replace h := h.1 c0
                refine ⟨?_, ?_⟩
                · intro c0
                  replace h := h.1 c0
                  obtain ⟨P111, hp111, h⟩ := h
                  refine ⟨_, fX9_must hp111, ?_⟩
                  rintro F114 A115 ⟨p111, q111⟩
                  have hm111 : mo o F A F114 A115 := hm50.trans q111
                  replace h := h F114 A115 p111
                  obtain ⟨P119, hp119, h⟩ := h
                  refine ⟨_, fX9_asked hp119, ?_⟩
                  rintro z121 F122 A123 ⟨p119, q119⟩
                  have hm119 : mo o F A F122 A123 := hm111.trans q119
                  replace h := h z121 F122 A123 p119
                  refine ⟨?_, ?_⟩
                  · intro c0
                    replace h := h.1 c0
                    exact ⟨⟨h.1, hm119⟩, h.2⟩
                  · intro c0
                    replace h := h.2 c0
                    refine ⟨h.1, ?_⟩
                    replace h := h.2
                    intro A129 e129
                    replace h := h A129 e129
                    have hm129 : mo o F A F122 A129 := by rw [e129]; exact hm119.upA (by omega)
                    exact ⟨⟨h.1, hm129⟩, h.2⟩
                · intro c0
                  replace h := h.2 c0
                  obtain ⟨P131, hp131, h⟩ := h
                  refine ⟨_, fX9_ahead hp131, ?_⟩
                  rintro F134 A135 ⟨p131, q131⟩
                  have hm131 : mo o F A F134 A135 := hm50.trans q131
                  replace h := h F134 A135 p131
                  obtain ⟨P139, hp139, h⟩ := h
                  refine ⟨_, fX9_must hp139, ?_⟩
                  rintro F142 A143 ⟨p139, q139⟩
                  have hm139 : mo o F A F142 A143 := hm131.trans q139
                  replace h := h F142 A143 p139
                  obtain ⟨P147, hp147, h⟩ := h
                  refine ⟨_, fX9_asked hp147, ?_⟩
                  rintro z149 F150 A151 ⟨p147, q147⟩
                  have hm147 : mo o F A F150 A151 := hm139.trans q147
                  replace h := h z149 F150 A151 p147
                  refine ⟨?_, ?_⟩
                  · intro c0
                    replace h := h.1 c0
                    exact ⟨⟨h.1, hm147⟩, h.2⟩
                  · intro c0
                    replace h := h.2 c0
                    refine ⟨h.1, ?_⟩
                    replace h := h.2
                    intro A157 e157
                    replace h := h A157 e157
                    have hm157 : mo o F A F150 A157 := by rw [e157]; exact hm147.upA (by omega)
                    exact ⟨⟨h.1, hm157⟩, h.2⟩
              · intro c0
                replace h := h.2 c0
                obtain ⟨P159, hp159, h⟩ := h
                refine ⟨_, fX9_blame hp159, ?_⟩
                rintro F162 A163 ⟨p159, q159⟩
                have hm159 : mo o F A F162 A163 := hm50.trans q159
                replace h := h F162 A163 p159
                refine ⟨?_, ?_⟩
                · intro c0
                  replace h := h.1 c0
                  obtain ⟨P168, hp168, h⟩ := h
                  refine ⟨_, fX9_must hp168, ?_⟩
                  rintro F171 A172 ⟨p168, q168⟩
                  have hm168 : mo o F A F171 A172 := hm159.trans q168
                  replace h := h F171 A172 p168
                  obtain ⟨P176, hp176, h⟩ := h
                  refine ⟨_, fX9_asked hp176, ?_⟩
                  rintro z178 F179 A180 ⟨p176, q176⟩
                  have hm176 : mo o F A F179 A180 := hm168.trans q176
                  replace h := h z178 F179 A180 p176
                  refine ⟨?_, ?_⟩
                  · intro c0
                    replace h := h.1 c0
                    exact ⟨⟨h.1, hm176⟩, h.2⟩
                  · intro c0
                    replace h := h.2 c0
                    refine ⟨h.1, ?_⟩
                    replace h := h.2
                    intro A186 e186
                    replace h := h A186 e186
                    have hm186 : mo o F A F179 A186 := by rw [e186]; exact hm176.upA (by omega)
                    exact ⟨⟨h.1, hm186⟩, h.2⟩
                · intro c0
                  replace h := h.2 c0
                  obtain ⟨P188, hp188, h⟩ := h
                  refine ⟨_, fX9_ahead hp188, ?_⟩
                  rintro F191 A192 ⟨p188, q188⟩
                  have hm188 : mo o F A F191 A192 := hm159.trans q188
                  replace h := h F191 A192 p188
                  obtain ⟨P196, hp196, h⟩ := h
                  refine ⟨_, fX9_must hp196, ?_⟩
                  rintro F199 A200 ⟨p196, q196⟩
                  have hm196 : mo o F A F199 A200 := hm188.trans q196
                  replace h := h F199 A200 p196
                  obtain ⟨P204, hp204, h⟩ := h
                  refine ⟨_, fX9_asked hp204, ?_⟩
                  rintro z206 F207 A208 ⟨p204, q204⟩
                  have hm204 : mo o F A F207 A208 := hm196.trans q204
                  replace h := h z206 F207 A208 p204
                  refine ⟨?_, ?_⟩
                  · intro c0
                    replace h := h.1 c0
                    exact ⟨⟨h.1, hm204⟩, h.2⟩
                  · intro c0
                    replace h := h.2 c0
                    refine ⟨h.1, ?_⟩
                    replace h := h.2
                    intro A214 e214
                    replace h := h A214 e214
                    have hm214 : mo o F A F207 A214 := by rw [e214]; exact hm204.upA (by omega)
                    exact ⟨⟨h.1, hm214⟩, h.2⟩
    · intro c0
      replace h := h.2 c0
      refine ⟨h.1, ?_⟩
      replace h := h.2
      intro A217 e217
      replace h := h A217 e217
      have hm217 : mo o F A F20 A217 := by rw [e217]; exact hm31.upA (by omega)
      refine ⟨h.1, ?_⟩
      replace h := h.2
      exact ⟨⟨h.1, hm217⟩, h.2⟩
  · intro c0
    replace h := h.2 c0
    exact ⟨h, hm5⟩
theorem fX9_anew {o : Nat} {a1 : Int} {F : jFl} {A : jAr} {Q : Int → jFl → jAr → Prop} (h : wpX9_anew o a1 F A Q) : wpX9_anew o a1 F A (fun z F9 A9 => Q z F9 A9 ∧ mo o F A F9 A9) := by
  unfold wpX9_anew at *
  have hm : mo o F A F A := mo.refl o F A
  obtain ⟨P1, hp1, h⟩ := h
  refine ⟨_, hp1, ?_⟩
  intro z3 p1
  replace h := h z3 p1
  refine ⟨?_, ?_⟩
  · intro c0
    replace h := h.1 c0
    obtain ⟨P7, hp7, h⟩ := h
    refine ⟨_, fX9_keeps hp7, ?_⟩
    rintro F10 A11 ⟨p7, q7⟩
    have hm7 : mo o F A F10 A11 := hm.trans q7
    replace h := h F10 A11 p7
    obtain ⟨P15, hp15, h⟩ := h
    refine ⟨_, fX9_renews hp15, ?_⟩
    rintro F18 A19 ⟨p15, q15⟩
    have hm15 : mo o F A F18 A19 := hm7.trans q15
    replace h := h F18 A19 p15
    obtain ⟨P23, hp23, h⟩ := h
    refine ⟨_, hp23, ?_⟩
    intro z25 p23
    replace h := h z25 p23
    exact ⟨h, hm15⟩
  · intro c0
    replace h := h.2 c0
    obtain ⟨P28, hp28, h⟩ := h
    refine ⟨_, fX9_refuses hp28, ?_⟩
    rintro z30 F31 A32 ⟨p28, q28⟩
    have hm28 : mo o F A F31 A32 := hm.trans q28
    replace h := h z30 F31 A32 p28
    exact ⟨h, hm28⟩
theorem fX9_rowing {o : Nat} {F : jFl} {A : jAr} {Q : jFl → jAr → Prop} (h : wpX9_rowing o F A Q) : wpX9_rowing o F A (fun F9 A9 => Q F9 A9 ∧ mo o F A F9 A9) := by
  unfold wpX9_rowing at *
  have hm : mo o F A F A := mo.refl o F A
  intro F1 e1
  replace h := h F1 e1
  have hm1 : mo o F A F1 A := by rw [e1]; exact hm.upF
  intro F3 e3
  replace h := h F3 e3
  have hm3 : mo o F A F3 A := by rw [e3]; exact hm1.upF
  obtain ⟨I9, m10, h0, h⟩ := h
  refine ⟨fun v5 F6 A7 => I9 v5 F6 A7 ∧ mo o F A F6 A7, m10, ⟨h0, hm3⟩, ?_⟩
  rintro v5 F6 A7 ⟨hi9, hm9⟩
  replace h := h v5 F6 A7 hi9
  refine ⟨?_, ?_⟩
  · intro c0
    replace h := h.1 c0
    refine ⟨?_, ?_⟩
    · intro c0
      replace h := h.1 c0
      exact ⟨h, hm9⟩
    · intro c0
      replace h := h.2 c0
      refine ⟨?_, ?_⟩
      · intro c0
        replace h := h.1 c0
        obtain ⟨P14, hp14, h⟩ := h
        refine ⟨_, fX9_ahead hp14, ?_⟩
        rintro F17 A18 ⟨p14, q14⟩
        have hm14 : mo o F A F17 A18 := hm9.trans q14
        replace h := h F17 A18 p14
        obtain ⟨I26, m27, h0, h⟩ := h
        refine ⟨fun v22 F23 A24 => I26 v22 F23 A24 ∧ mo o F A F23 A24, m27, ⟨h0, hm14⟩, ?_⟩
        rintro v22 F23 A24 ⟨hi26, hm26⟩
        replace h := h v22 F23 A24 hi26
        refine ⟨?_, ?_⟩
        · intro c0
          replace h := h.1 c0
          exact ⟨h, hm26⟩
        · intro c0
          replace h := h.2 c0
          intro z30 e30
          replace h := h z30 e30
          obtain ⟨P32, hp32, h⟩ := h
          refine ⟨_, fX9_onePut hp32, ?_⟩
          rintro F35 A36 ⟨p32, q32⟩
          have hm32 : mo o F A F35 A36 := hm26.trans q32
          replace h := h F35 A36 p32
          intro z41 e41
          replace h := h z41 e41
          refine ⟨h.1, ?_⟩
          replace h := h.2
          intro F44 e44
          replace h := h F44 e44
          have hm44 : mo o F A F44 A36 := by rw [e44]; exact hm32.upF
          refine ⟨?_, ?_⟩
          · intro c0
            replace h := h.1 c0
            exact ⟨⟨h.1, hm44⟩, h.2⟩
          · intro c0
            replace h := h.2 c0
            intro z48 e48
            replace h := h z48 e48
            exact ⟨⟨h.1, hm44⟩, h.2⟩
      · intro c0
        replace h := h.2 c0
        exact ⟨h, hm9⟩
  · intro c0
    replace h := h.2 c0
    intro z51 e51
    replace h := h z51 e51
    obtain ⟨P53, hp53, h⟩ := h
    refine ⟨_, fX9_onePut hp53, ?_⟩
    rintro F56 A57 ⟨p53, q53⟩
    have hm53 : mo o F A F56 A57 := hm9.trans q53
    replace h := h F56 A57 p53
    intro z62 e62
    replace h := h z62 e62
    refine ⟨h.1, ?_⟩
    replace h := h.2
    intro F65 e65
    replace h := h F65 e65
    have hm65 : mo o F A F65 A57 := by rw [e65]; exact hm53.upF
    refine ⟨?_, ?_⟩
    · intro c0
      replace h := h.1 c0
      exact ⟨⟨h.1, hm65⟩, h.2⟩
    · intro c0
      replace h := h.2 c0
      refine ⟨?_, ?_⟩
      · intro c0
        replace h := h.1 c0
        exact ⟨⟨h.1, hm65⟩, h.2⟩
      · intro c0
        replace h := h.2 c0
        refine ⟨?_, ?_⟩
        · intro c0
          replace h := h.1 c0
          exact ⟨⟨h.1, hm65⟩, h.2⟩
        · intro c0
          replace h := h.2 c0
          obtain ⟨P70, hp70, h⟩ := h
          refine ⟨_, hp70, ?_⟩
          intro z72 p70
          replace h := h z72 p70
          intro z76 e76
          replace h := h z76 e76
          exact ⟨⟨h.1, hm65⟩, h.2⟩
theorem fX9_goodness {o : Nat} {F : jFl} {A : jAr} {Q : Int → jFl → jAr → Prop} (h : wpX9_goodness o F A Q) : wpX9_goodness o F A (fun z F9 A9 => Q z F9 A9 ∧ mo o F A F9 A9) := by
  unfold wpX9_goodness at *
  have hm : mo o F A F A := mo.refl o F A
  refine ⟨?_, ?_⟩
  · intro c0
    replace h := h.1 c0
    obtain ⟨P2, hp2, h⟩ := h
    refine ⟨_, fX9_wholeOf hp2, ?_⟩
    rintro z4 F5 A6 ⟨p2, q2⟩
    have hm2 : mo o F A F5 A6 := hm.trans q2
    replace h := h z4 F5 A6 p2
    exact ⟨h, hm2⟩
  · intro c0
    replace h := h.2 c0
    obtain ⟨P10, hp10, h⟩ := h
    refine ⟨_, fX9_wholeBy hp10, ?_⟩
    rintro z12 F13 A14 ⟨p10, q10⟩
    have hm10 : mo o F A F13 A14 := hm.trans q10
    replace h := h z12 F13 A14 p10
    exact ⟨h, hm10⟩
theorem fX9_forty {o : Nat} {a1 : Int} {a2 : Int} {F : jFl} {A : jAr} {Q : Int → jFl → jAr → Prop} (h : wpX9_forty o a1 a2 F A Q) : wpX9_forty o a1 a2 F A (fun z F9 A9 => Q z F9 A9 ∧ mo o F A F9 A9) := by
  unfold wpX9_forty at *
  have hm : mo o F A F A := mo.refl o F A
  obtain ⟨P1, hp1, h⟩ := h
  refine ⟨_, hp1, ?_⟩
  intro z3 p1
  replace h := h z3 p1
  obtain ⟨P6, hp6, h⟩ := h
  refine ⟨_, hp6, ?_⟩
  intro z8 p6
  replace h := h z8 p6
  refine ⟨?_, ?_⟩
  · intro c0
    replace h := h.1 c0
    exact ⟨h, hm⟩
  · intro c0
    replace h := h.2 c0
    obtain ⟨P12, hp12, h⟩ := h
    refine ⟨_, hp12, ?_⟩
    intro z14 p12
    replace h := h z14 p12
    refine ⟨?_, ?_⟩
    · intro c0
      replace h := h.1 c0
      exact ⟨h, hm⟩
    · intro c0
      replace h := h.2 c0
      refine ⟨?_, ?_⟩
      · intro c0
        replace h := h.1 c0
        intro F19 e19
        replace h := h F19 e19
        have hm19 : mo o F A F19 A := by rw [e19]; exact hm.upF
        obtain ⟨I25, m26, h0, h⟩ := h
        refine ⟨fun v21 F22 A23 => I25 v21 F22 A23 ∧ mo o F A F22 A23, m26, ⟨h0, hm19⟩, ?_⟩
        rintro v21 F22 A23 ⟨hi25, hm25⟩
        replace h := h v21 F22 A23 hi25
        refine ⟨h.1, ?_⟩
        replace h := h.2
        refine ⟨?_, ?_⟩
        · intro c0
          replace h := h.1 c0
          obtain ⟨I34, m35, h0, h⟩ := h
          refine ⟨fun v29 v30 F31 A32 => I34 v29 v30 F31 A32 ∧ mo o F A F31 A32, m35, ⟨h0, hm25⟩, ?_⟩
          rintro v29 v30 F31 A32 ⟨hi34, hm34⟩
          replace h := h v29 v30 F31 A32 hi34
          refine ⟨?_, ?_⟩
          · intro c0
            replace h := h.1 c0
            refine ⟨?_, ?_⟩
            · intro c0
              replace h := h.1 c0
              refine ⟨h.1, ?_⟩
              replace h := h.2
              exact ⟨h, hm34⟩
            · intro c0
              replace h := h.2 c0
              exact ⟨h, hm34⟩
          · intro c0
            replace h := h.2 c0
            obtain ⟨P39, hp39, h⟩ := h
            refine ⟨_, fX9_wholeOf hp39, ?_⟩
            rintro z41 F42 A43 ⟨p39, q39⟩
            have hm39 : mo o F A F42 A43 := hm34.trans q39
            replace h := h z41 F42 A43 p39
            refine ⟨?_, ?_⟩
            · intro c0
              replace h := h.1 c0
              obtain ⟨P48, hp48, h⟩ := h
              refine ⟨_, fX9_nextPerm hp48, ?_⟩
              rintro z50 F51 A52 ⟨p48, q48⟩
              have hm48 : mo o F A F51 A52 := hm39.trans q48
              replace h := h z50 F51 A52 p48
              exact ⟨⟨h.1, hm48⟩, h.2⟩
            · intro c0
              replace h := h.2 c0
              obtain ⟨I59, m60, h0, h⟩ := h
              refine ⟨fun v56 A57 => I59 v56 A57 ∧ mo o F A F42 A57, m60, ⟨h0, hm39⟩, ?_⟩
              rintro v56 A57 ⟨hi59, hm59⟩
              replace h := h v56 A57 hi59
              refine ⟨?_, ?_⟩
              · intro c0
                replace h := h.1 c0
                obtain ⟨P62, hp62, h⟩ := h
                refine ⟨_, fX9_nextPerm hp62, ?_⟩
                rintro z64 F65 A66 ⟨p62, q62⟩
                have hm62 : mo o F A F65 A66 := hm59.trans q62
                replace h := h z64 F65 A66 p62
                exact ⟨⟨h.1, hm62⟩, h.2⟩
              · intro c0
                replace h := h.2 c0
                refine ⟨h.1, ?_⟩
                replace h := h.2
                refine ⟨h.1, ?_⟩
                replace h := h.2
                intro A72 e72
                replace h := h A72 e72
                have hm72 : mo o F A F42 A72 := by rw [e72]; exact hm59.upA (by omega)
                refine ⟨h.1, ?_⟩
                replace h := h.2
                exact ⟨⟨h.1, hm72⟩, h.2⟩
        · intro c0
          replace h := h.2 c0
          obtain ⟨P75, hp75, h⟩ := h
          refine ⟨_, hp75, ?_⟩
          intro z77 p75
          replace h := h z77 p75
          refine ⟨?_, ?_⟩
          · intro c0
            replace h := h.1 c0
            refine ⟨h.1, ?_⟩
            replace h := h.2
            intro A82 e82
            replace h := h A82 e82
            have hm82 : mo o F A F22 A82 := by rw [e82]; exact hm25.upA (by omega)
            refine ⟨h.1, ?_⟩
            replace h := h.2
            intro F85 e85
            replace h := h F85 e85
            have hm85 : mo o F A F85 A82 := by rw [e85]; exact hm82.upF
            refine ⟨h.1, ?_⟩
            replace h := h.2
            exact ⟨⟨h.1, hm85⟩, h.2⟩
          · intro c0
            replace h := h.2 c0
            refine ⟨h.1, ?_⟩
            replace h := h.2
            exact ⟨⟨h.1, hm25⟩, h.2⟩
      · intro c0
        replace h := h.2 c0
        refine ⟨h.1, ?_⟩
        replace h := h.2
        obtain ⟨P90, hp90, h⟩ := h
        refine ⟨_, hp90, ?_⟩
        intro z92 p90
        replace h := h z92 p90
        refine ⟨?_, ?_⟩
        · intro c0
          replace h := h.1 c0
          intro F96 e96
          replace h := h F96 e96
          have hm96 : mo o F A F96 A := by rw [e96]; exact hm.upF
          obtain ⟨I102, m103, h0, h⟩ := h
          refine ⟨fun v98 F99 A100 => I102 v98 F99 A100 ∧ mo o F A F99 A100, m103, ⟨h0, hm96⟩, ?_⟩
          rintro v98 F99 A100 ⟨hi102, hm102⟩
          replace h := h v98 F99 A100 hi102
          refine ⟨h.1, ?_⟩
          replace h := h.2
          refine ⟨?_, ?_⟩
          · intro c0
            replace h := h.1 c0
            obtain ⟨I111, m112, h0, h⟩ := h
            refine ⟨fun v106 v107 F108 A109 => I111 v106 v107 F108 A109 ∧ mo o F A F108 A109, m112, ⟨h0, hm102⟩, ?_⟩
            rintro v106 v107 F108 A109 ⟨hi111, hm111⟩
            replace h := h v106 v107 F108 A109 hi111
            refine ⟨?_, ?_⟩
            · intro c0
              replace h := h.1 c0
              refine ⟨?_, ?_⟩
              · intro c0
                replace h := h.1 c0
                refine ⟨h.1, ?_⟩
                replace h := h.2
                exact ⟨h, hm111⟩
              · intro c0
                replace h := h.2 c0
                exact ⟨h, hm111⟩
            · intro c0
              replace h := h.2 c0
              obtain ⟨P116, hp116, h⟩ := h
              refine ⟨_, fX9_wholeOf hp116, ?_⟩
              rintro z118 F119 A120 ⟨p116, q116⟩
              have hm116 : mo o F A F119 A120 := hm111.trans q116
              replace h := h z118 F119 A120 p116
              refine ⟨?_, ?_⟩
              · intro c0
                replace h := h.1 c0
                obtain ⟨P125, hp125, h⟩ := h
                refine ⟨_, fX9_nextPerm hp125, ?_⟩
                rintro z127 F128 A129 ⟨p125, q125⟩
                have hm125 : mo o F A F128 A129 := hm116.trans q125
                replace h := h z127 F128 A129 p125
                exact ⟨⟨h.1, hm125⟩, h.2⟩
              · intro c0
                replace h := h.2 c0
                obtain ⟨I136, m137, h0, h⟩ := h
                refine ⟨fun v133 A134 => I136 v133 A134 ∧ mo o F A F119 A134, m137, ⟨h0, hm116⟩, ?_⟩
                rintro v133 A134 ⟨hi136, hm136⟩
                replace h := h v133 A134 hi136
                refine ⟨?_, ?_⟩
                · intro c0
                  replace h := h.1 c0
                  obtain ⟨P139, hp139, h⟩ := h
                  refine ⟨_, fX9_nextPerm hp139, ?_⟩
                  rintro z141 F142 A143 ⟨p139, q139⟩
                  have hm139 : mo o F A F142 A143 := hm136.trans q139
                  replace h := h z141 F142 A143 p139
                  exact ⟨⟨h.1, hm139⟩, h.2⟩
                · intro c0
                  replace h := h.2 c0
                  refine ⟨h.1, ?_⟩
                  replace h := h.2
                  refine ⟨h.1, ?_⟩
                  replace h := h.2
                  intro A149 e149
                  replace h := h A149 e149
                  have hm149 : mo o F A F119 A149 := by rw [e149]; exact hm136.upA (by omega)
                  refine ⟨h.1, ?_⟩
                  replace h := h.2
                  exact ⟨⟨h.1, hm149⟩, h.2⟩
          · intro c0
            replace h := h.2 c0
            obtain ⟨P152, hp152, h⟩ := h
            refine ⟨_, hp152, ?_⟩
            intro z154 p152
            replace h := h z154 p152
            refine ⟨?_, ?_⟩
            · intro c0
              replace h := h.1 c0
              refine ⟨h.1, ?_⟩
              replace h := h.2
              intro A159 e159
              replace h := h A159 e159
              have hm159 : mo o F A F99 A159 := by rw [e159]; exact hm102.upA (by omega)
              refine ⟨h.1, ?_⟩
              replace h := h.2
              intro F162 e162
              replace h := h F162 e162
              have hm162 : mo o F A F162 A159 := by rw [e162]; exact hm159.upF
              refine ⟨h.1, ?_⟩
              replace h := h.2
              exact ⟨⟨h.1, hm162⟩, h.2⟩
            · intro c0
              replace h := h.2 c0
              refine ⟨h.1, ?_⟩
              replace h := h.2
              exact ⟨⟨h.1, hm102⟩, h.2⟩
        · intro c0
          replace h := h.2 c0
          exact ⟨h, hm⟩
theorem fX9_harm {o : Nat} {a1 : Int} {F : jFl} {A : jAr} {Q : Int → jFl → jAr → Prop} (h : wpX9_harm o a1 F A Q) : wpX9_harm o a1 F A (fun z F9 A9 => Q z F9 A9 ∧ mo o F A F9 A9) := by
  unfold wpX9_harm at *
  have hm : mo o F A F A := mo.refl o F A
  obtain ⟨P1, hp1, h⟩ := h
  refine ⟨_, hp1, ?_⟩
  intro z3 p1
  replace h := h z3 p1
  refine ⟨?_, ?_⟩
  · intro c0
    replace h := h.1 c0
    obtain ⟨P7, hp7, h⟩ := h
    refine ⟨_, fX9_sitsNow hp7, ?_⟩
    rintro z9 F10 A11 ⟨p7, q7⟩
    have hm7 : mo o F A F10 A11 := hm.trans q7
    replace h := h z9 F10 A11 p7
    obtain ⟨I20, m21, h0, h⟩ := h
    refine ⟨fun v15 v16 F17 A18 => I20 v15 v16 F17 A18 ∧ mo o F A F17 A18, m21, ⟨h0, hm7⟩, ?_⟩
    rintro v15 v16 F17 A18 ⟨hi20, hm20⟩
    replace h := h v15 v16 F17 A18 hi20
    refine ⟨?_, ?_⟩
    · intro c0
      replace h := h.1 c0
      exact ⟨h, hm20⟩
    · intro c0
      replace h := h.2 c0
      refine ⟨h.1, ?_⟩
      replace h := h.2
      intro v24 e24
      replace h := h v24 e24
      obtain ⟨P25, hp25, h⟩ := h
      refine ⟨_, fX9_loads hp25, ?_⟩
      rintro F28 A29 ⟨p25, q25⟩
      have hm25 : mo o F A F28 A29 := hm20.trans q25
      replace h := h F28 A29 p25
      obtain ⟨P33, hp33, h⟩ := h
      refine ⟨_, fX9_saysAsTold hp33, ?_⟩
      rintro F36 A37 ⟨p33, q33⟩
      have hm33 : mo o F A F36 A37 := hm25.trans q33
      replace h := h F36 A37 p33
      obtain ⟨P41, hp41, h⟩ := h
      refine ⟨_, hp41, ?_⟩
      intro z43 p41
      replace h := h z43 p41
      refine ⟨h.1, ?_⟩
      replace h := h.2
      intro F47 e47
      replace h := h F47 e47
      have hm47 : mo o F A F47 A37 := by rw [e47]; exact hm33.upF
      refine ⟨h.1, ?_⟩
      replace h := h.2
      intro F50 e50
      replace h := h F50 e50
      have hm50 : mo o F A F50 A37 := by rw [e50]; exact hm47.upF
      obtain ⟨I55, m56, h0, h⟩ := h
      refine ⟨fun v52 A53 => I55 v52 A53 ∧ mo o F A F50 A53, m56, ⟨h0, hm50⟩, ?_⟩
      rintro v52 A53 ⟨hi55, hm55⟩
      replace h := h v52 A53 hi55
      refine ⟨?_, ?_⟩
      · intro c0
        replace h := h.1 c0
        obtain ⟨P58, hp58, h⟩ := h
        refine ⟨_, hp58, ?_⟩
        intro z60 p58
        replace h := h z60 p58
        refine ⟨h.1, ?_⟩
        replace h := h.2
        intro v64 e64
        replace h := h v64 e64
        intro z66 e66
        replace h := h z66 e66
        refine ⟨h.1, ?_⟩
        replace h := h.2
        intro v69 e69
        replace h := h v69 e69
        refine ⟨h.1, ?_⟩
        replace h := h.2
        exact ⟨⟨h.1, hm55⟩, h.2⟩
      · intro c0
        replace h := h.2 c0
        refine ⟨h.1, ?_⟩
        replace h := h.2
        refine ⟨h.1, ?_⟩
        replace h := h.2
        intro A73 e73
        replace h := h A73 e73
        have hm73 : mo o F A F50 A73 := by rw [e73]; exact hm55.upA (by omega)
        refine ⟨h.1, ?_⟩
        replace h := h.2
        exact ⟨⟨h.1, hm73⟩, h.2⟩
  · intro c0
    replace h := h.2 c0
    exact ⟨h, hm⟩
theorem fX9_law {o : Nat} {a1 : Int} {a2 : Int} {F : jFl} {A : jAr} {Q : Int → jFl → jAr → Prop} (h : wpX9_law o a1 a2 F A Q) : wpX9_law o a1 a2 F A (fun z F9 A9 => Q z F9 A9 ∧ mo o F A F9 A9) := by
  unfold wpX9_law at *
  have hm : mo o F A F A := mo.refl o F A
  obtain ⟨P1, hp1, h⟩ := h
  refine ⟨_, hp1, ?_⟩
  intro z3 p1
  replace h := h z3 p1
  refine ⟨?_, ?_⟩
  · intro c0
    replace h := h.1 c0
    refine ⟨h.1, ?_⟩
    replace h := h.2
    refine ⟨h.1, ?_⟩
    replace h := h.2
    refine ⟨h.1, ?_⟩
    replace h := h.2
    obtain ⟨P10, hp10, h⟩ := h
    refine ⟨_, hp10, ?_⟩
    intro z12 p10
    replace h := h z12 p10
    refine ⟨?_, ?_⟩
    · intro c0
      replace h := h.1 c0
      refine ⟨?_, ?_, ?_, ?_, ?_, ?_, ?_⟩
      · intro c0
        replace h := h.1 c0
        refine ⟨h.1, ?_⟩
        replace h := h.2
        exact ⟨h, hm⟩
      · intro c0
        replace h := h.2.1 c0
        refine ⟨h.1, ?_⟩
        replace h := h.2
        exact ⟨h, hm⟩
      · intro c0
        replace h := h.2.2.1 c0
        refine ⟨h.1, ?_⟩
        replace h := h.2
        exact ⟨h, hm⟩
      · intro c0
        replace h := h.2.2.2.1 c0
        obtain ⟨I20, m21, h0, h⟩ := h
        refine ⟨I20, m21, h0, ?_⟩
        intro v19 hi20
        replace h := h v19 hi20
        refine ⟨h.1, ?_⟩
        replace h := h.2
        refine ⟨?_, ?_⟩
        · intro c0
          replace h := h.1 c0
          exact ⟨h, hm⟩
        · intro c0
          replace h := h.2 c0
          refine ⟨h.1, ?_⟩
          replace h := h.2
          exact h
      · intro c0
        replace h := h.2.2.2.2.1 c0
        obtain ⟨I27, m28, h0, h⟩ := h
        refine ⟨I27, m28, h0, ?_⟩
        intro v25 v26 hi27
        replace h := h v25 v26 hi27
        refine ⟨h.1, ?_⟩
        replace h := h.2
        refine ⟨h.1, ?_⟩
        replace h := h.2
        refine ⟨h.1, ?_⟩
        replace h := h.2
        refine ⟨?_, ?_⟩
        · intro c0
          replace h := h.1 c0
          exact ⟨h, hm⟩
        · intro c0
          replace h := h.2 c0
          refine ⟨h.1, ?_⟩
          replace h := h.2
          refine ⟨h.1, ?_⟩
          replace h := h.2
          refine ⟨h.1, ?_⟩
          replace h := h.2
          intro v36 e36
          replace h := h v36 e36
          refine ⟨h.1, ?_⟩
          replace h := h.2
          exact h
      · intro c0
        replace h := h.2.2.2.2.2.1 c0
        obtain ⟨P38, hp38, h⟩ := h
        refine ⟨_, hp38, ?_⟩
        intro z40 p38
        replace h := h z40 p38
        refine ⟨?_, ?_⟩
        · intro c0
          replace h := h.1 c0
          exact ⟨h, hm⟩
        · intro c0
          replace h := h.2 c0
          obtain ⟨P44, hp44, h⟩ := h
          refine ⟨_, fX9_childrenOf hp44, ?_⟩
          rintro z46 F47 A48 ⟨p44, q44⟩
          have hm44 : mo o F A F47 A48 := hm.trans q44
          replace h := h z46 F47 A48 p44
          exact ⟨h, hm44⟩
      · intro c0 c1 c2 c3 c4 c5
        replace h := h.2.2.2.2.2.2 c0 c1 c2 c3 c4 c5
        exact ⟨h, hm⟩
    · intro c0
      replace h := h.2 c0
      refine ⟨h.1, ?_⟩
      replace h := h.2
      exact ⟨h, hm⟩
  · intro c0
    replace h := h.2 c0
    exact ⟨h, hm⟩
theorem fX9_odds {o : Nat} {a1 : Int} {F : jFl} {A : jAr} {Q : Int → jFl → jAr → Prop} (h : wpX9_odds o a1 F A Q) : wpX9_odds o a1 F A (fun z F9 A9 => Q z F9 A9 ∧ mo o F A F9 A9) := by
  unfold wpX9_odds at *
  have hm : mo o F A F A := mo.refl o F A
  obtain ⟨P1, hp1, h⟩ := h
  refine ⟨_, hp1, ?_⟩
  intro z3 p1
  replace h := h z3 p1
  refine ⟨?_, ?_⟩
  · intro c0
    replace h := h.1 c0
    exact ⟨h, hm⟩
  · intro c0
    replace h := h.2 c0
    refine ⟨h.1, ?_⟩
    replace h := h.2
    refine ⟨?_, ?_⟩
    · intro c0
      replace h := h.1 c0
      exact ⟨h, hm⟩
    · intro c0
      replace h := h.2 c0
      obtain ⟨P9, hp9, h⟩ := h
      refine ⟨_, fX9_childrenOf hp9, ?_⟩
      rintro z11 F12 A13 ⟨p9, q9⟩
      have hm9 : mo o F A F12 A13 := hm.trans q9
      replace h := h z11 F12 A13 p9
      refine ⟨h.1, ?_⟩
      replace h := h.2
      refine ⟨h.1, ?_⟩
      replace h := h.2
      refine ⟨h.1, ?_⟩
      replace h := h.2
      exact ⟨h, hm9⟩
theorem fX9_yearGoes {o : Nat} {a1 : Int} {F : jFl} {A : jAr} {Q : jFl → jAr → Prop} (h : wpX9_yearGoes o a1 F A Q) : wpX9_yearGoes o a1 F A (fun F9 A9 => Q F9 A9 ∧ mo o F A F9 A9) := by
  unfold wpX9_yearGoes at *
  have hm : mo o F A F A := mo.refl o F A
  refine ⟨h.1, ?_⟩
  replace h := h.2
  refine ⟨h.1, ?_⟩
  replace h := h.2
  refine ⟨h.1, ?_⟩
  replace h := h.2
  intro A4 e4
  replace h := h A4 e4
  have hm4 : mo o F A F A4 := by rw [e4]; exact hm.upA (by omega)
  refine ⟨h.1, ?_⟩
  replace h := h.2
  refine ⟨h.1, ?_⟩
  replace h := h.2
  refine ⟨h.1, ?_⟩
  replace h := h.2
  refine ⟨?_, ?_⟩
  · intro c0
    replace h := h.1 c0
    exact ⟨h, hm4⟩
  · intro c0
    replace h := h.2 c0
    refine ⟨h.1, ?_⟩
    replace h := h.2
    refine ⟨?_, ?_⟩
    · intro c0
      replace h := h.1 c0
      exact ⟨h, hm4⟩
    · intro c0
      replace h := h.2 c0
      refine ⟨h.1, ?_⟩
      replace h := h.2
      obtain ⟨P13, hp13, h⟩ := h
      refine ⟨_, fX9_draw hp13, ?_⟩
      rintro z15 F16 A17 ⟨p13, q13⟩
      have hm13 : mo o F A F16 A17 := hm4.trans q13
      replace h := h z15 F16 A17 p13
      obtain ⟨P21, hp21, h⟩ := h
      refine ⟨_, fX9_renews hp21, ?_⟩
      rintro F24 A25 ⟨p21, q21⟩
      have hm21 : mo o F A F24 A25 := hm13.trans q21
      replace h := h F24 A25 p21
      exact ⟨h, hm21⟩
theorem fX9_sits {o : Nat} {a1 : Int} {a2 : Int} {a3 : Int} {F : jFl} {A : jAr} {Q : Int → jFl → jAr → Prop} (h : wpX9_sits o a1 a2 a3 F A Q) : wpX9_sits o a1 a2 a3 F A (fun z F9 A9 => Q z F9 A9 ∧ mo o F A F9 A9) := by
  unfold wpX9_sits at *
  have hm : mo o F A F A := mo.refl o F A
  obtain ⟨P1, hp1, h⟩ := h
  refine ⟨_, hp1, ?_⟩
  intro z3 p1
  replace h := h z3 p1
  refine ⟨?_, ?_⟩
  · intro c0
    replace h := h.1 c0
    exact ⟨h, hm⟩
  · intro c0
    replace h := h.2 c0
    obtain ⟨P7, hp7, h⟩ := h
    refine ⟨_, hp7, ?_⟩
    intro z9 p7
    replace h := h z9 p7
    refine ⟨?_, ?_⟩
    · intro c0
      replace h := h.1 c0
      obtain ⟨P13, hp13, h⟩ := h
      refine ⟨_, fX9_sitsNow hp13, ?_⟩
      rintro z15 F16 A17 ⟨p13, q13⟩
      have hm13 : mo o F A F16 A17 := hm.trans q13
      replace h := h z15 F16 A17 p13
      refine ⟨h.1, ?_⟩
      replace h := h.2
      refine ⟨h.1, ?_⟩
      replace h := h.2
      refine ⟨h.1, ?_⟩
      replace h := h.2
      intro v24 e24
      replace h := h v24 e24
      refine ⟨?_, ?_⟩
      · intro c0
        replace h := h.1 c0
        refine ⟨?_, ?_⟩
        · intro c0
          replace h := h.1 c0
          refine ⟨h.1, ?_⟩
          replace h := h.2
          obtain ⟨P28, hp28, h⟩ := h
          refine ⟨_, hp28, ?_⟩
          intro z30 p28
          replace h := h z30 p28
          refine ⟨?_, ?_⟩
          · intro c0
            replace h := h.1 c0
            exact ⟨h, hm13⟩
          · intro c0
            replace h := h.2 c0
            refine ⟨h.1, ?_⟩
            replace h := h.2
            exact ⟨h, hm13⟩
        · intro c0
          replace h := h.2 c0
          exact ⟨h, hm13⟩
      · intro c0
        replace h := h.2 c0
        refine ⟨h.1, ?_⟩
        replace h := h.2
        exact ⟨h, hm13⟩
    · intro c0
      replace h := h.2 c0
      exact ⟨h, hm⟩
theorem fX9_sitting {o : Nat} {a1 : Int} {a2 : Int} {F : jFl} {A : jAr} {Q : Int → jFl → jAr → Prop} (h : wpX9_sitting o a1 a2 F A Q) : wpX9_sitting o a1 a2 F A (fun z F9 A9 => Q z F9 A9 ∧ mo o F A F9 A9) := by
  unfold wpX9_sitting at *
  have hm : mo o F A F A := mo.refl o F A
  obtain ⟨P1, hp1, h⟩ := h
  refine ⟨_, hp1, ?_⟩
  intro z3 p1
  replace h := h z3 p1
  refine ⟨?_, ?_⟩
  · intro c0
    replace h := h.1 c0
    exact ⟨h, hm⟩
  · intro c0
    replace h := h.2 c0
    obtain ⟨P7, hp7, h⟩ := h
    refine ⟨_, hp7, ?_⟩
    intro z9 p7
    replace h := h z9 p7
    refine ⟨?_, ?_⟩
    · intro c0
      replace h := h.1 c0
      obtain ⟨P13, hp13, h⟩ := h
      refine ⟨_, fX9_sitsNow hp13, ?_⟩
      rintro z15 F16 A17 ⟨p13, q13⟩
      have hm13 : mo o F A F16 A17 := hm.trans q13
      replace h := h z15 F16 A17 p13
      obtain ⟨I23, m24, h0, h⟩ := h
      refine ⟨I23, m24, h0, ?_⟩
      intro v21 v22 hi23
      replace h := h v21 v22 hi23
      refine ⟨?_, ?_⟩
      · intro c0
        replace h := h.1 c0
        exact ⟨h, hm13⟩
      · intro c0
        replace h := h.2 c0
        refine ⟨h.1, ?_⟩
        replace h := h.2
        refine ⟨h.1, ?_⟩
        replace h := h.2
        intro z29 e29
        replace h := h z29 e29
        refine ⟨h.1, ?_⟩
        replace h := h.2
        intro v32 e32
        replace h := h v32 e32
        refine ⟨h.1, ?_⟩
        replace h := h.2
        exact h
    · intro c0
      replace h := h.2 c0
      exact ⟨h, hm⟩
theorem fX9_council {o : Nat} {a1 : Int} {F : jFl} {A : jAr} {Q : Int → jFl → jAr → Prop} (h : wpX9_council o a1 F A Q) : wpX9_council o a1 F A (fun z F9 A9 => Q z F9 A9 ∧ mo o F A F9 A9) := by
  unfold wpX9_council at *
  have hm : mo o F A F A := mo.refl o F A
  obtain ⟨P1, hp1, h⟩ := h
  refine ⟨_, hp1, ?_⟩
  intro z3 p1
  replace h := h z3 p1
  refine ⟨?_, ?_⟩
  · intro c0
    replace h := h.1 c0
    intro F7 e7
    replace h := h F7 e7
    have hm7 : mo o F A F7 A := by rw [e7]; exact hm.upF
    obtain ⟨P9, hp9, h⟩ := h
    refine ⟨_, fX9_takesTape hp9, ?_⟩
    rintro F12 A13 ⟨p9, q9⟩
    have hm9 : mo o F A F12 A13 := hm7.trans q9
    replace h := h F12 A13 p9
    obtain ⟨P17, hp17, h⟩ := h
    refine ⟨_, fX9_rowing hp17, ?_⟩
    rintro F20 A21 ⟨p17, q17⟩
    have hm17 : mo o F A F20 A21 := hm9.trans q17
    replace h := h F20 A21 p17
    obtain ⟨P25, hp25, h⟩ := h
    refine ⟨_, fX9_lex hp25, ?_⟩
    rintro F28 A29 ⟨p25, q25⟩
    have hm25 : mo o F A F28 A29 := hm17.trans q25
    replace h := h F28 A29 p25
    obtain ⟨K37, hk37, h⟩ := h
    refine ⟨fun F34 A35 => K37 F34 A35 ∧ mo o F A F34 A35, ?_, ?_⟩
    · rintro F34 A35 ⟨k37, hm37⟩
      replace h := hk37 F34 A35 k37
      intro F40 e40
      replace h := h F40 e40
      have hm40 : mo o F A F40 A35 := by rw [e40]; exact hm37.upF
      intro F42 e42
      replace h := h F42 e42
      have hm42 : mo o F A F42 A35 := by rw [e42]; exact hm40.upF
      refine ⟨?_, ?_⟩
      · intro c0
        replace h := h.1 c0
        obtain ⟨P45, hp45, h⟩ := h
        refine ⟨_, fX9_keeps hp45, ?_⟩
        rintro F48 A49 ⟨p45, q45⟩
        have hm45 : mo o F A F48 A49 := hm42.trans q45
        replace h := h F48 A49 p45
        refine ⟨h.1, ?_⟩
        replace h := h.2
        intro A54 e54
        replace h := h A54 e54
        have hm54 : mo o F A F48 A54 := by rw [e54]; exact hm45.upA (by omega)
        refine ⟨h.1, ?_⟩
        replace h := h.2
        intro A57 e57
        replace h := h A57 e57
        have hm57 : mo o F A F48 A57 := by rw [e57]; exact hm54.upA (by omega)
        obtain ⟨I62, m63, h0, h⟩ := h
        refine ⟨fun v59 A60 => I62 v59 A60 ∧ mo o F A F48 A60, m63, ⟨h0, hm57⟩, ?_⟩
        rintro v59 A60 ⟨hi62, hm62⟩
        replace h := h v59 A60 hi62
        refine ⟨h.1, ?_⟩
        replace h := h.2
        refine ⟨?_, ?_⟩
        · intro c0
          replace h := h.1 c0
          refine ⟨h.1, ?_⟩
          replace h := h.2
          exact ⟨h, hm62⟩
        · intro c0
          replace h := h.2 c0
          refine ⟨h.1, ?_⟩
          replace h := h.2
          refine ⟨h.1, ?_⟩
          replace h := h.2
          intro A69 e69
          replace h := h A69 e69
          have hm69 : mo o F A F48 A69 := by rw [e69]; exact hm62.upA (by omega)
          refine ⟨h.1, ?_⟩
          replace h := h.2
          exact ⟨⟨h.1, hm69⟩, h.2⟩
      · intro c0
        replace h := h.2 c0
        obtain ⟨P72, hp72, h⟩ := h
        refine ⟨_, fX9_refuses hp72, ?_⟩
        rintro z74 F75 A76 ⟨p72, q72⟩
        have hm72 : mo o F A F75 A76 := hm42.trans q72
        replace h := h z74 F75 A76 p72
        exact ⟨h, hm72⟩
    · refine ⟨?_, ?_⟩
      · intro c0
        replace h := h.1 c0
        exact ⟨h, hm25⟩
      · intro c0
        replace h := h.2 c0
        refine ⟨?_, ?_⟩
        · intro c0
          replace h := h.1 c0
          exact ⟨h, hm25⟩
        · intro c0
          replace h := h.2 c0
          obtain ⟨P81, hp81, h⟩ := h
          refine ⟨_, fX9_blame hp81, ?_⟩
          rintro F84 A85 ⟨p81, q81⟩
          have hm81 : mo o F A F84 A85 := hm25.trans q81
          replace h := h F84 A85 p81
          exact ⟨h, hm81⟩
  · intro c0
    replace h := h.2 c0
    intro F89 e89
    replace h := h F89 e89
    have hm89 : mo o F A F89 A := by rw [e89]; exact hm.upF
    obtain ⟨P91, hp91, h⟩ := h
    refine ⟨_, fX9_refuses hp91, ?_⟩
    rintro z93 F94 A95 ⟨p91, q91⟩
    have hm91 : mo o F A F94 A95 := hm89.trans q91
    replace h := h z93 F94 A95 p91
    exact ⟨h, hm91⟩
theorem fX9_exchanged {o : Nat} {F : jFl} {A : jAr} {Q : Int → jFl → jAr → Prop} (h : wpX9_exchanged o F A Q) : wpX9_exchanged o F A (fun z F9 A9 => Q z F9 A9 ∧ mo o F A F9 A9) := by
  unfold wpX9_exchanged at *
  have hm : mo o F A F A := mo.refl o F A
  intro F1 e1
  replace h := h F1 e1
  have hm1 : mo o F A F1 A := by rw [e1]; exact hm.upF
  obtain ⟨P3, hp3, h⟩ := h
  refine ⟨_, fX9_goodness hp3, ?_⟩
  rintro z5 F6 A7 ⟨p3, q3⟩
  have hm3 : mo o F A F6 A7 := hm1.trans q3
  replace h := h z5 F6 A7 p3
  obtain ⟨I16, m17, h0, h⟩ := h
  refine ⟨fun v11 v12 F13 A14 => I16 v11 v12 F13 A14 ∧ mo o F A F13 A14, m17, ⟨h0, hm3⟩, ?_⟩
  rintro v11 v12 F13 A14 ⟨hi16, hm16⟩
  replace h := h v11 v12 F13 A14 hi16
  refine ⟨?_, ?_⟩
  · intro c0
    replace h := h.1 c0
    exact ⟨h, hm16⟩
  · intro c0
    replace h := h.2 c0
    obtain ⟨I26, m27, h0, h⟩ := h
    refine ⟨fun v19 v20 v21 v22 F23 A24 => I26 v19 v20 v21 v22 F23 A24 ∧ mo o F A F23 A24, m27, ⟨h0, hm16⟩, ?_⟩
    rintro v19 v20 v21 v22 F23 A24 ⟨hi26, hm26⟩
    replace h := h v19 v20 v21 v22 F23 A24 hi26
    refine ⟨?_, ?_⟩
    · intro c0
      replace h := h.1 c0
      intro z30 e30
      replace h := h z30 e30
      obtain ⟨K36, hk36, h⟩ := h
      refine ⟨fun F33 A34 => K36 F33 A34 ∧ mo o F A F33 A34, ?_, ?_⟩
      · rintro F33 A34 ⟨k36, hm36⟩
        replace h := hk36 F33 A34 k36
        intro z40 e40
        replace h := h z40 e40
        refine ⟨h.1, ?_⟩
        replace h := h.2
        intro F43 e43
        replace h := h F43 e43
        have hm43 : mo o F A F43 A34 := by rw [e43]; exact hm36.upF
        exact ⟨⟨h.1, hm43⟩, h.2⟩
      · refine ⟨?_, ?_⟩
        · intro c0
          replace h := h.1 c0
          exact ⟨h, hm26⟩
        · intro c0
          replace h := h.2 c0
          obtain ⟨P45, hp45, h⟩ := h
          refine ⟨_, fX9_changes hp45, ?_⟩
          rintro F48 A49 ⟨p45, q45⟩
          have hm45 : mo o F A F48 A49 := hm26.trans q45
          replace h := h F48 A49 p45
          exact ⟨h, hm45⟩
    · intro c0
      replace h := h.2 c0
      refine ⟨h.1, ?_⟩
      replace h := h.2
      intro v54 e54
      replace h := h v54 e54
      obtain ⟨I62, m63, h0, h⟩ := h
      refine ⟨fun v55 v56 v57 v58 F59 A60 => I62 v55 v56 v57 v58 F59 A60 ∧ mo o F A F59 A60, m63, ⟨h0, hm26⟩, ?_⟩
      rintro v55 v56 v57 v58 F59 A60 ⟨hi62, hm62⟩
      replace h := h v55 v56 v57 v58 F59 A60 hi62
      refine ⟨?_, ?_⟩
      · intro c0
        replace h := h.1 c0
        refine ⟨h.1, ?_⟩
        replace h := h.2
        exact ⟨⟨h.1, hm62⟩, h.2⟩
      · intro c0
        replace h := h.2 c0
        obtain ⟨P66, hp66, h⟩ := h
        refine ⟨_, fX9_changes hp66, ?_⟩
        rintro F69 A70 ⟨p66, q66⟩
        have hm66 : mo o F A F69 A70 := hm62.trans q66
        replace h := h F69 A70 p66
        obtain ⟨P74, hp74, h⟩ := h
        refine ⟨_, fX9_goodness hp74, ?_⟩
        rintro z76 F77 A78 ⟨p74, q74⟩
        have hm74 : mo o F A F77 A78 := hm66.trans q74
        replace h := h z76 F77 A78 p74
        obtain ⟨P82, hp82, h⟩ := h
        refine ⟨_, fX9_changes hp82, ?_⟩
        rintro F85 A86 ⟨p82, q82⟩
        have hm82 : mo o F A F85 A86 := hm74.trans q82
        replace h := h F85 A86 p82
        refine ⟨?_, ?_⟩
        · intro c0
          replace h := h.1 c0
          refine ⟨h.1, ?_⟩
          replace h := h.2
          exact ⟨⟨h.1, hm82⟩, h.2⟩
        · intro c0
          replace h := h.2 c0
          refine ⟨h.1, ?_⟩
          replace h := h.2
          exact ⟨⟨h.1, hm82⟩, h.2⟩
theorem fX9_lawing {o : Nat} {F : jFl} {A : jAr} {Q : jFl → jAr → Prop} (h : wpX9_lawing o F A Q) : wpX9_lawing o F A (fun F9 A9 => Q F9 A9 ∧ mo o F A F9 A9) := by
  unfold wpX9_lawing at *
  have hm : mo o F A F A := mo.refl o F A
  refine ⟨h.1, ?_⟩
  replace h := h.2
  intro z3 e3
  replace h := h z3 e3
  obtain ⟨P5, hp5, h⟩ := h
  refine ⟨_, fX9_counts hp5, ?_⟩
  rintro z7 F8 A9 ⟨p5, q5⟩
  have hm5 : mo o F A F8 A9 := hm.trans q5
  replace h := h z7 F8 A9 p5
  refine ⟨?_, ?_⟩
  · intro c0
    replace h := h.1 c0
    refine ⟨h.1, ?_⟩
    replace h := h.2
    refine ⟨h.1, ?_⟩
    replace h := h.2
    intro v16 e16
    replace h := h v16 e16
    obtain ⟨P17, hp17, h⟩ := h
    refine ⟨_, fX9_fresh hp17, ?_⟩
    rintro z19 F20 A21 ⟨p17, q17⟩
    have hm17 : mo o F A F20 A21 := hm5.trans q17
    replace h := h z19 F20 A21 p17
    refine ⟨h.1, ?_⟩
    replace h := h.2
    intro A26 e26
    replace h := h A26 e26
    have hm26 : mo o F A F20 A26 := by rw [e26]; exact hm17.upA (by omega)
    refine ⟨h.1, ?_⟩
    replace h := h.2
    intro A29 e29
    replace h := h A29 e29
    have hm29 : mo o F A F20 A29 := by rw [e29]; exact hm26.upA (by omega)
    obtain ⟨K35, hk35, h⟩ := h
    refine ⟨fun F32 A33 => K35 F32 A33 ∧ mo o F A F32 A33, ?_, ?_⟩
    · rintro F32 A33 ⟨k35, hm35⟩
      replace h := hk35 F32 A33 k35
      obtain ⟨P38, hp38, h⟩ := h
      refine ⟨_, fX9_must hp38, ?_⟩
      rintro F41 A42 ⟨p38, q38⟩
      have hm38 : mo o F A F41 A42 := hm35.trans q38
      replace h := h F41 A42 p38
      obtain ⟨K50, hk50, h⟩ := h
      refine ⟨fun F47 A48 => K50 F47 A48 ∧ mo o F A F47 A48, ?_, ?_⟩
      · rintro F47 A48 ⟨k50, hm50⟩
        replace h := hk50 F47 A48 k50
        refine ⟨?_, ?_⟩
        · intro c0
          replace h := h.1 c0
          refine ⟨h.1, ?_⟩
          replace h := h.2
          intro A55 e55
          replace h := h A55 e55
          have hm55 : mo o F A F47 A55 := by rw [e55]; exact hm50.upA (by omega)
          refine ⟨h.1, ?_⟩
          replace h := h.2
          intro A58 e58
          replace h := h A58 e58
          have hm58 : mo o F A F47 A58 := by rw [e58]; exact hm55.upA (by omega)
          obtain ⟨I63, m64, h0, h⟩ := h
          refine ⟨fun v60 A61 => I63 v60 A61 ∧ mo o F A F47 A61, m64, ⟨h0, hm58⟩, ?_⟩
          rintro v60 A61 ⟨hi63, hm63⟩
          replace h := h v60 A61 hi63
          refine ⟨h.1, ?_⟩
          replace h := h.2
          refine ⟨?_, ?_⟩
          · intro c0
            replace h := h.1 c0
            refine ⟨h.1, ?_⟩
            replace h := h.2
            refine ⟨h.1, ?_⟩
            replace h := h.2
            refine ⟨h.1, ?_⟩
            replace h := h.2
            intro A70 e70
            replace h := h A70 e70
            have hm70 : mo o F A F47 A70 := by rw [e70]; exact hm63.upA (by omega)
            exact ⟨h, hm70⟩
          · intro c0
            replace h := h.2 c0
            refine ⟨h.1, ?_⟩
            replace h := h.2
            refine ⟨h.1, ?_⟩
            replace h := h.2
            intro A74 e74
            replace h := h A74 e74
            have hm74 : mo o F A F47 A74 := by rw [e74]; exact hm63.upA (by omega)
            refine ⟨h.1, ?_⟩
            replace h := h.2
            exact ⟨⟨h.1, hm74⟩, h.2⟩
        · intro c0
          replace h := h.2 c0
          exact ⟨h, hm50⟩
      · refine ⟨?_, ?_⟩
        · intro c0
          replace h := h.1 c0
          exact ⟨h, hm38⟩
        · intro c0
          replace h := h.2 c0
          obtain ⟨P77, hp77, h⟩ := h
          refine ⟨_, fX9_rowing hp77, ?_⟩
          rintro F80 A81 ⟨p77, q77⟩
          have hm77 : mo o F A F80 A81 := hm38.trans q77
          replace h := h F80 A81 p77
          exact ⟨h, hm77⟩
    · refine ⟨?_, ?_⟩
      · intro c0
        replace h := h.1 c0
        exact ⟨h, hm29⟩
      · intro c0
        replace h := h.2 c0
        refine ⟨?_, ?_⟩
        · intro c0
          replace h := h.1 c0
          exact ⟨h, hm29⟩
        · intro c0
          replace h := h.2 c0
          obtain ⟨P86, hp86, h⟩ := h
          refine ⟨_, hp86, ?_⟩
          intro z88 p86
          replace h := h z88 p86
          refine ⟨?_, ?_⟩
          · intro c0
            replace h := h.1 c0
            exact ⟨h, hm29⟩
          · intro c0
            replace h := h.2 c0
            refine ⟨h.1, ?_⟩
            replace h := h.2
            intro A93 e93
            replace h := h A93 e93
            have hm93 : mo o F A F20 A93 := by rw [e93]; exact hm29.upA (by omega)
            obtain ⟨P95, hp95, h⟩ := h
            refine ⟨_, fX9_ahead hp95, ?_⟩
            rintro F98 A99 ⟨p95, q95⟩
            have hm95 : mo o F A F98 A99 := hm93.trans q95
            replace h := h F98 A99 p95
            exact ⟨h, hm95⟩
  · intro c0
    replace h := h.2 c0
    exact ⟨h, hm5⟩
theorem fX9_runs {o : Nat} {a1 : Int} {a2 : Int} {a3 : Int} {F : jFl} {A : jAr} {Q : Int → jFl → jAr → Prop} (h : wpX9_runs o a1 a2 a3 F A Q) : wpX9_runs o a1 a2 a3 F A (fun z F9 A9 => Q z F9 A9 ∧ mo o F A F9 A9) := by
  unfold wpX9_runs at *
  have hm : mo o F A F A := mo.refl o F A
  obtain ⟨P1, hp1, h⟩ := h
  refine ⟨_, hp1, ?_⟩
  intro z3 p1
  replace h := h z3 p1
  refine ⟨?_, ?_⟩
  · intro c0
    replace h := h.1 c0
    exact ⟨h, hm⟩
  · intro c0
    replace h := h.2 c0
    obtain ⟨P7, hp7, h⟩ := h
    refine ⟨_, hp7, ?_⟩
    intro z9 p7
    replace h := h z9 p7
    refine ⟨?_, ?_⟩
    · intro c0
      replace h := h.1 c0
      exact ⟨h, hm⟩
    · intro c0
      replace h := h.2 c0
      obtain ⟨P13, hp13, h⟩ := h
      refine ⟨_, hp13, ?_⟩
      intro z15 p13
      replace h := h z15 p13
      refine ⟨?_, ?_⟩
      · intro c0
        replace h := h.1 c0
        obtain ⟨I26, m27, h0, h⟩ := h
        refine ⟨fun v19 v20 v21 v22 F23 A24 => I26 v19 v20 v21 v22 F23 A24 ∧ mo o F A F23 A24, m27, ⟨h0, hm⟩, ?_⟩
        rintro v19 v20 v21 v22 F23 A24 ⟨hi26, hm26⟩
        replace h := h v19 v20 v21 v22 F23 A24 hi26
        refine ⟨?_, ?_⟩
        · intro c0
          replace h := h.1 c0
          refine ⟨?_, ?_⟩
          · intro c0
            replace h := h.1 c0
            intro z31 e31
            replace h := h z31 e31
            exact ⟨h, hm26⟩
          · intro c0
            replace h := h.2 c0
            exact ⟨h, hm26⟩
        · intro c0
          replace h := h.2 c0
          obtain ⟨P33, hp33, h⟩ := h
          refine ⟨_, fX9_copies hp33, ?_⟩
          rintro F36 A37 ⟨p33, q33⟩
          have hm33 : mo o F A F36 A37 := hm26.trans q33
          replace h := h F36 A37 p33
          obtain ⟨I46, m47, h0, h⟩ := h
          refine ⟨fun v41 v42 F43 A44 => I46 v41 v42 F43 A44 ∧ mo o F A F43 A44, m47, ⟨h0, hm33⟩, ?_⟩
          rintro v41 v42 F43 A44 ⟨hi46, hm46⟩
          replace h := h v41 v42 F43 A44 hi46
          obtain ⟨K49, hk49, h⟩ := h
          refine ⟨K49, ?_, ?_⟩
          · intro k49
            replace h := hk49 k49
            obtain ⟨P52, hp52, h⟩ := h
            refine ⟨_, hp52, ?_⟩
            intro z54 p52
            replace h := h z54 p52
            intro z58 e58
            replace h := h z58 e58
            refine ⟨h.1, ?_⟩
            replace h := h.2
            intro v61 e61
            replace h := h v61 e61
            obtain ⟨P62, hp62, h⟩ := h
            refine ⟨_, hp62, ?_⟩
            intro z64 p62
            replace h := h z64 p62
            intro z68 e68
            replace h := h z68 e68
            refine ⟨h.1, ?_⟩
            replace h := h.2
            intro v71 e71
            replace h := h v71 e71
            refine ⟨h.1, ?_⟩
            replace h := h.2
            exact ⟨⟨h.1, hm46⟩, h.2⟩
          · refine ⟨?_, ?_⟩
            · intro c0
              replace h := h.1 c0
              exact h
            · intro c0
              replace h := h.2 c0
              refine ⟨?_, ?_⟩
              · intro c0
                replace h := h.1 c0
                exact h
              · intro c0
                replace h := h.2 c0
                obtain ⟨P75, hp75, h⟩ := h
                refine ⟨_, fX9_yearGoes hp75, ?_⟩
                rintro F78 A79 ⟨p75, q75⟩
                have hm75 : mo o F A F78 A79 := hm46.trans q75
                replace h := h F78 A79 p75
                obtain ⟨P83, hp83, h⟩ := h
                refine ⟨_, hp83, ?_⟩
                intro z85 p83
                replace h := h z85 p83
                intro z89 e89
                replace h := h z89 e89
                refine ⟨h.1, ?_⟩
                replace h := h.2
                intro v92 e92
                replace h := h v92 e92
                refine ⟨h.1, ?_⟩
                replace h := h.2
                exact ⟨⟨h.1, hm75⟩, h.2⟩
      · intro c0
        replace h := h.2 c0
        exact ⟨h, hm⟩
theorem fX9_years {o : Nat} {a1 : Int} {F : jFl} {A : jAr} {Q : Int → jFl → jAr → Prop} (h : wpX9_years o a1 F A Q) : wpX9_years o a1 F A (fun z F9 A9 => Q z F9 A9 ∧ mo o F A F9 A9) := by
  unfold wpX9_years at *
  have hm : mo o F A F A := mo.refl o F A
  obtain ⟨P1, hp1, h⟩ := h
  refine ⟨_, hp1, ?_⟩
  intro z3 p1
  replace h := h z3 p1
  refine ⟨?_, ?_⟩
  · intro c0
    replace h := h.1 c0
    obtain ⟨P7, hp7, h⟩ := h
    refine ⟨_, fX9_refuses hp7, ?_⟩
    rintro z9 F10 A11 ⟨p7, q7⟩
    have hm7 : mo o F A F10 A11 := hm.trans q7
    replace h := h z9 F10 A11 p7
    exact ⟨h, hm7⟩
  · intro c0
    replace h := h.2 c0
    refine ⟨h.1, ?_⟩
    replace h := h.2
    refine ⟨?_, ?_⟩
    · intro c0
      replace h := h.1 c0
      obtain ⟨P18, hp18, h⟩ := h
      refine ⟨_, fX9_keeps hp18, ?_⟩
      rintro F21 A22 ⟨p18, q18⟩
      have hm18 : mo o F A F21 A22 := hm.trans q18
      replace h := h F21 A22 p18
      obtain ⟨I30, m31, h0, h⟩ := h
      refine ⟨fun v26 F27 A28 => I30 v26 F27 A28 ∧ mo o F A F27 A28, m31, ⟨h0, hm18⟩, ?_⟩
      rintro v26 F27 A28 ⟨hi30, hm30⟩
      replace h := h v26 F27 A28 hi30
      refine ⟨?_, ?_⟩
      · intro c0
        replace h := h.1 c0
        obtain ⟨P33, hp33, h⟩ := h
        refine ⟨_, hp33, ?_⟩
        intro z35 p33
        replace h := h z35 p33
        exact ⟨h, hm30⟩
      · intro c0
        replace h := h.2 c0
        obtain ⟨P38, hp38, h⟩ := h
        refine ⟨_, fX9_yearGoes hp38, ?_⟩
        rintro F41 A42 ⟨p38, q38⟩
        have hm38 : mo o F A F41 A42 := hm30.trans q38
        replace h := h F41 A42 p38
        refine ⟨h.1, ?_⟩
        replace h := h.2
        exact ⟨⟨h.1, hm38⟩, h.2⟩
    · intro c0
      replace h := h.2 c0
      obtain ⟨P47, hp47, h⟩ := h
      refine ⟨_, fX9_refuses hp47, ?_⟩
      rintro z49 F50 A51 ⟨p47, q47⟩
      have hm47 : mo o F A F50 A51 := hm.trans q47
      replace h := h z49 F50 A51 p47
      exact ⟨h, hm47⟩
theorem fX9_mended {o : Nat} {a1 : Int} {a2 : Int} {F : jFl} {A : jAr} {Q : Int → jFl → jAr → Prop} (h : wpX9_mended o a1 a2 F A Q) : wpX9_mended o a1 a2 F A (fun z F9 A9 => Q z F9 A9 ∧ mo o F A F9 A9) := by
  unfold wpX9_mended at *
  have hm : mo o F A F A := mo.refl o F A
  obtain ⟨P1, hp1, h⟩ := h
  refine ⟨_, hp1, ?_⟩
  intro z3 p1
  replace h := h z3 p1
  refine ⟨?_, ?_⟩
  · intro c0
    replace h := h.1 c0
    exact ⟨h, hm⟩
  · intro c0
    replace h := h.2 c0
    refine ⟨?_, ?_⟩
    · intro c0
      replace h := h.1 c0
      refine ⟨h.1, ?_⟩
      replace h := h.2
      obtain ⟨P9, hp9, h⟩ := h
      refine ⟨_, fX9_firstPerm hp9, ?_⟩
      rintro F12 A13 ⟨p9, q9⟩
      have hm9 : mo o F A F12 A13 := hm.trans q9
      replace h := h F12 A13 p9
      intro F17 e17
      replace h := h F17 e17
      have hm17 : mo o F A F17 A13 := by rw [e17]; exact hm9.upF
      intro F19 e19
      replace h := h F19 e19
      have hm19 : mo o F A F19 A13 := by rw [e19]; exact hm17.upF
      obtain ⟨P21, hp21, h⟩ := h
      refine ⟨_, fX9_exchanged hp21, ?_⟩
      rintro z23 F24 A25 ⟨p21, q21⟩
      have hm21 : mo o F A F24 A25 := hm19.trans q21
      replace h := h z23 F24 A25 p21
      refine ⟨?_, ?_⟩
      · intro c0
        replace h := h.1 c0
        refine ⟨?_, ?_⟩
        · intro c0
          replace h := h.1 c0
          refine ⟨h.1, ?_⟩
          replace h := h.2
          exact ⟨h, hm21⟩
        · intro c0
          replace h := h.2 c0
          exact ⟨h, hm21⟩
      · intro c0
        replace h := h.2 c0
        exact ⟨h, hm21⟩
    · intro c0
      replace h := h.2 c0
      refine ⟨?_, ?_⟩
      · intro c0
        replace h := h.1 c0
        refine ⟨h.1, ?_⟩
        replace h := h.2
        obtain ⟨P34, hp34, h⟩ := h
        refine ⟨_, fX9_firstPerm hp34, ?_⟩
        rintro F37 A38 ⟨p34, q34⟩
        have hm34 : mo o F A F37 A38 := hm.trans q34
        replace h := h F37 A38 p34
        intro F42 e42
        replace h := h F42 e42
        have hm42 : mo o F A F42 A38 := by rw [e42]; exact hm34.upF
        intro F44 e44
        replace h := h F44 e44
        have hm44 : mo o F A F44 A38 := by rw [e44]; exact hm42.upF
        obtain ⟨P46, hp46, h⟩ := h
        refine ⟨_, fX9_exchanged hp46, ?_⟩
        rintro z48 F49 A50 ⟨p46, q46⟩
        have hm46 : mo o F A F49 A50 := hm44.trans q46
        replace h := h z48 F49 A50 p46
        refine ⟨?_, ?_⟩
        · intro c0
          replace h := h.1 c0
          refine ⟨?_, ?_⟩
          · intro c0
            replace h := h.1 c0
            refine ⟨h.1, ?_⟩
            replace h := h.2
            exact ⟨h, hm46⟩
          · intro c0
            replace h := h.2 c0
            exact ⟨h, hm46⟩
        · intro c0
          replace h := h.2 c0
          exact ⟨h, hm46⟩
      · intro c0
        replace h := h.2 c0
        refine ⟨h.1, ?_⟩
        replace h := h.2
        refine ⟨h.1, ?_⟩
        replace h := h.2
        obtain ⟨P59, hp59, h⟩ := h
        refine ⟨_, hp59, ?_⟩
        intro z61 p59
        replace h := h z61 p59
        refine ⟨?_, ?_⟩
        · intro c0
          replace h := h.1 c0
          refine ⟨h.1, ?_⟩
          replace h := h.2
          obtain ⟨P66, hp66, h⟩ := h
          refine ⟨_, fX9_firstPerm hp66, ?_⟩
          rintro F69 A70 ⟨p66, q66⟩
          have hm66 : mo o F A F69 A70 := hm.trans q66
          replace h := h F69 A70 p66
          intro F74 e74
          replace h := h F74 e74
          have hm74 : mo o F A F74 A70 := by rw [e74]; exact hm66.upF
          intro F76 e76
          replace h := h F76 e76
          have hm76 : mo o F A F76 A70 := by rw [e76]; exact hm74.upF
          obtain ⟨P78, hp78, h⟩ := h
          refine ⟨_, fX9_exchanged hp78, ?_⟩
          rintro z80 F81 A82 ⟨p78, q78⟩
          have hm78 : mo o F A F81 A82 := hm76.trans q78
          replace h := h z80 F81 A82 p78
          refine ⟨?_, ?_⟩
          · intro c0
            replace h := h.1 c0
            refine ⟨?_, ?_⟩
            · intro c0
              replace h := h.1 c0
              refine ⟨h.1, ?_⟩
              replace h := h.2
              exact ⟨h, hm78⟩
            · intro c0
              replace h := h.2 c0
              exact ⟨h, hm78⟩
          · intro c0
            replace h := h.2 c0
            exact ⟨h, hm78⟩
        · intro c0
          replace h := h.2 c0
          exact ⟨h, hm⟩
theorem fX9_sorted {o : Nat} {a1 : Int} {a2 : Int} {F : jFl} {A : jAr} {Q : Int → jFl → jAr → Prop} (h : wpX9_sorted o a1 a2 F A Q) : wpX9_sorted o a1 a2 F A (fun z F9 A9 => Q z F9 A9 ∧ mo o F A F9 A9) := by
  unfold wpX9_sorted at *
  have hm : mo o F A F A := mo.refl o F A
  obtain ⟨P1, hp1, h⟩ := h
  refine ⟨_, hp1, ?_⟩
  intro z3 p1
  replace h := h z3 p1
  obtain ⟨P6, hp6, h⟩ := h
  refine ⟨_, hp6, ?_⟩
  intro z8 p6
  replace h := h z8 p6
  refine ⟨?_, ?_⟩
  · intro c0
    replace h := h.1 c0
    exact ⟨h, hm⟩
  · intro c0
    replace h := h.2 c0
    refine ⟨?_, ?_⟩
    · intro c0
      replace h := h.1 c0
      exact ⟨h, hm⟩
    · intro c0
      replace h := h.2 c0
      refine ⟨?_, ?_⟩
      · intro c0
        replace h := h.1 c0
        obtain ⟨P14, hp14, h⟩ := h
        refine ⟨_, fX9_seatsOf hp14, ?_⟩
        rintro F17 A18 ⟨p14, q14⟩
        have hm14 : mo o F A F17 A18 := hm.trans q14
        replace h := h F17 A18 p14
        intro F22 e22
        replace h := h F22 e22
        have hm22 : mo o F A F22 A18 := by rw [e22]; exact hm14.upF
        obtain ⟨I27, m28, h0, h⟩ := h
        refine ⟨fun v24 A25 => I27 v24 A25 ∧ mo o F A F22 A25, m28, ⟨h0, hm22⟩, ?_⟩
        rintro v24 A25 ⟨hi27, hm27⟩
        replace h := h v24 A25 hi27
        refine ⟨?_, ?_⟩
        · intro c0
          replace h := h.1 c0
          intro F30 e30
          replace h := h F30 e30
          have hm30 : mo o F A F30 A25 := by rw [e30]; exact hm27.upF
          intro F32 e32
          replace h := h F32 e32
          have hm32 : mo o F A F32 A25 := by rw [e32]; exact hm30.upF
          obtain ⟨P34, hp34, h⟩ := h
          refine ⟨_, fX9_exchanged hp34, ?_⟩
          rintro z36 F37 A38 ⟨p34, q34⟩
          have hm34 : mo o F A F37 A38 := hm32.trans q34
          replace h := h z36 F37 A38 p34
          refine ⟨?_, ?_⟩
          · intro c0
            replace h := h.1 c0
            refine ⟨?_, ?_⟩
            · intro c0
              replace h := h.1 c0
              refine ⟨h.1, ?_⟩
              replace h := h.2
              exact ⟨h, hm34⟩
            · intro c0
              replace h := h.2 c0
              exact ⟨h, hm34⟩
          · intro c0
            replace h := h.2 c0
            exact ⟨h, hm34⟩
        · intro c0
          replace h := h.2 c0
          refine ⟨h.1, ?_⟩
          replace h := h.2
          refine ⟨h.1, ?_⟩
          replace h := h.2
          intro A47 e47
          replace h := h A47 e47
          have hm47 : mo o F A F22 A47 := by rw [e47]; exact hm27.upA (by omega)
          refine ⟨h.1, ?_⟩
          replace h := h.2
          exact ⟨⟨h.1, hm47⟩, h.2⟩
      · intro c0
        replace h := h.2 c0
        refine ⟨?_, ?_⟩
        · intro c0
          replace h := h.1 c0
          obtain ⟨P51, hp51, h⟩ := h
          refine ⟨_, fX9_seatsOf hp51, ?_⟩
          rintro F54 A55 ⟨p51, q51⟩
          have hm51 : mo o F A F54 A55 := hm.trans q51
          replace h := h F54 A55 p51
          intro F59 e59
          replace h := h F59 e59
          have hm59 : mo o F A F59 A55 := by rw [e59]; exact hm51.upF
          obtain ⟨I64, m65, h0, h⟩ := h
          refine ⟨fun v61 A62 => I64 v61 A62 ∧ mo o F A F59 A62, m65, ⟨h0, hm59⟩, ?_⟩
          rintro v61 A62 ⟨hi64, hm64⟩
          replace h := h v61 A62 hi64
          refine ⟨?_, ?_⟩
          · intro c0
            replace h := h.1 c0
            intro F67 e67
            replace h := h F67 e67
            have hm67 : mo o F A F67 A62 := by rw [e67]; exact hm64.upF
            intro F69 e69
            replace h := h F69 e69
            have hm69 : mo o F A F69 A62 := by rw [e69]; exact hm67.upF
            obtain ⟨P71, hp71, h⟩ := h
            refine ⟨_, fX9_exchanged hp71, ?_⟩
            rintro z73 F74 A75 ⟨p71, q71⟩
            have hm71 : mo o F A F74 A75 := hm69.trans q71
            replace h := h z73 F74 A75 p71
            refine ⟨?_, ?_⟩
            · intro c0
              replace h := h.1 c0
              refine ⟨?_, ?_⟩
              · intro c0
                replace h := h.1 c0
                refine ⟨h.1, ?_⟩
                replace h := h.2
                exact ⟨h, hm71⟩
              · intro c0
                replace h := h.2 c0
                exact ⟨h, hm71⟩
            · intro c0
              replace h := h.2 c0
              exact ⟨h, hm71⟩
          · intro c0
            replace h := h.2 c0
            refine ⟨h.1, ?_⟩
            replace h := h.2
            refine ⟨h.1, ?_⟩
            replace h := h.2
            intro A84 e84
            replace h := h A84 e84
            have hm84 : mo o F A F59 A84 := by rw [e84]; exact hm64.upA (by omega)
            refine ⟨h.1, ?_⟩
            replace h := h.2
            exact ⟨⟨h.1, hm84⟩, h.2⟩
        · intro c0
          replace h := h.2 c0
          refine ⟨h.1, ?_⟩
          replace h := h.2
          obtain ⟨P88, hp88, h⟩ := h
          refine ⟨_, hp88, ?_⟩
          intro z90 p88
          replace h := h z90 p88
          refine ⟨?_, ?_⟩
          · intro c0
            replace h := h.1 c0
            obtain ⟨P94, hp94, h⟩ := h
            refine ⟨_, fX9_seatsOf hp94, ?_⟩
            rintro F97 A98 ⟨p94, q94⟩
            have hm94 : mo o F A F97 A98 := hm.trans q94
            replace h := h F97 A98 p94
            intro F102 e102
            replace h := h F102 e102
            have hm102 : mo o F A F102 A98 := by rw [e102]; exact hm94.upF
            obtain ⟨I107, m108, h0, h⟩ := h
            refine ⟨fun v104 A105 => I107 v104 A105 ∧ mo o F A F102 A105, m108, ⟨h0, hm102⟩, ?_⟩
            rintro v104 A105 ⟨hi107, hm107⟩
            replace h := h v104 A105 hi107
            refine ⟨?_, ?_⟩
            · intro c0
              replace h := h.1 c0
              intro F110 e110
              replace h := h F110 e110
              have hm110 : mo o F A F110 A105 := by rw [e110]; exact hm107.upF
              intro F112 e112
              replace h := h F112 e112
              have hm112 : mo o F A F112 A105 := by rw [e112]; exact hm110.upF
              obtain ⟨P114, hp114, h⟩ := h
              refine ⟨_, fX9_exchanged hp114, ?_⟩
              rintro z116 F117 A118 ⟨p114, q114⟩
              have hm114 : mo o F A F117 A118 := hm112.trans q114
              replace h := h z116 F117 A118 p114
              refine ⟨?_, ?_⟩
              · intro c0
                replace h := h.1 c0
                refine ⟨?_, ?_⟩
                · intro c0
                  replace h := h.1 c0
                  refine ⟨h.1, ?_⟩
                  replace h := h.2
                  exact ⟨h, hm114⟩
                · intro c0
                  replace h := h.2 c0
                  exact ⟨h, hm114⟩
              · intro c0
                replace h := h.2 c0
                exact ⟨h, hm114⟩
            · intro c0
              replace h := h.2 c0
              refine ⟨h.1, ?_⟩
              replace h := h.2
              refine ⟨h.1, ?_⟩
              replace h := h.2
              intro A127 e127
              replace h := h A127 e127
              have hm127 : mo o F A F102 A127 := by rw [e127]; exact hm107.upA (by omega)
              refine ⟨h.1, ?_⟩
              replace h := h.2
              exact ⟨⟨h.1, hm127⟩, h.2⟩
          · intro c0
            replace h := h.2 c0
            exact ⟨h, hm⟩
theorem fX9_statement {o : Nat} {F : jFl} {A : jAr} {Q : jFl → jAr → Prop} (h : wpX9_statement o F A Q) : wpX9_statement o F A (fun F9 A9 => Q F9 A9 ∧ mo o F A F9 A9) := by
  unfold wpX9_statement at *
  have hm : mo o F A F A := mo.refl o F A
  obtain ⟨P1, hp1, h⟩ := h
  refine ⟨_, fX9_lex hp1, ?_⟩
  rintro F4 A5 ⟨p1, q1⟩
  have hm1 : mo o F A F4 A5 := hm.trans q1
  replace h := h F4 A5 p1
  refine ⟨?_, ?_⟩
  · intro c0
    replace h := h.1 c0
    obtain ⟨P10, hp10, h⟩ := h
    refine ⟨_, hp10, ?_⟩
    intro z12 p10
    replace h := h z12 p10
    refine ⟨?_, ?_⟩
    · intro c0
      replace h := h.1 c0
      obtain ⟨P16, hp16, h⟩ := h
      refine ⟨_, hp16, ?_⟩
      intro z18 p16
      replace h := h z18 p16
      refine ⟨?_, ?_⟩
      · intro c0
        replace h := h.1 c0
        obtain ⟨P22, hp22, h⟩ := h
        refine ⟨_, hp22, ?_⟩
        intro z24 p22
        replace h := h z24 p22
        refine ⟨?_, ?_⟩
        · intro c0
          replace h := h.1 c0
          obtain ⟨P28, hp28, h⟩ := h
          refine ⟨_, hp28, ?_⟩
          intro z30 p28
          replace h := h z30 p28
          refine ⟨?_, ?_⟩
          · intro c0
            replace h := h.1 c0
            obtain ⟨P34, hp34, h⟩ := h
            refine ⟨_, fX9_sets hp34, ?_⟩
            rintro F37 A38 ⟨p34, q34⟩
            have hm34 : mo o F A F37 A38 := hm1.trans q34
            replace h := h F37 A38 p34
            exact ⟨h, hm34⟩
          · intro c0
            replace h := h.2 c0
            obtain ⟨P42, hp42, h⟩ := h
            refine ⟨_, fX9_lawing hp42, ?_⟩
            rintro F45 A46 ⟨p42, q42⟩
            have hm42 : mo o F A F45 A46 := hm1.trans q42
            replace h := h F45 A46 p42
            exact ⟨h, hm42⟩
        · intro c0
          replace h := h.2 c0
          obtain ⟨P50, hp50, h⟩ := h
          refine ⟨_, fX9_childing hp50, ?_⟩
          rintro F53 A54 ⟨p50, q50⟩
          have hm50 : mo o F A F53 A54 := hm1.trans q50
          replace h := h F53 A54 p50
          exact ⟨h, hm50⟩
      · intro c0
        replace h := h.2 c0
        obtain ⟨P58, hp58, h⟩ := h
        refine ⟨_, fX9_streeting hp58, ?_⟩
        rintro F61 A62 ⟨p58, q58⟩
        have hm58 : mo o F A F61 A62 := hm1.trans q58
        replace h := h F61 A62 p58
        exact ⟨h, hm58⟩
    · intro c0
      replace h := h.2 c0
      obtain ⟨P66, hp66, h⟩ := h
      refine ⟨_, fX9_wording hp66, ?_⟩
      rintro F69 A70 ⟨p66, q66⟩
      have hm66 : mo o F A F69 A70 := hm1.trans q66
      replace h := h F69 A70 p66
      exact ⟨h, hm66⟩
  · intro c0
    replace h := h.2 c0
    exact ⟨h, hm1⟩
theorem fX9_town {o : Nat} {F : jFl} {A : jAr} {Q : Int → jFl → jAr → Prop} (h : wpX9_town o F A Q) : wpX9_town o F A (fun z F9 A9 => Q z F9 A9 ∧ mo o F A F9 A9) := by
  unfold wpX9_town at *
  have hm : mo o F A F A := mo.refl o F A
  refine ⟨h.1, ?_⟩
  replace h := h.2
  intro F2 e2
  replace h := h F2 e2
  have hm2 : mo o F A F2 A := by rw [e2]; exact hm.upF
  refine ⟨h.1, ?_⟩
  replace h := h.2
  intro A5 e5
  replace h := h A5 e5
  have hm5 : mo o F A F2 A5 := by rw [e5]; exact hm2.upA (by omega)
  refine ⟨h.1, ?_⟩
  replace h := h.2
  intro A8 e8
  replace h := h A8 e8
  have hm8 : mo o F A F2 A8 := by rw [e8]; exact hm5.upA (by omega)
  refine ⟨h.1, ?_⟩
  replace h := h.2
  intro A11 e11
  replace h := h A11 e11
  have hm11 : mo o F A F2 A11 := by rw [e11]; exact hm8.upA (by omega)
  refine ⟨h.1, ?_⟩
  replace h := h.2
  intro A14 e14
  replace h := h A14 e14
  have hm14 : mo o F A F2 A14 := by rw [e14]; exact hm11.upA (by omega)
  refine ⟨h.1, ?_⟩
  replace h := h.2
  intro A17 e17
  replace h := h A17 e17
  have hm17 : mo o F A F2 A17 := by rw [e17]; exact hm14.upA (by omega)
  refine ⟨h.1, ?_⟩
  replace h := h.2
  intro A20 e20
  replace h := h A20 e20
  have hm20 : mo o F A F2 A20 := by rw [e20]; exact hm17.upA (by omega)
  refine ⟨h.1, ?_⟩
  replace h := h.2
  intro A23 e23
  replace h := h A23 e23
  have hm23 : mo o F A F2 A23 := by rw [e23]; exact hm20.upA (by omega)
  obtain ⟨P25, hp25, h⟩ := h
  refine ⟨_, fX9_takesTape hp25, ?_⟩
  rintro F28 A29 ⟨p25, q25⟩
  have hm25 : mo o F A F28 A29 := hm23.trans q25
  replace h := h F28 A29 p25
  obtain ⟨I37, m38, h0, h⟩ := h
  refine ⟨fun v33 F34 A35 => I37 v33 F34 A35 ∧ mo o F A F34 A35, m38, ⟨h0, hm25⟩, ?_⟩
  rintro v33 F34 A35 ⟨hi37, hm37⟩
  replace h := h v33 F34 A35 hi37
  obtain ⟨K40, hk40, h⟩ := h
  refine ⟨K40, ?_, ?_⟩
  · intro k40
    replace h := hk40 k40
    intro F43 e43
    replace h := h F43 e43
    have hm43 : mo o F A F43 A35 := by rw [e43]; exact hm37.upF
    intro F45 e45
    replace h := h F45 e45
    have hm45 : mo o F A F45 A35 := by rw [e45]; exact hm43.upF
    refine ⟨?_, ?_⟩
    · intro c0
      replace h := h.1 c0
      intro F48 e48
      replace h := h F48 e48
      have hm48 : mo o F A F48 A35 := by rw [e48]; exact hm45.upF
      obtain ⟨P50, hp50, h⟩ := h
      refine ⟨_, fX9_begin hp50, ?_⟩
      rintro F53 A54 ⟨p50, q50⟩
      have hm50 : mo o F A F53 A54 := hm48.trans q50
      replace h := h F53 A54 p50
      exact ⟨h, hm50⟩
    · intro c0
      replace h := h.2 c0
      obtain ⟨P58, hp58, h⟩ := h
      refine ⟨_, fX9_refuses hp58, ?_⟩
      rintro z60 F61 A62 ⟨p58, q58⟩
      have hm58 : mo o F A F61 A62 := hm45.trans q58
      replace h := h z60 F61 A62 p58
      exact ⟨h, hm58⟩
  · refine ⟨?_, ?_⟩
    · intro c0
      replace h := h.1 c0
      exact h
    · intro c0
      replace h := h.2 c0
      refine ⟨?_, ?_⟩
      · intro c0
        replace h := h.1 c0
        exact h
      · intro c0
        replace h := h.2 c0
        obtain ⟨P67, hp67, h⟩ := h
        refine ⟨_, fX9_statement hp67, ?_⟩
        rintro F70 A71 ⟨p67, q67⟩
        have hm67 : mo o F A F70 A71 := hm37.trans q67
        replace h := h F70 A71 p67
        refine ⟨h.1, ?_⟩
        replace h := h.2
        obtain ⟨P76, hp76, h⟩ := h
        refine ⟨_, fX9_finishes hp76, ?_⟩
        rintro F79 A80 ⟨p76, q76⟩
        have hm76 : mo o F A F79 A80 := hm67.trans q76
        replace h := h F79 A80 p76
        exact ⟨⟨h.1, hm76⟩, h.2⟩
