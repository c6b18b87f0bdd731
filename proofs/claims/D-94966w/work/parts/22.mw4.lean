set_option maxRecDepth 100000
set_option linter.unusedVariables false
/-! walks of ChildSaysModel: printed by gen/walk.py -/
/-- ahead()V -/
def wpX9_ahead (o : Nat) (F : jFl) (A : jAr) (Q : jFl → jAr → Prop) : Prop :=
  ∀ v1 : Int, v1 = F 3015 o →
  ∃ (I3 : Int → Prop) (m4 : Int → Nat), I3 v1 ∧ ∀ (v2 : Int), I3 v2 →
    ∃ K6 : Prop, (
      K6 →
      ∀ F9 : jFl, F9 = upF F 3012 o v2 →
      ∀ F11 : jFl, F11 = upF F9 3015 o v2 →
      ∀ F13 : jFl, F13 = upF F11 3009 o 0 →
      ∀ F15 : jFl, F15 = upF F13 3036 o (-1) →
      ((v2 < (F15 3006 o)) →
        (0 ≤ v2 ∧ v2 < 1800) ∧
        ∃ P19 : Int → Prop, wpX9_isLetter o (A (o + 1) v2) F15 A P19 ∧ ∀ z21, P19 z21 →
        (0 ≤ v2 ∧ v2 < 1800) ∧
        ∃ P25 : Int → Prop, wpX9_isDigit o (A (o + 1) v2) F15 A P25 ∧ ∀ z27, P25 z27 →
        ∃ K33 : jFl → Prop, (
          ∀ (F31 : jFl), K33 F31 →
          ∀ F36 : jFl, F36 = upF F31 3018 o 0 →
          ∀ F38 : jFl, F38 = upF F36 3022 o 0 →
          ∀ F40 : jFl, F40 = upF F38 3009 o 3 →
          jR (v2 + 1) ∧
          ∀ F43 : jFl, F43 = upF F40 3015 o (v2 + 1) →
          ((¬ z21 = 0) →
            ∀ z47 : Int, z47 = (if z21 = 0 then 2 else 1) →
            ∀ F49 : jFl, F49 = upF F43 3009 o z47 →
            ∀ z52 : Int, z52 = (if z21 = 0 then 4 else 6) →
            ∃ (I58 : Int → Int → jFl → Prop) (m59 : Int → Int → jFl → Nat), I58 v2 0 F49 ∧ ∀ (v54 : Int) (v55 : Int) (F56 : jFl), I58 v54 v55 F56 →
              (((F56 3006 o) ≤ v54) →
                ∀ F61 : jFl, F61 = upF F56 3015 o v54 →
                Q F61 A) ∧
              (¬ ((F56 3006 o) ≤ v54) →
                ((z21 = 0) →
                  (0 ≤ v54 ∧ v54 < 1800) ∧
                  ∃ P65 : Int → Prop, wpX9_isDigit o (A (o + 1) v54) F56 A P65 ∧ ∀ z67, P65 z67 →
                  ((z67 = 0) →
                    ∀ F71 : jFl, F71 = upF F56 3015 o v54 →
                    Q F71 A) ∧
                  (¬ (z67 = 0) →
                    ∃ K76 : jFl → Prop, (
                      ∀ (F74 : jFl), K76 F74 →
                      ∃ K82 : jFl → Prop, (
                        ∀ (F80 : jFl), K82 F80 →
                        ((z52 ≤ v55) →
                          jR (v55 + 1) ∧
                          jR (v54 + 1) ∧
                          I58 (v54 + 1) (v55 + 1) F80 ∧ m59 (v54 + 1) (v55 + 1) F80 < m59 v54 v55 F56) ∧
                        (¬ (z52 ≤ v55) →
                          ((z27 = 0) →
                            jR (v55 + 1) ∧
                            jR (v54 + 1) ∧
                            I58 (v54 + 1) (v55 + 1) F80 ∧ m59 (v54 + 1) (v55 + 1) F80 < m59 v54 v55 F56) ∧
                          (¬ (z27 = 0) →
                            (0 ≤ v54 ∧ v54 < 1800) ∧
                            jR (((10 * (F80 3018 o)) + (A (o + 1) v54)) - 48) ∧
                            ∀ F93 : jFl, F93 = upF F80 3018 o (((10 * (F80 3018 o)) + (A (o + 1) v54)) - 48) →
                            jR (v55 + 1) ∧
                            jR (v54 + 1) ∧
                            I58 (v54 + 1) (v55 + 1) F93 ∧ m59 (v54 + 1) (v55 + 1) F93 < m59 v54 v55 F56))) ∧
                      ((z52 ≤ v55) →
                        K82 F74) ∧
                      (¬ (z52 ≤ v55) →
                        ((z21 = 0) →
                          K82 F74) ∧
                        (¬ (z21 = 0) →
                          ((0 : Int) ≤ 8 ∧ (8 : Int) < 64) ∧
                          (0 ≤ v54 ∧ v54 < 1800) ∧
                          (((0 : Int) ≤ (F74 3022 o) * 2 ^ 8 ∧ ((F74 3022 o) * 2 ^ 8 : Int) ≤ 9223372036854775807) ∧ ((0 : Int) ≤ A (o + 1) v54 ∧ (A (o + 1) v54 : Int) ≤ 9223372036854775807)) ∧
                          jRL (jor ((F74 3022 o) * 2 ^ 8) (A (o + 1) v54)) ∧
                          ∀ F102 : jFl, F102 = upF F74 3022 o (jor ((F74 3022 o) * 2 ^ 8) (A (o + 1) v54)) →
                          K82 F102))) ∧
                    ((¬ v55 = z52) →
                      K76 F56) ∧
                    (¬ (¬ v55 = z52) →
                      ((¬ (F56 3036 o) = (-1)) →
                        K76 F56) ∧
                      (¬ (¬ (F56 3036 o) = (-1)) →
                        ∀ F105 : jFl, F105 = upF F56 3036 o v54 →
                        K76 F105)))) ∧
                (¬ (z21 = 0) →
                  (0 ≤ v54 ∧ v54 < 1800) ∧
                  ∃ P108 : Int → Prop, wpX9_isLetter o (A (o + 1) v54) F56 A P108 ∧ ∀ z110, P108 z110 →
                  ((z110 = 0) →
                    ∀ F114 : jFl, F114 = upF F56 3015 o v54 →
                    Q F114 A) ∧
                  (¬ (z110 = 0) →
                    ((¬ v55 = z52) →
                      ((z52 ≤ v55) →
                        ((z52 ≤ v55) →
                          jR (v55 + 1) ∧
                          jR (v54 + 1) ∧
                          I58 (v54 + 1) (v55 + 1) F56 ∧ m59 (v54 + 1) (v55 + 1) F56 < m59 v54 v55 F56) ∧
                        (¬ (z52 ≤ v55) →
                          ((z27 = 0) →
                            jR (v55 + 1) ∧
                            jR (v54 + 1) ∧
                            I58 (v54 + 1) (v55 + 1) F56 ∧ m59 (v54 + 1) (v55 + 1) F56 < m59 v54 v55 F56) ∧
                          (¬ (z27 = 0) →
                            (0 ≤ v54 ∧ v54 < 1800) ∧
                            jR (((10 * (F56 3018 o)) + (A (o + 1) v54)) - 48) ∧
                            ∀ F126 : jFl, F126 = upF F56 3018 o (((10 * (F56 3018 o)) + (A (o + 1) v54)) - 48) →
                            jR (v55 + 1) ∧
                            jR (v54 + 1) ∧
                            I58 (v54 + 1) (v55 + 1) F126 ∧ m59 (v54 + 1) (v55 + 1) F126 < m59 v54 v55 F56))) ∧
                      (¬ (z52 ≤ v55) →
                        ((z21 = 0) →
                          ((z52 ≤ v55) →
                            jR (v55 + 1) ∧
                            jR (v54 + 1) ∧
                            I58 (v54 + 1) (v55 + 1) F56 ∧ m59 (v54 + 1) (v55 + 1) F56 < m59 v54 v55 F56) ∧
                          (¬ (z52 ≤ v55) →
                            ((z27 = 0) →
                              jR (v55 + 1) ∧
                              jR (v54 + 1) ∧
                              I58 (v54 + 1) (v55 + 1) F56 ∧ m59 (v54 + 1) (v55 + 1) F56 < m59 v54 v55 F56) ∧
                            (¬ (z27 = 0) →
                              (0 ≤ v54 ∧ v54 < 1800) ∧
                              jR (((10 * (F56 3018 o)) + (A (o + 1) v54)) - 48) ∧
                              ∀ F139 : jFl, F139 = upF F56 3018 o (((10 * (F56 3018 o)) + (A (o + 1) v54)) - 48) →
                              jR (v55 + 1) ∧
                              jR (v54 + 1) ∧
                              I58 (v54 + 1) (v55 + 1) F139 ∧ m59 (v54 + 1) (v55 + 1) F139 < m59 v54 v55 F56))) ∧
                        (¬ (z21 = 0) →
                          ((0 : Int) ≤ 8 ∧ (8 : Int) < 64) ∧
                          (0 ≤ v54 ∧ v54 < 1800) ∧
                          (((0 : Int) ≤ (F56 3022 o) * 2 ^ 8 ∧ ((F56 3022 o) * 2 ^ 8 : Int) ≤ 9223372036854775807) ∧ ((0 : Int) ≤ A (o + 1) v54 ∧ (A (o + 1) v54 : Int) ≤ 9223372036854775807)) ∧
                          jRL (jor ((F56 3022 o) * 2 ^ 8) (A (o + 1) v54)) ∧
                          ∀ F147 : jFl, F147 = upF F56 3022 o (jor ((F56 3022 o) * 2 ^ 8) (A (o + 1) v54)) →
                          ((z52 ≤ v55) →
                            jR (v55 + 1) ∧
                            jR (v54 + 1) ∧
                            I58 (v54 + 1) (v55 + 1) F147 ∧ m59 (v54 + 1) (v55 + 1) F147 < m59 v54 v55 F56) ∧
                          (¬ (z52 ≤ v55) →
                            ((z27 = 0) →
                              jR (v55 + 1) ∧
                              jR (v54 + 1) ∧
                              I58 (v54 + 1) (v55 + 1) F147 ∧ m59 (v54 + 1) (v55 + 1) F147 < m59 v54 v55 F56) ∧
                            (¬ (z27 = 0) →
                              (0 ≤ v54 ∧ v54 < 1800) ∧
                              jR (((10 * (F147 3018 o)) + (A (o + 1) v54)) - 48) ∧
                              ∀ F157 : jFl, F157 = upF F147 3018 o (((10 * (F147 3018 o)) + (A (o + 1) v54)) - 48) →
                              jR (v55 + 1) ∧
                              jR (v54 + 1) ∧
                              I58 (v54 + 1) (v55 + 1) F157 ∧ m59 (v54 + 1) (v55 + 1) F157 < m59 v54 v55 F56))))) ∧
                    (¬ (¬ v55 = z52) →
                      ((¬ (F56 3036 o) = (-1)) →
                        ((z52 ≤ v55) →
                          ((z52 ≤ v55) →
                            jR (v55 + 1) ∧
                            jR (v54 + 1) ∧
                            I58 (v54 + 1) (v55 + 1) F56 ∧ m59 (v54 + 1) (v55 + 1) F56 < m59 v54 v55 F56) ∧
                          (¬ (z52 ≤ v55) →
                            ((z27 = 0) →
                              jR (v55 + 1) ∧
                              jR (v54 + 1) ∧
                              I58 (v54 + 1) (v55 + 1) F56 ∧ m59 (v54 + 1) (v55 + 1) F56 < m59 v54 v55 F56) ∧
                            (¬ (z27 = 0) →
                              (0 ≤ v54 ∧ v54 < 1800) ∧
                              jR (((10 * (F56 3018 o)) + (A (o + 1) v54)) - 48) ∧
                              ∀ F171 : jFl, F171 = upF F56 3018 o (((10 * (F56 3018 o)) + (A (o + 1) v54)) - 48) →
                              jR (v55 + 1) ∧
                              jR (v54 + 1) ∧
                              I58 (v54 + 1) (v55 + 1) F171 ∧ m59 (v54 + 1) (v55 + 1) F171 < m59 v54 v55 F56))) ∧
                        (¬ (z52 ≤ v55) →
                          ((z21 = 0) →
                            ((z52 ≤ v55) →
                              jR (v55 + 1) ∧
                              jR (v54 + 1) ∧
                              I58 (v54 + 1) (v55 + 1) F56 ∧ m59 (v54 + 1) (v55 + 1) F56 < m59 v54 v55 F56) ∧
                            (¬ (z52 ≤ v55) →
                              ((z27 = 0) →
                                jR (v55 + 1) ∧
                                jR (v54 + 1) ∧
                                I58 (v54 + 1) (v55 + 1) F56 ∧ m59 (v54 + 1) (v55 + 1) F56 < m59 v54 v55 F56) ∧
                              (¬ (z27 = 0) →
                                (0 ≤ v54 ∧ v54 < 1800) ∧
                                jR (((10 * (F56 3018 o)) + (A (o + 1) v54)) - 48) ∧
                                ∀ F184 : jFl, F184 = upF F56 3018 o (((10 * (F56 3018 o)) + (A (o + 1) v54)) - 48) →
                                jR (v55 + 1) ∧
                                jR (v54 + 1) ∧
                                I58 (v54 + 1) (v55 + 1) F184 ∧ m59 (v54 + 1) (v55 + 1) F184 < m59 v54 v55 F56))) ∧
                          (¬ (z21 = 0) →
                            ((0 : Int) ≤ 8 ∧ (8 : Int) < 64) ∧
                            (0 ≤ v54 ∧ v54 < 1800) ∧
                            (((0 : Int) ≤ (F56 3022 o) * 2 ^ 8 ∧ ((F56 3022 o) * 2 ^ 8 : Int) ≤ 9223372036854775807) ∧ ((0 : Int) ≤ A (o + 1) v54 ∧ (A (o + 1) v54 : Int) ≤ 9223372036854775807)) ∧
                            jRL (jor ((F56 3022 o) * 2 ^ 8) (A (o + 1) v54)) ∧
                            ∀ F192 : jFl, F192 = upF F56 3022 o (jor ((F56 3022 o) * 2 ^ 8) (A (o + 1) v54)) →
                            ((z52 ≤ v55) →
                              jR (v55 + 1) ∧
                              jR (v54 + 1) ∧
                              I58 (v54 + 1) (v55 + 1) F192 ∧ m59 (v54 + 1) (v55 + 1) F192 < m59 v54 v55 F56) ∧
                            (¬ (z52 ≤ v55) →
                              ((z27 = 0) →
                                jR (v55 + 1) ∧
                                jR (v54 + 1) ∧
                                I58 (v54 + 1) (v55 + 1) F192 ∧ m59 (v54 + 1) (v55 + 1) F192 < m59 v54 v55 F56) ∧
                              (¬ (z27 = 0) →
                                (0 ≤ v54 ∧ v54 < 1800) ∧
                                jR (((10 * (F192 3018 o)) + (A (o + 1) v54)) - 48) ∧
                                ∀ F202 : jFl, F202 = upF F192 3018 o (((10 * (F192 3018 o)) + (A (o + 1) v54)) - 48) →
                                jR (v55 + 1) ∧
                                jR (v54 + 1) ∧
                                I58 (v54 + 1) (v55 + 1) F202 ∧ m59 (v54 + 1) (v55 + 1) F202 < m59 v54 v55 F56))))) ∧
                      (¬ (¬ (F56 3036 o) = (-1)) →
                        ∀ F206 : jFl, F206 = upF F56 3036 o v54 →
                        ((z52 ≤ v55) →
                          ((z52 ≤ v55) →
                            jR (v55 + 1) ∧
                            jR (v54 + 1) ∧
                            I58 (v54 + 1) (v55 + 1) F206 ∧ m59 (v54 + 1) (v55 + 1) F206 < m59 v54 v55 F56) ∧
                          (¬ (z52 ≤ v55) →
                            ((z27 = 0) →
                              jR (v55 + 1) ∧
                              jR (v54 + 1) ∧
                              I58 (v54 + 1) (v55 + 1) F206 ∧ m59 (v54 + 1) (v55 + 1) F206 < m59 v54 v55 F56) ∧
                            (¬ (z27 = 0) →
                              (0 ≤ v54 ∧ v54 < 1800) ∧
                              jR (((10 * (F206 3018 o)) + (A (o + 1) v54)) - 48) ∧
                              ∀ F217 : jFl, F217 = upF F206 3018 o (((10 * (F206 3018 o)) + (A (o + 1) v54)) - 48) →
                              jR (v55 + 1) ∧
                              jR (v54 + 1) ∧
                              I58 (v54 + 1) (v55 + 1) F217 ∧ m59 (v54 + 1) (v55 + 1) F217 < m59 v54 v55 F56))) ∧
                        (¬ (z52 ≤ v55) →
                          ((z21 = 0) →
                            ((z52 ≤ v55) →
                              jR (v55 + 1) ∧
                              jR (v54 + 1) ∧
                              I58 (v54 + 1) (v55 + 1) F206 ∧ m59 (v54 + 1) (v55 + 1) F206 < m59 v54 v55 F56) ∧
                            (¬ (z52 ≤ v55) →
                              ((z27 = 0) →
                                jR (v55 + 1) ∧
                                jR (v54 + 1) ∧
                                I58 (v54 + 1) (v55 + 1) F206 ∧ m59 (v54 + 1) (v55 + 1) F206 < m59 v54 v55 F56) ∧
                              (¬ (z27 = 0) →
                                (0 ≤ v54 ∧ v54 < 1800) ∧
                                jR (((10 * (F206 3018 o)) + (A (o + 1) v54)) - 48) ∧
                                ∀ F230 : jFl, F230 = upF F206 3018 o (((10 * (F206 3018 o)) + (A (o + 1) v54)) - 48) →
                                jR (v55 + 1) ∧
                                jR (v54 + 1) ∧
                                I58 (v54 + 1) (v55 + 1) F230 ∧ m59 (v54 + 1) (v55 + 1) F230 < m59 v54 v55 F56))) ∧
                          (¬ (z21 = 0) →
                            ((0 : Int) ≤ 8 ∧ (8 : Int) < 64) ∧
                            (0 ≤ v54 ∧ v54 < 1800) ∧
                            (((0 : Int) ≤ (F206 3022 o) * 2 ^ 8 ∧ ((F206 3022 o) * 2 ^ 8 : Int) ≤ 9223372036854775807) ∧ ((0 : Int) ≤ A (o + 1) v54 ∧ (A (o + 1) v54 : Int) ≤ 9223372036854775807)) ∧
                            jRL (jor ((F206 3022 o) * 2 ^ 8) (A (o + 1) v54)) ∧
                            ∀ F238 : jFl, F238 = upF F206 3022 o (jor ((F206 3022 o) * 2 ^ 8) (A (o + 1) v54)) →
                            ((z52 ≤ v55) →
                              jR (v55 + 1) ∧
                              jR (v54 + 1) ∧
                              I58 (v54 + 1) (v55 + 1) F238 ∧ m59 (v54 + 1) (v55 + 1) F238 < m59 v54 v55 F56) ∧
                            (¬ (z52 ≤ v55) →
                              ((z27 = 0) →
                                jR (v55 + 1) ∧
                                jR (v54 + 1) ∧
                                I58 (v54 + 1) (v55 + 1) F238 ∧ m59 (v54 + 1) (v55 + 1) F238 < m59 v54 v55 F56) ∧
                              (¬ (z27 = 0) →
                                (0 ≤ v54 ∧ v54 < 1800) ∧
                                jR (((10 * (F238 3018 o)) + (A (o + 1) v54)) - 48) ∧
                                ∀ F248 : jFl, F248 = upF F238 3018 o (((10 * (F238 3018 o)) + (A (o + 1) v54)) - 48) →
                                jR (v55 + 1) ∧
                                jR (v54 + 1) ∧
                                I58 (v54 + 1) (v55 + 1) F248 ∧ m59 (v54 + 1) (v55 + 1) F248 < m59 v54 v55 F56)))))))))) ∧
          (¬ (¬ z21 = 0) →
            ((¬ z27 = 0) →
              ∀ z254 : Int, z254 = (if z21 = 0 then 2 else 1) →
              ∀ F256 : jFl, F256 = upF F43 3009 o z254 →
              ∀ z259 : Int, z259 = (if z21 = 0 then 4 else 6) →
              ∃ (I265 : Int → Int → jFl → Prop) (m266 : Int → Int → jFl → Nat), I265 v2 0 F256 ∧ ∀ (v261 : Int) (v262 : Int) (F263 : jFl), I265 v261 v262 F263 →
                (((F263 3006 o) ≤ v261) →
                  ∀ F268 : jFl, F268 = upF F263 3015 o v261 →
                  Q F268 A) ∧
                (¬ ((F263 3006 o) ≤ v261) →
                  ((z21 = 0) →
                    (0 ≤ v261 ∧ v261 < 1800) ∧
                    ∃ P272 : Int → Prop, wpX9_isDigit o (A (o + 1) v261) F263 A P272 ∧ ∀ z274, P272 z274 →
                    ((z274 = 0) →
                      ∀ F278 : jFl, F278 = upF F263 3015 o v261 →
                      Q F278 A) ∧
                    (¬ (z274 = 0) →
                      ∃ K283 : jFl → Prop, (
                        ∀ (F281 : jFl), K283 F281 →
                        ∃ K289 : jFl → Prop, (
                          ∀ (F287 : jFl), K289 F287 →
                          ((z259 ≤ v262) →
                            jR (v262 + 1) ∧
                            jR (v261 + 1) ∧
                            I265 (v261 + 1) (v262 + 1) F287 ∧ m266 (v261 + 1) (v262 + 1) F287 < m266 v261 v262 F263) ∧
                          (¬ (z259 ≤ v262) →
                            ((z27 = 0) →
                              jR (v262 + 1) ∧
                              jR (v261 + 1) ∧
                              I265 (v261 + 1) (v262 + 1) F287 ∧ m266 (v261 + 1) (v262 + 1) F287 < m266 v261 v262 F263) ∧
                            (¬ (z27 = 0) →
                              (0 ≤ v261 ∧ v261 < 1800) ∧
                              jR (((10 * (F287 3018 o)) + (A (o + 1) v261)) - 48) ∧
                              ∀ F300 : jFl, F300 = upF F287 3018 o (((10 * (F287 3018 o)) + (A (o + 1) v261)) - 48) →
                              jR (v262 + 1) ∧
                              jR (v261 + 1) ∧
                              I265 (v261 + 1) (v262 + 1) F300 ∧ m266 (v261 + 1) (v262 + 1) F300 < m266 v261 v262 F263))) ∧
                        ((z259 ≤ v262) →
                          K289 F281) ∧
                        (¬ (z259 ≤ v262) →
                          ((z21 = 0) →
                            K289 F281) ∧
                          (¬ (z21 = 0) →
                            ((0 : Int) ≤ 8 ∧ (8 : Int) < 64) ∧
                            (0 ≤ v261 ∧ v261 < 1800) ∧
                            (((0 : Int) ≤ (F281 3022 o) * 2 ^ 8 ∧ ((F281 3022 o) * 2 ^ 8 : Int) ≤ 9223372036854775807) ∧ ((0 : Int) ≤ A (o + 1) v261 ∧ (A (o + 1) v261 : Int) ≤ 9223372036854775807)) ∧
                            jRL (jor ((F281 3022 o) * 2 ^ 8) (A (o + 1) v261)) ∧
                            ∀ F309 : jFl, F309 = upF F281 3022 o (jor ((F281 3022 o) * 2 ^ 8) (A (o + 1) v261)) →
                            K289 F309))) ∧
                      ((¬ v262 = z259) →
                        K283 F263) ∧
                      (¬ (¬ v262 = z259) →
                        ((¬ (F263 3036 o) = (-1)) →
                          K283 F263) ∧
                        (¬ (¬ (F263 3036 o) = (-1)) →
                          ∀ F312 : jFl, F312 = upF F263 3036 o v261 →
                          K283 F312)))) ∧
                  (¬ (z21 = 0) →
                    (0 ≤ v261 ∧ v261 < 1800) ∧
                    ∃ P315 : Int → Prop, wpX9_isLetter o (A (o + 1) v261) F263 A P315 ∧ ∀ z317, P315 z317 →
                    ((z317 = 0) →
                      ∀ F321 : jFl, F321 = upF F263 3015 o v261 →
                      Q F321 A) ∧
                    (¬ (z317 = 0) →
                      ((¬ v262 = z259) →
                        ((z259 ≤ v262) →
                          ((z259 ≤ v262) →
                            jR (v262 + 1) ∧
                            jR (v261 + 1) ∧
                            I265 (v261 + 1) (v262 + 1) F263 ∧ m266 (v261 + 1) (v262 + 1) F263 < m266 v261 v262 F263) ∧
                          (¬ (z259 ≤ v262) →
                            ((z27 = 0) →
                              jR (v262 + 1) ∧
                              jR (v261 + 1) ∧
                              I265 (v261 + 1) (v262 + 1) F263 ∧ m266 (v261 + 1) (v262 + 1) F263 < m266 v261 v262 F263) ∧
                            (¬ (z27 = 0) →
                              (0 ≤ v261 ∧ v261 < 1800) ∧
                              jR (((10 * (F263 3018 o)) + (A (o + 1) v261)) - 48) ∧
                              ∀ F333 : jFl, F333 = upF F263 3018 o (((10 * (F263 3018 o)) + (A (o + 1) v261)) - 48) →
                              jR (v262 + 1) ∧
                              jR (v261 + 1) ∧
                              I265 (v261 + 1) (v262 + 1) F333 ∧ m266 (v261 + 1) (v262 + 1) F333 < m266 v261 v262 F263))) ∧
                        (¬ (z259 ≤ v262) →
                          ((z21 = 0) →
                            ((z259 ≤ v262) →
                              jR (v262 + 1) ∧
                              jR (v261 + 1) ∧
                              I265 (v261 + 1) (v262 + 1) F263 ∧ m266 (v261 + 1) (v262 + 1) F263 < m266 v261 v262 F263) ∧
                            (¬ (z259 ≤ v262) →
                              ((z27 = 0) →
                                jR (v262 + 1) ∧
                                jR (v261 + 1) ∧
                                I265 (v261 + 1) (v262 + 1) F263 ∧ m266 (v261 + 1) (v262 + 1) F263 < m266 v261 v262 F263) ∧
                              (¬ (z27 = 0) →
                                (0 ≤ v261 ∧ v261 < 1800) ∧
                                jR (((10 * (F263 3018 o)) + (A (o + 1) v261)) - 48) ∧
                                ∀ F346 : jFl, F346 = upF F263 3018 o (((10 * (F263 3018 o)) + (A (o + 1) v261)) - 48) →
                                jR (v262 + 1) ∧
                                jR (v261 + 1) ∧
                                I265 (v261 + 1) (v262 + 1) F346 ∧ m266 (v261 + 1) (v262 + 1) F346 < m266 v261 v262 F263))) ∧
                          (¬ (z21 = 0) →
                            ((0 : Int) ≤ 8 ∧ (8 : Int) < 64) ∧
                            (0 ≤ v261 ∧ v261 < 1800) ∧
                            (((0 : Int) ≤ (F263 3022 o) * 2 ^ 8 ∧ ((F263 3022 o) * 2 ^ 8 : Int) ≤ 9223372036854775807) ∧ ((0 : Int) ≤ A (o + 1) v261 ∧ (A (o + 1) v261 : Int) ≤ 9223372036854775807)) ∧
                            jRL (jor ((F263 3022 o) * 2 ^ 8) (A (o + 1) v261)) ∧
                            ∀ F354 : jFl, F354 = upF F263 3022 o (jor ((F263 3022 o) * 2 ^ 8) (A (o + 1) v261)) →
                            ((z259 ≤ v262) →
                              jR (v262 + 1) ∧
                              jR (v261 + 1) ∧
                              I265 (v261 + 1) (v262 + 1) F354 ∧ m266 (v261 + 1) (v262 + 1) F354 < m266 v261 v262 F263) ∧
                            (¬ (z259 ≤ v262) →
                              ((z27 = 0) →
                                jR (v262 + 1) ∧
                                jR (v261 + 1) ∧
                                I265 (v261 + 1) (v262 + 1) F354 ∧ m266 (v261 + 1) (v262 + 1) F354 < m266 v261 v262 F263) ∧
                              (¬ (z27 = 0) →
                                (0 ≤ v261 ∧ v261 < 1800) ∧
                                jR (((10 * (F354 3018 o)) + (A (o + 1) v261)) - 48) ∧
                                ∀ F364 : jFl, F364 = upF F354 3018 o (((10 * (F354 3018 o)) + (A (o + 1) v261)) - 48) →
                                jR (v262 + 1) ∧
                                jR (v261 + 1) ∧
                                I265 (v261 + 1) (v262 + 1) F364 ∧ m266 (v261 + 1) (v262 + 1) F364 < m266 v261 v262 F263))))) ∧
                      (¬ (¬ v262 = z259) →
                        ((¬ (F263 3036 o) = (-1)) →
                          ((z259 ≤ v262) →
                            ((z259 ≤ v262) →
                              jR (v262 + 1) ∧
                              jR (v261 + 1) ∧
                              I265 (v261 + 1) (v262 + 1) F263 ∧ m266 (v261 + 1) (v262 + 1) F263 < m266 v261 v262 F263) ∧
                            (¬ (z259 ≤ v262) →
                              ((z27 = 0) →
                                jR (v262 + 1) ∧
                                jR (v261 + 1) ∧
                                I265 (v261 + 1) (v262 + 1) F263 ∧ m266 (v261 + 1) (v262 + 1) F263 < m266 v261 v262 F263) ∧
                              (¬ (z27 = 0) →
                                (0 ≤ v261 ∧ v261 < 1800) ∧
                                jR (((10 * (F263 3018 o)) + (A (o + 1) v261)) - 48) ∧
                                ∀ F378 : jFl, F378 = upF F263 3018 o (((10 * (F263 3018 o)) + (A (o + 1) v261)) - 48) →
                                jR (v262 + 1) ∧
                                jR (v261 + 1) ∧
                                I265 (v261 + 1) (v262 + 1) F378 ∧ m266 (v261 + 1) (v262 + 1) F378 < m266 v261 v262 F263))) ∧
                          (¬ (z259 ≤ v262) →
                            ((z21 = 0) →
                              ((z259 ≤ v262) →
                                jR (v262 + 1) ∧
                                jR (v261 + 1) ∧
                                I265 (v261 + 1) (v262 + 1) F263 ∧ m266 (v261 + 1) (v262 + 1) F263 < m266 v261 v262 F263) ∧
                              (¬ (z259 ≤ v262) →
                                ((z27 = 0) →
                                  jR (v262 + 1) ∧
                                  jR (v261 + 1) ∧
                                  I265 (v261 + 1) (v262 + 1) F263 ∧ m266 (v261 + 1) (v262 + 1) F263 < m266 v261 v262 F263) ∧
                                (¬ (z27 = 0) →
                                  (0 ≤ v261 ∧ v261 < 1800) ∧
                                  jR (((10 * (F263 3018 o)) + (A (o + 1) v261)) - 48) ∧
                                  ∀ F391 : jFl, F391 = upF F263 3018 o (((10 * (F263 3018 o)) + (A (o + 1) v261)) - 48) →
                                  jR (v262 + 1) ∧
                                  jR (v261 + 1) ∧
                                  I265 (v261 + 1) (v262 + 1) F391 ∧ m266 (v261 + 1) (v262 + 1) F391 < m266 v261 v262 F263))) ∧
                            (¬ (z21 = 0) →
                              ((0 : Int) ≤ 8 ∧ (8 : Int) < 64) ∧
                              (0 ≤ v261 ∧ v261 < 1800) ∧
                              (((0 : Int) ≤ (F263 3022 o) * 2 ^ 8 ∧ ((F263 3022 o) * 2 ^ 8 : Int) ≤ 9223372036854775807) ∧ ((0 : Int) ≤ A (o + 1) v261 ∧ (A (o + 1) v261 : Int) ≤ 9223372036854775807)) ∧
                              jRL (jor ((F263 3022 o) * 2 ^ 8) (A (o + 1) v261)) ∧
                              ∀ F399 : jFl, F399 = upF F263 3022 o (jor ((F263 3022 o) * 2 ^ 8) (A (o + 1) v261)) →
                              ((z259 ≤ v262) →
                                jR (v262 + 1) ∧
                                jR (v261 + 1) ∧
                                I265 (v261 + 1) (v262 + 1) F399 ∧ m266 (v261 + 1) (v262 + 1) F399 < m266 v261 v262 F263) ∧
                              (¬ (z259 ≤ v262) →
                                ((z27 = 0) →
                                  jR (v262 + 1) ∧
                                  jR (v261 + 1) ∧
                                  I265 (v261 + 1) (v262 + 1) F399 ∧ m266 (v261 + 1) (v262 + 1) F399 < m266 v261 v262 F263) ∧
                                (¬ (z27 = 0) →
                                  (0 ≤ v261 ∧ v261 < 1800) ∧
                                  jR (((10 * (F399 3018 o)) + (A (o + 1) v261)) - 48) ∧
                                  ∀ F409 : jFl, F409 = upF F399 3018 o (((10 * (F399 3018 o)) + (A (o + 1) v261)) - 48) →
                                  jR (v262 + 1) ∧
                                  jR (v261 + 1) ∧
                                  I265 (v261 + 1) (v262 + 1) F409 ∧ m266 (v261 + 1) (v262 + 1) F409 < m266 v261 v262 F263))))) ∧
                        (¬ (¬ (F263 3036 o) = (-1)) →
                          ∀ F413 : jFl, F413 = upF F263 3036 o v261 →
                          ((z259 ≤ v262) →
                            ((z259 ≤ v262) →
                              jR (v262 + 1) ∧
                              jR (v261 + 1) ∧
                              I265 (v261 + 1) (v262 + 1) F413 ∧ m266 (v261 + 1) (v262 + 1) F413 < m266 v261 v262 F263) ∧
                            (¬ (z259 ≤ v262) →
                              ((z27 = 0) →
                                jR (v262 + 1) ∧
                                jR (v261 + 1) ∧
                                I265 (v261 + 1) (v262 + 1) F413 ∧ m266 (v261 + 1) (v262 + 1) F413 < m266 v261 v262 F263) ∧
                              (¬ (z27 = 0) →
                                (0 ≤ v261 ∧ v261 < 1800) ∧
                                jR (((10 * (F413 3018 o)) + (A (o + 1) v261)) - 48) ∧
                                ∀ F424 : jFl, F424 = upF F413 3018 o (((10 * (F413 3018 o)) + (A (o + 1) v261)) - 48) →
                                jR (v262 + 1) ∧
                                jR (v261 + 1) ∧
                                I265 (v261 + 1) (v262 + 1) F424 ∧ m266 (v261 + 1) (v262 + 1) F424 < m266 v261 v262 F263))) ∧
                          (¬ (z259 ≤ v262) →
                            ((z21 = 0) →
                              ((z259 ≤ v262) →
                                jR (v262 + 1) ∧
                                jR (v261 + 1) ∧
                                I265 (v261 + 1) (v262 + 1) F413 ∧ m266 (v261 + 1) (v262 + 1) F413 < m266 v261 v262 F263) ∧
                              (¬ (z259 ≤ v262) →
                                ((z27 = 0) →
                                  jR (v262 + 1) ∧
                                  jR (v261 + 1) ∧
                                  I265 (v261 + 1) (v262 + 1) F413 ∧ m266 (v261 + 1) (v262 + 1) F413 < m266 v261 v262 F263) ∧
                                (¬ (z27 = 0) →
                                  (0 ≤ v261 ∧ v261 < 1800) ∧
                                  jR (((10 * (F413 3018 o)) + (A (o + 1) v261)) - 48) ∧
                                  ∀ F437 : jFl, F437 = upF F413 3018 o (((10 * (F413 3018 o)) + (A (o + 1) v261)) - 48) →
                                  jR (v262 + 1) ∧
                                  jR (v261 + 1) ∧
                                  I265 (v261 + 1) (v262 + 1) F437 ∧ m266 (v261 + 1) (v262 + 1) F437 < m266 v261 v262 F263))) ∧
                            (¬ (z21 = 0) →
                              ((0 : Int) ≤ 8 ∧ (8 : Int) < 64) ∧
                              (0 ≤ v261 ∧ v261 < 1800) ∧
                              (((0 : Int) ≤ (F413 3022 o) * 2 ^ 8 ∧ ((F413 3022 o) * 2 ^ 8 : Int) ≤ 9223372036854775807) ∧ ((0 : Int) ≤ A (o + 1) v261 ∧ (A (o + 1) v261 : Int) ≤ 9223372036854775807)) ∧
                              jRL (jor ((F413 3022 o) * 2 ^ 8) (A (o + 1) v261)) ∧
                              ∀ F445 : jFl, F445 = upF F413 3022 o (jor ((F413 3022 o) * 2 ^ 8) (A (o + 1) v261)) →
                              ((z259 ≤ v262) →
                                jR (v262 + 1) ∧
                                jR (v261 + 1) ∧
                                I265 (v261 + 1) (v262 + 1) F445 ∧ m266 (v261 + 1) (v262 + 1) F445 < m266 v261 v262 F263) ∧
                              (¬ (z259 ≤ v262) →
                                ((z27 = 0) →
                                  jR (v262 + 1) ∧
                                  jR (v261 + 1) ∧
                                  I265 (v261 + 1) (v262 + 1) F445 ∧ m266 (v261 + 1) (v262 + 1) F445 < m266 v261 v262 F263) ∧
                                (¬ (z27 = 0) →
                                  (0 ≤ v261 ∧ v261 < 1800) ∧
                                  jR (((10 * (F445 3018 o)) + (A (o + 1) v261)) - 48) ∧
                                  ∀ F455 : jFl, F455 = upF F445 3018 o (((10 * (F445 3018 o)) + (A (o + 1) v261)) - 48) →
                                  jR (v262 + 1) ∧
                                  jR (v261 + 1) ∧
                                  I265 (v261 + 1) (v262 + 1) F455 ∧ m266 (v261 + 1) (v262 + 1) F455 < m266 v261 v262 F263)))))))))) ∧
            (¬ (¬ z27 = 0) →
              (0 ≤ v2 ∧ v2 < 1800) ∧
              ∀ F460 : jFl, F460 = upF F43 3018 o (A (o + 1) v2) →
              Q F460 A))) ∧
        ((¬ z21 = 0) →
          ((v2 ≤ 0) →
            K33 F15) ∧
          (¬ (v2 ≤ 0) →
            (0 ≤ v2 - 1 ∧ v2 - 1 < 1800) ∧
            ∃ P464 : Int → Prop, wpX9_isLetter o (A (o + 1) (v2 - 1)) F15 A P464 ∧ ∀ z466, P464 z466 →
            ((¬ z466 = 0) →
              ∀ F470 : jFl, F470 = upF F15 3036 o v2 →
              K33 F470) ∧
            (¬ (¬ z466 = 0) →
              (0 ≤ v2 - 1 ∧ v2 - 1 < 1800) ∧
              ∃ P473 : Int → Prop, wpX9_isDigit o (A (o + 1) (v2 - 1)) F15 A P473 ∧ ∀ z475, P473 z475 →
              ((z475 = 0) →
                K33 F15) ∧
              (¬ (z475 = 0) →
                ∀ F479 : jFl, F479 = upF F15 3036 o v2 →
                K33 F479)))) ∧
        (¬ (¬ z21 = 0) →
          ((z27 = 0) →
            K33 F15) ∧
          (¬ (z27 = 0) →
            ((v2 ≤ 0) →
              K33 F15) ∧
            (¬ (v2 ≤ 0) →
              (0 ≤ v2 - 1 ∧ v2 - 1 < 1800) ∧
              ∃ P484 : Int → Prop, wpX9_isLetter o (A (o + 1) (v2 - 1)) F15 A P484 ∧ ∀ z486, P484 z486 →
              ((¬ z486 = 0) →
                ∀ F490 : jFl, F490 = upF F15 3036 o v2 →
                K33 F490) ∧
              (¬ (¬ z486 = 0) →
                (0 ≤ v2 - 1 ∧ v2 - 1 < 1800) ∧
                ∃ P493 : Int → Prop, wpX9_isDigit o (A (o + 1) (v2 - 1)) F15 A P493 ∧ ∀ z495, P493 z495 →
                ((z495 = 0) →
                  K33 F15) ∧
                (¬ (z495 = 0) →
                  ∀ F499 : jFl, F499 = upF F15 3036 o v2 →
                  K33 F499)))))) ∧
      (¬ (v2 < (F15 3006 o)) →
        Q F15 A)) ∧
    (((F 3006 o) ≤ v2) →
      K6 ) ∧
    (¬ ((F 3006 o) ≤ v2) →
      (0 ≤ v2 ∧ v2 < 1800) ∧
      (((A (o + 1) v2) = 32) →
        jR (v2 + 1) ∧
        I3 (v2 + 1) ∧ m4 (v2 + 1) < m4 v2) ∧
      (¬ ((A (o + 1) v2) = 32) →
        (0 ≤ v2 ∧ v2 < 1800) ∧
        ((¬ (A (o + 1) v2) = 10) →
          K6 ) ∧
        (¬ (¬ (A (o + 1) v2) = 10) →
          jR (v2 + 1) ∧
          I3 (v2 + 1) ∧ m4 (v2 + 1) < m4 v2)))
theorem wX9_ahead {G : jG} {l : Launch} {d : Nat} {N : jSh} {o : Nat} {F : jFl} {A : jAr} {Q : jFl → jAr → Prop} (hd : 2 ≤ d) (hM : mShape G N o) (hW : jWf N F A) (h : wpX9_ahead o F A Q) : jCall G l d mX9_ahead [.ref o] N F A (jmV N Q) := by
  refine jCall.of (ls := [.ref o, jD, jD, jD, jD, jD]) (by decide) rfl (Nat.le_of_ble_eq_true rfl) rfl ?_
  unfold wpX9_ahead at h
  refine j_aload_n dX9_ahead_0 rfl ?_
  refine j_getI dX9_ahead_1 flX9_26_10 hM.1 rfl ?_
  obtain ⟨v1, ev1⟩ : ∃ x : Int, x = F 3015 o := ⟨_, rfl⟩
  have h := h v1 ev1
  refine jnmI (e := ev1) ?_
  refine j_istore_n dX9_ahead_4 rfl ?_
  obtain ⟨I3, m4, h0, hs⟩ := h
  have lp : ∀ (n : Nat) (v2 : Int), m4 v2 < n → jR v2 → I3 v2 → J G l d mX9_ahead 5 [.ref o, vI v2, jD, jD, jD, jD] [] N F A (jmV N Q) := by
    intro nI3
    induction nI3 with
    | zero =>
      intro v2 hmu
      exact absurd hmu (Nat.not_lt_zero _)
    | succ nI3 ihI3 =>
      intro v2 hmuI3 rv2 hI
      have h := hs v2 hI
      refine j_iload_n dX9_ahead_5 rfl ?_
      refine j_aload_n dX9_ahead_6 rfl ?_
      refine j_getI dX9_ahead_7 flX9_17_10 hM.1 rfl ?_
      obtain ⟨K6, hK8, h⟩ := h
      have jn7 : K6  → J G l d mX9_ahead 41 [.ref o, vI v2, jD, jD, jD, jD] [] N F A (jmV N Q) := by
        intro   h
        have h := hK8  h
        refine j_aload_n dX9_ahead_41 rfl ?_
        refine j_iload_n dX9_ahead_42 rfl ?_
        refine j_putI dX9_ahead_43 flX9_23_10 hM.1 hM.2.1 rfl ?_
        obtain ⟨F9, eF9⟩ : ∃ x : jFl, x = upF F 3012 o v2 := ⟨_, rfl⟩
        have hW10 : jWf N F9 A := eF9 ▸ jWf_F (f := 3012) (a := o) (z := v2) hW (jRk_0 rfl rv2)
        refine jnmF (e := eF9) ?_
        have h := h F9 eF9
        refine j_aload_n dX9_ahead_46 rfl ?_
        refine j_iload_n dX9_ahead_47 rfl ?_
        refine j_putI dX9_ahead_48 flX9_26_10 hM.1 hM.2.1 rfl ?_
        obtain ⟨F11, eF11⟩ : ∃ x : jFl, x = upF F9 3015 o v2 := ⟨_, rfl⟩
        have hW12 : jWf N F11 A := eF11 ▸ jWf_F (f := 3015) (a := o) (z := v2) hW10 (jRk_0 rfl rv2)
        refine jnmF (e := eF11) ?_
        have h := h F11 eF11
        refine j_aload_n dX9_ahead_51 rfl ?_
        refine j_iconst dX9_ahead_52 ?_
        refine j_putI dX9_ahead_53 flX9_20_10 hM.1 hM.2.1 rfl ?_
        obtain ⟨F13, eF13⟩ : ∃ x : jFl, x = upF F11 3009 o 0 := ⟨_, rfl⟩
        have hW14 : jWf N F13 A := eF13 ▸ jWf_F (f := 3009) (a := o) (z := 0) hW12 (jRk_0 rfl (by decide))
        refine jnmF (e := eF13) ?_
        have h := h F13 eF13
        refine j_aload_n dX9_ahead_56 rfl ?_
        refine j_iconst dX9_ahead_57 ?_
        refine j_putI dX9_ahead_58 flX9_48_10 hM.1 hM.2.1 rfl ?_
        obtain ⟨F15, eF15⟩ : ∃ x : jFl, x = upF F13 3036 o (-1) := ⟨_, rfl⟩
        have hW16 : jWf N F15 A := eF15 ▸ jWf_F (f := 3036) (a := o) (z := (-1)) hW14 (jRk_0 rfl (by decide))
        refine jnmF (e := eF15) ?_
        have h := h F15 eF15
        refine j_iload_n dX9_ahead_61 rfl ?_
        refine j_aload_n dX9_ahead_62 rfl ?_
        refine j_getI dX9_ahead_63 flX9_17_10 hM.1 rfl ?_
        obtain ⟨h1, h2⟩ := h
        refine j_icmp_lt 70 dX9_ahead_66 rfl rv2 (hW16.fi rfl) (fun q17 => ?_) (fun q17 => ?_)
        · have h := h1 q17
          clear h1 h2
          refine j_aload_n dX9_ahead_70 rfl ?_
          refine j_getFR dX9_ahead_71 flX9_7_10 hM.1 rfl (mf_tape hM) ?_
          refine j_iload_n dX9_ahead_74 rfl ?_
          obtain ⟨c18, h⟩ := h
          refine j_iald (n := 1800) dX9_ahead_75 (mt_tape hM) (ml_tape hM) c18 ?_
          obtain ⟨P19, hp20, h⟩ := h
          refine j_invS (As := [vI (A (o + 1) v2)]) (rest := []) dX9_ahead_76 lkX9_266 (wX9_isLetter (d := 1) (Nat.le_of_ble_eq_true rfl) hM hW16 (hW16.ai (mt_tape hM) rfl) hp20) rfl rfl (Nat.le_of_ble_eq_true rfl) (Nat.le_trans (Nat.le_of_ble_eq_true rfl) hd) (jkpB fun z21 p22 r23 => ?_)
          have h := h z21 p22
          refine j_istore_n dX9_ahead_79 rfl ?_
          refine j_aload_n dX9_ahead_80 rfl ?_
          refine j_getFR dX9_ahead_81 flX9_7_10 hM.1 rfl (mf_tape hM) ?_
          refine j_iload_n dX9_ahead_84 rfl ?_
          obtain ⟨c24, h⟩ := h
          refine j_iald (n := 1800) dX9_ahead_85 (mt_tape hM) (ml_tape hM) c24 ?_
          obtain ⟨P25, hp26, h⟩ := h
          refine j_invS (As := [vI (A (o + 1) v2)]) (rest := []) dX9_ahead_86 lkX9_270 (wX9_isDigit (d := 1) (Nat.le_of_ble_eq_true rfl) hM hW16 (hW16.ai (mt_tape hM) rfl) hp26) rfl rfl (Nat.le_of_ble_eq_true rfl) (Nat.le_trans (Nat.le_of_ble_eq_true rfl) hd) (jkpB fun z27 p28 r29 => ?_)
          have h := h z27 p28
          refine j_istore_n dX9_ahead_89 rfl ?_
          refine j_iload_n dX9_ahead_90 rfl ?_
          obtain ⟨K33, hK35, h⟩ := h
          have jn34 : ∀ (F31 : jFl), jWf N F31 A → K33 F31 → J G l d mX9_ahead 135 [.ref o, vI v2, vI z21, vI z27, jD, jD] [] N F31 A (jmV N Q) := by
            intro F31 hW32  h
            have h := hK35 F31 h
            refine j_aload_n dX9_ahead_135 rfl ?_
            refine j_iconst dX9_ahead_136 ?_
            refine j_putI dX9_ahead_137 flX9_29_10 hM.1 hM.2.1 rfl ?_
            obtain ⟨F36, eF36⟩ : ∃ x : jFl, x = upF F31 3018 o 0 := ⟨_, rfl⟩
            have hW37 : jWf N F36 A := eF36 ▸ jWf_F (f := 3018) (a := o) (z := 0) hW32 (jRk_0 rfl (by decide))
            refine jnmF (e := eF36) ?_
            have h := h F36 eF36
            refine j_aload_n dX9_ahead_140 rfl ?_
            refine j_lconst 0 rfl dX9_ahead_141 ?_
            refine j_putL dX9_ahead_142 flX9_32_10 hM.1 hM.2.1 rfl ?_
            obtain ⟨F38, eF38⟩ : ∃ x : jFl, x = upF F36 3022 o 0 := ⟨_, rfl⟩
            have hW39 : jWf N F38 A := eF38 ▸ jWf_F (f := 3022) (a := o) (z := 0) hW37 (jRk_1 rfl (by decide))
            refine jnmF (e := eF38) ?_
            have h := h F38 eF38
            refine j_aload_n dX9_ahead_145 rfl ?_
            refine j_iconst dX9_ahead_146 ?_
            refine j_putI dX9_ahead_147 flX9_20_10 hM.1 hM.2.1 rfl ?_
            obtain ⟨F40, eF40⟩ : ∃ x : jFl, x = upF F38 3009 o 3 := ⟨_, rfl⟩
            have hW41 : jWf N F40 A := eF40 ▸ jWf_F (f := 3009) (a := o) (z := 3) hW39 (jRk_0 rfl (by decide))
            refine jnmF (e := eF40) ?_
            have h := h F40 eF40
            refine j_aload_n dX9_ahead_150 rfl ?_
            refine j_iload_n dX9_ahead_151 rfl ?_
            refine j_iconst dX9_ahead_152 ?_
            refine j_iadd dX9_ahead_153 ?_
            obtain ⟨r42, h⟩ := h
            refine j_putI dX9_ahead_154 flX9_26_10 hM.1 hM.2.1 rfl ?_
            obtain ⟨F43, eF43⟩ : ∃ x : jFl, x = upF F40 3015 o (v2 + 1) := ⟨_, rfl⟩
            have hW44 : jWf N F43 A := eF43 ▸ jWf_F (f := 3015) (a := o) (z := v2 + 1) hW41 (jRk_0 rfl r42)
            refine jnmF (e := eF43) ?_
            have h := h F43 eF43
            refine j_iload_n dX9_ahead_157 rfl ?_
            obtain ⟨h1, h2⟩ := h
            refine j_if_ne 176 dX9_ahead_158 rfl (jR_b r23) (fun q45 => ?_) (fun q45 => ?_)
            · have h := h1 q45
              clear h1 h2
              refine j_aload_n dX9_ahead_176 rfl ?_
              refine j_iload_n dX9_ahead_177 rfl ?_
              have jn48 : ∀ z47 : Int, z47 = (if z21 = 0 then 2 else 1) → J G l d mX9_ahead 186 [.ref o, vI v2, vI z21, vI z27, jD, jD] [vI z47, .ref o] N F43 A (jmV N Q) := by
                intro z47 ez47
                have h := h z47 ez47
                refine j_putI dX9_ahead_186 flX9_20_10 hM.1 hM.2.1 rfl ?_
                obtain ⟨F49, eF49⟩ : ∃ x : jFl, x = upF F43 3009 o z47 := ⟨_, rfl⟩
                have hW50 : jWf N F49 A := eF49 ▸ jWf_F (f := 3009) (a := o) (z := z47) hW44 (jRk_0 rfl (ez47 ▸ (jR_ite (by decide) (by decide))))
                refine jnmF (e := eF49) ?_
                have h := h F49 eF49
                refine j_iload_n dX9_ahead_189 rfl ?_
                have jn53 : ∀ z52 : Int, z52 = (if z21 = 0 then 4 else 6) → J G l d mX9_ahead 199 [.ref o, vI v2, vI z21, vI z27, jD, jD] [vI z52] N F49 A (jmV N Q) := by
                  intro z52 ez52
                  have h := h z52 ez52
                  refine j_istore dX9_ahead_199 rfl ?_
                  refine j_iconst dX9_ahead_201 ?_
                  refine j_istore dX9_ahead_202 rfl ?_
                  obtain ⟨I58, m59, h0, hs⟩ := h
                  have lp : ∀ (n : Nat) (v54 : Int) (v55 : Int) (F56 : jFl), m59 v54 v55 F56 < n → jWf N F56 A → jR v54 → jR v55 → I58 v54 v55 F56 → J G l d mX9_ahead 204 [.ref o, vI v54, vI z21, vI z27, vI z52, vI v55] [] N F56 A (jmV N Q) := by
                    intro nI58
                    induction nI58 with
                    | zero =>
                      intro v54 v55 F56 hmu
                      exact absurd hmu (Nat.not_lt_zero _)
                    | succ nI58 ihI58 =>
                      intro v54 v55 F56 hmuI58 hW57 rv54 rv55 hI
                      have h := hs v54 v55 F56 hI
                      refine j_iload_n dX9_ahead_204 rfl ?_
                      refine j_aload_n dX9_ahead_205 rfl ?_
                      refine j_getI dX9_ahead_206 flX9_17_10 hM.1 rfl ?_
                      obtain ⟨h1, h2⟩ := h
                      refine j_icmp_ge 334 dX9_ahead_209 rfl rv54 (hW57.fi rfl) (fun q60 => ?_) (fun q60 => ?_)
                      · have h := h1 q60
                        clear h1 h2
                        refine j_aload_n dX9_ahead_334 rfl ?_
                        refine j_iload_n dX9_ahead_335 rfl ?_
                        refine j_putI dX9_ahead_336 flX9_26_10 hM.1 hM.2.1 rfl ?_
                        obtain ⟨F61, eF61⟩ : ∃ x : jFl, x = upF F56 3015 o v54 := ⟨_, rfl⟩
                        have hW62 : jWf N F61 A := eF61 ▸ jWf_F (f := 3015) (a := o) (z := v54) hW57 (jRk_0 rfl rv54)
                        refine jnmF (e := eF61) ?_
                        have h := h F61 eF61
                        exact j_vret dX9_ahead_339 rfl ⟨rfl, rfl, hW62, h⟩
                      · have h := h2 q60
                        clear h1 h2
                        refine j_iload_n dX9_ahead_212 rfl ?_
                        obtain ⟨h1, h2⟩ := h
                        refine j_if_eq 231 dX9_ahead_213 rfl (jR_b r23) (fun q63 => ?_) (fun q63 => ?_)
                        · have h := h1 q63
                          clear h1 h2
                          refine j_aload_n dX9_ahead_231 rfl ?_
                          refine j_getFR dX9_ahead_232 flX9_7_10 hM.1 rfl (mf_tape hM) ?_
                          refine j_iload_n dX9_ahead_235 rfl ?_
                          obtain ⟨c64, h⟩ := h
                          refine j_iald (n := 1800) dX9_ahead_236 (mt_tape hM) (ml_tape hM) c64 ?_
                          obtain ⟨P65, hp66, h⟩ := h
                          refine j_invS (As := [vI (A (o + 1) v54)]) (rest := []) dX9_ahead_237 lkX9_270 (wX9_isDigit (d := 1) (Nat.le_of_ble_eq_true rfl) hM hW57 (hW57.ai (mt_tape hM) rfl) hp66) rfl rfl (Nat.le_of_ble_eq_true rfl) (Nat.le_trans (Nat.le_of_ble_eq_true rfl) hd) (jkpB fun z67 p68 r69 => ?_)
                          have h := h z67 p68
                          obtain ⟨h1, h2⟩ := h
                          refine j_if_eq 334 dX9_ahead_240 rfl (jR_b r69) (fun q70 => ?_) (fun q70 => ?_)
                          · have h := h1 q70
                            clear h1 h2
                            refine j_aload_n dX9_ahead_334 rfl ?_
                            refine j_iload_n dX9_ahead_335 rfl ?_
                            refine j_putI dX9_ahead_336 flX9_26_10 hM.1 hM.2.1 rfl ?_
                            obtain ⟨F71, eF71⟩ : ∃ x : jFl, x = upF F56 3015 o v54 := ⟨_, rfl⟩
                            have hW72 : jWf N F71 A := eF71 ▸ jWf_F (f := 3015) (a := o) (z := v54) hW57 (jRk_0 rfl rv54)
                            refine jnmF (e := eF71) ?_
                            have h := h F71 eF71
                            exact j_vret dX9_ahead_339 rfl ⟨rfl, rfl, hW72, h⟩
                          · have h := h2 q70
                            clear h1 h2
                            refine j_iload dX9_ahead_243 rfl ?_
                            refine j_iload dX9_ahead_245 rfl ?_
                            obtain ⟨K76, hK78, h⟩ := h
                            have jn77 : ∀ (F74 : jFl), jWf N F74 A → K76 F74 → J G l d mX9_ahead 263 [.ref o, vI v54, vI z21, vI z27, vI z52, vI v55] [] N F74 A (jmV N Q) := by
                              intro F74 hW75  h
                              have h := hK78 F74 h
                              refine j_iload dX9_ahead_263 rfl ?_
                              refine j_iload dX9_ahead_265 rfl ?_
                              obtain ⟨K82, hK84, h⟩ := h
                              have jn83 : ∀ (F80 : jFl), jWf N F80 A → K82 F80 → J G l d mX9_ahead 293 [.ref o, vI v54, vI z21, vI z27, vI z52, vI v55] [] N F80 A (jmV N Q) := by
                                intro F80 hW81  h
                                have h := hK84 F80 h
                                refine j_iload dX9_ahead_293 rfl ?_
                                refine j_iload dX9_ahead_295 rfl ?_
                                obtain ⟨h1, h2⟩ := h
                                refine j_icmp_ge 325 dX9_ahead_297 rfl rv55 (ez52 ▸ (jR_ite (by decide) (by decide))) (fun q85 => ?_) (fun q85 => ?_)
                                · have h := h1 q85
                                  clear h1 h2
                                  obtain ⟨r86, h⟩ := h
                                  refine j_iinc dX9_ahead_325 rfl rfl ?_
                                  obtain ⟨r87, h⟩ := h
                                  refine j_iinc dX9_ahead_328 rfl rfl ?_
                                  refine j_goto 204 dX9_ahead_331 rfl ?_
                                  exact J.wk (((((((jWk.nil).eq).eq).eq).eq).eq).eq) (ihI58 _ _ _ (Nat.lt_of_lt_of_le h.2 (Nat.le_of_lt_succ hmuI58)) hW81 r87 r86 h.1)
                                · have h := h2 q85
                                  clear h1 h2
                                  refine j_iload_n dX9_ahead_300 rfl ?_
                                  obtain ⟨h1, h2⟩ := h
                                  refine j_if_eq 325 dX9_ahead_301 rfl (jR_b r29) (fun q88 => ?_) (fun q88 => ?_)
                                  · have h := h1 q88
                                    clear h1 h2
                                    obtain ⟨r89, h⟩ := h
                                    refine j_iinc dX9_ahead_325 rfl rfl ?_
                                    obtain ⟨r90, h⟩ := h
                                    refine j_iinc dX9_ahead_328 rfl rfl ?_
                                    refine j_goto 204 dX9_ahead_331 rfl ?_
                                    exact J.wk (((((((jWk.nil).eq).eq).eq).eq).eq).eq) (ihI58 _ _ _ (Nat.lt_of_lt_of_le h.2 (Nat.le_of_lt_succ hmuI58)) hW81 r90 r89 h.1)
                                  · have h := h2 q88
                                    clear h1 h2
                                    refine j_aload_n dX9_ahead_304 rfl ?_
                                    refine j_bipush dX9_ahead_305 ?_
                                    refine j_aload_n dX9_ahead_307 rfl ?_
                                    refine j_getI dX9_ahead_308 flX9_29_10 hM.1 rfl ?_
                                    refine j_imul dX9_ahead_311 ?_
                                    refine j_aload_n dX9_ahead_312 rfl ?_
                                    refine j_getFR dX9_ahead_313 flX9_7_10 hM.1 rfl (mf_tape hM) ?_
                                    refine j_iload_n dX9_ahead_316 rfl ?_
                                    obtain ⟨c91, h⟩ := h
                                    refine j_iald (n := 1800) dX9_ahead_317 (mt_tape hM) (ml_tape hM) c91 ?_
                                    refine j_iadd dX9_ahead_318 ?_
                                    refine j_bipush dX9_ahead_319 ?_
                                    refine j_isub dX9_ahead_321 ?_
                                    obtain ⟨r92, h⟩ := h
                                    refine j_putI dX9_ahead_322 flX9_29_10 hM.1 hM.2.1 rfl ?_
                                    obtain ⟨F93, eF93⟩ : ∃ x : jFl, x = upF F80 3018 o (((10 * (F80 3018 o)) + (A (o + 1) v54)) - 48) := ⟨_, rfl⟩
                                    have hW94 : jWf N F93 A := eF93 ▸ jWf_F (f := 3018) (a := o) (z := ((10 * (F80 3018 o)) + (A (o + 1) v54)) - 48) hW81 (jRk_0 rfl r92)
                                    refine jnmF (e := eF93) ?_
                                    have h := h F93 eF93
                                    obtain ⟨r95, h⟩ := h
                                    refine j_iinc dX9_ahead_325 rfl rfl ?_
                                    obtain ⟨r96, h⟩ := h
                                    refine j_iinc dX9_ahead_328 rfl rfl ?_
                                    refine j_goto 204 dX9_ahead_331 rfl ?_
                                    exact J.wk (((((((jWk.nil).eq).eq).eq).eq).eq).eq) (ihI58 _ _ _ (Nat.lt_of_lt_of_le h.2 (Nat.le_of_lt_succ hmuI58)) hW94 r96 r95 h.1)
                              obtain ⟨h1, h2⟩ := h
                              refine j_icmp_ge 293 dX9_ahead_267 rfl rv55 (ez52 ▸ (jR_ite (by decide) (by decide))) (fun q79 => ?_) (fun q79 => ?_)
                              · have h := h1 q79
                                clear h1 h2
                                exact J.wk (((((((jWk.nil).eq).eq).eq).eq).eq).eq) (jn83 _ hW75  h)
                              · have h := h2 q79
                                clear h1 h2
                                refine j_iload_n dX9_ahead_270 rfl ?_
                                obtain ⟨h1, h2⟩ := h
                                refine j_if_eq 293 dX9_ahead_271 rfl (jR_b r23) (fun q97 => ?_) (fun q97 => ?_)
                                · have h := h1 q97
                                  clear h1 h2
                                  exact J.wk (((((((jWk.nil).eq).eq).eq).eq).eq).eq) (jn83 _ hW75  h)
                                · have h := h2 q97
                                  clear h1 h2
                                  refine j_aload_n dX9_ahead_274 rfl ?_
                                  refine j_aload_n dX9_ahead_275 rfl ?_
                                  refine j_getL dX9_ahead_276 flX9_32_10 hM.1 rfl ?_
                                  refine j_bipush dX9_ahead_279 ?_
                                  obtain ⟨c98, h⟩ := h
                                  refine j_lshl dX9_ahead_281 c98 ?_
                                  refine j_aload_n dX9_ahead_282 rfl ?_
                                  refine j_getFR dX9_ahead_283 flX9_7_10 hM.1 rfl (mf_tape hM) ?_
                                  refine j_iload_n dX9_ahead_286 rfl ?_
                                  obtain ⟨c99, h⟩ := h
                                  refine j_iald (n := 1800) dX9_ahead_287 (mt_tape hM) (ml_tape hM) c99 ?_
                                  refine j_i2l dX9_ahead_288 (hW75.ai (mt_tape hM) rfl) ?_
                                  obtain ⟨c100, h⟩ := h
                                  refine j_lor dX9_ahead_289 c100.1 c100.2 ?_
                                  obtain ⟨r101, h⟩ := h
                                  refine j_putL dX9_ahead_290 flX9_32_10 hM.1 hM.2.1 rfl ?_
                                  obtain ⟨F102, eF102⟩ : ∃ x : jFl, x = upF F74 3022 o (jor ((F74 3022 o) * 2 ^ 8) (A (o + 1) v54)) := ⟨_, rfl⟩
                                  have hW103 : jWf N F102 A := eF102 ▸ jWf_F (f := 3022) (a := o) (z := jor ((F74 3022 o) * 2 ^ 8) (A (o + 1) v54)) hW75 (jRk_1 rfl r101)
                                  refine jnmF (e := eF102) ?_
                                  have h := h F102 eF102
                                  exact J.wk (((((((jWk.nil).eq).eq).eq).eq).eq).eq) (jn83 _ hW103  h)
                            obtain ⟨h1, h2⟩ := h
                            refine j_icmp_ne 263 dX9_ahead_247 rfl rv55 (ez52 ▸ (jR_ite (by decide) (by decide))) (fun q73 => ?_) (fun q73 => ?_)
                            · have h := h1 q73
                              clear h1 h2
                              exact J.wk (((((((jWk.nil).eq).eq).eq).eq).eq).eq) (jn77 _ hW57  h)
                            · have h := h2 q73
                              clear h1 h2
                              refine j_aload_n dX9_ahead_250 rfl ?_
                              refine j_getI dX9_ahead_251 flX9_48_10 hM.1 rfl ?_
                              refine j_iconst dX9_ahead_254 ?_
                              obtain ⟨h1, h2⟩ := h
                              refine j_icmp_ne 263 dX9_ahead_255 rfl (hW57.fi rfl) (by decide) (fun q104 => ?_) (fun q104 => ?_)
                              · have h := h1 q104
                                clear h1 h2
                                exact J.wk (((((((jWk.nil).eq).eq).eq).eq).eq).eq) (jn77 _ hW57  h)
                              · have h := h2 q104
                                clear h1 h2
                                refine j_aload_n dX9_ahead_258 rfl ?_
                                refine j_iload_n dX9_ahead_259 rfl ?_
                                refine j_putI dX9_ahead_260 flX9_48_10 hM.1 hM.2.1 rfl ?_
                                obtain ⟨F105, eF105⟩ : ∃ x : jFl, x = upF F56 3036 o v54 := ⟨_, rfl⟩
                                have hW106 : jWf N F105 A := eF105 ▸ jWf_F (f := 3036) (a := o) (z := v54) hW57 (jRk_0 rfl rv54)
                                refine jnmF (e := eF105) ?_
                                have h := h F105 eF105
                                exact J.wk (((((((jWk.nil).eq).eq).eq).eq).eq).eq) (jn77 _ hW106  h)
                        · have h := h2 q63
                          clear h1 h2
                          refine j_aload_n dX9_ahead_216 rfl ?_
                          refine j_getFR dX9_ahead_217 flX9_7_10 hM.1 rfl (mf_tape hM) ?_
                          refine j_iload_n dX9_ahead_220 rfl ?_
                          obtain ⟨c107, h⟩ := h
                          refine j_iald (n := 1800) dX9_ahead_221 (mt_tape hM) (ml_tape hM) c107 ?_
                          obtain ⟨P108, hp109, h⟩ := h
                          refine j_invS (As := [vI (A (o + 1) v54)]) (rest := []) dX9_ahead_222 lkX9_266 (wX9_isLetter (d := 1) (Nat.le_of_ble_eq_true rfl) hM hW57 (hW57.ai (mt_tape hM) rfl) hp109) rfl rfl (Nat.le_of_ble_eq_true rfl) (Nat.le_trans (Nat.le_of_ble_eq_true rfl) hd) (jkpB fun z110 p111 r112 => ?_)
                          have h := h z110 p111
                          obtain ⟨h1, h2⟩ := h
                          refine j_if_eq 334 dX9_ahead_225 rfl (jR_b r112) (fun q113 => ?_) (fun q113 => ?_)
                          · have h := h1 q113
                            clear h1 h2
                            refine j_aload_n dX9_ahead_334 rfl ?_
                            refine j_iload_n dX9_ahead_335 rfl ?_
                            refine j_putI dX9_ahead_336 flX9_26_10 hM.1 hM.2.1 rfl ?_
                            obtain ⟨F114, eF114⟩ : ∃ x : jFl, x = upF F56 3015 o v54 := ⟨_, rfl⟩
                            have hW115 : jWf N F114 A := eF114 ▸ jWf_F (f := 3015) (a := o) (z := v54) hW57 (jRk_0 rfl rv54)
                            refine jnmF (e := eF114) ?_
                            have h := h F114 eF114
                            exact j_vret dX9_ahead_339 rfl ⟨rfl, rfl, hW115, h⟩
                          · have h := h2 q113
                            clear h1 h2
                            refine j_goto 243 dX9_ahead_228 rfl ?_
                            refine j_iload dX9_ahead_243 rfl ?_
                            refine j_iload dX9_ahead_245 rfl ?_
                            obtain ⟨h1, h2⟩ := h
                            refine j_icmp_ne 263 dX9_ahead_247 rfl rv55 (ez52 ▸ (jR_ite (by decide) (by decide))) (fun q116 => ?_) (fun q116 => ?_)
                            · have h := h1 q116
                              clear h1 h2
                              refine j_iload dX9_ahead_263 rfl ?_
                              refine j_iload dX9_ahead_265 rfl ?_
                              obtain ⟨h1, h2⟩ := h
                              refine j_icmp_ge 293 dX9_ahead_267 rfl rv55 (ez52 ▸ (jR_ite (by decide) (by decide))) (fun q117 => ?_) (fun q117 => ?_)
                              · have h := h1 q117
                                clear h1 h2
                                refine j_iload dX9_ahead_293 rfl ?_
                                refine j_iload dX9_ahead_295 rfl ?_
                                obtain ⟨h1, h2⟩ := h
                                refine j_icmp_ge 325 dX9_ahead_297 rfl rv55 (ez52 ▸ (jR_ite (by decide) (by decide))) (fun q118 => ?_) (fun q118 => ?_)
                                · have h := h1 q118
                                  clear h1 h2
                                  obtain ⟨r119, h⟩ := h
                                  refine j_iinc dX9_ahead_325 rfl rfl ?_
                                  obtain ⟨r120, h⟩ := h
                                  refine j_iinc dX9_ahead_328 rfl rfl ?_
                                  refine j_goto 204 dX9_ahead_331 rfl ?_
                                  exact J.wk (((((((jWk.nil).eq).eq).eq).eq).eq).eq) (ihI58 _ _ _ (Nat.lt_of_lt_of_le h.2 (Nat.le_of_lt_succ hmuI58)) hW57 r120 r119 h.1)
                                · have h := h2 q118
                                  clear h1 h2
                                  refine j_iload_n dX9_ahead_300 rfl ?_
                                  obtain ⟨h1, h2⟩ := h
                                  refine j_if_eq 325 dX9_ahead_301 rfl (jR_b r29) (fun q121 => ?_) (fun q121 => ?_)
                                  · have h := h1 q121
                                    clear h1 h2
                                    obtain ⟨r122, h⟩ := h
                                    refine j_iinc dX9_ahead_325 rfl rfl ?_
                                    obtain ⟨r123, h⟩ := h
                                    refine j_iinc dX9_ahead_328 rfl rfl ?_
                                    refine j_goto 204 dX9_ahead_331 rfl ?_
                                    exact J.wk (((((((jWk.nil).eq).eq).eq).eq).eq).eq) (ihI58 _ _ _ (Nat.lt_of_lt_of_le h.2 (Nat.le_of_lt_succ hmuI58)) hW57 r123 r122 h.1)
                                  · have h := h2 q121
                                    clear h1 h2
                                    refine j_aload_n dX9_ahead_304 rfl ?_
                                    refine j_bipush dX9_ahead_305 ?_
                                    refine j_aload_n dX9_ahead_307 rfl ?_
                                    refine j_getI dX9_ahead_308 flX9_29_10 hM.1 rfl ?_
                                    refine j_imul dX9_ahead_311 ?_
                                    refine j_aload_n dX9_ahead_312 rfl ?_
                                    refine j_getFR dX9_ahead_313 flX9_7_10 hM.1 rfl (mf_tape hM) ?_
                                    refine j_iload_n dX9_ahead_316 rfl ?_
                                    obtain ⟨c124, h⟩ := h
                                    refine j_iald (n := 1800) dX9_ahead_317 (mt_tape hM) (ml_tape hM) c124 ?_
                                    refine j_iadd dX9_ahead_318 ?_
                                    refine j_bipush dX9_ahead_319 ?_
                                    refine j_isub dX9_ahead_321 ?_
                                    obtain ⟨r125, h⟩ := h
                                    refine j_putI dX9_ahead_322 flX9_29_10 hM.1 hM.2.1 rfl ?_
                                    obtain ⟨F126, eF126⟩ : ∃ x : jFl, x = upF F56 3018 o (((10 * (F56 3018 o)) + (A (o + 1) v54)) - 48) := ⟨_, rfl⟩
                                    have hW127 : jWf N F126 A := eF126 ▸ jWf_F (f := 3018) (a := o) (z := ((10 * (F56 3018 o)) + (A (o + 1) v54)) - 48) hW57 (jRk_0 rfl r125)
                                    refine jnmF (e := eF126) ?_
                                    have h := h F126 eF126
                                    obtain ⟨r128, h⟩ := h
                                    refine j_iinc dX9_ahead_325 rfl rfl ?_
                                    obtain ⟨r129, h⟩ := h
                                    refine j_iinc dX9_ahead_328 rfl rfl ?_
                                    refine j_goto 204 dX9_ahead_331 rfl ?_
                                    exact J.wk (((((((jWk.nil).eq).eq).eq).eq).eq).eq) (ihI58 _ _ _ (Nat.lt_of_lt_of_le h.2 (Nat.le_of_lt_succ hmuI58)) hW127 r129 r128 h.1)
                              · have h := h2 q117
                                clear h1 h2
                                refine j_iload_n dX9_ahead_270 rfl ?_
                                obtain ⟨h1, h2⟩ := h
                                refine j_if_eq 293 dX9_ahead_271 rfl (jR_b r23) (fun q130 => ?_) (fun q130 => ?_)
                                · have h := h1 q130
                                  clear h1 h2
                                  refine j_iload dX9_ahead_293 rfl ?_
                                  refine j_iload dX9_ahead_295 rfl ?_
                                  obtain ⟨h1, h2⟩ := h
                                  refine j_icmp_ge 325 dX9_ahead_297 rfl rv55 (ez52 ▸ (jR_ite (by decide) (by decide))) (fun q131 => ?_) (fun q131 => ?_)
                                  · have h := h1 q131
                                    clear h1 h2
                                    obtain ⟨r132, h⟩ := h
                                    refine j_iinc dX9_ahead_325 rfl rfl ?_
                                    obtain ⟨r133, h⟩ := h
                                    refine j_iinc dX9_ahead_328 rfl rfl ?_
                                    refine j_goto 204 dX9_ahead_331 rfl ?_
                                    exact J.wk (((((((jWk.nil).eq).eq).eq).eq).eq).eq) (ihI58 _ _ _ (Nat.lt_of_lt_of_le h.2 (Nat.le_of_lt_succ hmuI58)) hW57 r133 r132 h.1)
                                  · have h := h2 q131
                                    clear h1 h2
                                    refine j_iload_n dX9_ahead_300 rfl ?_
                                    obtain ⟨h1, h2⟩ := h
                                    refine j_if_eq 325 dX9_ahead_301 rfl (jR_b r29) (fun q134 => ?_) (fun q134 => ?_)
                                    · have h := h1 q134
                                      clear h1 h2
                                      obtain ⟨r135, h⟩ := h
                                      refine j_iinc dX9_ahead_325 rfl rfl ?_
                                      obtain ⟨r136, h⟩ := h
                                      refine j_iinc dX9_ahead_328 rfl rfl ?_
                                      refine j_goto 204 dX9_ahead_331 rfl ?_
                                      exact J.wk (((((((jWk.nil).eq).eq).eq).eq).eq).eq) (ihI58 _ _ _ (Nat.lt_of_lt_of_le h.2 (Nat.le_of_lt_succ hmuI58)) hW57 r136 r135 h.1)
                                    · have h := h2 q134
                                      clear h1 h2
                                      refine j_aload_n dX9_ahead_304 rfl ?_
                                      refine j_bipush dX9_ahead_305 ?_
                                      refine j_aload_n dX9_ahead_307 rfl ?_
                                      refine j_getI dX9_ahead_308 flX9_29_10 hM.1 rfl ?_
                                      refine j_imul dX9_ahead_311 ?_
                                      refine j_aload_n dX9_ahead_312 rfl ?_
                                      refine j_getFR dX9_ahead_313 flX9_7_10 hM.1 rfl (mf_tape hM) ?_
                                      refine j_iload_n dX9_ahead_316 rfl ?_
                                      obtain ⟨c137, h⟩ := h
                                      refine j_iald (n := 1800) dX9_ahead_317 (mt_tape hM) (ml_tape hM) c137 ?_
                                      refine j_iadd dX9_ahead_318 ?_
                                      refine j_bipush dX9_ahead_319 ?_
                                      refine j_isub dX9_ahead_321 ?_
                                      obtain ⟨r138, h⟩ := h
                                      refine j_putI dX9_ahead_322 flX9_29_10 hM.1 hM.2.1 rfl ?_
                                      obtain ⟨F139, eF139⟩ : ∃ x : jFl, x = upF F56 3018 o (((10 * (F56 3018 o)) + (A (o + 1) v54)) - 48) := ⟨_, rfl⟩
                                      have hW140 : jWf N F139 A := eF139 ▸ jWf_F (f := 3018) (a := o) (z := ((10 * (F56 3018 o)) + (A (o + 1) v54)) - 48) hW57 (jRk_0 rfl r138)
                                      refine jnmF (e := eF139) ?_
                                      have h := h F139 eF139
                                      obtain ⟨r141, h⟩ := h
                                      refine j_iinc dX9_ahead_325 rfl rfl ?_
                                      obtain ⟨r142, h⟩ := h
                                      refine j_iinc dX9_ahead_328 rfl rfl ?_
                                      refine j_goto 204 dX9_ahead_331 rfl ?_
                                      exact J.wk (((((((jWk.nil).eq).eq).eq).eq).eq).eq) (ihI58 _ _ _ (Nat.lt_of_lt_of_le h.2 (Nat.le_of_lt_succ hmuI58)) hW140 r142 r141 h.1)
                                · have h := h2 q130
                                  clear h1 h2
                                  refine j_aload_n dX9_ahead_274 rfl ?_
                                  refine j_aload_n dX9_ahead_275 rfl ?_
                                  refine j_getL dX9_ahead_276 flX9_32_10 hM.1 rfl ?_
                                  refine j_bipush dX9_ahead_279 ?_
                                  obtain ⟨c143, h⟩ := h
                                  refine j_lshl dX9_ahead_281 c143 ?_
                                  refine j_aload_n dX9_ahead_282 rfl ?_
                                  refine j_getFR dX9_ahead_283 flX9_7_10 hM.1 rfl (mf_tape hM) ?_
                                  refine j_iload_n dX9_ahead_286 rfl ?_
                                  obtain ⟨c144, h⟩ := h
                                  refine j_iald (n := 1800) dX9_ahead_287 (mt_tape hM) (ml_tape hM) c144 ?_
                                  refine j_i2l dX9_ahead_288 (hW57.ai (mt_tape hM) rfl) ?_
                                  obtain ⟨c145, h⟩ := h
                                  refine j_lor dX9_ahead_289 c145.1 c145.2 ?_
                                  obtain ⟨r146, h⟩ := h
                                  refine j_putL dX9_ahead_290 flX9_32_10 hM.1 hM.2.1 rfl ?_
                                  obtain ⟨F147, eF147⟩ : ∃ x : jFl, x = upF F56 3022 o (jor ((F56 3022 o) * 2 ^ 8) (A (o + 1) v54)) := ⟨_, rfl⟩
                                  have hW148 : jWf N F147 A := eF147 ▸ jWf_F (f := 3022) (a := o) (z := jor ((F56 3022 o) * 2 ^ 8) (A (o + 1) v54)) hW57 (jRk_1 rfl r146)
                                  refine jnmF (e := eF147) ?_
                                  have h := h F147 eF147
                                  refine j_iload dX9_ahead_293 rfl ?_
                                  refine j_iload dX9_ahead_295 rfl ?_
                                  obtain ⟨h1, h2⟩ := h
                                  refine j_icmp_ge 325 dX9_ahead_297 rfl rv55 (ez52 ▸ (jR_ite (by decide) (by decide))) (fun q149 => ?_) (fun q149 => ?_)
                                  · have h := h1 q149
                                    clear h1 h2
                                    obtain ⟨r150, h⟩ := h
                                    refine j_iinc dX9_ahead_325 rfl rfl ?_
                                    obtain ⟨r151, h⟩ := h
                                    refine j_iinc dX9_ahead_328 rfl rfl ?_
                                    refine j_goto 204 dX9_ahead_331 rfl ?_
                                    exact J.wk (((((((jWk.nil).eq).eq).eq).eq).eq).eq) (ihI58 _ _ _ (Nat.lt_of_lt_of_le h.2 (Nat.le_of_lt_succ hmuI58)) hW148 r151 r150 h.1)
                                  · have h := h2 q149
                                    clear h1 h2
                                    refine j_iload_n dX9_ahead_300 rfl ?_
                                    obtain ⟨h1, h2⟩ := h
                                    refine j_if_eq 325 dX9_ahead_301 rfl (jR_b r29) (fun q152 => ?_) (fun q152 => ?_)
                                    · have h := h1 q152
                                      clear h1 h2
                                      obtain ⟨r153, h⟩ := h
                                      refine j_iinc dX9_ahead_325 rfl rfl ?_
                                      obtain ⟨r154, h⟩ := h
                                      refine j_iinc dX9_ahead_328 rfl rfl ?_
                                      refine j_goto 204 dX9_ahead_331 rfl ?_
                                      exact J.wk (((((((jWk.nil).eq).eq).eq).eq).eq).eq) (ihI58 _ _ _ (Nat.lt_of_lt_of_le h.2 (Nat.le_of_lt_succ hmuI58)) hW148 r154 r153 h.1)
                                    · have h := h2 q152
                                      clear h1 h2
                                      refine j_aload_n dX9_ahead_304 rfl ?_
                                      refine j_bipush dX9_ahead_305 ?_
                                      refine j_aload_n dX9_ahead_307 rfl ?_
                                      refine j_getI dX9_ahead_308 flX9_29_10 hM.1 rfl ?_
                                      refine j_imul dX9_ahead_311 ?_
                                      refine j_aload_n dX9_ahead_312 rfl ?_
                                      refine j_getFR dX9_ahead_313 flX9_7_10 hM.1 rfl (mf_tape hM) ?_
                                      refine j_iload_n dX9_ahead_316 rfl ?_
                                      obtain ⟨c155, h⟩ := h
                                      refine j_iald (n := 1800) dX9_ahead_317 (mt_tape hM) (ml_tape hM) c155 ?_
                                      refine j_iadd dX9_ahead_318 ?_
                                      refine j_bipush dX9_ahead_319 ?_
                                      refine j_isub dX9_ahead_321 ?_
                                      obtain ⟨r156, h⟩ := h
                                      refine j_putI dX9_ahead_322 flX9_29_10 hM.1 hM.2.1 rfl ?_
                                      obtain ⟨F157, eF157⟩ : ∃ x : jFl, x = upF F147 3018 o (((10 * (F147 3018 o)) + (A (o + 1) v54)) - 48) := ⟨_, rfl⟩
                                      have hW158 : jWf N F157 A := eF157 ▸ jWf_F (f := 3018) (a := o) (z := ((10 * (F147 3018 o)) + (A (o + 1) v54)) - 48) hW148 (jRk_0 rfl r156)
                                      refine jnmF (e := eF157) ?_
                                      have h := h F157 eF157
                                      obtain ⟨r159, h⟩ := h
                                      refine j_iinc dX9_ahead_325 rfl rfl ?_
                                      obtain ⟨r160, h⟩ := h
                                      refine j_iinc dX9_ahead_328 rfl rfl ?_
                                      refine j_goto 204 dX9_ahead_331 rfl ?_
                                      exact J.wk (((((((jWk.nil).eq).eq).eq).eq).eq).eq) (ihI58 _ _ _ (Nat.lt_of_lt_of_le h.2 (Nat.le_of_lt_succ hmuI58)) hW158 r160 r159 h.1)
                            · have h := h2 q116
                              clear h1 h2
                              refine j_aload_n dX9_ahead_250 rfl ?_
                              refine j_getI dX9_ahead_251 flX9_48_10 hM.1 rfl ?_
                              refine j_iconst dX9_ahead_254 ?_
                              obtain ⟨h1, h2⟩ := h
                              refine j_icmp_ne 263 dX9_ahead_255 rfl (hW57.fi rfl) (by decide) (fun q161 => ?_) (fun q161 => ?_)
                              · have h := h1 q161
                                clear h1 h2
                                refine j_iload dX9_ahead_263 rfl ?_
                                refine j_iload dX9_ahead_265 rfl ?_
                                obtain ⟨h1, h2⟩ := h
                                refine j_icmp_ge 293 dX9_ahead_267 rfl rv55 (ez52 ▸ (jR_ite (by decide) (by decide))) (fun q162 => ?_) (fun q162 => ?_)
                                · have h := h1 q162
                                  clear h1 h2
                                  refine j_iload dX9_ahead_293 rfl ?_
                                  refine j_iload dX9_ahead_295 rfl ?_
                                  obtain ⟨h1, h2⟩ := h
                                  refine j_icmp_ge 325 dX9_ahead_297 rfl rv55 (ez52 ▸ (jR_ite (by decide) (by decide))) (fun q163 => ?_) (fun q163 => ?_)
                                  · have h := h1 q163
                                    clear h1 h2
                                    obtain ⟨r164, h⟩ := h
                                    refine j_iinc dX9_ahead_325 rfl rfl ?_
                                    obtain ⟨r165, h⟩ := h
                                    refine j_iinc dX9_ahead_328 rfl rfl ?_
                                    refine j_goto 204 dX9_ahead_331 rfl ?_
                                    exact J.wk (((((((jWk.nil).eq).eq).eq).eq).eq).eq) (ihI58 _ _ _ (Nat.lt_of_lt_of_le h.2 (Nat.le_of_lt_succ hmuI58)) hW57 r165 r164 h.1)
                                  · have h := h2 q163
                                    clear h1 h2
                                    refine j_iload_n dX9_ahead_300 rfl ?_
                                    obtain ⟨h1, h2⟩ := h
                                    refine j_if_eq 325 dX9_ahead_301 rfl (jR_b r29) (fun q166 => ?_) (fun q166 => ?_)
                                    · have h := h1 q166
                                      clear h1 h2
                                      obtain ⟨r167, h⟩ := h
                                      refine j_iinc dX9_ahead_325 rfl rfl ?_
                                      obtain ⟨r168, h⟩ := h
                                      refine j_iinc dX9_ahead_328 rfl rfl ?_
                                      refine j_goto 204 dX9_ahead_331 rfl ?_
                                      exact J.wk (((((((jWk.nil).eq).eq).eq).eq).eq).eq) (ihI58 _ _ _ (Nat.lt_of_lt_of_le h.2 (Nat.le_of_lt_succ hmuI58)) hW57 r168 r167 h.1)
                                    · have h := h2 q166
                                      clear h1 h2
                                      refine j_aload_n dX9_ahead_304 rfl ?_
                                      refine j_bipush dX9_ahead_305 ?_
                                      refine j_aload_n dX9_ahead_307 rfl ?_
                                      refine j_getI dX9_ahead_308 flX9_29_10 hM.1 rfl ?_
                                      refine j_imul dX9_ahead_311 ?_
                                      refine j_aload_n dX9_ahead_312 rfl ?_
                                      refine j_getFR dX9_ahead_313 flX9_7_10 hM.1 rfl (mf_tape hM) ?_
                                      refine j_iload_n dX9_ahead_316 rfl ?_
                                      obtain ⟨c169, h⟩ := h
                                      refine j_iald (n := 1800) dX9_ahead_317 (mt_tape hM) (ml_tape hM) c169 ?_
                                      refine j_iadd dX9_ahead_318 ?_
                                      refine j_bipush dX9_ahead_319 ?_
                                      refine j_isub dX9_ahead_321 ?_
                                      obtain ⟨r170, h⟩ := h
                                      refine j_putI dX9_ahead_322 flX9_29_10 hM.1 hM.2.1 rfl ?_
                                      obtain ⟨F171, eF171⟩ : ∃ x : jFl, x = upF F56 3018 o (((10 * (F56 3018 o)) + (A (o + 1) v54)) - 48) := ⟨_, rfl⟩
                                      have hW172 : jWf N F171 A := eF171 ▸ jWf_F (f := 3018) (a := o) (z := ((10 * (F56 3018 o)) + (A (o + 1) v54)) - 48) hW57 (jRk_0 rfl r170)
                                      refine jnmF (e := eF171) ?_
                                      have h := h F171 eF171
                                      obtain ⟨r173, h⟩ := h
                                      refine j_iinc dX9_ahead_325 rfl rfl ?_
                                      obtain ⟨r174, h⟩ := h
                                      refine j_iinc dX9_ahead_328 rfl rfl ?_
                                      refine j_goto 204 dX9_ahead_331 rfl ?_
                                      exact J.wk (((((((jWk.nil).eq).eq).eq).eq).eq).eq) (ihI58 _ _ _ (Nat.lt_of_lt_of_le h.2 (Nat.le_of_lt_succ hmuI58)) hW172 r174 r173 h.1)
                                · have h := h2 q162
                                  clear h1 h2
                                  refine j_iload_n dX9_ahead_270 rfl ?_
                                  obtain ⟨h1, h2⟩ := h
                                  refine j_if_eq 293 dX9_ahead_271 rfl (jR_b r23) (fun q175 => ?_) (fun q175 => ?_)
                                  · have h := h1 q175
                                    clear h1 h2
                                    refine j_iload dX9_ahead_293 rfl ?_
                                    refine j_iload dX9_ahead_295 rfl ?_
                                    obtain ⟨h1, h2⟩ := h
                                    refine j_icmp_ge 325 dX9_ahead_297 rfl rv55 (ez52 ▸ (jR_ite (by decide) (by decide))) (fun q176 => ?_) (fun q176 => ?_)
                                    · have h := h1 q176
                                      clear h1 h2
                                      obtain ⟨r177, h⟩ := h
                                      refine j_iinc dX9_ahead_325 rfl rfl ?_
                                      obtain ⟨r178, h⟩ := h
                                      refine j_iinc dX9_ahead_328 rfl rfl ?_
                                      refine j_goto 204 dX9_ahead_331 rfl ?_
                                      exact J.wk (((((((jWk.nil).eq).eq).eq).eq).eq).eq) (ihI58 _ _ _ (Nat.lt_of_lt_of_le h.2 (Nat.le_of_lt_succ hmuI58)) hW57 r178 r177 h.1)
                                    · have h := h2 q176
                                      clear h1 h2
                                      refine j_iload_n dX9_ahead_300 rfl ?_
                                      obtain ⟨h1, h2⟩ := h
                                      refine j_if_eq 325 dX9_ahead_301 rfl (jR_b r29) (fun q179 => ?_) (fun q179 => ?_)
                                      · have h := h1 q179
                                        clear h1 h2
                                        obtain ⟨r180, h⟩ := h
                                        refine j_iinc dX9_ahead_325 rfl rfl ?_
                                        obtain ⟨r181, h⟩ := h
                                        refine j_iinc dX9_ahead_328 rfl rfl ?_
                                        refine j_goto 204 dX9_ahead_331 rfl ?_
                                        exact J.wk (((((((jWk.nil).eq).eq).eq).eq).eq).eq) (ihI58 _ _ _ (Nat.lt_of_lt_of_le h.2 (Nat.le_of_lt_succ hmuI58)) hW57 r181 r180 h.1)
                                      · have h := h2 q179
                                        clear h1 h2
                                        refine j_aload_n dX9_ahead_304 rfl ?_
                                        refine j_bipush dX9_ahead_305 ?_
                                        refine j_aload_n dX9_ahead_307 rfl ?_
                                        refine j_getI dX9_ahead_308 flX9_29_10 hM.1 rfl ?_
                                        refine j_imul dX9_ahead_311 ?_
                                        refine j_aload_n dX9_ahead_312 rfl ?_
                                        refine j_getFR dX9_ahead_313 flX9_7_10 hM.1 rfl (mf_tape hM) ?_
                                        refine j_iload_n dX9_ahead_316 rfl ?_
                                        obtain ⟨c182, h⟩ := h
                                        refine j_iald (n := 1800) dX9_ahead_317 (mt_tape hM) (ml_tape hM) c182 ?_
                                        refine j_iadd dX9_ahead_318 ?_
                                        refine j_bipush dX9_ahead_319 ?_
                                        refine j_isub dX9_ahead_321 ?_
                                        obtain ⟨r183, h⟩ := h
                                        refine j_putI dX9_ahead_322 flX9_29_10 hM.1 hM.2.1 rfl ?_
                                        obtain ⟨F184, eF184⟩ : ∃ x : jFl, x = upF F56 3018 o (((10 * (F56 3018 o)) + (A (o + 1) v54)) - 48) := ⟨_, rfl⟩
                                        have hW185 : jWf N F184 A := eF184 ▸ jWf_F (f := 3018) (a := o) (z := ((10 * (F56 3018 o)) + (A (o + 1) v54)) - 48) hW57 (jRk_0 rfl r183)
                                        refine jnmF (e := eF184) ?_
                                        have h := h F184 eF184
                                        obtain ⟨r186, h⟩ := h
                                        refine j_iinc dX9_ahead_325 rfl rfl ?_
                                        obtain ⟨r187, h⟩ := h
                                        refine j_iinc dX9_ahead_328 rfl rfl ?_
                                        refine j_goto 204 dX9_ahead_331 rfl ?_
                                        exact J.wk (((((((jWk.nil).eq).eq).eq).eq).eq).eq) (ihI58 _ _ _ (Nat.lt_of_lt_of_le h.2 (Nat.le_of_lt_succ hmuI58)) hW185 r187 r186 h.1)
                                  · have h := h2 q175
                                    clear h1 h2
                                    refine j_aload_n dX9_ahead_274 rfl ?_
                                    refine j_aload_n dX9_ahead_275 rfl ?_
                                    refine j_getL dX9_ahead_276 flX9_32_10 hM.1 rfl ?_
                                    refine j_bipush dX9_ahead_279 ?_
                                    obtain ⟨c188, h⟩ := h
                                    refine j_lshl dX9_ahead_281 c188 ?_
                                    refine j_aload_n dX9_ahead_282 rfl ?_
                                    refine j_getFR dX9_ahead_283 flX9_7_10 hM.1 rfl (mf_tape hM) ?_
                                    refine j_iload_n dX9_ahead_286 rfl ?_
                                    obtain ⟨c189, h⟩ := h
                                    refine j_iald (n := 1800) dX9_ahead_287 (mt_tape hM) (ml_tape hM) c189 ?_
                                    refine j_i2l dX9_ahead_288 (hW57.ai (mt_tape hM) rfl) ?_
                                    obtain ⟨c190, h⟩ := h
                                    refine j_lor dX9_ahead_289 c190.1 c190.2 ?_
                                    obtain ⟨r191, h⟩ := h
                                    refine j_putL dX9_ahead_290 flX9_32_10 hM.1 hM.2.1 rfl ?_
                                    obtain ⟨F192, eF192⟩ : ∃ x : jFl, x = upF F56 3022 o (jor ((F56 3022 o) * 2 ^ 8) (A (o + 1) v54)) := ⟨_, rfl⟩
                                    have hW193 : jWf N F192 A := eF192 ▸ jWf_F (f := 3022) (a := o) (z := jor ((F56 3022 o) * 2 ^ 8) (A (o + 1) v54)) hW57 (jRk_1 rfl r191)
                                    refine jnmF (e := eF192) ?_
                                    have h := h F192 eF192
                                    refine j_iload dX9_ahead_293 rfl ?_
                                    refine j_iload dX9_ahead_295 rfl ?_
                                    obtain ⟨h1, h2⟩ := h
                                    refine j_icmp_ge 325 dX9_ahead_297 rfl rv55 (ez52 ▸ (jR_ite (by decide) (by decide))) (fun q194 => ?_) (fun q194 => ?_)
                                    · have h := h1 q194
                                      clear h1 h2
                                      obtain ⟨r195, h⟩ := h
                                      refine j_iinc dX9_ahead_325 rfl rfl ?_
                                      obtain ⟨r196, h⟩ := h
                                      refine j_iinc dX9_ahead_328 rfl rfl ?_
                                      refine j_goto 204 dX9_ahead_331 rfl ?_
                                      exact J.wk (((((((jWk.nil).eq).eq).eq).eq).eq).eq) (ihI58 _ _ _ (Nat.lt_of_lt_of_le h.2 (Nat.le_of_lt_succ hmuI58)) hW193 r196 r195 h.1)
                                    · have h := h2 q194
                                      clear h1 h2
                                      refine j_iload_n dX9_ahead_300 rfl ?_
                                      obtain ⟨h1, h2⟩ := h
                                      refine j_if_eq 325 dX9_ahead_301 rfl (jR_b r29) (fun q197 => ?_) (fun q197 => ?_)
                                      · have h := h1 q197
                                        clear h1 h2
                                        obtain ⟨r198, h⟩ := h
                                        refine j_iinc dX9_ahead_325 rfl rfl ?_
                                        obtain ⟨r199, h⟩ := h
                                        refine j_iinc dX9_ahead_328 rfl rfl ?_
                                        refine j_goto 204 dX9_ahead_331 rfl ?_
                                        exact J.wk (((((((jWk.nil).eq).eq).eq).eq).eq).eq) (ihI58 _ _ _ (Nat.lt_of_lt_of_le h.2 (Nat.le_of_lt_succ hmuI58)) hW193 r199 r198 h.1)
                                      · have h := h2 q197
                                        clear h1 h2
                                        refine j_aload_n dX9_ahead_304 rfl ?_
                                        refine j_bipush dX9_ahead_305 ?_
                                        refine j_aload_n dX9_ahead_307 rfl ?_
                                        refine j_getI dX9_ahead_308 flX9_29_10 hM.1 rfl ?_
                                        refine j_imul dX9_ahead_311 ?_
                                        refine j_aload_n dX9_ahead_312 rfl ?_
                                        refine j_getFR dX9_ahead_313 flX9_7_10 hM.1 rfl (mf_tape hM) ?_
                                        refine j_iload_n dX9_ahead_316 rfl ?_
                                        obtain ⟨c200, h⟩ := h
                                        refine j_iald (n := 1800) dX9_ahead_317 (mt_tape hM) (ml_tape hM) c200 ?_
                                        refine j_iadd dX9_ahead_318 ?_
                                        refine j_bipush dX9_ahead_319 ?_
                                        refine j_isub dX9_ahead_321 ?_
                                        obtain ⟨r201, h⟩ := h
                                        refine j_putI dX9_ahead_322 flX9_29_10 hM.1 hM.2.1 rfl ?_
                                        obtain ⟨F202, eF202⟩ : ∃ x : jFl, x = upF F192 3018 o (((10 * (F192 3018 o)) + (A (o + 1) v54)) - 48) := ⟨_, rfl⟩
                                        have hW203 : jWf N F202 A := eF202 ▸ jWf_F (f := 3018) (a := o) (z := ((10 * (F192 3018 o)) + (A (o + 1) v54)) - 48) hW193 (jRk_0 rfl r201)
                                        refine jnmF (e := eF202) ?_
                                        have h := h F202 eF202
                                        obtain ⟨r204, h⟩ := h
                                        refine j_iinc dX9_ahead_325 rfl rfl ?_
                                        obtain ⟨r205, h⟩ := h
                                        refine j_iinc dX9_ahead_328 rfl rfl ?_
                                        refine j_goto 204 dX9_ahead_331 rfl ?_
                                        exact J.wk (((((((jWk.nil).eq).eq).eq).eq).eq).eq) (ihI58 _ _ _ (Nat.lt_of_lt_of_le h.2 (Nat.le_of_lt_succ hmuI58)) hW203 r205 r204 h.1)
                              · have h := h2 q161
                                clear h1 h2
                                refine j_aload_n dX9_ahead_258 rfl ?_
                                refine j_iload_n dX9_ahead_259 rfl ?_
                                refine j_putI dX9_ahead_260 flX9_48_10 hM.1 hM.2.1 rfl ?_
                                obtain ⟨F206, eF206⟩ : ∃ x : jFl, x = upF F56 3036 o v54 := ⟨_, rfl⟩
                                have hW207 : jWf N F206 A := eF206 ▸ jWf_F (f := 3036) (a := o) (z := v54) hW57 (jRk_0 rfl rv54)
                                refine jnmF (e := eF206) ?_
                                have h := h F206 eF206
                                refine j_iload dX9_ahead_263 rfl ?_
                                refine j_iload dX9_ahead_265 rfl ?_
                                obtain ⟨h1, h2⟩ := h
                                refine j_icmp_ge 293 dX9_ahead_267 rfl rv55 (ez52 ▸ (jR_ite (by decide) (by decide))) (fun q208 => ?_) (fun q208 => ?_)
                                · have h := h1 q208
                                  clear h1 h2
                                  refine j_iload dX9_ahead_293 rfl ?_
                                  refine j_iload dX9_ahead_295 rfl ?_
                                  obtain ⟨h1, h2⟩ := h
                                  refine j_icmp_ge 325 dX9_ahead_297 rfl rv55 (ez52 ▸ (jR_ite (by decide) (by decide))) (fun q209 => ?_) (fun q209 => ?_)
                                  · have h := h1 q209
                                    clear h1 h2
                                    obtain ⟨r210, h⟩ := h
                                    refine j_iinc dX9_ahead_325 rfl rfl ?_
                                    obtain ⟨r211, h⟩ := h
                                    refine j_iinc dX9_ahead_328 rfl rfl ?_
                                    refine j_goto 204 dX9_ahead_331 rfl ?_
                                    exact J.wk (((((((jWk.nil).eq).eq).eq).eq).eq).eq) (ihI58 _ _ _ (Nat.lt_of_lt_of_le h.2 (Nat.le_of_lt_succ hmuI58)) hW207 r211 r210 h.1)
                                  · have h := h2 q209
                                    clear h1 h2
                                    refine j_iload_n dX9_ahead_300 rfl ?_
                                    obtain ⟨h1, h2⟩ := h
                                    refine j_if_eq 325 dX9_ahead_301 rfl (jR_b r29) (fun q212 => ?_) (fun q212 => ?_)
                                    · have h := h1 q212
                                      clear h1 h2
                                      obtain ⟨r213, h⟩ := h
                                      refine j_iinc dX9_ahead_325 rfl rfl ?_
                                      obtain ⟨r214, h⟩ := h
                                      refine j_iinc dX9_ahead_328 rfl rfl ?_
                                      refine j_goto 204 dX9_ahead_331 rfl ?_
                                      exact J.wk (((((((jWk.nil).eq).eq).eq).eq).eq).eq) (ihI58 _ _ _ (Nat.lt_of_lt_of_le h.2 (Nat.le_of_lt_succ hmuI58)) hW207 r214 r213 h.1)
                                    · have h := h2 q212
                                      clear h1 h2
                                      refine j_aload_n dX9_ahead_304 rfl ?_
                                      refine j_bipush dX9_ahead_305 ?_
                                      refine j_aload_n dX9_ahead_307 rfl ?_
                                      refine j_getI dX9_ahead_308 flX9_29_10 hM.1 rfl ?_
                                      refine j_imul dX9_ahead_311 ?_
                                      refine j_aload_n dX9_ahead_312 rfl ?_
                                      refine j_getFR dX9_ahead_313 flX9_7_10 hM.1 rfl (mf_tape hM) ?_
                                      refine j_iload_n dX9_ahead_316 rfl ?_
                                      obtain ⟨c215, h⟩ := h
                                      refine j_iald (n := 1800) dX9_ahead_317 (mt_tape hM) (ml_tape hM) c215 ?_
                                      refine j_iadd dX9_ahead_318 ?_
                                      refine j_bipush dX9_ahead_319 ?_
                                      refine j_isub dX9_ahead_321 ?_
                                      obtain ⟨r216, h⟩ := h
                                      refine j_putI dX9_ahead_322 flX9_29_10 hM.1 hM.2.1 rfl ?_
                                      obtain ⟨F217, eF217⟩ : ∃ x : jFl, x = upF F206 3018 o (((10 * (F206 3018 o)) + (A (o + 1) v54)) - 48) := ⟨_, rfl⟩
                                      have hW218 : jWf N F217 A := eF217 ▸ jWf_F (f := 3018) (a := o) (z := ((10 * (F206 3018 o)) + (A (o + 1) v54)) - 48) hW207 (jRk_0 rfl r216)
                                      refine jnmF (e := eF217) ?_
                                      have h := h F217 eF217
                                      obtain ⟨r219, h⟩ := h
                                      refine j_iinc dX9_ahead_325 rfl rfl ?_
                                      obtain ⟨r220, h⟩ := h
                                      refine j_iinc dX9_ahead_328 rfl rfl ?_
                                      refine j_goto 204 dX9_ahead_331 rfl ?_
                                      exact J.wk (((((((jWk.nil).eq).eq).eq).eq).eq).eq) (ihI58 _ _ _ (Nat.lt_of_lt_of_le h.2 (Nat.le_of_lt_succ hmuI58)) hW218 r220 r219 h.1)
                                · have h := h2 q208
                                  clear h1 h2
                                  refine j_iload_n dX9_ahead_270 rfl ?_
                                  obtain ⟨h1, h2⟩ := h
                                  refine j_if_eq 293 dX9_ahead_271 rfl (jR_b r23) (fun q221 => ?_) (fun q221 => ?_)
                                  · have h := h1 q221
                                    clear h1 h2
                                    refine j_iload dX9_ahead_293 rfl ?_
                                    refine j_iload dX9_ahead_295 rfl ?_
                                    obtain ⟨h1, h2⟩ := h
                                    refine j_icmp_ge 325 dX9_ahead_297 rfl rv55 (ez52 ▸ (jR_ite (by decide) (by decide))) (fun q222 => ?_) (fun q222 => ?_)
                                    · have h := h1 q222
                                      clear h1 h2
                                      obtain ⟨r223, h⟩ := h
                                      refine j_iinc dX9_ahead_325 rfl rfl ?_
                                      obtain ⟨r224, h⟩ := h
                                      refine j_iinc dX9_ahead_328 rfl rfl ?_
                                      refine j_goto 204 dX9_ahead_331 rfl ?_
                                      exact J.wk (((((((jWk.nil).eq).eq).eq).eq).eq).eq) (ihI58 _ _ _ (Nat.lt_of_lt_of_le h.2 (Nat.le_of_lt_succ hmuI58)) hW207 r224 r223 h.1)
                                    · have h := h2 q222
                                      clear h1 h2
                                      refine j_iload_n dX9_ahead_300 rfl ?_
                                      obtain ⟨h1, h2⟩ := h
                                      refine j_if_eq 325 dX9_ahead_301 rfl (jR_b r29) (fun q225 => ?_) (fun q225 => ?_)
                                      · have h := h1 q225
                                        clear h1 h2
                                        obtain ⟨r226, h⟩ := h
                                        refine j_iinc dX9_ahead_325 rfl rfl ?_
                                        obtain ⟨r227, h⟩ := h
                                        refine j_iinc dX9_ahead_328 rfl rfl ?_
                                        refine j_goto 204 dX9_ahead_331 rfl ?_
                                        exact J.wk (((((((jWk.nil).eq).eq).eq).eq).eq).eq) (ihI58 _ _ _ (Nat.lt_of_lt_of_le h.2 (Nat.le_of_lt_succ hmuI58)) hW207 r227 r226 h.1)
                                      · have h := h2 q225
                                        clear h1 h2
                                        refine j_aload_n dX9_ahead_304 rfl ?_
                                        refine j_bipush dX9_ahead_305 ?_
                                        refine j_aload_n dX9_ahead_307 rfl ?_
                                        refine j_getI dX9_ahead_308 flX9_29_10 hM.1 rfl ?_
                                        refine j_imul dX9_ahead_311 ?_
                                        refine j_aload_n dX9_ahead_312 rfl ?_
                                        refine j_getFR dX9_ahead_313 flX9_7_10 hM.1 rfl (mf_tape hM) ?_
                                        refine j_iload_n dX9_ahead_316 rfl ?_
                                        obtain ⟨c228, h⟩ := h
                                        refine j_iald (n := 1800) dX9_ahead_317 (mt_tape hM) (ml_tape hM) c228 ?_
                                        refine j_iadd dX9_ahead_318 ?_
                                        refine j_bipush dX9_ahead_319 ?_
                                        refine j_isub dX9_ahead_321 ?_
                                        obtain ⟨r229, h⟩ := h
                                        refine j_putI dX9_ahead_322 flX9_29_10 hM.1 hM.2.1 rfl ?_
                                        obtain ⟨F230, eF230⟩ : ∃ x : jFl, x = upF F206 3018 o (((10 * (F206 3018 o)) + (A (o + 1) v54)) - 48) := ⟨_, rfl⟩
                                        have hW231 : jWf N F230 A := eF230 ▸ jWf_F (f := 3018) (a := o) (z := ((10 * (F206 3018 o)) + (A (o + 1) v54)) - 48) hW207 (jRk_0 rfl r229)
                                        refine jnmF (e := eF230) ?_
                                        have h := h F230 eF230
                                        obtain ⟨r232, h⟩ := h
                                        refine j_iinc dX9_ahead_325 rfl rfl ?_
                                        obtain ⟨r233, h⟩ := h
                                        refine j_iinc dX9_ahead_328 rfl rfl ?_
                                        refine j_goto 204 dX9_ahead_331 rfl ?_
                                        exact J.wk (((((((jWk.nil).eq).eq).eq).eq).eq).eq) (ihI58 _ _ _ (Nat.lt_of_lt_of_le h.2 (Nat.le_of_lt_succ hmuI58)) hW231 r233 r232 h.1)
                                  · have h := h2 q221
                                    clear h1 h2
                                    refine j_aload_n dX9_ahead_274 rfl ?_
                                    refine j_aload_n dX9_ahead_275 rfl ?_
                                    refine j_getL dX9_ahead_276 flX9_32_10 hM.1 rfl ?_
                                    refine j_bipush dX9_ahead_279 ?_
                                    obtain ⟨c234, h⟩ := h
                                    refine j_lshl dX9_ahead_281 c234 ?_
                                    refine j_aload_n dX9_ahead_282 rfl ?_
                                    refine j_getFR dX9_ahead_283 flX9_7_10 hM.1 rfl (mf_tape hM) ?_
                                    refine j_iload_n dX9_ahead_286 rfl ?_
                                    obtain ⟨c235, h⟩ := h
                                    refine j_iald (n := 1800) dX9_ahead_287 (mt_tape hM) (ml_tape hM) c235 ?_
                                    refine j_i2l dX9_ahead_288 (hW207.ai (mt_tape hM) rfl) ?_
                                    obtain ⟨c236, h⟩ := h
                                    refine j_lor dX9_ahead_289 c236.1 c236.2 ?_
                                    obtain ⟨r237, h⟩ := h
                                    refine j_putL dX9_ahead_290 flX9_32_10 hM.1 hM.2.1 rfl ?_
                                    obtain ⟨F238, eF238⟩ : ∃ x : jFl, x = upF F206 3022 o (jor ((F206 3022 o) * 2 ^ 8) (A (o + 1) v54)) := ⟨_, rfl⟩
                                    have hW239 : jWf N F238 A := eF238 ▸ jWf_F (f := 3022) (a := o) (z := jor ((F206 3022 o) * 2 ^ 8) (A (o + 1) v54)) hW207 (jRk_1 rfl r237)
                                    refine jnmF (e := eF238) ?_
                                    have h := h F238 eF238
                                    refine j_iload dX9_ahead_293 rfl ?_
                                    refine j_iload dX9_ahead_295 rfl ?_
                                    obtain ⟨h1, h2⟩ := h
                                    refine j_icmp_ge 325 dX9_ahead_297 rfl rv55 (ez52 ▸ (jR_ite (by decide) (by decide))) (fun q240 => ?_) (fun q240 => ?_)
                                    · have h := h1 q240
                                      clear h1 h2
                                      obtain ⟨r241, h⟩ := h
                                      refine j_iinc dX9_ahead_325 rfl rfl ?_
                                      obtain ⟨r242, h⟩ := h
                                      refine j_iinc dX9_ahead_328 rfl rfl ?_
                                      refine j_goto 204 dX9_ahead_331 rfl ?_
                                      exact J.wk (((((((jWk.nil).eq).eq).eq).eq).eq).eq) (ihI58 _ _ _ (Nat.lt_of_lt_of_le h.2 (Nat.le_of_lt_succ hmuI58)) hW239 r242 r241 h.1)
                                    · have h := h2 q240
                                      clear h1 h2
                                      refine j_iload_n dX9_ahead_300 rfl ?_
                                      obtain ⟨h1, h2⟩ := h
                                      refine j_if_eq 325 dX9_ahead_301 rfl (jR_b r29) (fun q243 => ?_) (fun q243 => ?_)
                                      · have h := h1 q243
                                        clear h1 h2
                                        obtain ⟨r244, h⟩ := h
                                        refine j_iinc dX9_ahead_325 rfl rfl ?_
                                        obtain ⟨r245, h⟩ := h
                                        refine j_iinc dX9_ahead_328 rfl rfl ?_
                                        refine j_goto 204 dX9_ahead_331 rfl ?_
                                        exact J.wk (((((((jWk.nil).eq).eq).eq).eq).eq).eq) (ihI58 _ _ _ (Nat.lt_of_lt_of_le h.2 (Nat.le_of_lt_succ hmuI58)) hW239 r245 r244 h.1)
                                      · have h := h2 q243
                                        clear h1 h2
                                        refine j_aload_n dX9_ahead_304 rfl ?_
                                        refine j_bipush dX9_ahead_305 ?_
                                        refine j_aload_n dX9_ahead_307 rfl ?_
                                        refine j_getI dX9_ahead_308 flX9_29_10 hM.1 rfl ?_
                                        refine j_imul dX9_ahead_311 ?_
                                        refine j_aload_n dX9_ahead_312 rfl ?_
                                        refine j_getFR dX9_ahead_313 flX9_7_10 hM.1 rfl (mf_tape hM) ?_
                                        refine j_iload_n dX9_ahead_316 rfl ?_
                                        obtain ⟨c246, h⟩ := h
                                        refine j_iald (n := 1800) dX9_ahead_317 (mt_tape hM) (ml_tape hM) c246 ?_
                                        refine j_iadd dX9_ahead_318 ?_
                                        refine j_bipush dX9_ahead_319 ?_
                                        refine j_isub dX9_ahead_321 ?_
                                        obtain ⟨r247, h⟩ := h
                                        refine j_putI dX9_ahead_322 flX9_29_10 hM.1 hM.2.1 rfl ?_
                                        obtain ⟨F248, eF248⟩ : ∃ x : jFl, x = upF F238 3018 o (((10 * (F238 3018 o)) + (A (o + 1) v54)) - 48) := ⟨_, rfl⟩
                                        have hW249 : jWf N F248 A := eF248 ▸ jWf_F (f := 3018) (a := o) (z := ((10 * (F238 3018 o)) + (A (o + 1) v54)) - 48) hW239 (jRk_0 rfl r247)
                                        refine jnmF (e := eF248) ?_
                                        have h := h F248 eF248
                                        obtain ⟨r250, h⟩ := h
                                        refine j_iinc dX9_ahead_325 rfl rfl ?_
                                        obtain ⟨r251, h⟩ := h
                                        refine j_iinc dX9_ahead_328 rfl rfl ?_
                                        refine j_goto 204 dX9_ahead_331 rfl ?_
                                        exact J.wk (((((((jWk.nil).eq).eq).eq).eq).eq).eq) (ihI58 _ _ _ (Nat.lt_of_lt_of_le h.2 (Nat.le_of_lt_succ hmuI58)) hW249 r251 r250 h.1)
                  exact J.wk (((((((jWk.nil).eq).eq).eq).eq).eq).eq) (lp _ _ _ _ (Nat.lt_succ_self _) hW50 rv2 (by decide) h0)
                clear h
                refine j_if_eq 198 dX9_ahead_190 rfl (jR_b r23) (fun q51 => ?_) (fun q51 => ?_)
                · refine j_iconst dX9_ahead_198 ?_
                  exact jn53 _ ((if_pos q51).symm)
                · refine j_bipush dX9_ahead_193 ?_
                  refine j_goto 199 dX9_ahead_195 rfl ?_
                  exact jn53 _ ((if_neg q51).symm)
              clear h
              refine j_if_eq 185 dX9_ahead_178 rfl (jR_b r23) (fun q46 => ?_) (fun q46 => ?_)
              · refine j_iconst dX9_ahead_185 ?_
                exact jn48 _ ((if_pos q46).symm)
              · refine j_iconst dX9_ahead_181 ?_
                refine j_goto 186 dX9_ahead_182 rfl ?_
                exact jn48 _ ((if_neg q46).symm)
            · have h := h2 q45
              clear h1 h2
              refine j_iload_n dX9_ahead_161 rfl ?_
              obtain ⟨h1, h2⟩ := h
              refine j_if_ne 176 dX9_ahead_162 rfl (jR_b r29) (fun q252 => ?_) (fun q252 => ?_)
              · have h := h1 q252
                clear h1 h2
                refine j_aload_n dX9_ahead_176 rfl ?_
                refine j_iload_n dX9_ahead_177 rfl ?_
                have jn255 : ∀ z254 : Int, z254 = (if z21 = 0 then 2 else 1) → J G l d mX9_ahead 186 [.ref o, vI v2, vI z21, vI z27, jD, jD] [vI z254, .ref o] N F43 A (jmV N Q) := by
                  intro z254 ez254
                  have h := h z254 ez254
                  refine j_putI dX9_ahead_186 flX9_20_10 hM.1 hM.2.1 rfl ?_
                  obtain ⟨F256, eF256⟩ : ∃ x : jFl, x = upF F43 3009 o z254 := ⟨_, rfl⟩
                  have hW257 : jWf N F256 A := eF256 ▸ jWf_F (f := 3009) (a := o) (z := z254) hW44 (jRk_0 rfl (ez254 ▸ (jR_ite (by decide) (by decide))))
                  refine jnmF (e := eF256) ?_
                  have h := h F256 eF256
                  refine j_iload_n dX9_ahead_189 rfl ?_
                  have jn260 : ∀ z259 : Int, z259 = (if z21 = 0 then 4 else 6) → J G l d mX9_ahead 199 [.ref o, vI v2, vI z21, vI z27, jD, jD] [vI z259] N F256 A (jmV N Q) := by
                    intro z259 ez259
                    have h := h z259 ez259
                    refine j_istore dX9_ahead_199 rfl ?_
                    refine j_iconst dX9_ahead_201 ?_
                    refine j_istore dX9_ahead_202 rfl ?_
                    obtain ⟨I265, m266, h0, hs⟩ := h
                    have lp : ∀ (n : Nat) (v261 : Int) (v262 : Int) (F263 : jFl), m266 v261 v262 F263 < n → jWf N F263 A → jR v261 → jR v262 → I265 v261 v262 F263 → J G l d mX9_ahead 204 [.ref o, vI v261, vI z21, vI z27, vI z259, vI v262] [] N F263 A (jmV N Q) := by
                      intro nI265
                      induction nI265 with
                      | zero =>
                        intro v261 v262 F263 hmu
                        exact absurd hmu (Nat.not_lt_zero _)
                      | succ nI265 ihI265 =>
                        intro v261 v262 F263 hmuI265 hW264 rv261 rv262 hI
                        have h := hs v261 v262 F263 hI
                        refine j_iload_n dX9_ahead_204 rfl ?_
                        refine j_aload_n dX9_ahead_205 rfl ?_
                        refine j_getI dX9_ahead_206 flX9_17_10 hM.1 rfl ?_
                        obtain ⟨h1, h2⟩ := h
                        refine j_icmp_ge 334 dX9_ahead_209 rfl rv261 (hW264.fi rfl) (fun q267 => ?_) (fun q267 => ?_)
                        · have h := h1 q267
                          clear h1 h2
                          refine j_aload_n dX9_ahead_334 rfl ?_
                          refine j_iload_n dX9_ahead_335 rfl ?_
                          refine j_putI dX9_ahead_336 flX9_26_10 hM.1 hM.2.1 rfl ?_
                          obtain ⟨F268, eF268⟩ : ∃ x : jFl, x = upF F263 3015 o v261 := ⟨_, rfl⟩
                          have hW269 : jWf N F268 A := eF268 ▸ jWf_F (f := 3015) (a := o) (z := v261) hW264 (jRk_0 rfl rv261)
                          refine jnmF (e := eF268) ?_
                          have h := h F268 eF268
                          exact j_vret dX9_ahead_339 rfl ⟨rfl, rfl, hW269, h⟩
                        · have h := h2 q267
                          clear h1 h2
                          refine j_iload_n dX9_ahead_212 rfl ?_
                          obtain ⟨h1, h2⟩ := h
                          refine j_if_eq 231 dX9_ahead_213 rfl (jR_b r23) (fun q270 => ?_) (fun q270 => ?_)
                          · have h := h1 q270
                            clear h1 h2
                            refine j_aload_n dX9_ahead_231 rfl ?_
                            refine j_getFR dX9_ahead_232 flX9_7_10 hM.1 rfl (mf_tape hM) ?_
                            refine j_iload_n dX9_ahead_235 rfl ?_
                            obtain ⟨c271, h⟩ := h
                            refine j_iald (n := 1800) dX9_ahead_236 (mt_tape hM) (ml_tape hM) c271 ?_
                            obtain ⟨P272, hp273, h⟩ := h
                            refine j_invS (As := [vI (A (o + 1) v261)]) (rest := []) dX9_ahead_237 lkX9_270 (wX9_isDigit (d := 1) (Nat.le_of_ble_eq_true rfl) hM hW264 (hW264.ai (mt_tape hM) rfl) hp273) rfl rfl (Nat.le_of_ble_eq_true rfl) (Nat.le_trans (Nat.le_of_ble_eq_true rfl) hd) (jkpB fun z274 p275 r276 => ?_)
                            have h := h z274 p275
                            obtain ⟨h1, h2⟩ := h
                            refine j_if_eq 334 dX9_ahead_240 rfl (jR_b r276) (fun q277 => ?_) (fun q277 => ?_)
                            · have h := h1 q277
                              clear h1 h2
                              refine j_aload_n dX9_ahead_334 rfl ?_
                              refine j_iload_n dX9_ahead_335 rfl ?_
                              refine j_putI dX9_ahead_336 flX9_26_10 hM.1 hM.2.1 rfl ?_
                              obtain ⟨F278, eF278⟩ : ∃ x : jFl, x = upF F263 3015 o v261 := ⟨_, rfl⟩
                              have hW279 : jWf N F278 A := eF278 ▸ jWf_F (f := 3015) (a := o) (z := v261) hW264 (jRk_0 rfl rv261)
                              refine jnmF (e := eF278) ?_
                              have h := h F278 eF278
                              exact j_vret dX9_ahead_339 rfl ⟨rfl, rfl, hW279, h⟩
                            · have h := h2 q277
                              clear h1 h2
                              refine j_iload dX9_ahead_243 rfl ?_
                              refine j_iload dX9_ahead_245 rfl ?_
                              obtain ⟨K283, hK285, h⟩ := h
                              have jn284 : ∀ (F281 : jFl), jWf N F281 A → K283 F281 → J G l d mX9_ahead 263 [.ref o, vI v261, vI z21, vI z27, vI z259, vI v262] [] N F281 A (jmV N Q) := by
                                intro F281 hW282  h
                                have h := hK285 F281 h
                                refine j_iload dX9_ahead_263 rfl ?_
                                refine j_iload dX9_ahead_265 rfl ?_
                                obtain ⟨K289, hK291, h⟩ := h
                                have jn290 : ∀ (F287 : jFl), jWf N F287 A → K289 F287 → J G l d mX9_ahead 293 [.ref o, vI v261, vI z21, vI z27, vI z259, vI v262] [] N F287 A (jmV N Q) := by
                                  intro F287 hW288  h
                                  have h := hK291 F287 h
                                  refine j_iload dX9_ahead_293 rfl ?_
                                  refine j_iload dX9_ahead_295 rfl ?_
                                  obtain ⟨h1, h2⟩ := h
                                  refine j_icmp_ge 325 dX9_ahead_297 rfl rv262 (ez259 ▸ (jR_ite (by decide) (by decide))) (fun q292 => ?_) (fun q292 => ?_)
                                  · have h := h1 q292
                                    clear h1 h2
                                    obtain ⟨r293, h⟩ := h
                                    refine j_iinc dX9_ahead_325 rfl rfl ?_
                                    obtain ⟨r294, h⟩ := h
                                    refine j_iinc dX9_ahead_328 rfl rfl ?_
                                    refine j_goto 204 dX9_ahead_331 rfl ?_
                                    exact J.wk (((((((jWk.nil).eq).eq).eq).eq).eq).eq) (ihI265 _ _ _ (Nat.lt_of_lt_of_le h.2 (Nat.le_of_lt_succ hmuI265)) hW288 r294 r293 h.1)
                                  · have h := h2 q292
                                    clear h1 h2
                                    refine j_iload_n dX9_ahead_300 rfl ?_
                                    obtain ⟨h1, h2⟩ := h
                                    refine j_if_eq 325 dX9_ahead_301 rfl (jR_b r29) (fun q295 => ?_) (fun q295 => ?_)
                                    · have h := h1 q295
                                      clear h1 h2
                                      obtain ⟨r296, h⟩ := h
                                      refine j_iinc dX9_ahead_325 rfl rfl ?_
                                      obtain ⟨r297, h⟩ := h
                                      refine j_iinc dX9_ahead_328 rfl rfl ?_
                                      refine j_goto 204 dX9_ahead_331 rfl ?_
                                      exact J.wk (((((((jWk.nil).eq).eq).eq).eq).eq).eq) (ihI265 _ _ _ (Nat.lt_of_lt_of_le h.2 (Nat.le_of_lt_succ hmuI265)) hW288 r297 r296 h.1)
                                    · have h := h2 q295
                                      clear h1 h2
                                      refine j_aload_n dX9_ahead_304 rfl ?_
                                      refine j_bipush dX9_ahead_305 ?_
                                      refine j_aload_n dX9_ahead_307 rfl ?_
                                      refine j_getI dX9_ahead_308 flX9_29_10 hM.1 rfl ?_
                                      refine j_imul dX9_ahead_311 ?_
                                      refine j_aload_n dX9_ahead_312 rfl ?_
                                      refine j_getFR dX9_ahead_313 flX9_7_10 hM.1 rfl (mf_tape hM) ?_
                                      refine j_iload_n dX9_ahead_316 rfl ?_
                                      obtain ⟨c298, h⟩ := h
                                      refine j_iald (n := 1800) dX9_ahead_317 (mt_tape hM) (ml_tape hM) c298 ?_
                                      refine j_iadd dX9_ahead_318 ?_
                                      refine j_bipush dX9_ahead_319 ?_
                                      refine j_isub dX9_ahead_321 ?_
                                      obtain ⟨r299, h⟩ := h
                                      refine j_putI dX9_ahead_322 flX9_29_10 hM.1 hM.2.1 rfl ?_
                                      obtain ⟨F300, eF300⟩ : ∃ x : jFl, x = upF F287 3018 o (((10 * (F287 3018 o)) + (A (o + 1) v261)) - 48) := ⟨_, rfl⟩
                                      have hW301 : jWf N F300 A := eF300 ▸ jWf_F (f := 3018) (a := o) (z := ((10 * (F287 3018 o)) + (A (o + 1) v261)) - 48) hW288 (jRk_0 rfl r299)
                                      refine jnmF (e := eF300) ?_
                                      have h := h F300 eF300
                                      obtain ⟨r302, h⟩ := h
                                      refine j_iinc dX9_ahead_325 rfl rfl ?_
                                      obtain ⟨r303, h⟩ := h
                                      refine j_iinc dX9_ahead_328 rfl rfl ?_
                                      refine j_goto 204 dX9_ahead_331 rfl ?_
                                      exact J.wk (((((((jWk.nil).eq).eq).eq).eq).eq).eq) (ihI265 _ _ _ (Nat.lt_of_lt_of_le h.2 (Nat.le_of_lt_succ hmuI265)) hW301 r303 r302 h.1)
                                obtain ⟨h1, h2⟩ := h
                                refine j_icmp_ge 293 dX9_ahead_267 rfl rv262 (ez259 ▸ (jR_ite (by decide) (by decide))) (fun q286 => ?_) (fun q286 => ?_)
                                · have h := h1 q286
                                  clear h1 h2
                                  exact J.wk (((((((jWk.nil).eq).eq).eq).eq).eq).eq) (jn290 _ hW282  h)
                                · have h := h2 q286
                                  clear h1 h2
                                  refine j_iload_n dX9_ahead_270 rfl ?_
                                  obtain ⟨h1, h2⟩ := h
                                  refine j_if_eq 293 dX9_ahead_271 rfl (jR_b r23) (fun q304 => ?_) (fun q304 => ?_)
                                  · have h := h1 q304
                                    clear h1 h2
                                    exact J.wk (((((((jWk.nil).eq).eq).eq).eq).eq).eq) (jn290 _ hW282  h)
                                  · have h := h2 q304
                                    clear h1 h2
                                    refine j_aload_n dX9_ahead_274 rfl ?_
                                    refine j_aload_n dX9_ahead_275 rfl ?_
                                    refine j_getL dX9_ahead_276 flX9_32_10 hM.1 rfl ?_
                                    refine j_bipush dX9_ahead_279 ?_
                                    obtain ⟨c305, h⟩ := h
                                    refine j_lshl dX9_ahead_281 c305 ?_
                                    refine j_aload_n dX9_ahead_282 rfl ?_
                                    refine j_getFR dX9_ahead_283 flX9_7_10 hM.1 rfl (mf_tape hM) ?_
                                    refine j_iload_n dX9_ahead_286 rfl ?_
                                    obtain ⟨c306, h⟩ := h
                                    refine j_iald (n := 1800) dX9_ahead_287 (mt_tape hM) (ml_tape hM) c306 ?_
                                    refine j_i2l dX9_ahead_288 (hW282.ai (mt_tape hM) rfl) ?_
                                    obtain ⟨c307, h⟩ := h
                                    refine j_lor dX9_ahead_289 c307.1 c307.2 ?_
                                    obtain ⟨r308, h⟩ := h
                                    refine j_putL dX9_ahead_290 flX9_32_10 hM.1 hM.2.1 rfl ?_
                                    obtain ⟨F309, eF309⟩ : ∃ x : jFl, x = upF F281 3022 o (jor ((F281 3022 o) * 2 ^ 8) (A (o + 1) v261)) := ⟨_, rfl⟩
                                    have hW310 : jWf N F309 A := eF309 ▸ jWf_F (f := 3022) (a := o) (z := jor ((F281 3022 o) * 2 ^ 8) (A (o + 1) v261)) hW282 (jRk_1 rfl r308)
                                    refine jnmF (e := eF309) ?_
                                    have h := h F309 eF309
                                    exact J.wk (((((((jWk.nil).eq).eq).eq).eq).eq).eq) (jn290 _ hW310  h)
                              obtain ⟨h1, h2⟩ := h
                              refine j_icmp_ne 263 dX9_ahead_247 rfl rv262 (ez259 ▸ (jR_ite (by decide) (by decide))) (fun q280 => ?_) (fun q280 => ?_)
                              · have h := h1 q280
                                clear h1 h2
                                exact J.wk (((((((jWk.nil).eq).eq).eq).eq).eq).eq) (jn284 _ hW264  h)
                              · have h := h2 q280
                                clear h1 h2
                                refine j_aload_n dX9_ahead_250 rfl ?_
                                refine j_getI dX9_ahead_251 flX9_48_10 hM.1 rfl ?_
                                refine j_iconst dX9_ahead_254 ?_
                                obtain ⟨h1, h2⟩ := h
                                refine j_icmp_ne 263 dX9_ahead_255 rfl (hW264.fi rfl) (by decide) (fun q311 => ?_) (fun q311 => ?_)
                                · have h := h1 q311
                                  clear h1 h2
                                  exact J.wk (((((((jWk.nil).eq).eq).eq).eq).eq).eq) (jn284 _ hW264  h)
                                · have h := h2 q311
                                  clear h1 h2
                                  refine j_aload_n dX9_ahead_258 rfl ?_
                                  refine j_iload_n dX9_ahead_259 rfl ?_
                                  refine j_putI dX9_ahead_260 flX9_48_10 hM.1 hM.2.1 rfl ?_
                                  obtain ⟨F312, eF312⟩ : ∃ x : jFl, x = upF F263 3036 o v261 := ⟨_, rfl⟩
                                  have hW313 : jWf N F312 A := eF312 ▸ jWf_F (f := 3036) (a := o) (z := v261) hW264 (jRk_0 rfl rv261)
                                  refine jnmF (e := eF312) ?_
                                  have h := h F312 eF312
                                  exact J.wk (((((((jWk.nil).eq).eq).eq).eq).eq).eq) (jn284 _ hW313  h)
                          · have h := h2 q270
                            clear h1 h2
                            refine j_aload_n dX9_ahead_216 rfl ?_
                            refine j_getFR dX9_ahead_217 flX9_7_10 hM.1 rfl (mf_tape hM) ?_
                            refine j_iload_n dX9_ahead_220 rfl ?_
                            obtain ⟨c314, h⟩ := h
                            refine j_iald (n := 1800) dX9_ahead_221 (mt_tape hM) (ml_tape hM) c314 ?_
                            obtain ⟨P315, hp316, h⟩ := h
                            refine j_invS (As := [vI (A (o + 1) v261)]) (rest := []) dX9_ahead_222 lkX9_266 (wX9_isLetter (d := 1) (Nat.le_of_ble_eq_true rfl) hM hW264 (hW264.ai (mt_tape hM) rfl) hp316) rfl rfl (Nat.le_of_ble_eq_true rfl) (Nat.le_trans (Nat.le_of_ble_eq_true rfl) hd) (jkpB fun z317 p318 r319 => ?_)
                            have h := h z317 p318
                            obtain ⟨h1, h2⟩ := h
                            refine j_if_eq 334 dX9_ahead_225 rfl (jR_b r319) (fun q320 => ?_) (fun q320 => ?_)
                            · have h := h1 q320
                              clear h1 h2
                              refine j_aload_n dX9_ahead_334 rfl ?_
                              refine j_iload_n dX9_ahead_335 rfl ?_
                              refine j_putI dX9_ahead_336 flX9_26_10 hM.1 hM.2.1 rfl ?_
                              obtain ⟨F321, eF321⟩ : ∃ x : jFl, x = upF F263 3015 o v261 := ⟨_, rfl⟩
                              have hW322 : jWf N F321 A := eF321 ▸ jWf_F (f := 3015) (a := o) (z := v261) hW264 (jRk_0 rfl rv261)
                              refine jnmF (e := eF321) ?_
                              have h := h F321 eF321
                              exact j_vret dX9_ahead_339 rfl ⟨rfl, rfl, hW322, h⟩
                            · have h := h2 q320
                              clear h1 h2
                              refine j_goto 243 dX9_ahead_228 rfl ?_
                              refine j_iload dX9_ahead_243 rfl ?_
                              refine j_iload dX9_ahead_245 rfl ?_
                              obtain ⟨h1, h2⟩ := h
                              refine j_icmp_ne 263 dX9_ahead_247 rfl rv262 (ez259 ▸ (jR_ite (by decide) (by decide))) (fun q323 => ?_) (fun q323 => ?_)
                              · have h := h1 q323
                                clear h1 h2
                                refine j_iload dX9_ahead_263 rfl ?_
                                refine j_iload dX9_ahead_265 rfl ?_
                                obtain ⟨h1, h2⟩ := h
                                refine j_icmp_ge 293 dX9_ahead_267 rfl rv262 (ez259 ▸ (jR_ite (by decide) (by decide))) (fun q324 => ?_) (fun q324 => ?_)
                                · have h := h1 q324
                                  clear h1 h2
                                  refine j_iload dX9_ahead_293 rfl ?_
                                  refine j_iload dX9_ahead_295 rfl ?_
                                  obtain ⟨h1, h2⟩ := h
                                  refine j_icmp_ge 325 dX9_ahead_297 rfl rv262 (ez259 ▸ (jR_ite (by decide) (by decide))) (fun q325 => ?_) (fun q325 => ?_)
                                  · have h := h1 q325
                                    clear h1 h2
                                    obtain ⟨r326, h⟩ := h
                                    refine j_iinc dX9_ahead_325 rfl rfl ?_
                                    obtain ⟨r327, h⟩ := h
                                    refine j_iinc dX9_ahead_328 rfl rfl ?_
                                    refine j_goto 204 dX9_ahead_331 rfl ?_
                                    exact J.wk (((((((jWk.nil).eq).eq).eq).eq).eq).eq) (ihI265 _ _ _ (Nat.lt_of_lt_of_le h.2 (Nat.le_of_lt_succ hmuI265)) hW264 r327 r326 h.1)
                                  · have h := h2 q325
                                    clear h1 h2
                                    refine j_iload_n dX9_ahead_300 rfl ?_
                                    obtain ⟨h1, h2⟩ := h
                                    refine j_if_eq 325 dX9_ahead_301 rfl (jR_b r29) (fun q328 => ?_) (fun q328 => ?_)
                                    · have h := h1 q328
                                      clear h1 h2
                                      obtain ⟨r329, h⟩ := h
                                      refine j_iinc dX9_ahead_325 rfl rfl ?_
                                      obtain ⟨r330, h⟩ := h
                                      refine j_iinc dX9_ahead_328 rfl rfl ?_
                                      refine j_goto 204 dX9_ahead_331 rfl ?_
                                      exact J.wk (((((((jWk.nil).eq).eq).eq).eq).eq).eq) (ihI265 _ _ _ (Nat.lt_of_lt_of_le h.2 (Nat.le_of_lt_succ hmuI265)) hW264 r330 r329 h.1)
                                    · have h := h2 q328
                                      clear h1 h2
                                      refine j_aload_n dX9_ahead_304 rfl ?_
                                      refine j_bipush dX9_ahead_305 ?_
                                      refine j_aload_n dX9_ahead_307 rfl ?_
                                      refine j_getI dX9_ahead_308 flX9_29_10 hM.1 rfl ?_
                                      refine j_imul dX9_ahead_311 ?_
                                      refine j_aload_n dX9_ahead_312 rfl ?_
                                      refine j_getFR dX9_ahead_313 flX9_7_10 hM.1 rfl (mf_tape hM) ?_
                                      refine j_iload_n dX9_ahead_316 rfl ?_
                                      obtain ⟨c331, h⟩ := h
                                      refine j_iald (n := 1800) dX9_ahead_317 (mt_tape hM) (ml_tape hM) c331 ?_
                                      refine j_iadd dX9_ahead_318 ?_
                                      refine j_bipush dX9_ahead_319 ?_
                                      refine j_isub dX9_ahead_321 ?_
                                      obtain ⟨r332, h⟩ := h
                                      refine j_putI dX9_ahead_322 flX9_29_10 hM.1 hM.2.1 rfl ?_
                                      obtain ⟨F333, eF333⟩ : ∃ x : jFl, x = upF F263 3018 o (((10 * (F263 3018 o)) + (A (o + 1) v261)) - 48) := ⟨_, rfl⟩
                                      have hW334 : jWf N F333 A := eF333 ▸ jWf_F (f := 3018) (a := o) (z := ((10 * (F263 3018 o)) + (A (o + 1) v261)) - 48) hW264 (jRk_0 rfl r332)
                                      refine jnmF (e := eF333) ?_
                                      have h := h F333 eF333
                                      obtain ⟨r335, h⟩ := h
                                      refine j_iinc dX9_ahead_325 rfl rfl ?_
                                      obtain ⟨r336, h⟩ := h
                                      refine j_iinc dX9_ahead_328 rfl rfl ?_
                                      refine j_goto 204 dX9_ahead_331 rfl ?_
                                      exact J.wk (((((((jWk.nil).eq).eq).eq).eq).eq).eq) (ihI265 _ _ _ (Nat.lt_of_lt_of_le h.2 (Nat.le_of_lt_succ hmuI265)) hW334 r336 r335 h.1)
                                · have h := h2 q324
                                  clear h1 h2
                                  refine j_iload_n dX9_ahead_270 rfl ?_
                                  obtain ⟨h1, h2⟩ := h
                                  refine j_if_eq 293 dX9_ahead_271 rfl (jR_b r23) (fun q337 => ?_) (fun q337 => ?_)
                                  · have h := h1 q337
                                    clear h1 h2
                                    refine j_iload dX9_ahead_293 rfl ?_
                                    refine j_iload dX9_ahead_295 rfl ?_
                                    obtain ⟨h1, h2⟩ := h
                                    refine j_icmp_ge 325 dX9_ahead_297 rfl rv262 (ez259 ▸ (jR_ite (by decide) (by decide))) (fun q338 => ?_) (fun q338 => ?_)
                                    · have h := h1 q338
                                      clear h1 h2
                                      obtain ⟨r339, h⟩ := h
                                      refine j_iinc dX9_ahead_325 rfl rfl ?_
                                      obtain ⟨r340, h⟩ := h
                                      refine j_iinc dX9_ahead_328 rfl rfl ?_
                                      refine j_goto 204 dX9_ahead_331 rfl ?_
                                      exact J.wk (((((((jWk.nil).eq).eq).eq).eq).eq).eq) (ihI265 _ _ _ (Nat.lt_of_lt_of_le h.2 (Nat.le_of_lt_succ hmuI265)) hW264 r340 r339 h.1)
                                    · have h := h2 q338
                                      clear h1 h2
                                      refine j_iload_n dX9_ahead_300 rfl ?_
                                      obtain ⟨h1, h2⟩ := h
                                      refine j_if_eq 325 dX9_ahead_301 rfl (jR_b r29) (fun q341 => ?_) (fun q341 => ?_)
                                      · have h := h1 q341
                                        clear h1 h2
                                        obtain ⟨r342, h⟩ := h
                                        refine j_iinc dX9_ahead_325 rfl rfl ?_
                                        obtain ⟨r343, h⟩ := h
                                        refine j_iinc dX9_ahead_328 rfl rfl ?_
                                        refine j_goto 204 dX9_ahead_331 rfl ?_
                                        exact J.wk (((((((jWk.nil).eq).eq).eq).eq).eq).eq) (ihI265 _ _ _ (Nat.lt_of_lt_of_le h.2 (Nat.le_of_lt_succ hmuI265)) hW264 r343 r342 h.1)
                                      · have h := h2 q341
                                        clear h1 h2
                                        refine j_aload_n dX9_ahead_304 rfl ?_
                                        refine j_bipush dX9_ahead_305 ?_
                                        refine j_aload_n dX9_ahead_307 rfl ?_
                                        refine j_getI dX9_ahead_308 flX9_29_10 hM.1 rfl ?_
                                        refine j_imul dX9_ahead_311 ?_
                                        refine j_aload_n dX9_ahead_312 rfl ?_
                                        refine j_getFR dX9_ahead_313 flX9_7_10 hM.1 rfl (mf_tape hM) ?_
                                        refine j_iload_n dX9_ahead_316 rfl ?_
                                        obtain ⟨c344, h⟩ := h
                                        refine j_iald (n := 1800) dX9_ahead_317 (mt_tape hM) (ml_tape hM) c344 ?_
                                        refine j_iadd dX9_ahead_318 ?_
                                        refine j_bipush dX9_ahead_319 ?_
                                        refine j_isub dX9_ahead_321 ?_
                                        obtain ⟨r345, h⟩ := h
                                        refine j_putI dX9_ahead_322 flX9_29_10 hM.1 hM.2.1 rfl ?_
                                        obtain ⟨F346, eF346⟩ : ∃ x : jFl, x = upF F263 3018 o (((10 * (F263 3018 o)) + (A (o + 1) v261)) - 48) := ⟨_, rfl⟩
                                        have hW347 : jWf N F346 A := eF346 ▸ jWf_F (f := 3018) (a := o) (z := ((10 * (F263 3018 o)) + (A (o + 1) v261)) - 48) hW264 (jRk_0 rfl r345)
                                        refine jnmF (e := eF346) ?_
                                        have h := h F346 eF346
                                        obtain ⟨r348, h⟩ := h
                                        refine j_iinc dX9_ahead_325 rfl rfl ?_
                                        obtain ⟨r349, h⟩ := h
                                        refine j_iinc dX9_ahead_328 rfl rfl ?_
                                        refine j_goto 204 dX9_ahead_331 rfl ?_
                                        exact J.wk (((((((jWk.nil).eq).eq).eq).eq).eq).eq) (ihI265 _ _ _ (Nat.lt_of_lt_of_le h.2 (Nat.le_of_lt_succ hmuI265)) hW347 r349 r348 h.1)
                                  · have h := h2 q337
                                    clear h1 h2
                                    refine j_aload_n dX9_ahead_274 rfl ?_
                                    refine j_aload_n dX9_ahead_275 rfl ?_
                                    refine j_getL dX9_ahead_276 flX9_32_10 hM.1 rfl ?_
                                    refine j_bipush dX9_ahead_279 ?_
                                    obtain ⟨c350, h⟩ := h
                                    refine j_lshl dX9_ahead_281 c350 ?_
                                    refine j_aload_n dX9_ahead_282 rfl ?_
                                    refine j_getFR dX9_ahead_283 flX9_7_10 hM.1 rfl (mf_tape hM) ?_
                                    refine j_iload_n dX9_ahead_286 rfl ?_
                                    obtain ⟨c351, h⟩ := h
                                    refine j_iald (n := 1800) dX9_ahead_287 (mt_tape hM) (ml_tape hM) c351 ?_
                                    refine j_i2l dX9_ahead_288 (hW264.ai (mt_tape hM) rfl) ?_
                                    obtain ⟨c352, h⟩ := h
                                    refine j_lor dX9_ahead_289 c352.1 c352.2 ?_
                                    obtain ⟨r353, h⟩ := h
                                    refine j_putL dX9_ahead_290 flX9_32_10 hM.1 hM.2.1 rfl ?_
                                    obtain ⟨F354, eF354⟩ : ∃ x : jFl, x = upF F263 3022 o (jor ((F263 3022 o) * 2 ^ 8) (A (o + 1) v261)) := ⟨_, rfl⟩
                                    have hW355 : jWf N F354 A := eF354 ▸ jWf_F (f := 3022) (a := o) (z := jor ((F263 3022 o) * 2 ^ 8) (A (o + 1) v261)) hW264 (jRk_1 rfl r353)
                                    refine jnmF (e := eF354) ?_
                                    have h := h F354 eF354
                                    refine j_iload dX9_ahead_293 rfl ?_
                                    refine j_iload dX9_ahead_295 rfl ?_
                                    obtain ⟨h1, h2⟩ := h
                                    refine j_icmp_ge 325 dX9_ahead_297 rfl rv262 (ez259 ▸ (jR_ite (by decide) (by decide))) (fun q356 => ?_) (fun q356 => ?_)
                                    · have h := h1 q356
                                      clear h1 h2
                                      obtain ⟨r357, h⟩ := h
                                      refine j_iinc dX9_ahead_325 rfl rfl ?_
                                      obtain ⟨r358, h⟩ := h
                                      refine j_iinc dX9_ahead_328 rfl rfl ?_
                                      refine j_goto 204 dX9_ahead_331 rfl ?_
                                      exact J.wk (((((((jWk.nil).eq).eq).eq).eq).eq).eq) (ihI265 _ _ _ (Nat.lt_of_lt_of_le h.2 (Nat.le_of_lt_succ hmuI265)) hW355 r358 r357 h.1)
                                    · have h := h2 q356
                                      clear h1 h2
                                      refine j_iload_n dX9_ahead_300 rfl ?_
                                      obtain ⟨h1, h2⟩ := h
                                      refine j_if_eq 325 dX9_ahead_301 rfl (jR_b r29) (fun q359 => ?_) (fun q359 => ?_)
                                      · have h := h1 q359
                                        clear h1 h2
                                        obtain ⟨r360, h⟩ := h
                                        refine j_iinc dX9_ahead_325 rfl rfl ?_
                                        obtain ⟨r361, h⟩ := h
                                        refine j_iinc dX9_ahead_328 rfl rfl ?_
                                        refine j_goto 204 dX9_ahead_331 rfl ?_
                                        exact J.wk (((((((jWk.nil).eq).eq).eq).eq).eq).eq) (ihI265 _ _ _ (Nat.lt_of_lt_of_le h.2 (Nat.le_of_lt_succ hmuI265)) hW355 r361 r360 h.1)
                                      · have h := h2 q359
                                        clear h1 h2
                                        refine j_aload_n dX9_ahead_304 rfl ?_
                                        refine j_bipush dX9_ahead_305 ?_
                                        refine j_aload_n dX9_ahead_307 rfl ?_
                                        refine j_getI dX9_ahead_308 flX9_29_10 hM.1 rfl ?_
                                        refine j_imul dX9_ahead_311 ?_
                                        refine j_aload_n dX9_ahead_312 rfl ?_
                                        refine j_getFR dX9_ahead_313 flX9_7_10 hM.1 rfl (mf_tape hM) ?_
                                        refine j_iload_n dX9_ahead_316 rfl ?_
                                        obtain ⟨c362, h⟩ := h
                                        refine j_iald (n := 1800) dX9_ahead_317 (mt_tape hM) (ml_tape hM) c362 ?_
                                        refine j_iadd dX9_ahead_318 ?_
                                        refine j_bipush dX9_ahead_319 ?_
                                        refine j_isub dX9_ahead_321 ?_
                                        obtain ⟨r363, h⟩ := h
                                        refine j_putI dX9_ahead_322 flX9_29_10 hM.1 hM.2.1 rfl ?_
                                        obtain ⟨F364, eF364⟩ : ∃ x : jFl, x = upF F354 3018 o (((10 * (F354 3018 o)) + (A (o + 1) v261)) - 48) := ⟨_, rfl⟩
                                        have hW365 : jWf N F364 A := eF364 ▸ jWf_F (f := 3018) (a := o) (z := ((10 * (F354 3018 o)) + (A (o + 1) v261)) - 48) hW355 (jRk_0 rfl r363)
                                        refine jnmF (e := eF364) ?_
                                        have h := h F364 eF364
                                        obtain ⟨r366, h⟩ := h
                                        refine j_iinc dX9_ahead_325 rfl rfl ?_
                                        obtain ⟨r367, h⟩ := h
                                        refine j_iinc dX9_ahead_328 rfl rfl ?_
                                        refine j_goto 204 dX9_ahead_331 rfl ?_
                                        exact J.wk (((((((jWk.nil).eq).eq).eq).eq).eq).eq) (ihI265 _ _ _ (Nat.lt_of_lt_of_le h.2 (Nat.le_of_lt_succ hmuI265)) hW365 r367 r366 h.1)
                              · have h := h2 q323
                                clear h1 h2
                                refine j_aload_n dX9_ahead_250 rfl ?_
                                refine j_getI dX9_ahead_251 flX9_48_10 hM.1 rfl ?_
                                refine j_iconst dX9_ahead_254 ?_
                                obtain ⟨h1, h2⟩ := h
                                refine j_icmp_ne 263 dX9_ahead_255 rfl (hW264.fi rfl) (by decide) (fun q368 => ?_) (fun q368 => ?_)
                                · have h := h1 q368
                                  clear h1 h2
                                  refine j_iload dX9_ahead_263 rfl ?_
                                  refine j_iload dX9_ahead_265 rfl ?_
                                  obtain ⟨h1, h2⟩ := h
                                  refine j_icmp_ge 293 dX9_ahead_267 rfl rv262 (ez259 ▸ (jR_ite (by decide) (by decide))) (fun q369 => ?_) (fun q369 => ?_)
                                  · have h := h1 q369
                                    clear h1 h2
                                    refine j_iload dX9_ahead_293 rfl ?_
                                    refine j_iload dX9_ahead_295 rfl ?_
                                    obtain ⟨h1, h2⟩ := h
                                    refine j_icmp_ge 325 dX9_ahead_297 rfl rv262 (ez259 ▸ (jR_ite (by decide) (by decide))) (fun q370 => ?_) (fun q370 => ?_)
                                    · have h := h1 q370
                                      clear h1 h2
                                      obtain ⟨r371, h⟩ := h
                                      refine j_iinc dX9_ahead_325 rfl rfl ?_
                                      obtain ⟨r372, h⟩ := h
                                      refine j_iinc dX9_ahead_328 rfl rfl ?_
                                      refine j_goto 204 dX9_ahead_331 rfl ?_
                                      exact J.wk (((((((jWk.nil).eq).eq).eq).eq).eq).eq) (ihI265 _ _ _ (Nat.lt_of_lt_of_le h.2 (Nat.le_of_lt_succ hmuI265)) hW264 r372 r371 h.1)
                                    · have h := h2 q370
                                      clear h1 h2
                                      refine j_iload_n dX9_ahead_300 rfl ?_
                                      obtain ⟨h1, h2⟩ := h
                                      refine j_if_eq 325 dX9_ahead_301 rfl (jR_b r29) (fun q373 => ?_) (fun q373 => ?_)
                                      · have h := h1 q373
                                        clear h1 h2
                                        obtain ⟨r374, h⟩ := h
                                        refine j_iinc dX9_ahead_325 rfl rfl ?_
                                        obtain ⟨r375, h⟩ := h
                                        refine j_iinc dX9_ahead_328 rfl rfl ?_
                                        refine j_goto 204 dX9_ahead_331 rfl ?_
                                        exact J.wk (((((((jWk.nil).eq).eq).eq).eq).eq).eq) (ihI265 _ _ _ (Nat.lt_of_lt_of_le h.2 (Nat.le_of_lt_succ hmuI265)) hW264 r375 r374 h.1)
                                      · have h := h2 q373
                                        clear h1 h2
                                        refine j_aload_n dX9_ahead_304 rfl ?_
                                        refine j_bipush dX9_ahead_305 ?_
                                        refine j_aload_n dX9_ahead_307 rfl ?_
                                        refine j_getI dX9_ahead_308 flX9_29_10 hM.1 rfl ?_
                                        refine j_imul dX9_ahead_311 ?_
                                        refine j_aload_n dX9_ahead_312 rfl ?_
                                        refine j_getFR dX9_ahead_313 flX9_7_10 hM.1 rfl (mf_tape hM) ?_
                                        refine j_iload_n dX9_ahead_316 rfl ?_
                                        obtain ⟨c376, h⟩ := h
                                        refine j_iald (n := 1800) dX9_ahead_317 (mt_tape hM) (ml_tape hM) c376 ?_
                                        refine j_iadd dX9_ahead_318 ?_
                                        refine j_bipush dX9_ahead_319 ?_
                                        refine j_isub dX9_ahead_321 ?_
                                        obtain ⟨r377, h⟩ := h
                                        refine j_putI dX9_ahead_322 flX9_29_10 hM.1 hM.2.1 rfl ?_
                                        obtain ⟨F378, eF378⟩ : ∃ x : jFl, x = upF F263 3018 o (((10 * (F263 3018 o)) + (A (o + 1) v261)) - 48) := ⟨_, rfl⟩
                                        have hW379 : jWf N F378 A := eF378 ▸ jWf_F (f := 3018) (a := o) (z := ((10 * (F263 3018 o)) + (A (o + 1) v261)) - 48) hW264 (jRk_0 rfl r377)
                                        refine jnmF (e := eF378) ?_
                                        have h := h F378 eF378
                                        obtain ⟨r380, h⟩ := h
                                        refine j_iinc dX9_ahead_325 rfl rfl ?_
                                        obtain ⟨r381, h⟩ := h
                                        refine j_iinc dX9_ahead_328 rfl rfl ?_
                                        refine j_goto 204 dX9_ahead_331 rfl ?_
                                        exact J.wk (((((((jWk.nil).eq).eq).eq).eq).eq).eq) (ihI265 _ _ _ (Nat.lt_of_lt_of_le h.2 (Nat.le_of_lt_succ hmuI265)) hW379 r381 r380 h.1)
                                  · have h := h2 q369
                                    clear h1 h2
                                    refine j_iload_n dX9_ahead_270 rfl ?_
                                    obtain ⟨h1, h2⟩ := h
                                    refine j_if_eq 293 dX9_ahead_271 rfl (jR_b r23) (fun q382 => ?_) (fun q382 => ?_)
                                    · have h := h1 q382
                                      clear h1 h2
                                      refine j_iload dX9_ahead_293 rfl ?_
                                      refine j_iload dX9_ahead_295 rfl ?_
                                      obtain ⟨h1, h2⟩ := h
                                      refine j_icmp_ge 325 dX9_ahead_297 rfl rv262 (ez259 ▸ (jR_ite (by decide) (by decide))) (fun q383 => ?_) (fun q383 => ?_)
                                      · have h := h1 q383
                                        clear h1 h2
                                        obtain ⟨r384, h⟩ := h
                                        refine j_iinc dX9_ahead_325 rfl rfl ?_
                                        obtain ⟨r385, h⟩ := h
                                        refine j_iinc dX9_ahead_328 rfl rfl ?_
                                        refine j_goto 204 dX9_ahead_331 rfl ?_
                                        exact J.wk (((((((jWk.nil).eq).eq).eq).eq).eq).eq) (ihI265 _ _ _ (Nat.lt_of_lt_of_le h.2 (Nat.le_of_lt_succ hmuI265)) hW264 r385 r384 h.1)
                                      · have h := h2 q383
                                        clear h1 h2
                                        refine j_iload_n dX9_ahead_300 rfl ?_
                                        obtain ⟨h1, h2⟩ := h
                                        refine j_if_eq 325 dX9_ahead_301 rfl (jR_b r29) (fun q386 => ?_) (fun q386 => ?_)
                                        · have h := h1 q386
                                          clear h1 h2
                                          obtain ⟨r387, h⟩ := h
                                          refine j_iinc dX9_ahead_325 rfl rfl ?_
                                          obtain ⟨r388, h⟩ := h
                                          refine j_iinc dX9_ahead_328 rfl rfl ?_
                                          refine j_goto 204 dX9_ahead_331 rfl ?_
                                          exact J.wk (((((((jWk.nil).eq).eq).eq).eq).eq).eq) (ihI265 _ _ _ (Nat.lt_of_lt_of_le h.2 (Nat.le_of_lt_succ hmuI265)) hW264 r388 r387 h.1)
                                        · have h := h2 q386
                                          clear h1 h2
                                          refine j_aload_n dX9_ahead_304 rfl ?_
                                          refine j_bipush dX9_ahead_305 ?_
                                          refine j_aload_n dX9_ahead_307 rfl ?_
                                          refine j_getI dX9_ahead_308 flX9_29_10 hM.1 rfl ?_
                                          refine j_imul dX9_ahead_311 ?_
                                          refine j_aload_n dX9_ahead_312 rfl ?_
                                          refine j_getFR dX9_ahead_313 flX9_7_10 hM.1 rfl (mf_tape hM) ?_
                                          refine j_iload_n dX9_ahead_316 rfl ?_
                                          obtain ⟨c389, h⟩ := h
                                          refine j_iald (n := 1800) dX9_ahead_317 (mt_tape hM) (ml_tape hM) c389 ?_
                                          refine j_iadd dX9_ahead_318 ?_
                                          refine j_bipush dX9_ahead_319 ?_
                                          refine j_isub dX9_ahead_321 ?_
                                          obtain ⟨r390, h⟩ := h
                                          refine j_putI dX9_ahead_322 flX9_29_10 hM.1 hM.2.1 rfl ?_
                                          obtain ⟨F391, eF391⟩ : ∃ x : jFl, x = upF F263 3018 o (((10 * (F263 3018 o)) + (A (o + 1) v261)) - 48) := ⟨_, rfl⟩
                                          have hW392 : jWf N F391 A := eF391 ▸ jWf_F (f := 3018) (a := o) (z := ((10 * (F263 3018 o)) + (A (o + 1) v261)) - 48) hW264 (jRk_0 rfl r390)
                                          refine jnmF (e := eF391) ?_
                                          have h := h F391 eF391
                                          obtain ⟨r393, h⟩ := h
                                          refine j_iinc dX9_ahead_325 rfl rfl ?_
                                          obtain ⟨r394, h⟩ := h
                                          refine j_iinc dX9_ahead_328 rfl rfl ?_
                                          refine j_goto 204 dX9_ahead_331 rfl ?_
                                          exact J.wk (((((((jWk.nil).eq).eq).eq).eq).eq).eq) (ihI265 _ _ _ (Nat.lt_of_lt_of_le h.2 (Nat.le_of_lt_succ hmuI265)) hW392 r394 r393 h.1)
                                    · have h := h2 q382
                                      clear h1 h2
                                      refine j_aload_n dX9_ahead_274 rfl ?_
                                      refine j_aload_n dX9_ahead_275 rfl ?_
                                      refine j_getL dX9_ahead_276 flX9_32_10 hM.1 rfl ?_
                                      refine j_bipush dX9_ahead_279 ?_
                                      obtain ⟨c395, h⟩ := h
                                      refine j_lshl dX9_ahead_281 c395 ?_
                                      refine j_aload_n dX9_ahead_282 rfl ?_
                                      refine j_getFR dX9_ahead_283 flX9_7_10 hM.1 rfl (mf_tape hM) ?_
                                      refine j_iload_n dX9_ahead_286 rfl ?_
                                      obtain ⟨c396, h⟩ := h
                                      refine j_iald (n := 1800) dX9_ahead_287 (mt_tape hM) (ml_tape hM) c396 ?_
                                      refine j_i2l dX9_ahead_288 (hW264.ai (mt_tape hM) rfl) ?_
                                      obtain ⟨c397, h⟩ := h
                                      refine j_lor dX9_ahead_289 c397.1 c397.2 ?_
                                      obtain ⟨r398, h⟩ := h
                                      refine j_putL dX9_ahead_290 flX9_32_10 hM.1 hM.2.1 rfl ?_
                                      obtain ⟨F399, eF399⟩ : ∃ x : jFl, x = upF F263 3022 o (jor ((F263 3022 o) * 2 ^ 8) (A (o + 1) v261)) := ⟨_, rfl⟩
                                      have hW400 : jWf N F399 A := eF399 ▸ jWf_F (f := 3022) (a := o) (z := jor ((F263 3022 o) * 2 ^ 8) (A (o + 1) v261)) hW264 (jRk_1 rfl r398)
                                      refine jnmF (e := eF399) ?_
                                      have h := h F399 eF399
                                      refine j_iload dX9_ahead_293 rfl ?_
                                      refine j_iload dX9_ahead_295 rfl ?_
                                      obtain ⟨h1, h2⟩ := h
                                      refine j_icmp_ge 325 dX9_ahead_297 rfl rv262 (ez259 ▸ (jR_ite (by decide) (by decide))) (fun q401 => ?_) (fun q401 => ?_)
                                      · have h := h1 q401
                                        clear h1 h2
                                        obtain ⟨r402, h⟩ := h
                                        refine j_iinc dX9_ahead_325 rfl rfl ?_
                                        obtain ⟨r403, h⟩ := h
                                        refine j_iinc dX9_ahead_328 rfl rfl ?_
                                        refine j_goto 204 dX9_ahead_331 rfl ?_
                                        exact J.wk (((((((jWk.nil).eq).eq).eq).eq).eq).eq) (ihI265 _ _ _ (Nat.lt_of_lt_of_le h.2 (Nat.le_of_lt_succ hmuI265)) hW400 r403 r402 h.1)
                                      · have h := h2 q401
                                        clear h1 h2
                                        refine j_iload_n dX9_ahead_300 rfl ?_
                                        obtain ⟨h1, h2⟩ := h
                                        refine j_if_eq 325 dX9_ahead_301 rfl (jR_b r29) (fun q404 => ?_) (fun q404 => ?_)
                                        · have h := h1 q404
                                          clear h1 h2
                                          obtain ⟨r405, h⟩ := h
                                          refine j_iinc dX9_ahead_325 rfl rfl ?_
                                          obtain ⟨r406, h⟩ := h
                                          refine j_iinc dX9_ahead_328 rfl rfl ?_
                                          refine j_goto 204 dX9_ahead_331 rfl ?_
                                          exact J.wk (((((((jWk.nil).eq).eq).eq).eq).eq).eq) (ihI265 _ _ _ (Nat.lt_of_lt_of_le h.2 (Nat.le_of_lt_succ hmuI265)) hW400 r406 r405 h.1)
                                        · have h := h2 q404
                                          clear h1 h2
                                          refine j_aload_n dX9_ahead_304 rfl ?_
                                          refine j_bipush dX9_ahead_305 ?_
                                          refine j_aload_n dX9_ahead_307 rfl ?_
                                          refine j_getI dX9_ahead_308 flX9_29_10 hM.1 rfl ?_
                                          refine j_imul dX9_ahead_311 ?_
                                          refine j_aload_n dX9_ahead_312 rfl ?_
                                          refine j_getFR dX9_ahead_313 flX9_7_10 hM.1 rfl (mf_tape hM) ?_
                                          refine j_iload_n dX9_ahead_316 rfl ?_
                                          obtain ⟨c407, h⟩ := h
                                          refine j_iald (n := 1800) dX9_ahead_317 (mt_tape hM) (ml_tape hM) c407 ?_
                                          refine j_iadd dX9_ahead_318 ?_
                                          refine j_bipush dX9_ahead_319 ?_
                                          refine j_isub dX9_ahead_321 ?_
                                          obtain ⟨r408, h⟩ := h
                                          refine j_putI dX9_ahead_322 flX9_29_10 hM.1 hM.2.1 rfl ?_
                                          obtain ⟨F409, eF409⟩ : ∃ x : jFl, x = upF F399 3018 o (((10 * (F399 3018 o)) + (A (o + 1) v261)) - 48) := ⟨_, rfl⟩
                                          have hW410 : jWf N F409 A := eF409 ▸ jWf_F (f := 3018) (a := o) (z := ((10 * (F399 3018 o)) + (A (o + 1) v261)) - 48) hW400 (jRk_0 rfl r408)
                                          refine jnmF (e := eF409) ?_
                                          have h := h F409 eF409
                                          obtain ⟨r411, h⟩ := h
                                          refine j_iinc dX9_ahead_325 rfl rfl ?_
                                          obtain ⟨r412, h⟩ := h
                                          refine j_iinc dX9_ahead_328 rfl rfl ?_
                                          refine j_goto 204 dX9_ahead_331 rfl ?_
                                          exact J.wk (((((((jWk.nil).eq).eq).eq).eq).eq).eq) (ihI265 _ _ _ (Nat.lt_of_lt_of_le h.2 (Nat.le_of_lt_succ hmuI265)) hW410 r412 r411 h.1)
                                · have h := h2 q368
                                  clear h1 h2
                                  refine j_aload_n dX9_ahead_258 rfl ?_
                                  refine j_iload_n dX9_ahead_259 rfl ?_
                                  refine j_putI dX9_ahead_260 flX9_48_10 hM.1 hM.2.1 rfl ?_
                                  obtain ⟨F413, eF413⟩ : ∃ x : jFl, x = upF F263 3036 o v261 := ⟨_, rfl⟩
                                  have hW414 : jWf N F413 A := eF413 ▸ jWf_F (f := 3036) (a := o) (z := v261) hW264 (jRk_0 rfl rv261)
                                  refine jnmF (e := eF413) ?_
                                  have h := h F413 eF413
                                  refine j_iload dX9_ahead_263 rfl ?_
                                  refine j_iload dX9_ahead_265 rfl ?_
                                  obtain ⟨h1, h2⟩ := h
                                  refine j_icmp_ge 293 dX9_ahead_267 rfl rv262 (ez259 ▸ (jR_ite (by decide) (by decide))) (fun q415 => ?_) (fun q415 => ?_)
                                  · have h := h1 q415
                                    clear h1 h2
                                    refine j_iload dX9_ahead_293 rfl ?_
                                    refine j_iload dX9_ahead_295 rfl ?_
                                    obtain ⟨h1, h2⟩ := h
                                    refine j_icmp_ge 325 dX9_ahead_297 rfl rv262 (ez259 ▸ (jR_ite (by decide) (by decide))) (fun q416 => ?_) (fun q416 => ?_)
                                    · have h := h1 q416
                                      clear h1 h2
                                      obtain ⟨r417, h⟩ := h
                                      refine j_iinc dX9_ahead_325 rfl rfl ?_
                                      obtain ⟨r418, h⟩ := h
                                      refine j_iinc dX9_ahead_328 rfl rfl ?_
                                      refine j_goto 204 dX9_ahead_331 rfl ?_
                                      exact J.wk (((((((jWk.nil).eq).eq).eq).eq).eq).eq) (ihI265 _ _ _ (Nat.lt_of_lt_of_le h.2 (Nat.le_of_lt_succ hmuI265)) hW414 r418 r417 h.1)
                                    · have h := h2 q416
                                      clear h1 h2
                                      refine j_iload_n dX9_ahead_300 rfl ?_
                                      obtain ⟨h1, h2⟩ := h
                                      refine j_if_eq 325 dX9_ahead_301 rfl (jR_b r29) (fun q419 => ?_) (fun q419 => ?_)
                                      · have h := h1 q419
                                        clear h1 h2
                                        obtain ⟨r420, h⟩ := h
                                        refine j_iinc dX9_ahead_325 rfl rfl ?_
                                        obtain ⟨r421, h⟩ := h
                                        refine j_iinc dX9_ahead_328 rfl rfl ?_
                                        refine j_goto 204 dX9_ahead_331 rfl ?_
                                        exact J.wk (((((((jWk.nil).eq).eq).eq).eq).eq).eq) (ihI265 _ _ _ (Nat.lt_of_lt_of_le h.2 (Nat.le_of_lt_succ hmuI265)) hW414 r421 r420 h.1)
                                      · have h := h2 q419
                                        clear h1 h2
                                        refine j_aload_n dX9_ahead_304 rfl ?_
                                        refine j_bipush dX9_ahead_305 ?_
                                        refine j_aload_n dX9_ahead_307 rfl ?_
                                        refine j_getI dX9_ahead_308 flX9_29_10 hM.1 rfl ?_
                                        refine j_imul dX9_ahead_311 ?_
                                        refine j_aload_n dX9_ahead_312 rfl ?_
                                        refine j_getFR dX9_ahead_313 flX9_7_10 hM.1 rfl (mf_tape hM) ?_
                                        refine j_iload_n dX9_ahead_316 rfl ?_
                                        obtain ⟨c422, h⟩ := h
                                        refine j_iald (n := 1800) dX9_ahead_317 (mt_tape hM) (ml_tape hM) c422 ?_
                                        refine j_iadd dX9_ahead_318 ?_
                                        refine j_bipush dX9_ahead_319 ?_
                                        refine j_isub dX9_ahead_321 ?_
                                        obtain ⟨r423, h⟩ := h
                                        refine j_putI dX9_ahead_322 flX9_29_10 hM.1 hM.2.1 rfl ?_
                                        obtain ⟨F424, eF424⟩ : ∃ x : jFl, x = upF F413 3018 o (((10 * (F413 3018 o)) + (A (o + 1) v261)) - 48) := ⟨_, rfl⟩
                                        have hW425 : jWf N F424 A := eF424 ▸ jWf_F (f := 3018) (a := o) (z := ((10 * (F413 3018 o)) + (A (o + 1) v261)) - 48) hW414 (jRk_0 rfl r423)
                                        refine jnmF (e := eF424) ?_
                                        have h := h F424 eF424
                                        obtain ⟨r426, h⟩ := h
                                        refine j_iinc dX9_ahead_325 rfl rfl ?_
                                        obtain ⟨r427, h⟩ := h
                                        refine j_iinc dX9_ahead_328 rfl rfl ?_
                                        refine j_goto 204 dX9_ahead_331 rfl ?_
                                        exact J.wk (((((((jWk.nil).eq).eq).eq).eq).eq).eq) (ihI265 _ _ _ (Nat.lt_of_lt_of_le h.2 (Nat.le_of_lt_succ hmuI265)) hW425 r427 r426 h.1)
                                  · have h := h2 q415
                                    clear h1 h2
                                    refine j_iload_n dX9_ahead_270 rfl ?_
                                    obtain ⟨h1, h2⟩ := h
                                    refine j_if_eq 293 dX9_ahead_271 rfl (jR_b r23) (fun q428 => ?_) (fun q428 => ?_)
                                    · have h := h1 q428
                                      clear h1 h2
                                      refine j_iload dX9_ahead_293 rfl ?_
                                      refine j_iload dX9_ahead_295 rfl ?_
                                      obtain ⟨h1, h2⟩ := h
                                      refine j_icmp_ge 325 dX9_ahead_297 rfl rv262 (ez259 ▸ (jR_ite (by decide) (by decide))) (fun q429 => ?_) (fun q429 => ?_)
                                      · have h := h1 q429
                                        clear h1 h2
                                        obtain ⟨r430, h⟩ := h
                                        refine j_iinc dX9_ahead_325 rfl rfl ?_
                                        obtain ⟨r431, h⟩ := h
                                        refine j_iinc dX9_ahead_328 rfl rfl ?_
                                        refine j_goto 204 dX9_ahead_331 rfl ?_
                                        exact J.wk (((((((jWk.nil).eq).eq).eq).eq).eq).eq) (ihI265 _ _ _ (Nat.lt_of_lt_of_le h.2 (Nat.le_of_lt_succ hmuI265)) hW414 r431 r430 h.1)
                                      · have h := h2 q429
                                        clear h1 h2
                                        refine j_iload_n dX9_ahead_300 rfl ?_
                                        obtain ⟨h1, h2⟩ := h
                                        refine j_if_eq 325 dX9_ahead_301 rfl (jR_b r29) (fun q432 => ?_) (fun q432 => ?_)
                                        · have h := h1 q432
                                          clear h1 h2
                                          obtain ⟨r433, h⟩ := h
                                          refine j_iinc dX9_ahead_325 rfl rfl ?_
                                          obtain ⟨r434, h⟩ := h
                                          refine j_iinc dX9_ahead_328 rfl rfl ?_
                                          refine j_goto 204 dX9_ahead_331 rfl ?_
                                          exact J.wk (((((((jWk.nil).eq).eq).eq).eq).eq).eq) (ihI265 _ _ _ (Nat.lt_of_lt_of_le h.2 (Nat.le_of_lt_succ hmuI265)) hW414 r434 r433 h.1)
                                        · have h := h2 q432
                                          clear h1 h2
                                          refine j_aload_n dX9_ahead_304 rfl ?_
                                          refine j_bipush dX9_ahead_305 ?_
                                          refine j_aload_n dX9_ahead_307 rfl ?_
                                          refine j_getI dX9_ahead_308 flX9_29_10 hM.1 rfl ?_
                                          refine j_imul dX9_ahead_311 ?_
                                          refine j_aload_n dX9_ahead_312 rfl ?_
                                          refine j_getFR dX9_ahead_313 flX9_7_10 hM.1 rfl (mf_tape hM) ?_
                                          refine j_iload_n dX9_ahead_316 rfl ?_
                                          obtain ⟨c435, h⟩ := h
                                          refine j_iald (n := 1800) dX9_ahead_317 (mt_tape hM) (ml_tape hM) c435 ?_
                                          refine j_iadd dX9_ahead_318 ?_
                                          refine j_bipush dX9_ahead_319 ?_
                                          refine j_isub dX9_ahead_321 ?_
                                          obtain ⟨r436, h⟩ := h
                                          refine j_putI dX9_ahead_322 flX9_29_10 hM.1 hM.2.1 rfl ?_
                                          obtain ⟨F437, eF437⟩ : ∃ x : jFl, x = upF F413 3018 o (((10 * (F413 3018 o)) + (A (o + 1) v261)) - 48) := ⟨_, rfl⟩
                                          have hW438 : jWf N F437 A := eF437 ▸ jWf_F (f := 3018) (a := o) (z := ((10 * (F413 3018 o)) + (A (o + 1) v261)) - 48) hW414 (jRk_0 rfl r436)
                                          refine jnmF (e := eF437) ?_
                                          have h := h F437 eF437
                                          obtain ⟨r439, h⟩ := h
                                          refine j_iinc dX9_ahead_325 rfl rfl ?_
                                          obtain ⟨r440, h⟩ := h
                                          refine j_iinc dX9_ahead_328 rfl rfl ?_
                                          refine j_goto 204 dX9_ahead_331 rfl ?_
                                          exact J.wk (((((((jWk.nil).eq).eq).eq).eq).eq).eq) (ihI265 _ _ _ (Nat.lt_of_lt_of_le h.2 (Nat.le_of_lt_succ hmuI265)) hW438 r440 r439 h.1)
                                    · have h := h2 q428
                                      clear h1 h2
                                      refine j_aload_n dX9_ahead_274 rfl ?_
                                      refine j_aload_n dX9_ahead_275 rfl ?_
                                      refine j_getL dX9_ahead_276 flX9_32_10 hM.1 rfl ?_
                                      refine j_bipush dX9_ahead_279 ?_
                                      obtain ⟨c441, h⟩ := h
                                      refine j_lshl dX9_ahead_281 c441 ?_
                                      refine j_aload_n dX9_ahead_282 rfl ?_
                                      refine j_getFR dX9_ahead_283 flX9_7_10 hM.1 rfl (mf_tape hM) ?_
                                      refine j_iload_n dX9_ahead_286 rfl ?_
                                      obtain ⟨c442, h⟩ := h
                                      refine j_iald (n := 1800) dX9_ahead_287 (mt_tape hM) (ml_tape hM) c442 ?_
                                      refine j_i2l dX9_ahead_288 (hW414.ai (mt_tape hM) rfl) ?_
                                      obtain ⟨c443, h⟩ := h
                                      refine j_lor dX9_ahead_289 c443.1 c443.2 ?_
                                      obtain ⟨r444, h⟩ := h
                                      refine j_putL dX9_ahead_290 flX9_32_10 hM.1 hM.2.1 rfl ?_
                                      obtain ⟨F445, eF445⟩ : ∃ x : jFl, x = upF F413 3022 o (jor ((F413 3022 o) * 2 ^ 8) (A (o + 1) v261)) := ⟨_, rfl⟩
                                      have hW446 : jWf N F445 A := eF445 ▸ jWf_F (f := 3022) (a := o) (z := jor ((F413 3022 o) * 2 ^ 8) (A (o + 1) v261)) hW414 (jRk_1 rfl r444)
                                      refine jnmF (e := eF445) ?_
                                      have h := h F445 eF445
                                      refine j_iload dX9_ahead_293 rfl ?_
                                      refine j_iload dX9_ahead_295 rfl ?_
                                      obtain ⟨h1, h2⟩ := h
                                      refine j_icmp_ge 325 dX9_ahead_297 rfl rv262 (ez259 ▸ (jR_ite (by decide) (by decide))) (fun q447 => ?_) (fun q447 => ?_)
                                      · have h := h1 q447
                                        clear h1 h2
                                        obtain ⟨r448, h⟩ := h
                                        refine j_iinc dX9_ahead_325 rfl rfl ?_
                                        obtain ⟨r449, h⟩ := h
                                        refine j_iinc dX9_ahead_328 rfl rfl ?_
                                        refine j_goto 204 dX9_ahead_331 rfl ?_
                                        exact J.wk (((((((jWk.nil).eq).eq).eq).eq).eq).eq) (ihI265 _ _ _ (Nat.lt_of_lt_of_le h.2 (Nat.le_of_lt_succ hmuI265)) hW446 r449 r448 h.1)
                                      · have h := h2 q447
                                        clear h1 h2
                                        refine j_iload_n dX9_ahead_300 rfl ?_
                                        obtain ⟨h1, h2⟩ := h
                                        refine j_if_eq 325 dX9_ahead_301 rfl (jR_b r29) (fun q450 => ?_) (fun q450 => ?_)
                                        · have h := h1 q450
                                          clear h1 h2
                                          obtain ⟨r451, h⟩ := h
                                          refine j_iinc dX9_ahead_325 rfl rfl ?_
                                          obtain ⟨r452, h⟩ := h
                                          refine j_iinc dX9_ahead_328 rfl rfl ?_
                                          refine j_goto 204 dX9_ahead_331 rfl ?_
                                          exact J.wk (((((((jWk.nil).eq).eq).eq).eq).eq).eq) (ihI265 _ _ _ (Nat.lt_of_lt_of_le h.2 (Nat.le_of_lt_succ hmuI265)) hW446 r452 r451 h.1)
                                        · have h := h2 q450
                                          clear h1 h2
                                          refine j_aload_n dX9_ahead_304 rfl ?_
                                          refine j_bipush dX9_ahead_305 ?_
                                          refine j_aload_n dX9_ahead_307 rfl ?_
                                          refine j_getI dX9_ahead_308 flX9_29_10 hM.1 rfl ?_
                                          refine j_imul dX9_ahead_311 ?_
                                          refine j_aload_n dX9_ahead_312 rfl ?_
                                          refine j_getFR dX9_ahead_313 flX9_7_10 hM.1 rfl (mf_tape hM) ?_
                                          refine j_iload_n dX9_ahead_316 rfl ?_
                                          obtain ⟨c453, h⟩ := h
                                          refine j_iald (n := 1800) dX9_ahead_317 (mt_tape hM) (ml_tape hM) c453 ?_
                                          refine j_iadd dX9_ahead_318 ?_
                                          refine j_bipush dX9_ahead_319 ?_
                                          refine j_isub dX9_ahead_321 ?_
                                          obtain ⟨r454, h⟩ := h
                                          refine j_putI dX9_ahead_322 flX9_29_10 hM.1 hM.2.1 rfl ?_
                                          obtain ⟨F455, eF455⟩ : ∃ x : jFl, x = upF F445 3018 o (((10 * (F445 3018 o)) + (A (o + 1) v261)) - 48) := ⟨_, rfl⟩
                                          have hW456 : jWf N F455 A := eF455 ▸ jWf_F (f := 3018) (a := o) (z := ((10 * (F445 3018 o)) + (A (o + 1) v261)) - 48) hW446 (jRk_0 rfl r454)
                                          refine jnmF (e := eF455) ?_
                                          have h := h F455 eF455
                                          obtain ⟨r457, h⟩ := h
                                          refine j_iinc dX9_ahead_325 rfl rfl ?_
                                          obtain ⟨r458, h⟩ := h
                                          refine j_iinc dX9_ahead_328 rfl rfl ?_
                                          refine j_goto 204 dX9_ahead_331 rfl ?_
                                          exact J.wk (((((((jWk.nil).eq).eq).eq).eq).eq).eq) (ihI265 _ _ _ (Nat.lt_of_lt_of_le h.2 (Nat.le_of_lt_succ hmuI265)) hW456 r458 r457 h.1)
                    exact J.wk (((((((jWk.nil).eq).eq).eq).eq).eq).eq) (lp _ _ _ _ (Nat.lt_succ_self _) hW257 rv2 (by decide) h0)
                  clear h
                  refine j_if_eq 198 dX9_ahead_190 rfl (jR_b r23) (fun q258 => ?_) (fun q258 => ?_)
                  · refine j_iconst dX9_ahead_198 ?_
                    exact jn260 _ ((if_pos q258).symm)
                  · refine j_bipush dX9_ahead_193 ?_
                    refine j_goto 199 dX9_ahead_195 rfl ?_
                    exact jn260 _ ((if_neg q258).symm)
                clear h
                refine j_if_eq 185 dX9_ahead_178 rfl (jR_b r23) (fun q253 => ?_) (fun q253 => ?_)
                · refine j_iconst dX9_ahead_185 ?_
                  exact jn255 _ ((if_pos q253).symm)
                · refine j_iconst dX9_ahead_181 ?_
                  refine j_goto 186 dX9_ahead_182 rfl ?_
                  exact jn255 _ ((if_neg q253).symm)
              · have h := h2 q252
                clear h1 h2
                refine j_aload_n dX9_ahead_165 rfl ?_
                refine j_aload_n dX9_ahead_166 rfl ?_
                refine j_getFR dX9_ahead_167 flX9_7_10 hM.1 rfl (mf_tape hM) ?_
                refine j_iload_n dX9_ahead_170 rfl ?_
                obtain ⟨c459, h⟩ := h
                refine j_iald (n := 1800) dX9_ahead_171 (mt_tape hM) (ml_tape hM) c459 ?_
                refine j_putI dX9_ahead_172 flX9_29_10 hM.1 hM.2.1 rfl ?_
                obtain ⟨F460, eF460⟩ : ∃ x : jFl, x = upF F43 3018 o (A (o + 1) v2) := ⟨_, rfl⟩
                have hW461 : jWf N F460 A := eF460 ▸ jWf_F (f := 3018) (a := o) (z := A (o + 1) v2) hW44 (jRk_0 rfl (hW44.ai (mt_tape hM) rfl))
                refine jnmF (e := eF460) ?_
                have h := h F460 eF460
                exact j_vret dX9_ahead_175 rfl ⟨rfl, rfl, hW461, h⟩
          obtain ⟨h1, h2⟩ := h
          refine j_if_ne 98 dX9_ahead_91 rfl (jR_b r23) (fun q30 => ?_) (fun q30 => ?_)
          · have h := h1 q30
            clear h1 h2
            refine j_iload_n dX9_ahead_98 rfl ?_
            obtain ⟨h1, h2⟩ := h
            refine j_if_le 135 dX9_ahead_99 rfl rv2 (fun q462 => ?_) (fun q462 => ?_)
            · have h := h1 q462
              clear h1 h2
              exact J.wk (((((((jWk.nil).no).no).eq).eq).eq).eq) (jn34 _ hW16  h)
            · have h := h2 q462
              clear h1 h2
              refine j_aload_n dX9_ahead_102 rfl ?_
              refine j_getFR dX9_ahead_103 flX9_7_10 hM.1 rfl (mf_tape hM) ?_
              refine j_iload_n dX9_ahead_106 rfl ?_
              refine j_iconst dX9_ahead_107 ?_
              refine j_isub dX9_ahead_108 ?_
              obtain ⟨c463, h⟩ := h
              refine j_iald (n := 1800) dX9_ahead_109 (mt_tape hM) (ml_tape hM) c463 ?_
              obtain ⟨P464, hp465, h⟩ := h
              refine j_invS (As := [vI (A (o + 1) (v2 - 1))]) (rest := []) dX9_ahead_110 lkX9_266 (wX9_isLetter (d := 1) (Nat.le_of_ble_eq_true rfl) hM hW16 (hW16.ai (mt_tape hM) rfl) hp465) rfl rfl (Nat.le_of_ble_eq_true rfl) (Nat.le_trans (Nat.le_of_ble_eq_true rfl) hd) (jkpB fun z466 p467 r468 => ?_)
              have h := h z466 p467
              obtain ⟨h1, h2⟩ := h
              refine j_if_ne 130 dX9_ahead_113 rfl (jR_b r468) (fun q469 => ?_) (fun q469 => ?_)
              · have h := h1 q469
                clear h1 h2
                refine j_aload_n dX9_ahead_130 rfl ?_
                refine j_iload_n dX9_ahead_131 rfl ?_
                refine j_putI dX9_ahead_132 flX9_48_10 hM.1 hM.2.1 rfl ?_
                obtain ⟨F470, eF470⟩ : ∃ x : jFl, x = upF F15 3036 o v2 := ⟨_, rfl⟩
                have hW471 : jWf N F470 A := eF470 ▸ jWf_F (f := 3036) (a := o) (z := v2) hW16 (jRk_0 rfl rv2)
                refine jnmF (e := eF470) ?_
                have h := h F470 eF470
                exact J.wk (((((((jWk.nil).no).no).eq).eq).eq).eq) (jn34 _ hW471  h)
              · have h := h2 q469
                clear h1 h2
                refine j_aload_n dX9_ahead_116 rfl ?_
                refine j_getFR dX9_ahead_117 flX9_7_10 hM.1 rfl (mf_tape hM) ?_
                refine j_iload_n dX9_ahead_120 rfl ?_
                refine j_iconst dX9_ahead_121 ?_
                refine j_isub dX9_ahead_122 ?_
                obtain ⟨c472, h⟩ := h
                refine j_iald (n := 1800) dX9_ahead_123 (mt_tape hM) (ml_tape hM) c472 ?_
                obtain ⟨P473, hp474, h⟩ := h
                refine j_invS (As := [vI (A (o + 1) (v2 - 1))]) (rest := []) dX9_ahead_124 lkX9_270 (wX9_isDigit (d := 1) (Nat.le_of_ble_eq_true rfl) hM hW16 (hW16.ai (mt_tape hM) rfl) hp474) rfl rfl (Nat.le_of_ble_eq_true rfl) (Nat.le_trans (Nat.le_of_ble_eq_true rfl) hd) (jkpB fun z475 p476 r477 => ?_)
                have h := h z475 p476
                obtain ⟨h1, h2⟩ := h
                refine j_if_eq 135 dX9_ahead_127 rfl (jR_b r477) (fun q478 => ?_) (fun q478 => ?_)
                · have h := h1 q478
                  clear h1 h2
                  exact J.wk (((((((jWk.nil).no).no).eq).eq).eq).eq) (jn34 _ hW16  h)
                · have h := h2 q478
                  clear h1 h2
                  refine j_aload_n dX9_ahead_130 rfl ?_
                  refine j_iload_n dX9_ahead_131 rfl ?_
                  refine j_putI dX9_ahead_132 flX9_48_10 hM.1 hM.2.1 rfl ?_
                  obtain ⟨F479, eF479⟩ : ∃ x : jFl, x = upF F15 3036 o v2 := ⟨_, rfl⟩
                  have hW480 : jWf N F479 A := eF479 ▸ jWf_F (f := 3036) (a := o) (z := v2) hW16 (jRk_0 rfl rv2)
                  refine jnmF (e := eF479) ?_
                  have h := h F479 eF479
                  exact J.wk (((((((jWk.nil).no).no).eq).eq).eq).eq) (jn34 _ hW480  h)
          · have h := h2 q30
            clear h1 h2
            refine j_iload_n dX9_ahead_94 rfl ?_
            obtain ⟨h1, h2⟩ := h
            refine j_if_eq 135 dX9_ahead_95 rfl (jR_b r29) (fun q481 => ?_) (fun q481 => ?_)
            · have h := h1 q481
              clear h1 h2
              exact J.wk (((((((jWk.nil).no).no).eq).eq).eq).eq) (jn34 _ hW16  h)
            · have h := h2 q481
              clear h1 h2
              refine j_iload_n dX9_ahead_98 rfl ?_
              obtain ⟨h1, h2⟩ := h
              refine j_if_le 135 dX9_ahead_99 rfl rv2 (fun q482 => ?_) (fun q482 => ?_)
              · have h := h1 q482
                clear h1 h2
                exact J.wk (((((((jWk.nil).no).no).eq).eq).eq).eq) (jn34 _ hW16  h)
              · have h := h2 q482
                clear h1 h2
                refine j_aload_n dX9_ahead_102 rfl ?_
                refine j_getFR dX9_ahead_103 flX9_7_10 hM.1 rfl (mf_tape hM) ?_
                refine j_iload_n dX9_ahead_106 rfl ?_
                refine j_iconst dX9_ahead_107 ?_
                refine j_isub dX9_ahead_108 ?_
                obtain ⟨c483, h⟩ := h
                refine j_iald (n := 1800) dX9_ahead_109 (mt_tape hM) (ml_tape hM) c483 ?_
                obtain ⟨P484, hp485, h⟩ := h
                refine j_invS (As := [vI (A (o + 1) (v2 - 1))]) (rest := []) dX9_ahead_110 lkX9_266 (wX9_isLetter (d := 1) (Nat.le_of_ble_eq_true rfl) hM hW16 (hW16.ai (mt_tape hM) rfl) hp485) rfl rfl (Nat.le_of_ble_eq_true rfl) (Nat.le_trans (Nat.le_of_ble_eq_true rfl) hd) (jkpB fun z486 p487 r488 => ?_)
                have h := h z486 p487
                obtain ⟨h1, h2⟩ := h
                refine j_if_ne 130 dX9_ahead_113 rfl (jR_b r488) (fun q489 => ?_) (fun q489 => ?_)
                · have h := h1 q489
                  clear h1 h2
                  refine j_aload_n dX9_ahead_130 rfl ?_
                  refine j_iload_n dX9_ahead_131 rfl ?_
                  refine j_putI dX9_ahead_132 flX9_48_10 hM.1 hM.2.1 rfl ?_
                  obtain ⟨F490, eF490⟩ : ∃ x : jFl, x = upF F15 3036 o v2 := ⟨_, rfl⟩
                  have hW491 : jWf N F490 A := eF490 ▸ jWf_F (f := 3036) (a := o) (z := v2) hW16 (jRk_0 rfl rv2)
                  refine jnmF (e := eF490) ?_
                  have h := h F490 eF490
                  exact J.wk (((((((jWk.nil).no).no).eq).eq).eq).eq) (jn34 _ hW491  h)
                · have h := h2 q489
                  clear h1 h2
                  refine j_aload_n dX9_ahead_116 rfl ?_
                  refine j_getFR dX9_ahead_117 flX9_7_10 hM.1 rfl (mf_tape hM) ?_
                  refine j_iload_n dX9_ahead_120 rfl ?_
                  refine j_iconst dX9_ahead_121 ?_
                  refine j_isub dX9_ahead_122 ?_
                  obtain ⟨c492, h⟩ := h
                  refine j_iald (n := 1800) dX9_ahead_123 (mt_tape hM) (ml_tape hM) c492 ?_
                  obtain ⟨P493, hp494, h⟩ := h
                  refine j_invS (As := [vI (A (o + 1) (v2 - 1))]) (rest := []) dX9_ahead_124 lkX9_270 (wX9_isDigit (d := 1) (Nat.le_of_ble_eq_true rfl) hM hW16 (hW16.ai (mt_tape hM) rfl) hp494) rfl rfl (Nat.le_of_ble_eq_true rfl) (Nat.le_trans (Nat.le_of_ble_eq_true rfl) hd) (jkpB fun z495 p496 r497 => ?_)
                  have h := h z495 p496
                  obtain ⟨h1, h2⟩ := h
                  refine j_if_eq 135 dX9_ahead_127 rfl (jR_b r497) (fun q498 => ?_) (fun q498 => ?_)
                  · have h := h1 q498
                    clear h1 h2
                    exact J.wk (((((((jWk.nil).no).no).eq).eq).eq).eq) (jn34 _ hW16  h)
                  · have h := h2 q498
                    clear h1 h2
                    refine j_aload_n dX9_ahead_130 rfl ?_
                    refine j_iload_n dX9_ahead_131 rfl ?_
                    refine j_putI dX9_ahead_132 flX9_48_10 hM.1 hM.2.1 rfl ?_
                    obtain ⟨F499, eF499⟩ : ∃ x : jFl, x = upF F15 3036 o v2 := ⟨_, rfl⟩
                    have hW500 : jWf N F499 A := eF499 ▸ jWf_F (f := 3036) (a := o) (z := v2) hW16 (jRk_0 rfl rv2)
                    refine jnmF (e := eF499) ?_
                    have h := h F499 eF499
                    exact J.wk (((((((jWk.nil).no).no).eq).eq).eq).eq) (jn34 _ hW500  h)
        · have h := h2 q17
          clear h1 h2
          exact j_vret dX9_ahead_69 rfl ⟨rfl, rfl, hW16, h⟩
      obtain ⟨h1, h2⟩ := h
      refine j_icmp_ge 41 dX9_ahead_10 rfl rv2 (hW.fi rfl) (fun q5 => ?_) (fun q5 => ?_)
      · have h := h1 q5
        clear h1 h2
        exact J.wk (((((((jWk.nil).no).no).no).no).eq).eq) (jn7   h)
      · have h := h2 q5
        clear h1 h2
        refine j_aload_n dX9_ahead_13 rfl ?_
        refine j_getFR dX9_ahead_14 flX9_7_10 hM.1 rfl (mf_tape hM) ?_
        refine j_iload_n dX9_ahead_17 rfl ?_
        obtain ⟨c501, h⟩ := h
        refine j_iald (n := 1800) dX9_ahead_18 (mt_tape hM) (ml_tape hM) c501 ?_
        refine j_bipush dX9_ahead_19 ?_
        obtain ⟨h1, h2⟩ := h
        refine j_icmp_eq 35 dX9_ahead_21 rfl (hW.ai (mt_tape hM) rfl) (by decide) (fun q502 => ?_) (fun q502 => ?_)
        · have h := h1 q502
          clear h1 h2
          obtain ⟨r503, h⟩ := h
          refine j_iinc dX9_ahead_35 rfl rfl ?_
          refine j_goto 5 dX9_ahead_38 rfl ?_
          exact J.wk (((((((jWk.nil).no).no).no).no).eq).eq) (ihI3 _ (Nat.lt_of_lt_of_le h.2 (Nat.le_of_lt_succ hmuI3)) r503 h.1)
        · have h := h2 q502
          clear h1 h2
          refine j_aload_n dX9_ahead_24 rfl ?_
          refine j_getFR dX9_ahead_25 flX9_7_10 hM.1 rfl (mf_tape hM) ?_
          refine j_iload_n dX9_ahead_28 rfl ?_
          obtain ⟨c504, h⟩ := h
          refine j_iald (n := 1800) dX9_ahead_29 (mt_tape hM) (ml_tape hM) c504 ?_
          refine j_bipush dX9_ahead_30 ?_
          obtain ⟨h1, h2⟩ := h
          refine j_icmp_ne 41 dX9_ahead_32 rfl (hW.ai (mt_tape hM) rfl) (by decide) (fun q505 => ?_) (fun q505 => ?_)
          · have h := h1 q505
            clear h1 h2
            exact J.wk (((((((jWk.nil).no).no).no).no).eq).eq) (jn7   h)
          · have h := h2 q505
            clear h1 h2
            obtain ⟨r506, h⟩ := h
            refine j_iinc dX9_ahead_35 rfl rfl ?_
            refine j_goto 5 dX9_ahead_38 rfl ?_
            exact J.wk (((((((jWk.nil).no).no).no).no).eq).eq) (ihI3 _ (Nat.lt_of_lt_of_le h.2 (Nat.le_of_lt_succ hmuI3)) r506 h.1)
  exact J.wk (((((((jWk.nil).no).no).no).no).eq).eq) (lp _ _ (Nat.lt_succ_self _) (ev1 ▸ (hW.fi rfl)) h0)
