set_option maxRecDepth 100000
set_option linter.unusedVariables false
/-! walks of the component and of JDK methods: printed by gen/walkc.py -/
/-- ChildSays$Reader.see()I -/
def wqX10_see (S : Nat → Nat) (o : Nat) (N : jSh) (F : jFl) (A : jAr) (Q : Int → jSh → jFl → jAr → Prop) (X : Nat → jSh → jFl → jAr → Prop) : Prop :=
  (((F 3321 o) = 0) →
    ∃ (I5 : jFl → Prop) (m6 : jFl → Nat), I5 F ∧ ∀ (F2 : jFl), I5 F2 →
      ∃ K9 : Prop, (
        K9  →
        jfn N 0 o = 1 ∧
        ∀ F14 : jFl, F14 = upF F2 3312 o (F2 3306 o) →
        ∀ F16 : jFl, F16 = upF F14 3321 o 1 →
        ∀ F18 : jFl, F18 = upF F16 3318 o 0 →
        ((¬ (F18 3306 o) = (jfn N 3300 o)) →
          ∃ b20 : Nat, jfn N 3332 o = (b20 : Int) ∧
          jtg N b20 = 1 ∧
          ∃ b23 : Nat, jfn N 302 b20 = (b23 : Int) ∧
          jtg N b23 = 111 ∧
          ((0 : Int) ≤ F18 3306 o ∧ (F18 3306 o : Int) < (jln N b23 : Int)) ∧
          ∀ v27 : Int, v27 = A b23 (F18 3306 o) →
          ∃ (P28 : Int → Prop), wqX10_isLetter o v27 N F18 A P28 ∧
          ∀ z30, P28 z30 →
          ((¬ z30 = 0) →
            ((¬ (F18 3306 o) = (F18 3309 o)) →
              ∀ z38 : Int, z38 = (if z30 = 0 then (4 : Int) else 6) →
              ∃ (I43 : jFl → Prop) (m44 : jFl → Nat), I43 F18 ∧ ∀ (F40 : jFl), I43 F40 →
                ∃ K47 : Prop, (
                  K47  →
                  ∀ F51 : jFl, F51 = upF F40 3309 o (F40 3306 o) →
                  ∀ (b52 : Nat) (N53 : jSh) (F54 : jFl), b52 = jnx N → N53 = jnew N 22 0 4 1 → F54 = nwF N F51 →
                  ∃ b60 : Nat, jfn N53 3332 o = (b60 : Int) ∧
                  jtg N53 b60 = 1 ∧
                  jR ((F54 3306 o) - (F54 3312 o)) ∧
                  ∃ (P64 : jSh → jFl → jAr → Prop), wqJ5_init S b52 (jfn N53 302 b60) (F54 3312 o) ((F54 3306 o) - (F54 3312 o)) N53 F54 A P64 ∧
                  ∀ N69 F67 A68, P64 N69 F67 A68 →
                  ∀ F77 : jFl, F77 = upF F67 3329 o (b52 : Int) →
                  ∃ K82 : jFl → Prop, (
                    ∀ (F79 : jFl), K82 F79 →
                    ∀ z86 : Int, z86 = (if z30 = 0 then (2 : Int) else 1) →
                    ∀ F89 : jFl, F89 = upF F79 3318 o z86 →
                    Q (F89 3318 o) N69 F89 A68) ∧
                  ((¬ z30 = 0) →
                    K82 F77) ∧
                  ((z30 = 0) →
                    ∃ (P90 : Int → Prop), wqX0_digitsOf S (F77 3329 o) N69 F77 A68 P90 ∧
                    ∀ z92, P90 z92 →
                    ∀ F98 : jFl, F98 = upF F77 3315 o z92 →
                    K82 F98)) ∧
                (((jfn N 3300 o) ≤ (F40 3306 o)) →
                  K47 ) ∧
                ((¬ ((jfn N 3300 o) ≤ (F40 3306 o))) →
                  ((z30 = 0) →
                    ((0 : Int) ≤ F40 3306 o ∧ (F40 3306 o : Int) < (jln N b23 : Int)) ∧
                    ∃ (P101 : Int → Prop), wqX10_isDigit o (A b23 (F40 3306 o)) N F40 A P101 ∧
                    ∀ z103, P101 z103 →
                    ((z103 = 0) →
                      K47 ) ∧
                    ((¬ (z103 = 0)) →
                      jR ((F40 3306 o) - (F40 3312 o)) ∧
                      ((¬ ((F40 3306 o) - (F40 3312 o)) = z38) →
                        jR ((F40 3306 o) + 1) ∧
                        ∀ F113 : jFl, F113 = upF F40 3306 o ((F40 3306 o) + 1) →
                        I43 F113 ∧ m44 F113 < m44 F40) ∧
                      ((((F40 3306 o) - (F40 3312 o)) = z38) →
                        ∀ (b114 : Nat) (N115 : jSh) (F116 : jFl), b114 = jnx N → N115 = jnew N 12 0 8 1 → F116 = nwF N F40 →
                        ∃ (P122 : jSh → jFl → jAr → Prop), wqX11_init b114 1 (F116 3306 o) N115 F116 A P122 ∧
                        ∀ N127 F125 A126, P122 N127 F125 A126 →
                        X b114 N127 F125 A126))) ∧
                  ((¬ (z30 = 0)) →
                    ((0 : Int) ≤ F40 3306 o ∧ (F40 3306 o : Int) < (jln N b23 : Int)) ∧
                    ∃ (P135 : Int → Prop), wqX10_isLetter o (A b23 (F40 3306 o)) N F40 A P135 ∧
                    ∀ z137, P135 z137 →
                    ((z137 = 0) →
                      K47 ) ∧
                    ((¬ (z137 = 0)) →
                      jR ((F40 3306 o) - (F40 3312 o)) ∧
                      ((¬ ((F40 3306 o) - (F40 3312 o)) = z38) →
                        jR ((F40 3306 o) + 1) ∧
                        ∀ F147 : jFl, F147 = upF F40 3306 o ((F40 3306 o) + 1) →
                        I43 F147 ∧ m44 F147 < m44 F40) ∧
                      ((((F40 3306 o) - (F40 3312 o)) = z38) →
                        ∀ (b148 : Nat) (N149 : jSh) (F150 : jFl), b148 = jnx N → N149 = jnew N 12 0 8 1 → F150 = nwF N F40 →
                        ∃ (P156 : jSh → jFl → jAr → Prop), wqX11_init b148 1 (F150 3306 o) N149 F150 A P156 ∧
                        ∀ N161 F159 A160, P156 N161 F159 A160 →
                        X b148 N161 F159 A160))))) ∧
            (((F18 3306 o) = (F18 3309 o)) →
              ∀ (b168 : Nat) (N169 : jSh) (F170 : jFl), b168 = jnx N → N169 = jnew N 12 0 8 1 → F170 = nwF N F18 →
              ∃ (P176 : jSh → jFl → jAr → Prop), wqX11_init b168 1 (F170 3306 o) N169 F170 A P176 ∧
              ∀ N181 F179 A180, P176 N181 F179 A180 →
              X b168 N181 F179 A180)) ∧
          ((z30 = 0) →
            ∃ (P188 : Int → Prop), wqX10_isDigit o v27 N F18 A P188 ∧
            ∀ z190, P188 z190 →
            ((¬ z190 = 0) →
              ((¬ (F18 3306 o) = (F18 3309 o)) →
                ∀ z198 : Int, z198 = (if z30 = 0 then (4 : Int) else 6) →
                ∃ (I203 : jFl → Prop) (m204 : jFl → Nat), I203 F18 ∧ ∀ (F200 : jFl), I203 F200 →
                  ∃ K207 : Prop, (
                    K207  →
                    ∀ F211 : jFl, F211 = upF F200 3309 o (F200 3306 o) →
                    ∀ (b212 : Nat) (N213 : jSh) (F214 : jFl), b212 = jnx N → N213 = jnew N 22 0 4 1 → F214 = nwF N F211 →
                    ∃ b220 : Nat, jfn N213 3332 o = (b220 : Int) ∧
                    jtg N213 b220 = 1 ∧
                    jR ((F214 3306 o) - (F214 3312 o)) ∧
                    ∃ (P224 : jSh → jFl → jAr → Prop), wqJ5_init S b212 (jfn N213 302 b220) (F214 3312 o) ((F214 3306 o) - (F214 3312 o)) N213 F214 A P224 ∧
                    ∀ N229 F227 A228, P224 N229 F227 A228 →
                    ∀ F237 : jFl, F237 = upF F227 3329 o (b212 : Int) →
                    ∃ K242 : jFl → Prop, (
                      ∀ (F239 : jFl), K242 F239 →
                      ∀ z246 : Int, z246 = (if z30 = 0 then (2 : Int) else 1) →
                      ∀ F249 : jFl, F249 = upF F239 3318 o z246 →
                      Q (F249 3318 o) N229 F249 A228) ∧
                    ((¬ z30 = 0) →
                      K242 F237) ∧
                    ((z30 = 0) →
                      ∃ (P250 : Int → Prop), wqX0_digitsOf S (F237 3329 o) N229 F237 A228 P250 ∧
                      ∀ z252, P250 z252 →
                      ∀ F258 : jFl, F258 = upF F237 3315 o z252 →
                      K242 F258)) ∧
                  (((jfn N 3300 o) ≤ (F200 3306 o)) →
                    K207 ) ∧
                  ((¬ ((jfn N 3300 o) ≤ (F200 3306 o))) →
                    ((z30 = 0) →
                      ((0 : Int) ≤ F200 3306 o ∧ (F200 3306 o : Int) < (jln N b23 : Int)) ∧
                      ∃ (P261 : Int → Prop), wqX10_isDigit o (A b23 (F200 3306 o)) N F200 A P261 ∧
                      ∀ z263, P261 z263 →
                      ((z263 = 0) →
                        K207 ) ∧
                      ((¬ (z263 = 0)) →
                        jR ((F200 3306 o) - (F200 3312 o)) ∧
                        ((¬ ((F200 3306 o) - (F200 3312 o)) = z198) →
                          jR ((F200 3306 o) + 1) ∧
                          ∀ F273 : jFl, F273 = upF F200 3306 o ((F200 3306 o) + 1) →
                          I203 F273 ∧ m204 F273 < m204 F200) ∧
                        ((((F200 3306 o) - (F200 3312 o)) = z198) →
                          ∀ (b274 : Nat) (N275 : jSh) (F276 : jFl), b274 = jnx N → N275 = jnew N 12 0 8 1 → F276 = nwF N F200 →
                          ∃ (P282 : jSh → jFl → jAr → Prop), wqX11_init b274 1 (F276 3306 o) N275 F276 A P282 ∧
                          ∀ N287 F285 A286, P282 N287 F285 A286 →
                          X b274 N287 F285 A286))) ∧
                    ((¬ (z30 = 0)) →
                      ((0 : Int) ≤ F200 3306 o ∧ (F200 3306 o : Int) < (jln N b23 : Int)) ∧
                      ∃ (P295 : Int → Prop), wqX10_isLetter o (A b23 (F200 3306 o)) N F200 A P295 ∧
                      ∀ z297, P295 z297 →
                      ((z297 = 0) →
                        K207 ) ∧
                      ((¬ (z297 = 0)) →
                        jR ((F200 3306 o) - (F200 3312 o)) ∧
                        ((¬ ((F200 3306 o) - (F200 3312 o)) = z198) →
                          jR ((F200 3306 o) + 1) ∧
                          ∀ F307 : jFl, F307 = upF F200 3306 o ((F200 3306 o) + 1) →
                          I203 F307 ∧ m204 F307 < m204 F200) ∧
                        ((((F200 3306 o) - (F200 3312 o)) = z198) →
                          ∀ (b308 : Nat) (N309 : jSh) (F310 : jFl), b308 = jnx N → N309 = jnew N 12 0 8 1 → F310 = nwF N F200 →
                          ∃ (P316 : jSh → jFl → jAr → Prop), wqX11_init b308 1 (F310 3306 o) N309 F310 A P316 ∧
                          ∀ N321 F319 A320, P316 N321 F319 A320 →
                          X b308 N321 F319 A320))))) ∧
              (((F18 3306 o) = (F18 3309 o)) →
                ∀ (b328 : Nat) (N329 : jSh) (F330 : jFl), b328 = jnx N → N329 = jnew N 12 0 8 1 → F330 = nwF N F18 →
                ∃ (P336 : jSh → jFl → jAr → Prop), wqX11_init b328 1 (F330 3306 o) N329 F330 A P336 ∧
                ∀ N341 F339 A340, P336 N341 F339 A340 →
                X b328 N341 F339 A340)) ∧
            ((z190 = 0) →
              (0 ≤ v27 ∧ v27 ≤ 65535) ∧
              ∀ F350 : jFl, F350 = upF F18 3324 o v27 →
              jR ((F350 3306 o) + 1) ∧
              ∀ F353 : jFl, F353 = upF F350 3306 o ((F350 3306 o) + 1) →
              ∀ F355 : jFl, F355 = upF F353 3318 o 3 →
              Q (F355 3318 o) N F355 A))) ∧
        (((F18 3306 o) = (jfn N 3300 o)) →
          Q (F18 3318 o) N F18 A)) ∧
      (((jfn N 3300 o) ≤ (F2 3306 o)) →
        K9 ) ∧
      ((¬ ((jfn N 3300 o) ≤ (F2 3306 o))) →
        ∃ b356 : Nat, jfn N 3332 o = (b356 : Int) ∧
        jtg N b356 = 1 ∧
        ∃ b359 : Nat, jfn N 302 b356 = (b359 : Int) ∧
        jtg N b359 = 111 ∧
        ((0 : Int) ≤ F2 3306 o ∧ (F2 3306 o : Int) < (jln N b359 : Int)) ∧
        (((A b359 (F2 3306 o)) = 32) →
          jfn N 0 o = 1 ∧
          jR ((F2 3306 o) + 1) ∧
          ∀ F367 : jFl, F367 = upF F2 3306 o ((F2 3306 o) + 1) →
          I5 F367 ∧ m6 F367 < m6 F2) ∧
        ((¬ ((A b359 (F2 3306 o)) = 32)) →
          ((0 : Int) ≤ F2 3306 o ∧ (F2 3306 o : Int) < (jln N b359 : Int)) ∧
          ((¬ (A b359 (F2 3306 o)) = 10) →
            K9 ) ∧
          (((A b359 (F2 3306 o)) = 10) →
            jfn N 0 o = 1 ∧
            jR ((F2 3306 o) + 1) ∧
            ∀ F373 : jFl, F373 = upF F2 3306 o ((F2 3306 o) + 1) →
            I5 F373 ∧ m6 F373 < m6 F2)))) ∧
  ((¬ ((F 3321 o) = 0)) →
    Q (F 3318 o) N F A)
theorem vX10_see {G : jG} {l : Launch} [jOff l] {d : Nat} {N : jSh} {F : jFl} {A : jAr} {o : Nat} {Q : Int → jSh → jFl → jAr → Prop} {X : Nat → jSh → jFl → jAr → Prop} (hd : 9 ≤ d) (hW : jWg G N F A) (ht : jtg N o = 11) (h : wqX10_see (gS G) o N F A Q X) : jCall G l d mX10_see [vR (o : Int)] N F A (cX G N X (cnI G N Q)) := by
  unfold wqX10_see at h
  refine jCall.of (by decide) rfl (ls := [vR (o : Int), jD, jD, jD]) (by simp only [jent_R, jent_I, jent_L, jent_nil]; exact Nat.le_of_ble_eq_true rfl) (by simp only [jloc, jent_R, jent_I, jent_L, jent_nil]; rfl) ?_
  refine r_aload_n dX10_see_0 rfl ?_
  refine r_gI dX10_see_1 flX10_26_11 rfl ht rfl ?_
  obtain ⟨h1, h2⟩ := h
  refine j_if_eq 12 dX10_see_4 rfl (hW.fi rfl) (fun q1 => ?_) (fun q1 => ?_)
  · have h := h1 q1
    clear h1 h2
    obtain ⟨I5, m6, h0, hs⟩ := h
    have lp : ∀ (n : Nat) (F2 : jFl), m6 F2 < n → jWg G N F2 A → I5 F2 → J G l d mX10_see 12 [vR (o : Int), jD, jD, jD] [] N F2 A (cX G N X (cnI G N Q)) := by
      intro nI5
      induction nI5 with
      | zero =>
        intro F2 hmu
        exact absurd hmu (Nat.not_lt_zero _)
      | succ nI5 ihI5 =>
        intro F2 hmuI5 hW3  hI
        have h := hs F2 hI
        refine r_aload_n dX10_see_12 rfl ?_
        refine r_gI dX10_see_13 flX10_33_11 rfl ht rfl ?_
        refine r_aload_n dX10_see_16 rfl ?_
        refine r_gIF dX10_see_17 flX10_19_11 rfl ht rfl ?_
        obtain ⟨K9, hK11, h⟩ := h
        have jn10 : K9  → J G l d mX10_see 70 [vR (o : Int), jD, jD, jD] [] N F2 A (cX G N X (cnI G N Q)) := by
          intro   h
          have h := hK11  h
          refine r_aload_n dX10_see_70 rfl ?_
          refine r_aload_n dX10_see_71 rfl ?_
          refine r_gI dX10_see_72 flX10_33_11 rfl ht rfl ?_
          obtain ⟨w12, h⟩ := h
          refine c_pI hW3 dX10_see_75 flX10_40_11 rfl ht w12 rfl (hW3.fi rfl) fun F14 eF14 hW13 => ?_
          have h := h F14 eF14
          refine r_aload_n dX10_see_78 rfl ?_
          refine j_iconst dX10_see_79 ?_
          refine c_pZ hW13 dX10_see_80 flX10_26_11 rfl ht w12 rfl (by decide) (by decide) fun F16 eF16 hW15 => ?_
          have h := h F16 eF16
          refine r_aload_n dX10_see_83 rfl ?_
          refine j_iconst dX10_see_84 ?_
          refine c_pI hW15 dX10_see_85 flX10_30_11 rfl ht w12 rfl (by decide) fun F18 eF18 hW17 => ?_
          have h := h F18 eF18
          refine r_aload_n dX10_see_88 rfl ?_
          refine r_gI dX10_see_89 flX10_33_11 rfl ht rfl ?_
          refine r_aload_n dX10_see_92 rfl ?_
          refine r_gIF dX10_see_93 flX10_19_11 rfl ht rfl ?_
          obtain ⟨h1, h2⟩ := h
          refine j_icmp_ne 104 dX10_see_96 rfl (hW17.fi rfl) (hW17.ni rfl (by decide)) (fun q19 => ?_) (fun q19 => ?_)
          · have h := h1 q19
            clear h1 h2
            refine r_aload_n dX10_see_104 rfl ?_
            refine r_gRF dX10_see_105 flX10_3_11 rfl ht rfl ?_
            obtain ⟨b20, hz21, h⟩ := h
            obtain ⟨t22, h⟩ := h
            refine r_gRFN dX10_see_108 flX10_36_1 hz21 t22 rfl ?_
            refine r_aload_n dX10_see_111 rfl ?_
            refine r_gI dX10_see_112 flX10_33_11 rfl ht rfl ?_
            obtain ⟨b23, hz24, h⟩ := h
            obtain ⟨t25, h⟩ := h
            obtain ⟨c26, h⟩ := h
            refine r_cald dX10_see_115 hz24 t25 c26 ?_
            obtain ⟨v27, ev27⟩ : ∃ x : Int, x = A b23 (F18 3306 o) := ⟨_, rfl⟩
            have h := h v27 ev27
            refine jnmI (e := ev27) ?_
            refine j_istore_n dX10_see_116 (jokR rfl (Nat.le_of_ble_eq_true rfl)) ?_
            refine r_aload_n dX10_see_117 rfl ?_
            refine j_iload_n dX10_see_118 rfl ?_
            obtain ⟨P28, hp29, h⟩ := h
            refine r_invV (ci := 11) (As := [vI v27]) (rest := []) dX10_see_119 lkX10_43 rfl ht rfl rfl (vX10_isLetter (d := 2) (Nat.le_of_ble_eq_true rfl) hW17 ht (ev27 ▸ (hW17.ai t25 rfl)) hp29) rfl rfl (Nat.le_of_ble_eq_true rfl) (Nat.le_trans (Nat.le_of_ble_eq_true rfl) hd) (jkpB fun z30 p33 r34 => ?_)
            have h := h z30 p33
            refine j_istore_n dX10_see_122 rfl ?_
            refine j_iload_n dX10_see_123 rfl ?_
            obtain ⟨h1, h2⟩ := h
            refine j_if_ne 160 dX10_see_124 rfl (jR_b r34) (fun q35 => ?_) (fun q35 => ?_)
            · have h := h1 q35
              clear h1 h2
              refine r_aload_n dX10_see_160 rfl ?_
              refine r_gI dX10_see_161 flX10_33_11 rfl ht rfl ?_
              refine r_aload_n dX10_see_164 rfl ?_
              refine r_gI dX10_see_165 flX10_15_11 rfl ht rfl ?_
              obtain ⟨h1, h2⟩ := h
              refine j_icmp_ne 184 dX10_see_168 rfl (hW17.fi rfl) (hW17.fi rfl) (fun q36 => ?_) (fun q36 => ?_)
              · have h := h1 q36
                clear h1 h2
                refine j_iload_n dX10_see_184 rfl ?_
                have jn39 : ∀ z38 : Int, z38 = (if z30 = 0 then (4 : Int) else 6) → J G l d mX10_see 194 [vR (o : Int), vI v27, vI z30, jD] [vI z38] N F18 A (cX G N X (cnI G N Q)) := by
                  intro z38 ez38
                  have h := h z38 ez38
                  refine j_istore_n dX10_see_194 rfl ?_
                  obtain ⟨I43, m44, h0, hs⟩ := h
                  have lp : ∀ (n : Nat) (F40 : jFl), m44 F40 < n → jWg G N F40 A → I43 F40 → J G l d mX10_see 195 [vR (o : Int), jD, vI z30, vI z38] [] N F40 A (cX G N X (cnI G N Q)) := by
                    intro nI43
                    induction nI43 with
                    | zero =>
                      intro F40 hmu
                      exact absurd hmu (Nat.not_lt_zero _)
                    | succ nI43 ihI43 =>
                      intro F40 hmuI43 hW41  hI
                      have h := hs F40 hI
                      refine r_aload_n dX10_see_195 rfl ?_
                      refine r_gI dX10_see_196 flX10_33_11 rfl ht rfl ?_
                      refine r_aload_n dX10_see_199 rfl ?_
                      refine r_gIF dX10_see_200 flX10_19_11 rfl ht rfl ?_
                      obtain ⟨K47, hK49, h⟩ := h
                      have jn48 : K47  → J G l d mX10_see 290 [vR (o : Int), jD, vI z30, jD] [] N F40 A (cX G N X (cnI G N Q)) := by
                        intro   h
                        have h := hK49  h
                        refine r_aload_n dX10_see_290 rfl ?_
                        refine r_aload_n dX10_see_291 rfl ?_
                        refine r_gI dX10_see_292 flX10_33_11 rfl ht rfl ?_
                        refine c_pI hW41 dX10_see_295 flX10_15_11 rfl ht w12 rfl (hW41.fi rfl) fun F51 eF51 hW50 => ?_
                        have h := h F51 eF51
                        refine r_aload_n dX10_see_298 rfl ?_
                        refine c_new (ci := 22) hW50 dX10_see_299 rfl q750 rfl rfl fun b52 N53 F54 eb52 eN53 eF54 t55 w56 hT57 hW58 => ?_
                        have h := h b52 N53 F54 eb52 eN53 eF54
                        refine j_dup dX10_see_302 (vR_cat _) ?_
                        refine r_aload_n dX10_see_303 rfl ?_
                        have t59 : jtg N53 o = 11 := (hT57.tg hW50 ht)
                        refine r_gRF dX10_see_304 flX10_3_11 rfl t59 rfl ?_
                        obtain ⟨b60, hz61, h⟩ := h
                        obtain ⟨t62, h⟩ := h
                        refine r_gRFN dX10_see_307 flX10_36_1 hz61 t62 rfl ?_
                        refine r_aload_n dX10_see_310 rfl ?_
                        refine r_gI dX10_see_311 flX10_40_11 rfl t59 rfl ?_
                        refine r_aload_n dX10_see_314 rfl ?_
                        refine r_gI dX10_see_315 flX10_33_11 rfl t59 rfl ?_
                        refine r_aload_n dX10_see_318 rfl ?_
                        refine r_gI dX10_see_319 flX10_40_11 rfl t59 rfl ?_
                        refine j_isub dX10_see_322 ?_
                        obtain ⟨r63, h⟩ := h
                        obtain ⟨P64, hp65, h⟩ := h
                        refine r_invI (As := [vR (jfn N53 302 b60), vI (F54 3312 o), vI ((F54 3306 o) - (F54 3312 o))]) (rest := [vR (b52 : Int), vR (o : Int)]) dX10_see_323 lkX10_61 rfl (vJ5_init (d := 8) (Nat.le_of_ble_eq_true rfl) hW58 t55 (hW58.fi rfl) r63 hp65) rfl rfl (Nat.le_of_ble_eq_true rfl) (Nat.le_trans (Nat.le_of_ble_eq_true rfl) hd) (cknV fun N69 F67 A68 hW70 hT71 p72 => ?_)
                        have h := h N69 F67 A68 p72
                        have t74 : jtg N69 o = 11 := (hT71.tg hW58 t59)
                        have w75 : jfn N69 0 o = 1 := (hT71.ow hW58 (hT57.tg hW50 ht) (hT57.ow hW50 ht w12))
                        refine c_pR hW70 dX10_see_326 flX10_64_11 rfl t74 w75 rfl (ty := .object "java/lang/String") (by decide +kernel) (Or.inl ⟨_, rfl⟩) fun F77 eF77 hW76 => ?_
                        have h := h F77 eF77
                        refine j_iload_n dX10_see_329 rfl ?_
                        obtain ⟨K82, hK84, h⟩ := h
                        have jn83 : ∀ (F79 : jFl), jWg G N69 F79 A68 → K82 F79 → J G l d mX10_see 344 [vR (o : Int), jD, vI z30, jD] [] N69 F79 A68 (cX G N X (cnI G N Q)) := by
                          intro F79 hW80  h
                          have h := hK84 F79 h
                          refine r_aload_n dX10_see_344 rfl ?_
                          refine j_iload_n dX10_see_345 rfl ?_
                          have jn87 : ∀ z86 : Int, z86 = (if z30 = 0 then (2 : Int) else 1) → J G l d mX10_see 354 [vR (o : Int), jD, vI z30, jD] [vI z86, vR (o : Int)] N69 F79 A68 (cX G N X (cnI G N Q)) := by
                            intro z86 ez86
                            have h := h z86 ez86
                            refine c_pI hW80 dX10_see_354 flX10_30_11 rfl t74 w75 rfl (ez86 ▸ jR_ite (by decide) (by decide)) fun F89 eF89 hW88 => ?_
                            have h := h F89 eF89
                            refine r_aload_n dX10_see_357 rfl ?_
                            refine r_gI dX10_see_358 flX10_30_11 rfl t74 rfl ?_
                            exact j_iret dX10_see_361 rfl (Or.inl ⟨_, rfl, hW88, (hT57.trans hT71), h, (hW88.fi rfl)⟩)
                          clear h
                          refine j_if_eq 353 dX10_see_346 rfl (jR_b r34) (fun q85 => ?_) (fun q85 => ?_)
                          · refine j_iconst dX10_see_353 ?_
                            exact jn87 _ (if_pos q85).symm
                          · refine j_iconst dX10_see_349 ?_
                            refine j_goto 354 dX10_see_350 rfl ?_
                            exact jn87 _ (if_neg q85).symm
                        obtain ⟨h1, h2⟩ := h
                        refine j_if_ne 344 dX10_see_330 rfl (jR_b r34) (fun q78 => ?_) (fun q78 => ?_)
                        · have h := h1 q78
                          clear h1 h2
                          exact J.wk (((((jWk.nil).no).eq).no).eq) (jn83 _ hW76 h)
                        · have h := h2 (Classical.not_not.mp q78)
                          clear h1 h2
                          refine r_aload_n dX10_see_333 rfl ?_
                          refine r_aload_n dX10_see_334 rfl ?_
                          refine r_gR dX10_see_335 flX10_64_11 rfl t74 rfl ?_
                          obtain ⟨P90, hp91, h⟩ := h
                          refine r_invSN (As := [vR (F77 3329 o)]) (rest := [vR (o : Int)]) dX10_see_338 lkX10_68 (vX0_digitsOf (d := 7) (Nat.le_of_ble_eq_true rfl) hW76  hp91) rfl rfl (Nat.le_of_ble_eq_true rfl) (Nat.le_trans (Nat.le_of_ble_eq_true rfl) hd) (jkpI fun z92 p95 r96 => ?_)
                          have h := h z92 p95
                          refine c_pI hW76 dX10_see_341 flX10_72_11 rfl t74 w75 rfl r96 fun F98 eF98 hW97 => ?_
                          have h := h F98 eF98
                          exact J.wk (((((jWk.nil).no).eq).no).eq) (jn83 _ hW97 h)
                      obtain ⟨h1, h2⟩ := h
                      refine j_icmp_ge 290 dX10_see_203 rfl (hW41.fi rfl) (hW41.ni rfl (by decide)) (fun q45 => ?_) (fun q45 => ?_)
                      · have h := h1 q45
                        clear h1 h2
                        exact J.wk (((((jWk.nil).no).eq).no).eq) (jn48   h)
                      · have h := h2 q45
                        clear h1 h2
                        refine j_iload_n dX10_see_206 rfl ?_
                        obtain ⟨h1, h2⟩ := h
                        refine j_if_eq 232 dX10_see_207 rfl (jR_b r34) (fun q99 => ?_) (fun q99 => ?_)
                        · have h := h1 q99
                          clear h1 h2
                          refine r_aload_n dX10_see_232 rfl ?_
                          refine r_aload_n dX10_see_233 rfl ?_
                          refine r_gRF dX10_see_234 flX10_3_11 rfl ht rfl ?_
                          refine r_gRFN dX10_see_237 flX10_36_1 hz21 t22 rfl ?_
                          refine r_aload_n dX10_see_240 rfl ?_
                          refine r_gI dX10_see_241 flX10_33_11 rfl ht rfl ?_
                          obtain ⟨c100, h⟩ := h
                          refine r_cald dX10_see_244 hz24 t25 c100 ?_
                          obtain ⟨P101, hp102, h⟩ := h
                          refine r_invV (ci := 11) (As := [vI (A b23 (F40 3306 o))]) (rest := []) dX10_see_245 lkX10_47 rfl ht rfl rfl (vX10_isDigit (d := 2) (Nat.le_of_ble_eq_true rfl) hW41 ht (hW41.ai t25 rfl) hp102) rfl rfl (Nat.le_of_ble_eq_true rfl) (Nat.le_trans (Nat.le_of_ble_eq_true rfl) hd) (jkpB fun z103 p106 r107 => ?_)
                          have h := h z103 p106
                          obtain ⟨h1, h2⟩ := h
                          refine j_if_eq 290 dX10_see_248 rfl (jR_b r107) (fun q108 => ?_) (fun q108 => ?_)
                          · have h := h1 q108
                            clear h1 h2
                            exact J.wk (((((jWk.nil).no).eq).no).eq) (jn48   h)
                          · have h := h2 q108
                            clear h1 h2
                            refine r_aload_n dX10_see_251 rfl ?_
                            refine r_gI dX10_see_252 flX10_33_11 rfl ht rfl ?_
                            refine r_aload_n dX10_see_255 rfl ?_
                            refine r_gI dX10_see_256 flX10_40_11 rfl ht rfl ?_
                            refine j_isub dX10_see_259 ?_
                            refine j_iload_n dX10_see_260 rfl ?_
                            obtain ⟨r109, h⟩ := h
                            obtain ⟨h1, h2⟩ := h
                            refine j_icmp_ne 277 dX10_see_261 rfl r109 (ez38 ▸ jR_ite (by decide) (by decide)) (fun q110 => ?_) (fun q110 => ?_)
                            · have h := h1 q110
                              clear h1 h2
                              refine r_aload_n dX10_see_277 rfl ?_
                              refine j_dup dX10_see_278 (vR_cat _) ?_
                              refine r_gI dX10_see_279 flX10_33_11 rfl ht rfl ?_
                              refine j_iconst dX10_see_282 ?_
                              refine j_iadd dX10_see_283 ?_
                              obtain ⟨r111, h⟩ := h
                              refine c_pI hW41 dX10_see_284 flX10_33_11 rfl ht w12 rfl r111 fun F113 eF113 hW112 => ?_
                              have h := h F113 eF113
                              refine j_goto 195 dX10_see_287 rfl ?_
                              exact J.wk (((((jWk.nil).eq).eq).no).eq) (ihI43 _ (Nat.lt_of_lt_of_le h.2 (Nat.le_of_lt_succ hmuI43)) hW112 h.1)
                            · have h := h2 (Classical.not_not.mp q110)
                              clear h1 h2
                              refine c_new (ci := 12) hW41 dX10_see_264 rfl q665 rfl rfl fun b114 N115 F116 eb114 eN115 eF116 t117 w118 hT119 hW120 => ?_
                              have h := h b114 N115 F116 eb114 eN115 eF116
                              refine j_dup dX10_see_267 (vR_cat _) ?_
                              refine j_iconst dX10_see_268 ?_
                              refine r_aload_n dX10_see_269 rfl ?_
                              have t121 : jtg N115 o = 11 := (hT119.tg hW41 ht)
                              refine r_gI dX10_see_270 flX10_33_11 rfl t121 rfl ?_
                              obtain ⟨P122, hp123, h⟩ := h
                              refine r_invI (As := [vI 1, vI (F116 3306 o)]) (rest := [vR (b114 : Int)]) dX10_see_273 lkX10_56 rfl (vX11_init (d := 8) (Nat.le_of_ble_eq_true rfl) hW120 t117 (by decide) (hW120.fi rfl) hp123) rfl rfl (Nat.le_of_ble_eq_true rfl) (Nat.le_trans (Nat.le_of_ble_eq_true rfl) hd) (cknV fun N127 F125 A126 hW128 hT129 p130 => ?_)
                              have h := h N127 F125 A126 p130
                              have t132 : jtg N127 b114 = 12 := (hT129.tg hW120 t117)
                              have w133 : jfn N127 0 b114 = 1 := (hT129.ow hW120 t117 w118)
                              exact r_athrow dX10_see_276 rfl (JT.thru (hout0 rfl _) hW128 (hT119.trans hT129) t132 w133 h)
                        · have h := h2 q99
                          clear h1 h2
                          refine r_aload_n dX10_see_210 rfl ?_
                          refine r_aload_n dX10_see_211 rfl ?_
                          refine r_gRF dX10_see_212 flX10_3_11 rfl ht rfl ?_
                          refine r_gRFN dX10_see_215 flX10_36_1 hz21 t22 rfl ?_
                          refine r_aload_n dX10_see_218 rfl ?_
                          refine r_gI dX10_see_219 flX10_33_11 rfl ht rfl ?_
                          obtain ⟨c134, h⟩ := h
                          refine r_cald dX10_see_222 hz24 t25 c134 ?_
                          obtain ⟨P135, hp136, h⟩ := h
                          refine r_invV (ci := 11) (As := [vI (A b23 (F40 3306 o))]) (rest := []) dX10_see_223 lkX10_43 rfl ht rfl rfl (vX10_isLetter (d := 2) (Nat.le_of_ble_eq_true rfl) hW41 ht (hW41.ai t25 rfl) hp136) rfl rfl (Nat.le_of_ble_eq_true rfl) (Nat.le_trans (Nat.le_of_ble_eq_true rfl) hd) (jkpB fun z137 p140 r141 => ?_)
                          have h := h z137 p140
                          obtain ⟨h1, h2⟩ := h
                          refine j_if_eq 290 dX10_see_226 rfl (jR_b r141) (fun q142 => ?_) (fun q142 => ?_)
                          · have h := h1 q142
                            clear h1 h2
                            exact J.wk (((((jWk.nil).no).eq).no).eq) (jn48   h)
                          · have h := h2 q142
                            clear h1 h2
                            refine j_goto 251 dX10_see_229 rfl ?_
                            refine r_aload_n dX10_see_251 rfl ?_
                            refine r_gI dX10_see_252 flX10_33_11 rfl ht rfl ?_
                            refine r_aload_n dX10_see_255 rfl ?_
                            refine r_gI dX10_see_256 flX10_40_11 rfl ht rfl ?_
                            refine j_isub dX10_see_259 ?_
                            refine j_iload_n dX10_see_260 rfl ?_
                            obtain ⟨r143, h⟩ := h
                            obtain ⟨h1, h2⟩ := h
                            refine j_icmp_ne 277 dX10_see_261 rfl r143 (ez38 ▸ jR_ite (by decide) (by decide)) (fun q144 => ?_) (fun q144 => ?_)
                            · have h := h1 q144
                              clear h1 h2
                              refine r_aload_n dX10_see_277 rfl ?_
                              refine j_dup dX10_see_278 (vR_cat _) ?_
                              refine r_gI dX10_see_279 flX10_33_11 rfl ht rfl ?_
                              refine j_iconst dX10_see_282 ?_
                              refine j_iadd dX10_see_283 ?_
                              obtain ⟨r145, h⟩ := h
                              refine c_pI hW41 dX10_see_284 flX10_33_11 rfl ht w12 rfl r145 fun F147 eF147 hW146 => ?_
                              have h := h F147 eF147
                              refine j_goto 195 dX10_see_287 rfl ?_
                              exact J.wk (((((jWk.nil).eq).eq).no).eq) (ihI43 _ (Nat.lt_of_lt_of_le h.2 (Nat.le_of_lt_succ hmuI43)) hW146 h.1)
                            · have h := h2 (Classical.not_not.mp q144)
                              clear h1 h2
                              refine c_new (ci := 12) hW41 dX10_see_264 rfl q665 rfl rfl fun b148 N149 F150 eb148 eN149 eF150 t151 w152 hT153 hW154 => ?_
                              have h := h b148 N149 F150 eb148 eN149 eF150
                              refine j_dup dX10_see_267 (vR_cat _) ?_
                              refine j_iconst dX10_see_268 ?_
                              refine r_aload_n dX10_see_269 rfl ?_
                              have t155 : jtg N149 o = 11 := (hT153.tg hW41 ht)
                              refine r_gI dX10_see_270 flX10_33_11 rfl t155 rfl ?_
                              obtain ⟨P156, hp157, h⟩ := h
                              refine r_invI (As := [vI 1, vI (F150 3306 o)]) (rest := [vR (b148 : Int)]) dX10_see_273 lkX10_56 rfl (vX11_init (d := 8) (Nat.le_of_ble_eq_true rfl) hW154 t151 (by decide) (hW154.fi rfl) hp157) rfl rfl (Nat.le_of_ble_eq_true rfl) (Nat.le_trans (Nat.le_of_ble_eq_true rfl) hd) (cknV fun N161 F159 A160 hW162 hT163 p164 => ?_)
                              have h := h N161 F159 A160 p164
                              have t166 : jtg N161 b148 = 12 := (hT163.tg hW154 t151)
                              have w167 : jfn N161 0 b148 = 1 := (hT163.ow hW154 t151 w152)
                              exact r_athrow dX10_see_276 rfl (JT.thru (hout0 rfl _) hW162 (hT153.trans hT163) t166 w167 h)
                  exact J.wk (((((jWk.nil).eq).eq).no).eq) (lp _ _ (Nat.lt_succ_self _) hW17 h0)
                clear h
                refine j_if_eq 193 dX10_see_185 rfl (jR_b r34) (fun q37 => ?_) (fun q37 => ?_)
                · refine j_iconst dX10_see_193 ?_
                  exact jn39 _ (if_pos q37).symm
                · refine j_bipush dX10_see_188 ?_
                  refine j_goto 194 dX10_see_190 rfl ?_
                  exact jn39 _ (if_neg q37).symm
              · have h := h2 (Classical.not_not.mp q36)
                clear h1 h2
                refine c_new (ci := 12) hW17 dX10_see_171 rfl q665 rfl rfl fun b168 N169 F170 eb168 eN169 eF170 t171 w172 hT173 hW174 => ?_
                have h := h b168 N169 F170 eb168 eN169 eF170
                refine j_dup dX10_see_174 (vR_cat _) ?_
                refine j_iconst dX10_see_175 ?_
                refine r_aload_n dX10_see_176 rfl ?_
                have t175 : jtg N169 o = 11 := (hT173.tg hW17 ht)
                refine r_gI dX10_see_177 flX10_33_11 rfl t175 rfl ?_
                obtain ⟨P176, hp177, h⟩ := h
                refine r_invI (As := [vI 1, vI (F170 3306 o)]) (rest := [vR (b168 : Int)]) dX10_see_180 lkX10_56 rfl (vX11_init (d := 8) (Nat.le_of_ble_eq_true rfl) hW174 t171 (by decide) (hW174.fi rfl) hp177) rfl rfl (Nat.le_of_ble_eq_true rfl) (Nat.le_trans (Nat.le_of_ble_eq_true rfl) hd) (cknV fun N181 F179 A180 hW182 hT183 p184 => ?_)
                have h := h N181 F179 A180 p184
                have t186 : jtg N181 b168 = 12 := (hT183.tg hW174 t171)
                have w187 : jfn N181 0 b168 = 1 := (hT183.ow hW174 t171 w172)
                exact r_athrow dX10_see_183 rfl (JT.thru (hout0 rfl _) hW182 (hT173.trans hT183) t186 w187 h)
            · have h := h2 (Classical.not_not.mp q35)
              clear h1 h2
              refine r_aload_n dX10_see_127 rfl ?_
              refine j_iload_n dX10_see_128 rfl ?_
              obtain ⟨P188, hp189, h⟩ := h
              refine r_invV (ci := 11) (As := [vI v27]) (rest := []) dX10_see_129 lkX10_47 rfl ht rfl rfl (vX10_isDigit (d := 2) (Nat.le_of_ble_eq_true rfl) hW17 ht (ev27 ▸ (hW17.ai t25 rfl)) hp189) rfl rfl (Nat.le_of_ble_eq_true rfl) (Nat.le_trans (Nat.le_of_ble_eq_true rfl) hd) (jkpB fun z190 p193 r194 => ?_)
              have h := h z190 p193
              obtain ⟨h1, h2⟩ := h
              refine j_if_ne 160 dX10_see_132 rfl (jR_b r194) (fun q195 => ?_) (fun q195 => ?_)
              · have h := h1 q195
                clear h1 h2
                refine r_aload_n dX10_see_160 rfl ?_
                refine r_gI dX10_see_161 flX10_33_11 rfl ht rfl ?_
                refine r_aload_n dX10_see_164 rfl ?_
                refine r_gI dX10_see_165 flX10_15_11 rfl ht rfl ?_
                obtain ⟨h1, h2⟩ := h
                refine j_icmp_ne 184 dX10_see_168 rfl (hW17.fi rfl) (hW17.fi rfl) (fun q196 => ?_) (fun q196 => ?_)
                · have h := h1 q196
                  clear h1 h2
                  refine j_iload_n dX10_see_184 rfl ?_
                  have jn199 : ∀ z198 : Int, z198 = (if z30 = 0 then (4 : Int) else 6) → J G l d mX10_see 194 [vR (o : Int), vI v27, vI z30, jD] [vI z198] N F18 A (cX G N X (cnI G N Q)) := by
                    intro z198 ez198
                    have h := h z198 ez198
                    refine j_istore_n dX10_see_194 rfl ?_
                    obtain ⟨I203, m204, h0, hs⟩ := h
                    have lp : ∀ (n : Nat) (F200 : jFl), m204 F200 < n → jWg G N F200 A → I203 F200 → J G l d mX10_see 195 [vR (o : Int), jD, vI z30, vI z198] [] N F200 A (cX G N X (cnI G N Q)) := by
                      intro nI203
                      induction nI203 with
                      | zero =>
                        intro F200 hmu
                        exact absurd hmu (Nat.not_lt_zero _)
                      | succ nI203 ihI203 =>
                        intro F200 hmuI203 hW201  hI
                        have h := hs F200 hI
                        refine r_aload_n dX10_see_195 rfl ?_
                        refine r_gI dX10_see_196 flX10_33_11 rfl ht rfl ?_
                        refine r_aload_n dX10_see_199 rfl ?_
                        refine r_gIF dX10_see_200 flX10_19_11 rfl ht rfl ?_
                        obtain ⟨K207, hK209, h⟩ := h
                        have jn208 : K207  → J G l d mX10_see 290 [vR (o : Int), jD, vI z30, jD] [] N F200 A (cX G N X (cnI G N Q)) := by
                          intro   h
                          have h := hK209  h
                          refine r_aload_n dX10_see_290 rfl ?_
                          refine r_aload_n dX10_see_291 rfl ?_
                          refine r_gI dX10_see_292 flX10_33_11 rfl ht rfl ?_
                          refine c_pI hW201 dX10_see_295 flX10_15_11 rfl ht w12 rfl (hW201.fi rfl) fun F211 eF211 hW210 => ?_
                          have h := h F211 eF211
                          refine r_aload_n dX10_see_298 rfl ?_
                          refine c_new (ci := 22) hW210 dX10_see_299 rfl q750 rfl rfl fun b212 N213 F214 eb212 eN213 eF214 t215 w216 hT217 hW218 => ?_
                          have h := h b212 N213 F214 eb212 eN213 eF214
                          refine j_dup dX10_see_302 (vR_cat _) ?_
                          refine r_aload_n dX10_see_303 rfl ?_
                          have t219 : jtg N213 o = 11 := (hT217.tg hW210 ht)
                          refine r_gRF dX10_see_304 flX10_3_11 rfl t219 rfl ?_
                          obtain ⟨b220, hz221, h⟩ := h
                          obtain ⟨t222, h⟩ := h
                          refine r_gRFN dX10_see_307 flX10_36_1 hz221 t222 rfl ?_
                          refine r_aload_n dX10_see_310 rfl ?_
                          refine r_gI dX10_see_311 flX10_40_11 rfl t219 rfl ?_
                          refine r_aload_n dX10_see_314 rfl ?_
                          refine r_gI dX10_see_315 flX10_33_11 rfl t219 rfl ?_
                          refine r_aload_n dX10_see_318 rfl ?_
                          refine r_gI dX10_see_319 flX10_40_11 rfl t219 rfl ?_
                          refine j_isub dX10_see_322 ?_
                          obtain ⟨r223, h⟩ := h
                          obtain ⟨P224, hp225, h⟩ := h
                          refine r_invI (As := [vR (jfn N213 302 b220), vI (F214 3312 o), vI ((F214 3306 o) - (F214 3312 o))]) (rest := [vR (b212 : Int), vR (o : Int)]) dX10_see_323 lkX10_61 rfl (vJ5_init (d := 8) (Nat.le_of_ble_eq_true rfl) hW218 t215 (hW218.fi rfl) r223 hp225) rfl rfl (Nat.le_of_ble_eq_true rfl) (Nat.le_trans (Nat.le_of_ble_eq_true rfl) hd) (cknV fun N229 F227 A228 hW230 hT231 p232 => ?_)
                          have h := h N229 F227 A228 p232
                          have t234 : jtg N229 o = 11 := (hT231.tg hW218 t219)
                          have w235 : jfn N229 0 o = 1 := (hT231.ow hW218 (hT217.tg hW210 ht) (hT217.ow hW210 ht w12))
                          refine c_pR hW230 dX10_see_326 flX10_64_11 rfl t234 w235 rfl (ty := .object "java/lang/String") (by decide +kernel) (Or.inl ⟨_, rfl⟩) fun F237 eF237 hW236 => ?_
                          have h := h F237 eF237
                          refine j_iload_n dX10_see_329 rfl ?_
                          obtain ⟨K242, hK244, h⟩ := h
                          have jn243 : ∀ (F239 : jFl), jWg G N229 F239 A228 → K242 F239 → J G l d mX10_see 344 [vR (o : Int), jD, vI z30, jD] [] N229 F239 A228 (cX G N X (cnI G N Q)) := by
                            intro F239 hW240  h
                            have h := hK244 F239 h
                            refine r_aload_n dX10_see_344 rfl ?_
                            refine j_iload_n dX10_see_345 rfl ?_
                            have jn247 : ∀ z246 : Int, z246 = (if z30 = 0 then (2 : Int) else 1) → J G l d mX10_see 354 [vR (o : Int), jD, vI z30, jD] [vI z246, vR (o : Int)] N229 F239 A228 (cX G N X (cnI G N Q)) := by
                              intro z246 ez246
                              have h := h z246 ez246
                              refine c_pI hW240 dX10_see_354 flX10_30_11 rfl t234 w235 rfl (ez246 ▸ jR_ite (by decide) (by decide)) fun F249 eF249 hW248 => ?_
                              have h := h F249 eF249
                              refine r_aload_n dX10_see_357 rfl ?_
                              refine r_gI dX10_see_358 flX10_30_11 rfl t234 rfl ?_
                              exact j_iret dX10_see_361 rfl (Or.inl ⟨_, rfl, hW248, (hT217.trans hT231), h, (hW248.fi rfl)⟩)
                            clear h
                            refine j_if_eq 353 dX10_see_346 rfl (jR_b r34) (fun q245 => ?_) (fun q245 => ?_)
                            · refine j_iconst dX10_see_353 ?_
                              exact jn247 _ (if_pos q245).symm
                            · refine j_iconst dX10_see_349 ?_
                              refine j_goto 354 dX10_see_350 rfl ?_
                              exact jn247 _ (if_neg q245).symm
                          obtain ⟨h1, h2⟩ := h
                          refine j_if_ne 344 dX10_see_330 rfl (jR_b r34) (fun q238 => ?_) (fun q238 => ?_)
                          · have h := h1 q238
                            clear h1 h2
                            exact J.wk (((((jWk.nil).no).eq).no).eq) (jn243 _ hW236 h)
                          · have h := h2 (Classical.not_not.mp q238)
                            clear h1 h2
                            refine r_aload_n dX10_see_333 rfl ?_
                            refine r_aload_n dX10_see_334 rfl ?_
                            refine r_gR dX10_see_335 flX10_64_11 rfl t234 rfl ?_
                            obtain ⟨P250, hp251, h⟩ := h
                            refine r_invSN (As := [vR (F237 3329 o)]) (rest := [vR (o : Int)]) dX10_see_338 lkX10_68 (vX0_digitsOf (d := 7) (Nat.le_of_ble_eq_true rfl) hW236  hp251) rfl rfl (Nat.le_of_ble_eq_true rfl) (Nat.le_trans (Nat.le_of_ble_eq_true rfl) hd) (jkpI fun z252 p255 r256 => ?_)
                            have h := h z252 p255
                            refine c_pI hW236 dX10_see_341 flX10_72_11 rfl t234 w235 rfl r256 fun F258 eF258 hW257 => ?_
                            have h := h F258 eF258
                            exact J.wk (((((jWk.nil).no).eq).no).eq) (jn243 _ hW257 h)
                        obtain ⟨h1, h2⟩ := h
                        refine j_icmp_ge 290 dX10_see_203 rfl (hW201.fi rfl) (hW201.ni rfl (by decide)) (fun q205 => ?_) (fun q205 => ?_)
                        · have h := h1 q205
                          clear h1 h2
                          exact J.wk (((((jWk.nil).no).eq).no).eq) (jn208   h)
                        · have h := h2 q205
                          clear h1 h2
                          refine j_iload_n dX10_see_206 rfl ?_
                          obtain ⟨h1, h2⟩ := h
                          refine j_if_eq 232 dX10_see_207 rfl (jR_b r34) (fun q259 => ?_) (fun q259 => ?_)
                          · have h := h1 q259
                            clear h1 h2
                            refine r_aload_n dX10_see_232 rfl ?_
                            refine r_aload_n dX10_see_233 rfl ?_
                            refine r_gRF dX10_see_234 flX10_3_11 rfl ht rfl ?_
                            refine r_gRFN dX10_see_237 flX10_36_1 hz21 t22 rfl ?_
                            refine r_aload_n dX10_see_240 rfl ?_
                            refine r_gI dX10_see_241 flX10_33_11 rfl ht rfl ?_
                            obtain ⟨c260, h⟩ := h
                            refine r_cald dX10_see_244 hz24 t25 c260 ?_
                            obtain ⟨P261, hp262, h⟩ := h
                            refine r_invV (ci := 11) (As := [vI (A b23 (F200 3306 o))]) (rest := []) dX10_see_245 lkX10_47 rfl ht rfl rfl (vX10_isDigit (d := 2) (Nat.le_of_ble_eq_true rfl) hW201 ht (hW201.ai t25 rfl) hp262) rfl rfl (Nat.le_of_ble_eq_true rfl) (Nat.le_trans (Nat.le_of_ble_eq_true rfl) hd) (jkpB fun z263 p266 r267 => ?_)
                            have h := h z263 p266
                            obtain ⟨h1, h2⟩ := h
                            refine j_if_eq 290 dX10_see_248 rfl (jR_b r267) (fun q268 => ?_) (fun q268 => ?_)
                            · have h := h1 q268
                              clear h1 h2
                              exact J.wk (((((jWk.nil).no).eq).no).eq) (jn208   h)
                            · have h := h2 q268
                              clear h1 h2
                              refine r_aload_n dX10_see_251 rfl ?_
                              refine r_gI dX10_see_252 flX10_33_11 rfl ht rfl ?_
                              refine r_aload_n dX10_see_255 rfl ?_
                              refine r_gI dX10_see_256 flX10_40_11 rfl ht rfl ?_
                              refine j_isub dX10_see_259 ?_
                              refine j_iload_n dX10_see_260 rfl ?_
                              obtain ⟨r269, h⟩ := h
                              obtain ⟨h1, h2⟩ := h
                              refine j_icmp_ne 277 dX10_see_261 rfl r269 (ez198 ▸ jR_ite (by decide) (by decide)) (fun q270 => ?_) (fun q270 => ?_)
                              · have h := h1 q270
                                clear h1 h2
                                refine r_aload_n dX10_see_277 rfl ?_
                                refine j_dup dX10_see_278 (vR_cat _) ?_
                                refine r_gI dX10_see_279 flX10_33_11 rfl ht rfl ?_
                                refine j_iconst dX10_see_282 ?_
                                refine j_iadd dX10_see_283 ?_
                                obtain ⟨r271, h⟩ := h
                                refine c_pI hW201 dX10_see_284 flX10_33_11 rfl ht w12 rfl r271 fun F273 eF273 hW272 => ?_
                                have h := h F273 eF273
                                refine j_goto 195 dX10_see_287 rfl ?_
                                exact J.wk (((((jWk.nil).eq).eq).no).eq) (ihI203 _ (Nat.lt_of_lt_of_le h.2 (Nat.le_of_lt_succ hmuI203)) hW272 h.1)
                              · have h := h2 (Classical.not_not.mp q270)
                                clear h1 h2
                                refine c_new (ci := 12) hW201 dX10_see_264 rfl q665 rfl rfl fun b274 N275 F276 eb274 eN275 eF276 t277 w278 hT279 hW280 => ?_
                                have h := h b274 N275 F276 eb274 eN275 eF276
                                refine j_dup dX10_see_267 (vR_cat _) ?_
                                refine j_iconst dX10_see_268 ?_
                                refine r_aload_n dX10_see_269 rfl ?_
                                have t281 : jtg N275 o = 11 := (hT279.tg hW201 ht)
                                refine r_gI dX10_see_270 flX10_33_11 rfl t281 rfl ?_
                                obtain ⟨P282, hp283, h⟩ := h
                                refine r_invI (As := [vI 1, vI (F276 3306 o)]) (rest := [vR (b274 : Int)]) dX10_see_273 lkX10_56 rfl (vX11_init (d := 8) (Nat.le_of_ble_eq_true rfl) hW280 t277 (by decide) (hW280.fi rfl) hp283) rfl rfl (Nat.le_of_ble_eq_true rfl) (Nat.le_trans (Nat.le_of_ble_eq_true rfl) hd) (cknV fun N287 F285 A286 hW288 hT289 p290 => ?_)
                                have h := h N287 F285 A286 p290
                                have t292 : jtg N287 b274 = 12 := (hT289.tg hW280 t277)
                                have w293 : jfn N287 0 b274 = 1 := (hT289.ow hW280 t277 w278)
                                exact r_athrow dX10_see_276 rfl (JT.thru (hout0 rfl _) hW288 (hT279.trans hT289) t292 w293 h)
                          · have h := h2 q259
                            clear h1 h2
                            refine r_aload_n dX10_see_210 rfl ?_
                            refine r_aload_n dX10_see_211 rfl ?_
                            refine r_gRF dX10_see_212 flX10_3_11 rfl ht rfl ?_
                            refine r_gRFN dX10_see_215 flX10_36_1 hz21 t22 rfl ?_
                            refine r_aload_n dX10_see_218 rfl ?_
                            refine r_gI dX10_see_219 flX10_33_11 rfl ht rfl ?_
                            obtain ⟨c294, h⟩ := h
                            refine r_cald dX10_see_222 hz24 t25 c294 ?_
                            obtain ⟨P295, hp296, h⟩ := h
                            refine r_invV (ci := 11) (As := [vI (A b23 (F200 3306 o))]) (rest := []) dX10_see_223 lkX10_43 rfl ht rfl rfl (vX10_isLetter (d := 2) (Nat.le_of_ble_eq_true rfl) hW201 ht (hW201.ai t25 rfl) hp296) rfl rfl (Nat.le_of_ble_eq_true rfl) (Nat.le_trans (Nat.le_of_ble_eq_true rfl) hd) (jkpB fun z297 p300 r301 => ?_)
                            have h := h z297 p300
                            obtain ⟨h1, h2⟩ := h
                            refine j_if_eq 290 dX10_see_226 rfl (jR_b r301) (fun q302 => ?_) (fun q302 => ?_)
                            · have h := h1 q302
                              clear h1 h2
                              exact J.wk (((((jWk.nil).no).eq).no).eq) (jn208   h)
                            · have h := h2 q302
                              clear h1 h2
                              refine j_goto 251 dX10_see_229 rfl ?_
                              refine r_aload_n dX10_see_251 rfl ?_
                              refine r_gI dX10_see_252 flX10_33_11 rfl ht rfl ?_
                              refine r_aload_n dX10_see_255 rfl ?_
                              refine r_gI dX10_see_256 flX10_40_11 rfl ht rfl ?_
                              refine j_isub dX10_see_259 ?_
                              refine j_iload_n dX10_see_260 rfl ?_
                              obtain ⟨r303, h⟩ := h
                              obtain ⟨h1, h2⟩ := h
                              refine j_icmp_ne 277 dX10_see_261 rfl r303 (ez198 ▸ jR_ite (by decide) (by decide)) (fun q304 => ?_) (fun q304 => ?_)
                              · have h := h1 q304
                                clear h1 h2
                                refine r_aload_n dX10_see_277 rfl ?_
                                refine j_dup dX10_see_278 (vR_cat _) ?_
                                refine r_gI dX10_see_279 flX10_33_11 rfl ht rfl ?_
                                refine j_iconst dX10_see_282 ?_
                                refine j_iadd dX10_see_283 ?_
                                obtain ⟨r305, h⟩ := h
                                refine c_pI hW201 dX10_see_284 flX10_33_11 rfl ht w12 rfl r305 fun F307 eF307 hW306 => ?_
                                have h := h F307 eF307
                                refine j_goto 195 dX10_see_287 rfl ?_
                                exact J.wk (((((jWk.nil).eq).eq).no).eq) (ihI203 _ (Nat.lt_of_lt_of_le h.2 (Nat.le_of_lt_succ hmuI203)) hW306 h.1)
                              · have h := h2 (Classical.not_not.mp q304)
                                clear h1 h2
                                refine c_new (ci := 12) hW201 dX10_see_264 rfl q665 rfl rfl fun b308 N309 F310 eb308 eN309 eF310 t311 w312 hT313 hW314 => ?_
                                have h := h b308 N309 F310 eb308 eN309 eF310
                                refine j_dup dX10_see_267 (vR_cat _) ?_
                                refine j_iconst dX10_see_268 ?_
                                refine r_aload_n dX10_see_269 rfl ?_
                                have t315 : jtg N309 o = 11 := (hT313.tg hW201 ht)
                                refine r_gI dX10_see_270 flX10_33_11 rfl t315 rfl ?_
                                obtain ⟨P316, hp317, h⟩ := h
                                refine r_invI (As := [vI 1, vI (F310 3306 o)]) (rest := [vR (b308 : Int)]) dX10_see_273 lkX10_56 rfl (vX11_init (d := 8) (Nat.le_of_ble_eq_true rfl) hW314 t311 (by decide) (hW314.fi rfl) hp317) rfl rfl (Nat.le_of_ble_eq_true rfl) (Nat.le_trans (Nat.le_of_ble_eq_true rfl) hd) (cknV fun N321 F319 A320 hW322 hT323 p324 => ?_)
                                have h := h N321 F319 A320 p324
                                have t326 : jtg N321 b308 = 12 := (hT323.tg hW314 t311)
                                have w327 : jfn N321 0 b308 = 1 := (hT323.ow hW314 t311 w312)
                                exact r_athrow dX10_see_276 rfl (JT.thru (hout0 rfl _) hW322 (hT313.trans hT323) t326 w327 h)
                    exact J.wk (((((jWk.nil).eq).eq).no).eq) (lp _ _ (Nat.lt_succ_self _) hW17 h0)
                  clear h
                  refine j_if_eq 193 dX10_see_185 rfl (jR_b r34) (fun q197 => ?_) (fun q197 => ?_)
                  · refine j_iconst dX10_see_193 ?_
                    exact jn199 _ (if_pos q197).symm
                  · refine j_bipush dX10_see_188 ?_
                    refine j_goto 194 dX10_see_190 rfl ?_
                    exact jn199 _ (if_neg q197).symm
                · have h := h2 (Classical.not_not.mp q196)
                  clear h1 h2
                  refine c_new (ci := 12) hW17 dX10_see_171 rfl q665 rfl rfl fun b328 N329 F330 eb328 eN329 eF330 t331 w332 hT333 hW334 => ?_
                  have h := h b328 N329 F330 eb328 eN329 eF330
                  refine j_dup dX10_see_174 (vR_cat _) ?_
                  refine j_iconst dX10_see_175 ?_
                  refine r_aload_n dX10_see_176 rfl ?_
                  have t335 : jtg N329 o = 11 := (hT333.tg hW17 ht)
                  refine r_gI dX10_see_177 flX10_33_11 rfl t335 rfl ?_
                  obtain ⟨P336, hp337, h⟩ := h
                  refine r_invI (As := [vI 1, vI (F330 3306 o)]) (rest := [vR (b328 : Int)]) dX10_see_180 lkX10_56 rfl (vX11_init (d := 8) (Nat.le_of_ble_eq_true rfl) hW334 t331 (by decide) (hW334.fi rfl) hp337) rfl rfl (Nat.le_of_ble_eq_true rfl) (Nat.le_trans (Nat.le_of_ble_eq_true rfl) hd) (cknV fun N341 F339 A340 hW342 hT343 p344 => ?_)
                  have h := h N341 F339 A340 p344
                  have t346 : jtg N341 b328 = 12 := (hT343.tg hW334 t331)
                  have w347 : jfn N341 0 b328 = 1 := (hT343.ow hW334 t331 w332)
                  exact r_athrow dX10_see_183 rfl (JT.thru (hout0 rfl _) hW342 (hT333.trans hT343) t346 w347 h)
              · have h := h2 (Classical.not_not.mp q195)
                clear h1 h2
                refine r_aload_n dX10_see_135 rfl ?_
                refine j_iload_n dX10_see_136 rfl ?_
                obtain ⟨c348, h⟩ := h
                refine c_pC hW17 dX10_see_137 flX10_50_11 rfl ht w12 rfl (ev27 ▸ (hW17.ai t25 rfl)) c348 fun F350 eF350 hW349 => ?_
                have h := h F350 eF350
                refine r_aload_n dX10_see_140 rfl ?_
                refine j_dup dX10_see_141 (vR_cat _) ?_
                refine r_gI dX10_see_142 flX10_33_11 rfl ht rfl ?_
                refine j_iconst dX10_see_145 ?_
                refine j_iadd dX10_see_146 ?_
                obtain ⟨r351, h⟩ := h
                refine c_pI hW349 dX10_see_147 flX10_33_11 rfl ht w12 rfl r351 fun F353 eF353 hW352 => ?_
                have h := h F353 eF353
                refine r_aload_n dX10_see_150 rfl ?_
                refine j_iconst dX10_see_151 ?_
                refine c_pI hW352 dX10_see_152 flX10_30_11 rfl ht w12 rfl (by decide) fun F355 eF355 hW354 => ?_
                have h := h F355 eF355
                refine r_aload_n dX10_see_155 rfl ?_
                refine r_gI dX10_see_156 flX10_30_11 rfl ht rfl ?_
                exact j_iret dX10_see_159 rfl (Or.inl ⟨_, rfl, hW354, (jTx.refl N), h, (hW354.fi rfl)⟩)
          · have h := h2 (Classical.not_not.mp q19)
            clear h1 h2
            refine r_aload_n dX10_see_99 rfl ?_
            refine r_gI dX10_see_100 flX10_30_11 rfl ht rfl ?_
            exact j_iret dX10_see_103 rfl (Or.inl ⟨_, rfl, hW17, (jTx.refl N), h, (hW17.fi rfl)⟩)
        obtain ⟨h1, h2⟩ := h
        refine j_icmp_ge 70 dX10_see_20 rfl (hW3.fi rfl) (hW3.ni rfl (by decide)) (fun q7 => ?_) (fun q7 => ?_)
        · have h := h1 q7
          clear h1 h2
          exact J.wk (((((jWk.nil).no).no).no).eq) (jn10   h)
        · have h := h2 q7
          clear h1 h2
          refine r_aload_n dX10_see_23 rfl ?_
          refine r_gRF dX10_see_24 flX10_3_11 rfl ht rfl ?_
          obtain ⟨b356, hz357, h⟩ := h
          obtain ⟨t358, h⟩ := h
          refine r_gRFN dX10_see_27 flX10_36_1 hz357 t358 rfl ?_
          refine r_aload_n dX10_see_30 rfl ?_
          refine r_gI dX10_see_31 flX10_33_11 rfl ht rfl ?_
          obtain ⟨b359, hz360, h⟩ := h
          obtain ⟨t361, h⟩ := h
          obtain ⟨c362, h⟩ := h
          refine r_cald dX10_see_34 hz360 t361 c362 ?_
          refine j_bipush dX10_see_35 ?_
          obtain ⟨h1, h2⟩ := h
          refine j_icmp_eq 57 dX10_see_37 rfl (hW3.ai t361 rfl) (by decide) (fun q363 => ?_) (fun q363 => ?_)
          · have h := h1 q363
            clear h1 h2
            refine r_aload_n dX10_see_57 rfl ?_
            refine j_dup dX10_see_58 (vR_cat _) ?_
            refine r_gI dX10_see_59 flX10_33_11 rfl ht rfl ?_
            refine j_iconst dX10_see_62 ?_
            refine j_iadd dX10_see_63 ?_
            obtain ⟨w364, h⟩ := h
            obtain ⟨r365, h⟩ := h
            refine c_pI hW3 dX10_see_64 flX10_33_11 rfl ht w364 rfl r365 fun F367 eF367 hW366 => ?_
            have h := h F367 eF367
            refine j_goto 12 dX10_see_67 rfl ?_
            exact J.wk (((((jWk.nil).no).no).no).eq) (ihI5 _ (Nat.lt_of_lt_of_le h.2 (Nat.le_of_lt_succ hmuI5)) hW366 h.1)
          · have h := h2 q363
            clear h1 h2
            refine r_aload_n dX10_see_40 rfl ?_
            refine r_gRF dX10_see_41 flX10_3_11 rfl ht rfl ?_
            refine r_gRFN dX10_see_44 flX10_36_1 hz357 t358 rfl ?_
            refine r_aload_n dX10_see_47 rfl ?_
            refine r_gI dX10_see_48 flX10_33_11 rfl ht rfl ?_
            obtain ⟨c368, h⟩ := h
            refine r_cald dX10_see_51 hz360 t361 c368 ?_
            refine j_bipush dX10_see_52 ?_
            obtain ⟨h1, h2⟩ := h
            refine j_icmp_ne 70 dX10_see_54 rfl (hW3.ai t361 rfl) (by decide) (fun q369 => ?_) (fun q369 => ?_)
            · have h := h1 q369
              clear h1 h2
              exact J.wk (((((jWk.nil).no).no).no).eq) (jn10   h)
            · have h := h2 (Classical.not_not.mp q369)
              clear h1 h2
              refine r_aload_n dX10_see_57 rfl ?_
              refine j_dup dX10_see_58 (vR_cat _) ?_
              refine r_gI dX10_see_59 flX10_33_11 rfl ht rfl ?_
              refine j_iconst dX10_see_62 ?_
              refine j_iadd dX10_see_63 ?_
              obtain ⟨w370, h⟩ := h
              obtain ⟨r371, h⟩ := h
              refine c_pI hW3 dX10_see_64 flX10_33_11 rfl ht w370 rfl r371 fun F373 eF373 hW372 => ?_
              have h := h F373 eF373
              refine j_goto 12 dX10_see_67 rfl ?_
              exact J.wk (((((jWk.nil).no).no).no).eq) (ihI5 _ (Nat.lt_of_lt_of_le h.2 (Nat.le_of_lt_succ hmuI5)) hW372 h.1)
    exact J.wk (((((jWk.nil).no).no).no).eq) (lp _ _ (Nat.lt_succ_self _) hW h0)
  · have h := h2 q1
    clear h1 h2
    refine r_aload_n dX10_see_7 rfl ?_
    refine r_gI dX10_see_8 flX10_30_11 rfl ht rfl ?_
    exact j_iret dX10_see_11 rfl (Or.inl ⟨_, rfl, hW, (jTx.refl N), h, (hW.fi rfl)⟩)
/-- ChildSays$Reader.space(III)V -/
def wqX10_space (o : Nat) (a1 : Int) (a2 : Int) (a3 : Int) (N : jSh) (F : jFl) (A : jAr) (Q : Prop) (X : Nat → jSh → jFl → jAr → Prop) : Prop :=
  ((¬ a1 = a2) →
    Q) ∧
  ((a1 = a2) →
    ∀ (b2 : Nat) (N3 : jSh) (F4 : jFl), b2 = jnx N → N3 = jnew N 12 0 8 1 → F4 = nwF N F →
    ∃ (P9 : jSh → jFl → jAr → Prop), wqX11_init b2 5 a3 N3 F4 A P9 ∧
    ∀ N14 F12 A13, P9 N14 F12 A13 →
    X b2 N14 F12 A13)
theorem vX10_space {G : jG} {l : Launch} [jOff l] {d : Nat} {N : jSh} {F : jFl} {A : jAr} {o : Nat} {a1 a2 a3 : Int} {Q : Prop} {X : Nat → jSh → jFl → jAr → Prop} (hd : 9 ≤ d) (hW : jWg G N F A) (ht : jtg N o = 11) (ra1 : jR a1) (ra2 : jR a2) (ra3 : jR a3) (h : wqX10_space o a1 a2 a3 N F A Q X) : jCall G l d mX10_space [vR (o : Int), vI a1, vI a2, vI a3] N F A (cX G N X (jpV N F A Q)) := by
  unfold wqX10_space at h
  refine jCall.of (by decide) rfl (ls := [vR (o : Int), vI a1, vI a2, vI a3]) (by simp only [jent_R, jent_I, jent_L, jent_nil]; exact Nat.le_of_ble_eq_true rfl) (by simp only [jloc, jent_R, jent_I, jent_L, jent_nil]; rfl) ?_
  refine j_iload_n dX10_space_0 rfl ?_
  refine j_iload_n dX10_space_1 rfl ?_
  obtain ⟨h1, h2⟩ := h
  refine j_icmp_ne 15 dX10_space_2 rfl ra1 ra2 (fun q1 => ?_) (fun q1 => ?_)
  · have h := h1 q1
    clear h1 h2
    exact j_vret dX10_space_15 rfl (Or.inl ⟨rfl, rfl, rfl, rfl, h⟩)
  · have h := h2 (Classical.not_not.mp q1)
    clear h1 h2
    refine c_new (ci := 12) hW dX10_space_5 rfl q665 rfl rfl fun b2 N3 F4 eb2 eN3 eF4 t5 w6 hT7 hW8 => ?_
    have h := h b2 N3 F4 eb2 eN3 eF4
    refine j_dup dX10_space_8 (vR_cat _) ?_
    refine j_iconst dX10_space_9 ?_
    refine j_iload_n dX10_space_10 rfl ?_
    obtain ⟨P9, hp10, h⟩ := h
    refine r_invI (As := [vI 5, vI a3]) (rest := [vR (b2 : Int)]) dX10_space_11 lkX10_56 rfl (vX11_init (d := 8) (Nat.le_of_ble_eq_true rfl) hW8 t5 (by decide) ra3 hp10) rfl rfl (Nat.le_of_ble_eq_true rfl) (Nat.le_trans (Nat.le_of_ble_eq_true rfl) hd) (cknV fun N14 F12 A13 hW15 hT16 p17 => ?_)
    have h := h N14 F12 A13 p17
    have t19 : jtg N14 b2 = 12 := (hT16.tg hW8 t5)
    have w20 : jfn N14 0 b2 = 1 := (hT16.ow hW8 t5 w6)
    exact r_athrow dX10_space_14 rfl (JT.thru (hout0 rfl _) hW15 (hT7.trans hT16) t19 w20 h)
/-- ChildSays$Reader.wrong()LChildSays$Fault; -/
def wqX10_wrong (o : Nat) (N : jSh) (F : jFl) (A : jAr) (Q : Int → jSh → jFl → jAr → Prop) : Prop :=
  ∀ (b1 : Nat) (N2 : jSh) (F3 : jFl), b1 = jnx N → N2 = jnew N 12 0 8 1 → F3 = nwF N F →
  ∃ (P9 : jSh → jFl → jAr → Prop), wqX11_init b1 1 (F3 3312 o) N2 F3 A P9 ∧
  ∀ N14 F12 A13, P9 N14 F12 A13 →
  Q (b1 : Int) N14 F12 A13
theorem vX10_wrong {G : jG} {l : Launch} [jOff l] {d : Nat} {N : jSh} {F : jFl} {A : jAr} {o : Nat} {Q : Int → jSh → jFl → jAr → Prop} (hd : 9 ≤ d) (hW : jWg G N F A) (ht : jtg N o = 11) (h : wqX10_wrong o N F A Q) : jCall G l d mX10_wrong [vR (o : Int)] N F A (cnR G N Q) := by
  unfold wqX10_wrong at h
  refine jCall.of (by decide) rfl (ls := [vR (o : Int)]) (by simp only [jent_R, jent_I, jent_L, jent_nil]; exact Nat.le_of_ble_eq_true rfl) (by simp only [jloc, jent_R, jent_I, jent_L, jent_nil]; rfl) ?_
  refine c_new (ci := 12) hW dX10_wrong_0 rfl q665 rfl rfl fun b1 N2 F3 eb1 eN2 eF3 t4 w5 hT6 hW7 => ?_
  have h := h b1 N2 F3 eb1 eN2 eF3
  refine j_dup dX10_wrong_3 (vR_cat _) ?_
  refine j_iconst dX10_wrong_4 ?_
  refine r_aload_n dX10_wrong_5 rfl ?_
  have t8 : jtg N2 o = 11 := (hT6.tg hW ht)
  refine r_gI dX10_wrong_6 flX10_40_11 rfl t8 rfl ?_
  obtain ⟨P9, hp10, h⟩ := h
  refine r_invI (As := [vI 1, vI (F3 3312 o)]) (rest := [vR (b1 : Int)]) dX10_wrong_9 lkX10_56 rfl (vX11_init (d := 8) (Nat.le_of_ble_eq_true rfl) hW7 t4 (by decide) (hW7.fi rfl) hp10) rfl rfl (Nat.le_of_ble_eq_true rfl) (Nat.le_trans (Nat.le_of_ble_eq_true rfl) hd) (cknV fun N14 F12 A13 hW15 hT16 p17 => ?_)
  have h := h N14 F12 A13 p17
  exact r_aret dX10_wrong_12 rfl (Or.inl ⟨_, rfl⟩) ⟨_, rfl, hW15, (hT6.trans hT16), h, trivial⟩
/-- ChildSays$Was.comesBack()V -/
def wqX17_comesBack (S : Nat → Nat) (o : Nat) (N : jSh) (F : jFl) (A : jAr) (Q : jSh → jFl → jAr → Prop) : Prop :=
  ∃ b1 : Nat, jfn N 5420 o = (b1 : Int) ∧
  jtg N b1 = 1 ∧
  ∃ b4 : Nat, F 311 b1 = (b4 : Int) ∧
  jtg N b4 = 2 ∧
  jfn N 0 b4 = 1 ∧
  ∀ F9 : jFl, F9 = upF F 612 b4 (jfn N 5400 o) →
  ∃ (I15 : Int → jFl → jAr → Prop) (m16 : Int → jFl → jAr → Nat), I15 0 F9 A ∧ ∀ (v10 : Int) (F11 : jFl) (A12 : jAr), I15 v10 F11 A12 →
    (((jfn N 5403 o) ≤ v10) →
      ∃ b18 : Nat, F11 311 b1 = (b18 : Int) ∧
      jtg N b18 = 2 ∧
      ∃ b21 : Nat, jfn N 632 b18 = (b21 : Int) ∧
      jtg N b21 = 20 ∧
      ∃ (P24 : jFl → jAr → Prop), wqJ2_clear b21 N F11 A12 P24 ∧
      ∀ F27 A28, P24 F27 A28 →
      ∃ (I39 : Int → jSh → jFl → jAr → Prop) (m40 : Int → jSh → jFl → jAr → Nat), I39 0 N F27 A28 ∧ ∀ (v33 : Int) (N34 : jSh) (F35 : jFl) (A36 : jAr), I39 v33 N34 F35 A36 →
        ∃ b42 : Nat, jfn N34 5417 o = (b42 : Int) ∧
        jtg N34 b42 = 20 ∧
        ∃ (P45 : Int → Prop), wqJ2_size b42 N34 F35 A36 P45 ∧
        ∀ z47, P45 z47 →
        ((z47 ≤ v33) →
          Q N34 F35 A36) ∧
        ((¬ (z47 ≤ v33)) →
          ∃ b53 : Nat, jfn N34 5420 o = (b53 : Int) ∧
          jtg N34 b53 = 1 ∧
          ∃ b56 : Nat, F35 311 b53 = (b56 : Int) ∧
          jtg N34 b56 = 2 ∧
          ∃ (P59 : Int → Prop), wqJ2_get b42 v33 N34 F35 A36 P59 ∧
          ∀ z61, P59 z61 →
          jcst N34 "ChildSays$Line" z61 ∧
          ∃ b67 : Nat, jfn N34 632 b56 = (b67 : Int) ∧
          jtg N34 b67 = 20 ∧
          ∃ (P70 : Int → jSh → jFl → jAr → Prop), wqJ2_add S b67 z61 N34 F35 A36 P70 ∧
          ∀ z72 N75 F73 A74, P70 z72 N75 F73 A74 →
          jR (v33 + 1) ∧
          I39 (v33 + 1) N75 F73 A74 ∧ m40 (v33 + 1) N75 F73 A74 < m40 v33 N34 F35 A36)) ∧
    ((¬ ((jfn N 5403 o) ≤ v10)) →
      ∃ b81 : Nat, F11 311 b1 = (b81 : Int) ∧
      jtg N b81 = 2 ∧
      ∃ b84 : Nat, jfn N 626 b81 = (b84 : Int) ∧
      jtg N b84 = 20 ∧
      ∃ (P87 : Int → Prop), wqJ2_get b84 v10 N F11 A12 P87 ∧
      ∀ z89, P87 z89 →
      jcst N "ChildSays$Law" z89 ∧
      ∃ b95 : Nat, z89 = (b95 : Int) ∧
      jtg N b95 = 17 ∧
      ∃ b98 : Nat, jfn N 5408 o = (b98 : Int) ∧
      jtg N b98 = 116 ∧
      ((0 : Int) ≤ v10 ∧ (v10 : Int) < (jln N b98 : Int)) ∧
      ∃ b102 : Nat, jfn N 5102 b95 = (b102 : Int) ∧
      jtg N b102 = 4 ∧
      ∃ (P105 : Int → jFl → jAr → Prop), wqX3_like b102 (A12 b98 v10) N F11 A12 P105 ∧
      ∀ z107 F108 A109, P105 z107 F108 A109 →
      ∃ b114 : Nat, F108 311 b1 = (b114 : Int) ∧
      jtg N b114 = 2 ∧
      ∃ b117 : Nat, jfn N 5411 o = (b117 : Int) ∧
      jtg N b117 = 113 ∧
      ((0 : Int) ≤ v10 ∧ (v10 : Int) < (jln N b117 : Int)) ∧
      ∃ b121 : Nat, jfn N 629 b114 = (b121 : Int) ∧
      jtg N b121 = 20 ∧
      ∃ (P124 : Int → jFl → jAr → Prop), wqJ2_set b121 v10 (A109 b117 v10) N F108 A109 P124 ∧
      ∀ z126 F127 A128, P124 z126 F127 A128 →
      ∃ b133 : Nat, F127 311 b1 = (b133 : Int) ∧
      jtg N b133 = 2 ∧
      ∃ b136 : Nat, jfn N 626 b133 = (b136 : Int) ∧
      jtg N b136 = 20 ∧
      ∃ (P139 : Int → Prop), wqJ2_get b136 v10 N F127 A128 P139 ∧
      ∀ z141, P139 z141 →
      jcst N "ChildSays$Law" z141 ∧
      ∃ b147 : Nat, jfn N 5414 o = (b147 : Int) ∧
      jtg N b147 = 105 ∧
      ((0 : Int) ≤ v10 ∧ (v10 : Int) < (jln N b147 : Int)) ∧
      ∃ b151 : Nat, z141 = (b151 : Int) ∧
      jtg N b151 = 17 ∧
      jfn N 0 b151 = 1 ∧
      (A128 b147 v10 = 0 ∨ A128 b147 v10 = 1) ∧
      ∀ F157 : jFl, F157 = upF F127 5103 b151 (A128 b147 v10) →
      jR (v10 + 1) ∧
      I15 (v10 + 1) F157 A128 ∧ m16 (v10 + 1) F157 A128 < m16 v10 F11 A12)
theorem vX17_comesBack {G : jG} {l : Launch} [jOff l] {d : Nat} {N : jSh} {F : jFl} {A : jAr} {o : Nat} {Q : jSh → jFl → jAr → Prop} (hd : 9 ≤ d) (hW : jWg G N F A) (ht : jtg N o = 18) (h : wqX17_comesBack (gS G) o N F A Q) : jCall G l d mX17_comesBack [vR (o : Int)] N F A (cnV G N Q) := by
  unfold wqX17_comesBack at h
  refine jCall.of (by decide) rfl (ls := [vR (o : Int), jD]) (by simp only [jent_R, jent_I, jent_L, jent_nil]; exact Nat.le_of_ble_eq_true rfl) (by simp only [jloc, jent_R, jent_I, jent_L, jent_nil]; rfl) ?_
  refine r_aload_n dX17_comesBack_0 rfl ?_
  refine r_gRF dX17_comesBack_1 flX17_3_18 rfl ht rfl ?_
  obtain ⟨b1, hz2, h⟩ := h
  obtain ⟨t3, h⟩ := h
  refine r_gRN dX17_comesBack_4 flX17_15_1 hz2 t3 rfl ?_
  refine r_aload_n dX17_comesBack_7 rfl ?_
  refine r_gIF dX17_comesBack_8 flX17_25_18 rfl ht rfl ?_
  obtain ⟨b4, hz5, h⟩ := h
  obtain ⟨t6, h⟩ := h
  obtain ⟨w7, h⟩ := h
  refine c_pI hW dX17_comesBack_11 flX17_19_2 hz5 t6 w7 rfl (hW.ni rfl (by decide)) fun F9 eF9 hW8 => ?_
  have h := h F9 eF9
  refine j_iconst dX17_comesBack_14 ?_
  refine j_istore_n dX17_comesBack_15 (jokR rfl (Nat.le_of_ble_eq_true rfl)) ?_
  obtain ⟨I15, m16, h0, hs⟩ := h
  have lp : ∀ (n : Nat) (v10 : Int) (F11 : jFl) (A12 : jAr), m16 v10 F11 A12 < n → jWg G N F11 A12 → jR v10 → I15 v10 F11 A12 → J G l d mX17_comesBack 16 [vR (o : Int), vI v10] [] N F11 A12 (cnV G N Q) := by
    intro nI15
    induction nI15 with
    | zero =>
      intro v10 F11 A12 hmu
      exact absurd hmu (Nat.not_lt_zero _)
    | succ nI15 ihI15 =>
      intro v10 F11 A12 hmuI15 hW13 rv10 hI
      have h := hs v10 F11 A12 hI
      refine j_iload_n dX17_comesBack_16 rfl ?_
      refine r_aload_n dX17_comesBack_17 rfl ?_
      refine r_gIF dX17_comesBack_18 flX17_36_18 rfl ht rfl ?_
      obtain ⟨h1, h2⟩ := h
      refine j_icmp_ge 107 dX17_comesBack_21 rfl rv10 (hW13.ni rfl (by decide)) (fun q17 => ?_) (fun q17 => ?_)
      · have h := h1 q17
        clear h1 h2
        refine r_aload_n dX17_comesBack_107 rfl ?_
        refine r_gRF dX17_comesBack_108 flX17_3_18 rfl ht rfl ?_
        refine r_gRN dX17_comesBack_111 flX17_15_1 hz2 t3 rfl ?_
        obtain ⟨b18, hz19, h⟩ := h
        obtain ⟨t20, h⟩ := h
        refine r_gRF dX17_comesBack_114 flX17_77_2 hz19 t20 rfl ?_
        obtain ⟨b21, hz22, h⟩ := h
        obtain ⟨t23, h⟩ := h
        obtain ⟨P24, hp25, h⟩ := h
        refine r_invV (ci := 20) (As := []) (rest := []) dX17_comesBack_117 lkX17_88 hz22 t23 rfl rfl (vJ2_clear (d := 2) (Nat.le_of_ble_eq_true rfl) hW13 t23  hp25) rfl rfl (Nat.le_of_ble_eq_true rfl) (Nat.le_trans (Nat.le_of_ble_eq_true rfl) hd) (ckmV fun F27 A28 hW29 p31 => ?_)
        have h := h F27 A28 p31
        refine j_iconst dX17_comesBack_120 ?_
        refine j_istore_n dX17_comesBack_121 (jokR rfl (Nat.le_of_ble_eq_true rfl)) ?_
        obtain ⟨I39, m40, h0, hs⟩ := h
        have lp : ∀ (n : Nat) (v33 : Int) (N34 : jSh) (F35 : jFl) (A36 : jAr), m40 v33 N34 F35 A36 < n → jWg G N34 F35 A36 → jTx N N34 → jR v33 → I39 v33 N34 F35 A36 → J G l d mX17_comesBack 122 [vR (o : Int), vI v33] [] N34 F35 A36 (cnV G N Q) := by
          intro nI39
          induction nI39 with
          | zero =>
            intro v33 N34 F35 A36 hmu
            exact absurd hmu (Nat.not_lt_zero _)
          | succ nI39 ihI39 =>
            intro v33 N34 F35 A36 hmuI39 hW37 hT38 rv33 hI
            have h := hs v33 N34 F35 A36 hI
            refine j_iload_n dX17_comesBack_122 rfl ?_
            refine r_aload_n dX17_comesBack_123 rfl ?_
            have t41 : jtg N34 o = 18 := (hT38.tg hW29 ht)
            refine r_gRF dX17_comesBack_124 flX17_56_18 rfl t41 rfl ?_
            obtain ⟨b42, hz43, h⟩ := h
            obtain ⟨t44, h⟩ := h
            obtain ⟨P45, hp46, h⟩ := h
            refine r_invV (ci := 20) (As := []) (rest := [vI v33]) dX17_comesBack_127 lkX17_30 hz43 t44 rfl rfl (vJ2_size (d := 2) (Nat.le_of_ble_eq_true rfl) hW37 t44  hp46) rfl rfl (Nat.le_of_ble_eq_true rfl) (Nat.le_trans (Nat.le_of_ble_eq_true rfl) hd) (jkpI fun z47 p50 r51 => ?_)
            have h := h z47 p50
            obtain ⟨h1, h2⟩ := h
            refine j_icmp_ge 164 dX17_comesBack_130 rfl rv33 r51 (fun q52 => ?_) (fun q52 => ?_)
            · have h := h1 q52
              clear h1 h2
              exact j_vret dX17_comesBack_164 rfl ⟨rfl, hW37, hT38, h⟩
            · have h := h2 q52
              clear h1 h2
              refine r_aload_n dX17_comesBack_133 rfl ?_
              refine r_gRF dX17_comesBack_134 flX17_3_18 rfl t41 rfl ?_
              obtain ⟨b53, hz54, h⟩ := h
              obtain ⟨t55, h⟩ := h
              refine r_gRN dX17_comesBack_137 flX17_15_1 hz54 t55 rfl ?_
              obtain ⟨b56, hz57, h⟩ := h
              obtain ⟨t58, h⟩ := h
              refine r_gRF dX17_comesBack_140 flX17_77_2 hz57 t58 rfl ?_
              refine r_aload_n dX17_comesBack_143 rfl ?_
              refine r_gRF dX17_comesBack_144 flX17_56_18 rfl t41 rfl ?_
              refine j_iload_n dX17_comesBack_147 rfl ?_
              obtain ⟨P59, hp60, h⟩ := h
              refine r_invV (ci := 20) (As := [vI v33]) (rest := [vR (jfn N34 632 b56)]) dX17_comesBack_148 lkX17_60 hz43 t44 rfl rfl (vJ2_get (d := 4) (Nat.le_of_ble_eq_true rfl) hW37 t44 rv33 hp60) rfl rfl (Nat.le_of_ble_eq_true rfl) (Nat.le_trans (Nat.le_of_ble_eq_true rfl) hd) (jkpR fun z61 p64 r65 => ?_)
              have h := h z61 p64
              obtain ⟨j66, h⟩ := h
              refine r_chk dX17_comesBack_151 q1260 j66 ?_
              obtain ⟨b67, hz68, h⟩ := h
              obtain ⟨t69, h⟩ := h
              obtain ⟨P70, hp71, h⟩ := h
              refine r_invV (ci := 20) (As := [vR z61]) (rest := []) dX17_comesBack_154 lkX17_80 hz68 t69 rfl rfl (vJ2_add (d := 8) (Nat.le_of_ble_eq_true rfl) hW37 t69  hp71) rfl rfl (Nat.le_of_ble_eq_true rfl) (Nat.le_trans (Nat.le_of_ble_eq_true rfl) hd) (cknB fun z72 N75 F73 A74 hW76 hT77 p78 r79 => ?_)
              have h := h z72 N75 F73 A74 p78
              refine j_pop dX17_comesBack_157 rfl ?_
              obtain ⟨r80, h⟩ := h
              refine j_iinc dX17_comesBack_158 rfl (jokR rfl (Nat.le_of_ble_eq_true rfl)) ?_
              refine j_goto 122 dX17_comesBack_161 rfl ?_
              exact J.wk (((jWk.nil).eq).eq) (ihI39 _ _ _ _ (Nat.lt_of_lt_of_le h.2 (Nat.le_of_lt_succ hmuI39)) hW76 (hT38.trans hT77) r80 h.1)
        exact J.wk (((jWk.nil).eq).eq) (lp _ _ _ _ _ (Nat.lt_succ_self _) hW29 (jTx.refl _) (by decide) h0)
      · have h := h2 q17
        clear h1 h2
        refine r_aload_n dX17_comesBack_24 rfl ?_
        refine r_gRF dX17_comesBack_25 flX17_3_18 rfl ht rfl ?_
        refine r_gRN dX17_comesBack_28 flX17_15_1 hz2 t3 rfl ?_
        obtain ⟨b81, hz82, h⟩ := h
        obtain ⟨t83, h⟩ := h
        refine r_gRF dX17_comesBack_31 flX17_26_2 hz82 t83 rfl ?_
        refine j_iload_n dX17_comesBack_34 rfl ?_
        obtain ⟨b84, hz85, h⟩ := h
        obtain ⟨t86, h⟩ := h
        obtain ⟨P87, hp88, h⟩ := h
        refine r_invV (ci := 20) (As := [vI v10]) (rest := []) dX17_comesBack_35 lkX17_60 hz85 t86 rfl rfl (vJ2_get (d := 4) (Nat.le_of_ble_eq_true rfl) hW13 t86 rv10 hp88) rfl rfl (Nat.le_of_ble_eq_true rfl) (Nat.le_trans (Nat.le_of_ble_eq_true rfl) hd) (jkpR fun z89 p92 r93 => ?_)
        have h := h z89 p92
        obtain ⟨j94, h⟩ := h
        refine r_chk dX17_comesBack_38 q1245 j94 ?_
        obtain ⟨b95, hz96, h⟩ := h
        obtain ⟨t97, h⟩ := h
        refine r_gRF dX17_comesBack_41 flX17_64_17 hz96 t97 rfl ?_
        refine r_aload_n dX17_comesBack_44 rfl ?_
        refine r_gRF dX17_comesBack_45 flX17_41_18 rfl ht rfl ?_
        refine j_iload_n dX17_comesBack_48 rfl ?_
        obtain ⟨b98, hz99, h⟩ := h
        obtain ⟨t100, h⟩ := h
        obtain ⟨c101, h⟩ := h
        refine r_aald dX17_comesBack_49 hz99 t100 rfl rfl c101 ?_
        obtain ⟨b102, hz103, h⟩ := h
        obtain ⟨t104, h⟩ := h
        obtain ⟨P105, hp106, h⟩ := h
        refine r_invV (ci := 4) (As := [vR (A12 b98 v10)]) (rest := []) dX17_comesBack_50 lkX17_68 hz103 t104 rfl rfl (vX3_like (d := 3) (Nat.le_of_ble_eq_true rfl) hW13 t104  hp106) rfl rfl (Nat.le_of_ble_eq_true rfl) (Nat.le_trans (Nat.le_of_ble_eq_true rfl) hd) (ckmR fun z107 F108 A109 hW110 p112 r113 => ?_)
        have h := h z107 F108 A109 p112
        refine j_pop dX17_comesBack_53 (vR_cat _) ?_
        refine r_aload_n dX17_comesBack_54 rfl ?_
        refine r_gRF dX17_comesBack_55 flX17_3_18 rfl ht rfl ?_
        refine r_gRN dX17_comesBack_58 flX17_15_1 hz2 t3 rfl ?_
        obtain ⟨b114, hz115, h⟩ := h
        obtain ⟨t116, h⟩ := h
        refine r_gRF dX17_comesBack_61 flX17_72_2 hz115 t116 rfl ?_
        refine j_iload_n dX17_comesBack_64 rfl ?_
        refine r_aload_n dX17_comesBack_65 rfl ?_
        refine r_gRF dX17_comesBack_66 flX17_47_18 rfl ht rfl ?_
        refine j_iload_n dX17_comesBack_69 rfl ?_
        obtain ⟨b117, hz118, h⟩ := h
        obtain ⟨t119, h⟩ := h
        obtain ⟨c120, h⟩ := h
        refine r_aald dX17_comesBack_70 hz118 t119 rfl rfl c120 ?_
        obtain ⟨b121, hz122, h⟩ := h
        obtain ⟨t123, h⟩ := h
        obtain ⟨P124, hp125, h⟩ := h
        refine r_invV (ci := 20) (As := [vI v10, vR (A109 b117 v10)]) (rest := []) dX17_comesBack_71 lkX17_84 hz122 t123 rfl rfl (vJ2_set (d := 4) (Nat.le_of_ble_eq_true rfl) hW110 t123 rv10 hp125) rfl rfl (Nat.le_of_ble_eq_true rfl) (Nat.le_trans (Nat.le_of_ble_eq_true rfl) hd) (ckmR fun z126 F127 A128 hW129 p131 r132 => ?_)
        have h := h z126 F127 A128 p131
        refine j_pop dX17_comesBack_74 (vR_cat _) ?_
        refine r_aload_n dX17_comesBack_75 rfl ?_
        refine r_gRF dX17_comesBack_76 flX17_3_18 rfl ht rfl ?_
        refine r_gRN dX17_comesBack_79 flX17_15_1 hz2 t3 rfl ?_
        obtain ⟨b133, hz134, h⟩ := h
        obtain ⟨t135, h⟩ := h
        refine r_gRF dX17_comesBack_82 flX17_26_2 hz134 t135 rfl ?_
        refine j_iload_n dX17_comesBack_85 rfl ?_
        obtain ⟨b136, hz137, h⟩ := h
        obtain ⟨t138, h⟩ := h
        obtain ⟨P139, hp140, h⟩ := h
        refine r_invV (ci := 20) (As := [vI v10]) (rest := []) dX17_comesBack_86 lkX17_60 hz137 t138 rfl rfl (vJ2_get (d := 4) (Nat.le_of_ble_eq_true rfl) hW129 t138 rv10 hp140) rfl rfl (Nat.le_of_ble_eq_true rfl) (Nat.le_trans (Nat.le_of_ble_eq_true rfl) hd) (jkpR fun z141 p144 r145 => ?_)
        have h := h z141 p144
        obtain ⟨j146, h⟩ := h
        refine r_chk dX17_comesBack_89 q1245 j146 ?_
        refine r_aload_n dX17_comesBack_92 rfl ?_
        refine r_gRF dX17_comesBack_93 flX17_51_18 rfl ht rfl ?_
        refine j_iload_n dX17_comesBack_96 rfl ?_
        obtain ⟨b147, hz148, h⟩ := h
        obtain ⟨t149, h⟩ := h
        obtain ⟨c150, h⟩ := h
        refine r_zald dX17_comesBack_97 hz148 t149 c150 ?_
        obtain ⟨b151, hz152, h⟩ := h
        obtain ⟨t153, h⟩ := h
        obtain ⟨w154, h⟩ := h
        obtain ⟨b155, h⟩ := h
        refine c_pZ hW129 dX17_comesBack_98 flX17_74_17 hz152 t153 w154 rfl (hW129.ai t149 rfl) b155 fun F157 eF157 hW156 => ?_
        have h := h F157 eF157
        obtain ⟨r158, h⟩ := h
        refine j_iinc dX17_comesBack_101 rfl (jokR rfl (Nat.le_of_ble_eq_true rfl)) ?_
        refine j_goto 16 dX17_comesBack_104 rfl ?_
        exact J.wk (((jWk.nil).eq).eq) (ihI15 _ _ _ (Nat.lt_of_lt_of_le h.2 (Nat.le_of_lt_succ hmuI15)) hW156 r158 h.1)
  exact J.wk (((jWk.nil).eq).eq) (lp _ _ _ _ (Nat.lt_succ_self _) hW8 (by decide) h0)
