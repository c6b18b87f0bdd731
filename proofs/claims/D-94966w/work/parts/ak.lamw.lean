set_option maxRecDepth 100000
set_option linter.unusedVariables false
/-! walks of the component where functions are handed on: printed by gen/emit_l.py -/
/-- what is so of two rows, by the function that is handed on -/
def wqSo (S : Nat → Nat) (z x1 x2 : Int) (N : jSh) (F : jFl) (A : jAr) (Q : Int → Prop) : Prop := (z = (S 24 : Int) ∧ wqX0_lambda_apart_0 x1 x2 N F A Q) ∨ (z = (S 25 : Int) ∧ wqX0_lambda_against_1 x1 x2 N F A Q)
theorem r_soW {G : jG} {l : Launch} [jOff l] {d : Nat} {k : jM} {pc : Nat} {ls rest : List Value} {N : jSh} {F : jFl} {A : jAr} {post : jPo} {ct : Nat} {x1 x2 z : Int} {P : Int → Prop} (ho : k.1.cls = "ChildSays") (hd : decode k.2.1 pc = .ok (.invokeinterface 484 ct, 5)) (hW : jWg G N F A) (h : wqSo (gS G) z x1 x2 N F A P) (hdd : 6 ≤ d) (hcat : rest.length ≤ 4)
    (kk : ∀ w, P w → (w = 0 ∨ w = 1) → J G l d k (pc + 5) ls (vI w :: rest) N F A post) : J G l d k pc ls (vR x2 :: vR x1 :: vR z :: rest) N F A post := by
  rcases h with ⟨hz, h⟩ | ⟨hz, h⟩
  · exact r_so (d2 := 3) laOk_1 (by decide +kernel) rfl jcX0_lambda_apart_0 q1732 (q := jlm[0]) List.mem_cons_self rfl rfl ho q1740 hd hz (vX0_lambda_apart_0 (Nat.le_refl _) hW h) (by omega) hcat kk
  · exact r_so (d2 := 4) laOk_2 (by decide +kernel) rfl jcX0_lambda_against_1 q1747 (q := jlm[1]) (List.mem_cons_of_mem _ List.mem_cons_self) rfl rfl ho q1740 hd hz (vX0_lambda_against_1 (Nat.le_refl _) hW h) (by omega) hcat kk
/-- a method that begins with aload_0, iload_1 and the function at a site, made before -/
theorem jCall.ofI {G : jG} {l : Launch} [jOff l] {d : Nat} {k : jM} {N : jSh} {F : jFl} {A : jAr} {post : jPo} {o idx : Nat} {a1 : Int} {i : String} {q : MethodName × Nat × Nat × Lambda.Shape × Nat} (hy : plainName k.1.cls = true) (hh : k.2.2.2.2 = []) (hk2 : k.2.2.1 = 2) (hd0 : decode k.2.1 0 = .ok (.aload_n 0, 1)) (hd1 : decode k.2.1 1 = .ok (.iload_n 1, 1)) (hd2 : decode k.2.1 2 = .ok (.invokedynamic idx, 5))
    (hq : q ∈ jlm) (hqs : q.2.2.2.1 = laS i) (hqc : q.1.cls = "ChildSays") (hkq : k.1 = q.1) (hpc : q.2.1 = 2) (hdd : 50 ≤ d) (h : J G l d k 7 [vR (o : Int), vI a1] [vR (gS G q.2.2.2.2 : Int), vI a1, vR (o : Int)] N F A post) : jCall G l d k [vR (o : Int), vI a1] N F A post := by
  obtain ⟨oo, N', F', A', h1, h2, h3, h4⟩ := h
  obtain ⟨y, cc, maxL, ret, hl⟩ := k
  cases hh
  dsimp only at hk2
  subst hk2
  rw [vR_nat, vR_nat] at h4
  rw [vR_nat]
  have hlen : (jent [Value.ref o, vI a1]).length ≤ 2 := by simp only [jent_R, jent_I, jent_L, jent_nil, ← vR_nat]; exact Nat.le_of_ble_eq_true rfl
  have hls : jloc [Value.ref o, vI a1] 2 = [Value.ref o, vI a1] := by simp only [jloc, jent_R, jent_I, jent_L, jent_nil, ← vR_nat]; rfl
  refine ⟨oo, N', F', A', h1, h2, h3, ?_⟩
  refine vy_ofW (cc := cc) (maxL := 2) (ret := ret) (ws' := lw_all) hy rfl ?_
  intro p e s m args below meth c s₁ B hml hno hPc
  obtain ⟨rfl, hK, hS, hB, hRep⟩ := hPc
  have hts := atoms_spec (ws := jws (y, cc, 2, ret, [])) B.pre
  have hin : meth.name = y.name := (name_of_methodNamed B.named B.method).1
  have ht : c.exceptionTable.toList = tableOf [] := by
    cases hq : c.exceptionTable.toList with
    | nil => rfl
    | cons x t => exact absurd (by rw [hq]; exact List.mem_cons_self) (hno x)
  rw [lg_entry_eq]
  have jl := jL_entry [Value.ref o, vI a1] (n := 2) hlen
  rw [hls] at jl
  have hts2 : ∀ w ∈ lw_all, w.before [Value.ref o, vI a1].toArray s = true := fun w hw => hts w (List.mem_cons_of_mem _ hw)
  refine lv_aload_n B.exec B.bytes hd0 rfl (jl.at rfl (vr_D o)) (lv_iload_n B.exec B.bytes hd1 rfl (jl.at rfl (vI_D a1)) ?_)
  intro T hT XT
  obtain ⟨t2, b1, b2⟩ := h4 p e _ s m _ below meth c s.heap [] 0 0 (jnx N' - jnx N) (jsu N' - jsu N) _ ⟨B.exec, B.bytes, B.returns, B.notSynchronized, hml, findClass_of_methodNamed B.named, hin, hts2, hK, hS, hB, ht⟩ (by omega) (by omega) (Nat.le_refl _) (Nat.le_refl _) (Nat.le_refl _) (Nat.le_refl _) hRep va_S.rf jl T hT XT
  obtain ⟨cK, mS, kS, i0, p0, cell, hmS, hkS, -, hfind, -⟩ := la_site (H := s.heap) (locs := []) hq hqs hqc hS va_S.rf
  have hm : mS = m := by
    have e1 : s.methodNamed? y = some m := B.named
    have e2 : y = q.1 := hkq
    rw [e2, hmS] at e1
    exact Option.some.inj e1
  subst hm
  rw [hpc] at hfind
  refine ⟨t2, XT.lambdaConstant B.exec (g := F0 mS 2 _ [vI a1, .ref o]) rfl (jl.2.1.trans hml.symm) (by rw [B.bytes]; exact hd2) hkS hfind ?_ b1, b2⟩
  rw [B.admits.platform]
  show 2 * 0 + (1 + (1 + 0)) + 3072 ≤ 64 * d
  omega
/-- ChildSays.twos(ILChildSays$Are;)I -/
def wqX0_twos (S : Nat → Nat) (o : Nat) (a1 : Int) (a2 : Int) (N : jSh) (F : jFl) (A : jAr) (Q : Int → Prop) : Prop :=
  ∃ (I4 : Int → Int → Prop) (m5 : Int → Int → Nat), I4 0 0 ∧ ∀ (v1 : Int) (v2 : Int), I4 v1 v2 →
    ∃ b6 : Nat, F 311 o = (b6 : Int) ∧
    jtg N b6 = 2 ∧
    ∃ b9 : Nat, jfn N 626 b6 = (b9 : Int) ∧
    jtg N b9 = 20 ∧
    ∃ (P12 : Int → Prop), wqJ2_size b9 N F A P12 ∧
    ∀ z14, P12 z14 →
    ((z14 ≤ v2) →
      Q (-1)) ∧
    ((¬ (z14 ≤ v2)) →
      jR (v2 + 1) ∧
      ∀ v21 : Int, v21 = v2 + 1 →
      ∃ (I25 : Int → Int → Prop) (m26 : Int → Int → Nat), I25 v1 v21 ∧ ∀ (v22 : Int) (v23 : Int), I25 v22 v23 →
        ∃ (P27 : Int → Prop), wqJ2_size b9 N F A P27 ∧
        ∀ z29, P27 z29 →
        ((z29 ≤ v23) →
          jR (v2 + 1) ∧
          I4 v22 (v2 + 1) ∧ m5 v22 (v2 + 1) < m5 v1 v2) ∧
        ((¬ (z29 ≤ v23)) →
          ∃ (P36 : Int → Prop), wqJ2_get b9 v2 N F A P36 ∧
          ∀ z38, P36 z38 →
          jcst N "ChildSays$Law" z38 ∧
          ∃ b44 : Nat, z38 = (b44 : Int) ∧
          jtg N b44 = 17 ∧
          ∀ v47 : Int, v47 = jfn N 5102 b44 →
          ∃ (P48 : Int → Prop), wqJ2_get b9 v23 N F A P48 ∧
          ∀ z50, P48 z50 →
          jcst N "ChildSays$Law" z50 ∧
          ∃ b56 : Nat, z50 = (b56 : Int) ∧
          jtg N b56 = 17 ∧
          ∀ v59 : Int, v59 = jfn N 5102 b56 →
          ∃ b60 : Nat, v47 = (b60 : Int) ∧
          jtg N b60 = 4 ∧
          ∃ (P63 : Int → Prop), wqX3_isOne b60 N F A P63 ∧
          ∀ z65, P63 z65 →
          ((z65 = 0) →
            jR (v23 + 1) ∧
            I25 v22 (v23 + 1) ∧ m26 v22 (v23 + 1) < m26 v22 v23) ∧
          ((¬ (z65 = 0)) →
            ∃ b72 : Nat, v59 = (b72 : Int) ∧
            jtg N b72 = 4 ∧
            ∃ (P75 : Int → Prop), wqX3_isOne b72 N F A P75 ∧
            ∀ z77, P75 z77 →
            ((z77 = 0) →
              jR (v23 + 1) ∧
              I25 v22 (v23 + 1) ∧ m26 v22 (v23 + 1) < m26 v22 v23) ∧
            ((¬ (z77 = 0)) →
              ∃ (P84 : Int → Prop), wqSo S a2 v47 v59 N F A P84 ∧
              ∀ z86, P84 z86 →
              ((¬ z86 = 0) →
                ((¬ v22 = a1) →
                  jR (v22 + 1) ∧
                  jR (v23 + 1) ∧
                  I25 (v22 + 1) (v23 + 1) ∧ m26 (v22 + 1) (v23 + 1) < m26 v22 v23) ∧
                ((v22 = a1) →
                  jR ((100 * v2) + v23) ∧
                  Q ((100 * v2) + v23))) ∧
              ((z86 = 0) →
                jR (v23 + 1) ∧
                I25 v22 (v23 + 1) ∧ m26 v22 (v23 + 1) < m26 v22 v23)))))
theorem vX0_twos {G : jG} {l : Launch} [jOff l] {d : Nat} {N : jSh} {F : jFl} {A : jAr} {o : Nat} {a1 a2 : Int} {Q : Int → Prop} (hd : 6 ≤ d) (hW : jWg G N F A) (ht : jtg N o = 1) (ra1 : jR a1) (h : wqX0_twos (gS G) o a1 a2 N F A Q) : jCall G l d mX0_twos [vR (o : Int), vI a1, vR a2] N F A (jpI N F A Q) := by
  unfold wqX0_twos at h
  refine jCall.of (by decide) rfl (ls := [vR (o : Int), vI a1, vR a2, jD, jD, jD, jD, jD]) (by simp only [jent_R, jent_I, jent_L, jent_nil]; exact Nat.le_of_ble_eq_true rfl) (by simp only [jloc, jent_R, jent_I, jent_L, jent_nil]; rfl) ?_
  refine j_iconst dX0_twos_0 ?_
  refine j_istore_n dX0_twos_1 (jokR rfl (Nat.le_of_ble_eq_true rfl)) ?_
  refine j_iconst dX0_twos_2 ?_
  refine j_istore dX0_twos_3 rfl ?_
  obtain ⟨I4, m5, h0, hs⟩ := h
  have lp : ∀ (n : Nat) (v1 : Int) (v2 : Int), m5 v1 v2 < n → jR v1 → jR v2 → I4 v1 v2 → J G l d mX0_twos 5 [vR (o : Int), vI a1, vR a2, vI v1, vI v2, jD, jD, jD] [] N F A (jpI N F A Q) := by
    intro nI4
    induction nI4 with
    | zero =>
      intro v1 v2 hmu
      exact absurd hmu (Nat.not_lt_zero _)
    | succ nI4 ihI4 =>
      intro v1 v2 hmuI4 rv1 rv2 hI
      have h := hs v1 v2 hI
      refine j_iload dX0_twos_5 rfl ?_
      refine r_aload_n dX0_twos_7 rfl ?_
      refine r_gR dX0_twos_8 flX0_20_1 rfl ht rfl ?_
      obtain ⟨b6, hz7, h⟩ := h
      obtain ⟨t8, h⟩ := h
      refine r_gRF dX0_twos_11 flX0_206_2 hz7 t8 rfl ?_
      obtain ⟨b9, hz10, h⟩ := h
      obtain ⟨t11, h⟩ := h
      obtain ⟨P12, hp13, h⟩ := h
      refine r_invV (ci := 20) (As := []) (rest := [vI v2]) dX0_twos_14 lkX0_128 hz10 t11 rfl rfl (vJ2_size (d := 2) (Nat.le_of_ble_eq_true rfl) hW t11  hp13) rfl rfl (Nat.le_of_ble_eq_true rfl) (Nat.le_trans (Nat.le_of_ble_eq_true rfl) hd) (jkpI fun z14 p17 r18 => ?_)
      have h := h z14 p17
      obtain ⟨h1, h2⟩ := h
      refine j_icmp_ge 142 dX0_twos_17 rfl rv2 r18 (fun q19 => ?_) (fun q19 => ?_)
      · have h := h1 q19
        clear h1 h2
        refine j_iconst dX0_twos_142 ?_
        exact j_iret dX0_twos_143 rfl ⟨_, rfl, rfl, rfl, rfl, h, (by decide)⟩
      · have h := h2 q19
        clear h1 h2
        refine j_iload dX0_twos_20 rfl ?_
        refine j_iconst dX0_twos_22 ?_
        refine j_iadd dX0_twos_23 ?_
        obtain ⟨r20, h⟩ := h
        obtain ⟨v21, ev21⟩ : ∃ x : Int, x = v2 + 1 := ⟨_, rfl⟩
        have h := h v21 ev21
        refine jnmI (e := ev21) ?_
        refine j_istore dX0_twos_24 rfl ?_
        obtain ⟨I25, m26, h0, hs⟩ := h
        have lp : ∀ (n : Nat) (v22 : Int) (v23 : Int), m26 v22 v23 < n → jR v22 → jR v23 → I25 v22 v23 → J G l d mX0_twos 26 [vR (o : Int), vI a1, vR a2, vI v22, vI v2, vI v23, jD, jD] [] N F A (jpI N F A Q) := by
          intro nI25
          induction nI25 with
          | zero =>
            intro v22 v23 hmu
            exact absurd hmu (Nat.not_lt_zero _)
          | succ nI25 ihI25 =>
            intro v22 v23 hmuI25 rv22 rv23 hI
            have h := hs v22 v23 hI
            refine j_iload dX0_twos_26 rfl ?_
            refine r_aload_n dX0_twos_28 rfl ?_
            refine r_gR dX0_twos_29 flX0_20_1 rfl ht rfl ?_
            refine r_gRF dX0_twos_32 flX0_206_2 hz7 t8 rfl ?_
            obtain ⟨P27, hp28, h⟩ := h
            refine r_invV (ci := 20) (As := []) (rest := [vI v23]) dX0_twos_35 lkX0_128 hz10 t11 rfl rfl (vJ2_size (d := 2) (Nat.le_of_ble_eq_true rfl) hW t11  hp28) rfl rfl (Nat.le_of_ble_eq_true rfl) (Nat.le_trans (Nat.le_of_ble_eq_true rfl) hd) (jkpI fun z29 p32 r33 => ?_)
            have h := h z29 p32
            obtain ⟨h1, h2⟩ := h
            refine j_icmp_ge 136 dX0_twos_38 rfl rv23 r33 (fun q34 => ?_) (fun q34 => ?_)
            · have h := h1 q34
              clear h1 h2
              obtain ⟨r35, h⟩ := h
              refine j_iinc dX0_twos_136 rfl rfl ?_
              refine j_goto 5 dX0_twos_139 rfl ?_
              exact J.wk (((((((((jWk.nil).no).no).no).eq).eq).eq).eq).eq) (ihI4 _ _ (Nat.lt_of_lt_of_le h.2 (Nat.le_of_lt_succ hmuI4)) rv22 r35 h.1)
            · have h := h2 q34
              clear h1 h2
              refine r_aload_n dX0_twos_41 rfl ?_
              refine r_gR dX0_twos_42 flX0_20_1 rfl ht rfl ?_
              refine r_gRF dX0_twos_45 flX0_206_2 hz7 t8 rfl ?_
              refine j_iload dX0_twos_48 rfl ?_
              obtain ⟨P36, hp37, h⟩ := h
              refine r_invV (ci := 20) (As := [vI v2]) (rest := []) dX0_twos_50 lkX0_132 hz10 t11 rfl rfl (vJ2_get (d := 4) (Nat.le_of_ble_eq_true rfl) hW t11 rv2 hp37) rfl rfl (Nat.le_of_ble_eq_true rfl) (Nat.le_trans (Nat.le_of_ble_eq_true rfl) hd) (jkpR fun z38 p41 r42 => ?_)
              have h := h z38 p41
              obtain ⟨j43, h⟩ := h
              refine r_chk dX0_twos_53 q1295 j43 ?_
              obtain ⟨b44, hz45, h⟩ := h
              obtain ⟨t46, h⟩ := h
              refine r_gRF dX0_twos_56 flX0_243_17 hz45 t46 rfl ?_
              obtain ⟨v47, ev47⟩ : ∃ x : Int, x = jfn N 5102 b44 := ⟨_, rfl⟩
              have h := h v47 ev47
              refine jnmR (e := ev47) ?_
              refine r_astore dX0_twos_59 rfl ?_
              refine r_aload_n dX0_twos_61 rfl ?_
              refine r_gR dX0_twos_62 flX0_20_1 rfl ht rfl ?_
              refine r_gRF dX0_twos_65 flX0_206_2 hz7 t8 rfl ?_
              refine j_iload dX0_twos_68 rfl ?_
              obtain ⟨P48, hp49, h⟩ := h
              refine r_invV (ci := 20) (As := [vI v23]) (rest := []) dX0_twos_70 lkX0_132 hz10 t11 rfl rfl (vJ2_get (d := 4) (Nat.le_of_ble_eq_true rfl) hW t11 rv23 hp49) rfl rfl (Nat.le_of_ble_eq_true rfl) (Nat.le_trans (Nat.le_of_ble_eq_true rfl) hd) (jkpR fun z50 p53 r54 => ?_)
              have h := h z50 p53
              obtain ⟨j55, h⟩ := h
              refine r_chk dX0_twos_73 q1295 j55 ?_
              obtain ⟨b56, hz57, h⟩ := h
              obtain ⟨t58, h⟩ := h
              refine r_gRF dX0_twos_76 flX0_243_17 hz57 t58 rfl ?_
              obtain ⟨v59, ev59⟩ : ∃ x : Int, x = jfn N 5102 b56 := ⟨_, rfl⟩
              have h := h v59 ev59
              refine jnmR (e := ev59) ?_
              refine r_astore dX0_twos_79 (jokR rfl (Nat.le_of_ble_eq_true rfl)) ?_
              refine r_aload dX0_twos_81 rfl ?_
              obtain ⟨b60, hz61, h⟩ := h
              obtain ⟨t62, h⟩ := h
              obtain ⟨P63, hp64, h⟩ := h
              refine r_invV (ci := 4) (As := []) (rest := []) dX0_twos_83 lkX0_246 hz61 t62 rfl rfl (vX3_isOne (d := 2) (Nat.le_of_ble_eq_true rfl) hW t62  hp64) rfl rfl (Nat.le_of_ble_eq_true rfl) (Nat.le_trans (Nat.le_of_ble_eq_true rfl) hd) (jkpB fun z65 p68 r69 => ?_)
              have h := h z65 p68
              obtain ⟨h1, h2⟩ := h
              refine j_if_eq 130 dX0_twos_86 rfl (jR_b r69) (fun q70 => ?_) (fun q70 => ?_)
              · have h := h1 q70
                clear h1 h2
                obtain ⟨r71, h⟩ := h
                refine j_iinc dX0_twos_130 rfl rfl ?_
                refine j_goto 26 dX0_twos_133 rfl ?_
                exact J.wk (((((((((jWk.nil).no).no).eq).eq).eq).eq).eq).eq) (ihI25 _ _ (Nat.lt_of_lt_of_le h.2 (Nat.le_of_lt_succ hmuI25)) rv22 r71 h.1)
              · have h := h2 q70
                clear h1 h2
                refine r_aload dX0_twos_89 rfl ?_
                obtain ⟨b72, hz73, h⟩ := h
                obtain ⟨t74, h⟩ := h
                obtain ⟨P75, hp76, h⟩ := h
                refine r_invV (ci := 4) (As := []) (rest := []) dX0_twos_91 lkX0_246 hz73 t74 rfl rfl (vX3_isOne (d := 2) (Nat.le_of_ble_eq_true rfl) hW t74  hp76) rfl rfl (Nat.le_of_ble_eq_true rfl) (Nat.le_trans (Nat.le_of_ble_eq_true rfl) hd) (jkpB fun z77 p80 r81 => ?_)
                have h := h z77 p80
                obtain ⟨h1, h2⟩ := h
                refine j_if_eq 130 dX0_twos_94 rfl (jR_b r81) (fun q82 => ?_) (fun q82 => ?_)
                · have h := h1 q82
                  clear h1 h2
                  obtain ⟨r83, h⟩ := h
                  refine j_iinc dX0_twos_130 rfl rfl ?_
                  refine j_goto 26 dX0_twos_133 rfl ?_
                  exact J.wk (((((((((jWk.nil).no).no).eq).eq).eq).eq).eq).eq) (ihI25 _ _ (Nat.lt_of_lt_of_le h.2 (Nat.le_of_lt_succ hmuI25)) rv22 r83 h.1)
                · have h := h2 q82
                  clear h1 h2
                  refine r_aload_n dX0_twos_97 rfl ?_
                  refine r_aload dX0_twos_98 rfl ?_
                  refine r_aload dX0_twos_100 rfl ?_
                  obtain ⟨P84, hp85, h⟩ := h
                  refine r_soW rfl dX0_twos_102 hW hp85 (Nat.le_trans (Nat.le_of_ble_eq_true rfl) hd) (Nat.le_of_ble_eq_true rfl) fun z86 p87 r88 => ?_
                  have h := h z86 p87
                  obtain ⟨h1, h2⟩ := h
                  refine j_if_ne 113 dX0_twos_107 rfl (jR_b r88) (fun q89 => ?_) (fun q89 => ?_)
                  · have h := h1 q89
                    clear h1 h2
                    refine j_iload_n dX0_twos_113 rfl ?_
                    refine j_iload_n dX0_twos_114 rfl ?_
                    obtain ⟨h1, h2⟩ := h
                    refine j_icmp_ne 127 dX0_twos_115 rfl rv22 ra1 (fun q90 => ?_) (fun q90 => ?_)
                    · have h := h1 q90
                      clear h1 h2
                      obtain ⟨r91, h⟩ := h
                      refine j_iinc dX0_twos_127 rfl (jokR rfl (Nat.le_of_ble_eq_true rfl)) ?_
                      obtain ⟨r92, h⟩ := h
                      refine j_iinc dX0_twos_130 rfl rfl ?_
                      refine j_goto 26 dX0_twos_133 rfl ?_
                      exact J.wk (((((((((jWk.nil).no).no).eq).eq).eq).eq).eq).eq) (ihI25 _ _ (Nat.lt_of_lt_of_le h.2 (Nat.le_of_lt_succ hmuI25)) r91 r92 h.1)
                    · have h := h2 (Classical.not_not.mp q90)
                      clear h1 h2
                      refine j_bipush dX0_twos_118 ?_
                      refine j_iload dX0_twos_120 rfl ?_
                      refine j_imul dX0_twos_122 ?_
                      refine j_iload dX0_twos_123 rfl ?_
                      refine j_iadd dX0_twos_125 ?_
                      obtain ⟨r93, h⟩ := h
                      exact j_iret dX0_twos_126 rfl ⟨_, rfl, rfl, rfl, rfl, h, r93⟩
                  · have h := h2 (Classical.not_not.mp q89)
                    clear h1 h2
                    refine j_goto 130 dX0_twos_110 rfl ?_
                    obtain ⟨r94, h⟩ := h
                    refine j_iinc dX0_twos_130 rfl rfl ?_
                    refine j_goto 26 dX0_twos_133 rfl ?_
                    exact J.wk (((((((((jWk.nil).no).no).eq).eq).eq).eq).eq).eq) (ihI25 _ _ (Nat.lt_of_lt_of_le h.2 (Nat.le_of_lt_succ hmuI25)) rv22 r94 h.1)
        exact J.wk (((((((((jWk.nil).no).no).eq).eq).eq).eq).eq).eq) (lp _ _ _ (Nat.lt_succ_self _) rv1 (ev21 ▸ r20) h0)
  exact J.wk (((((((((jWk.nil).no).no).no).eq).eq).eq).eq).eq) (lp _ _ _ (Nat.lt_succ_self _) (by decide) (by decide) h0)
/-- ChildSays.apart(I)I -/
def wqX0_apart (S : Nat → Nat) (o : Nat) (a1 : Int) (N : jSh) (F : jFl) (A : jAr) (Q : Int → Prop) : Prop :=
  ∃ (P1 : Int → Prop), wqX0_twos S o a1 (S 24 : Int) N F A P1 ∧
  ∀ z3, P1 z3 →
  Q z3
theorem vX0_apart {G : jG} {l : Launch} [jOff l] {d : Nat} {N : jSh} {F : jFl} {A : jAr} {o : Nat} {a1 : Int} {Q : Int → Prop} (hd : 50 ≤ d) (hW : jWg G N F A) (ht : jtg N o = 1) (ra1 : jR a1) (h : wqX0_apart (gS G) o a1 N F A Q) : jCall G l d mX0_apart [vR (o : Int), vI a1] N F A (jpI N F A Q) := by
  unfold wqX0_apart at h
  refine jCall.ofI (i := "lambda$apart$0") (q := jlm[0]) (by decide) rfl rfl dX0_apart_0 dX0_apart_1 dX0_apart_2 List.mem_cons_self rfl rfl rfl rfl (Nat.le_trans (Nat.le_of_ble_eq_true rfl) hd) ?_
  obtain ⟨P1, hp2, h⟩ := h
  refine r_invV (ci := 1) (As := [vI a1, vR (gS G 24 : Int)]) (rest := []) dX0_apart_7 lkX0_493 rfl ht rfl rfl (vX0_twos (d := 6) (Nat.le_of_ble_eq_true rfl) hW ht ra1 hp2) rfl rfl (Nat.le_of_ble_eq_true rfl) (Nat.le_trans (Nat.le_of_ble_eq_true rfl) hd) (jkpI fun z3 p6 r7 => ?_)
  have h := h z3 p6
  exact j_iret dX0_apart_10 rfl ⟨_, rfl, rfl, rfl, rfl, h, r7⟩
/-- ChildSays.against(I)I -/
def wqX0_against (S : Nat → Nat) (o : Nat) (a1 : Int) (N : jSh) (F : jFl) (A : jAr) (Q : Int → Prop) : Prop :=
  ∃ (P1 : Int → Prop), wqX0_twos S o a1 (S 25 : Int) N F A P1 ∧
  ∀ z3, P1 z3 →
  Q z3
theorem vX0_against {G : jG} {l : Launch} [jOff l] {d : Nat} {N : jSh} {F : jFl} {A : jAr} {o : Nat} {a1 : Int} {Q : Int → Prop} (hd : 50 ≤ d) (hW : jWg G N F A) (ht : jtg N o = 1) (ra1 : jR a1) (h : wqX0_against (gS G) o a1 N F A Q) : jCall G l d mX0_against [vR (o : Int), vI a1] N F A (jpI N F A Q) := by
  unfold wqX0_against at h
  refine jCall.ofI (i := "lambda$against$1") (q := jlm[1]) (by decide) rfl rfl dX0_against_0 dX0_against_1 dX0_against_2 (List.mem_cons_of_mem _ List.mem_cons_self) rfl rfl rfl rfl (Nat.le_trans (Nat.le_of_ble_eq_true rfl) hd) ?_
  obtain ⟨P1, hp2, h⟩ := h
  refine r_invV (ci := 1) (As := [vI a1, vR (gS G 25 : Int)]) (rest := []) dX0_against_7 lkX0_493 rfl ht rfl rfl (vX0_twos (d := 6) (Nat.le_of_ble_eq_true rfl) hW ht ra1 hp2) rfl rfl (Nat.le_of_ble_eq_true rfl) (Nat.le_trans (Nat.le_of_ble_eq_true rfl) hd) (jkpI fun z3 p6 r7 => ?_)
  have h := h z3 p6
  exact j_iret dX0_against_10 rfl ⟨_, rfl, rfl, rfl, rfl, h, r7⟩
