set_option maxRecDepth 100000
/-! rows: statics, String constants, casts, calls of inherited methods, System.arraycopy, class objects -/
section JR6
variable {G : jG} {l : Launch} {d : Nat} {k : jM} {pc : Nat} {ls st : List Value} {N : jSh} {F : jFl} {A : jAr} {post : jPo}
/-- a static field's value -/
theorem r_gets {i : Nat} {q : String × String × String × Nat} {v : Value} (hd : decode k.2.1 pc = .ok (.getstatic i, 3)) (hq : q ∈ jst) (hl : Cond.fieldLink k.1.cls i q.1 q.2.1 q.2.2.1 ∈ lw_all) (hv : jsv G q.2.2.2 = v) (h : J G l d k (pc + 3) ls (v :: st) N F A post) : J G l d k pc ls st N F A post :=
  J.go (fun {p e R s m args below meth c H locs cells slots Q a} X _ hS _ w => by
    have hts := X.2.2.2.2.2.2.2.1
    have hZ := X.2.2.2.2.2.2.2.2.2.1.1 q hq
    rw [hv] at hZ
    exact va_gets X.1 X.2.1 hZ hS X.2.2.2.2.2.1 (hts _ hl) (fun x hx => hx) hd w) h
theorem r_ldcs {i n : Nat} {tx : String} (hd : decode k.2.1 pc = .ok (.ldc i, 2)) (hq : (k.1.cls, i, tx, n) ∈ jstr) (h : J G l d k (pc + 2) ls (vR (gS G n : Int) :: st) N F A post) : J G l d k pc ls st N F A post := by
  rw [vR_nat] at h
  exact J.go (fun X _ _ _ w => va_ldcS X.1 X.2.1 X.2.2.2.2.2.1 (X.2.2.2.2.2.2.2.2.2.1.2.1 _ hq) hd w) h
theorem r_ldcsw {i n : Nat} {tx : String} (hd : decode k.2.1 pc = .ok (.ldc_w i, 3)) (hq : (k.1.cls, i, tx, n) ∈ jstr) (h : J G l d k (pc + 3) ls (vR (gS G n : Int) :: st) N F A post) : J G l d k pc ls st N F A post := by
  rw [vR_nat] at h
  exact J.go (fun {p e R s m args below meth c H locs cells slots Q a} X _ _ _ w => by
    have hZ := X.2.2.2.2.2.2.2.2.2.1.2.1 _ hq
    intro T hT Y
    obtain ⟨t, a1, b1⟩ := w T hT Y
    refine ⟨t, ?_, b1⟩
    obtain ⟨k0, cf, i0, a', hk, hcf, hcp, -, hr, hev'⟩ := Cond.stringRef_spec X.2.2.2.2.2.1 hZ.1
    cases hZ.2.symm.trans hev'
    obtain ⟨k', hk', he⟩ := Y.warmed.alike.2.2 _ _ hk
    have hr' : k'.resolved[i]? = some (some (.string (gS G n))) := by
      rcases Y.warmed.entry hk hk' i with h | ⟨h, -⟩
      · rw [h]; exact hr
      · rw [hr] at h; cases h
    have hb : c.code = k.2.1 := X.2.1
    jvm_step Y.here [X.1, hb, hd, Op.ldc_w.wp_string (e := e) (s := T) (f := F0 m pc a st) Y.here.top hk' (by rw [he]; exact hcf) hcp hr']
    exact a1) h
theorem r_ldcM {i : Nat} (hd : decode k.2.1 pc = .ok (.ldc i, 2)) (hl : Cond.classLink k.1.cls i "[Ljava/lang/Object;" ∈ lw_all) (h : J G l d k (pc + 2) ls (vR (gS G 20 : Int) :: st) N F A post) : J G l d k pc ls st N F A post := by
  rw [vR_nat] at h
  exact J.go (fun X _ _ _ w => va_ldcM X.1 X.2.1 X.2.2.2.2.2.1 (X.2.2.2.2.2.2.2.1 _ hl) X.2.2.2.2.2.2.2.2.2.1.2.2.1 hd w) h
/-- a cast that succeeds -/
def jcst (N : jSh) (C : String) (z : Int) : Prop := z < 0 ∨ ∃ (b : Nat) (cl : jC), z = (b : Int) ∧ jcls (jtg N b) = some cl ∧ (C = cl.1 ∨ Cond.castable cl.1 C ∈ jnw)
theorem r_chk' {i b ci : Nat} {cl : jC} {C : String} (hd : decode k.2.1 pc = .ok (.checkcast i, 3)) (hl : Cond.classLink k.1.cls i C ∈ lw_all) (ht : jtg N b = ci) (hc : jcls ci = some cl) (hcs : C = cl.1 ∨ Cond.castable cl.1 C ∈ jnw) (h : J G l d k (pc + 3) ls (.ref b :: st) N F A post) : J G l d k pc ls (.ref b :: st) N F A post :=
  J.go (fun {p e R s m args below meth c H locs cells slots Q a} X hRep _ _ w => by
    have hts := X.2.2.2.2.2.2.2.1
    have hK := X.2.2.2.2.2.2.2.2.1
    obtain ⟨cell, h1, h2, h3⟩ := jrecv hK hRep ht hc
    rcases hcs with rfl | hcs
    · intro T hT Y
      obtain ⟨vm', X', stp⟩ := Y.checkcastYes X.1 X.2.2.2.2.2.1 (hts _ hl) (by rw [hT]; exact h1) h2 h3 (va_asg _ _) (g := F0 m pc a (.ref b :: st)) rfl rfl (by rw [X.2.1]; exact hd)
      obtain ⟨t, a1, b1⟩ := w (T.setVm vm') hT X'
      exact ⟨t, stp t a1, b1⟩
    · exact va_castY X.1 X.2.1 X.2.2.2.2.2.1 (hts _ hl) (hK.2.2.1 _ hcs) ⟨cell, h1, h2, h3⟩ hd w) h
theorem r_chk {i : Nat} {C : String} {z : Int} (hd : decode k.2.1 pc = .ok (.checkcast i, 3)) (hl : Cond.classLink k.1.cls i C ∈ lw_all) (hz : jcst N C z) (h : J G l d k (pc + 3) ls (vR z :: st) N F A post) : J G l d k pc ls (vR z :: st) N F A post := by
  rcases hz with hz | ⟨b, cl, rfl, hc, hcs⟩
  · rw [vR_neg hz] at h ⊢
    exact J.go (fun X _ _ _ w => lv_castN X.1 X.2.1 hd w) h
  · rw [vR_nat] at h ⊢
    exact r_chk' hd hl rfl hc hcs h
/-- .. of an array to its own type -/
theorem r_chkA {i b t : Nat} {C : String} {z : Int} (hd : decode k.2.1 pc = .ok (.checkcast i, 3)) (hz : z = (b : Int)) (ht : jtg N b = t) (hty : jty t = some (.object C)) (hl : Cond.classLink k.1.cls i ("[" ++ (FieldType.object C).toString) ∈ lw_all) (hcl : ∀ cell : Cell, True) (hB : gB G ≤ b) (h : J G l d k (pc + 3) ls (vR z :: st) N F A post) : J G l d k pc ls (vR z :: st) N F A post := by
  rw [vR_n hz] at h ⊢
  exact J.go (fun {p e R s m args below meth c H locs cells slots Q a} X hRep _ _ w => by
    have hts := X.2.2.2.2.2.2.2.1
    have hK := X.2.2.2.2.2.2.2.2.1
    obtain ⟨cell, h1, h2, h3, h4, h5, h6, h7, h8⟩ := hRep.2.2 b (.object C) (by rw [ht]; exact hty)
    obtain ⟨hc0, hc1, -⟩ := h7 hB
    rw [ht] at hc1
    obtain ⟨-, -, -, -, -, k4⟩ := (hK.2.1 t _ hty).2
    intro T hT Y
    obtain ⟨vm', X', stp⟩ := Y.checkcastYes X.1 X.2.2.2.2.2.1 (hts _ hl) (by rw [hT]; exact h1) (by rw [hc0]; rfl) k4 (by rw [hc1]; exact va_asg _ _) (g := F0 m pc a (.ref b :: st)) rfl rfl (by rw [X.2.1]; exact hd)
    obtain ⟨t, a1, b1⟩ := w (T.setVm vm') hT X'
    exact ⟨t, stp t a1, b1⟩) h
theorem r_instY {i b ci : Nat} {cl : jC} {z : Int} (hd : decode k.2.1 pc = .ok (.instanceof i, 3)) (hz : z = (b : Int)) (ht : jtg N b = ci) (hc : jcls ci = some cl) (hl : Cond.classLink k.1.cls i cl.1 ∈ lw_all) (h : J G l d k (pc + 3) ls (vI 1 :: st) N F A post) : J G l d k pc ls (vR z :: st) N F A post := by
  rw [vR_n hz]
  exact J.go (fun {p e R s m args below meth c H locs cells slots Q a} X hRep _ _ w => va_instE X.1 X.2.1 X.2.2.2.2.2.1 (X.2.2.2.2.2.2.2.1 _ hl) (jrecv X.2.2.2.2.2.2.2.2.1 hRep ht hc) hd w) h
/-! calls of inherited methods -/
def jLU (own : String) (i : Nat) (C : String) (x : MethodName) (y : jM) (n : Nat) : Prop := jcode y ∧ (y.1.cls ≠ "java/lang/invoke/MethodHandle" ∧ y.1.cls ≠ "java/lang/invoke/VarHandle" ∧ (parseMethodDescriptor x.desc).map (fun d => d.parameters.length) = some n) ∧ y.1 = ⟨y.1.cls, x.name, x.desc⟩ ∧ Cond.methodLink own i x ∈ lw_all ∧ Cond.sameMethod x.cls y.1.cls x.name x.desc ∈ lw_all ∧ Cond.selects C x y.1 ∈ lw_all ∧ Cond.instanceMethod y.1 ∈ lw_all
def jLSU (own : String) (i : Nat) (y : jM) (n : Nat) : Prop := jcode y ∧ (y.1.name ≠ "<init>" ∧ (parseMethodDescriptor y.1.desc).map (fun d => d.parameters.length) = some n) ∧ Cond.methodLink own i y.1 ∈ lw_all ∧ Cond.sameMethod y.1.cls y.1.cls y.1.name y.1.desc ∈ lw_all ∧ Cond.superclass own y.1.cls ∈ lw_all ∧ Cond.instanceMethod y.1 ∈ lw_all
theorem lw_U {own : String} {idx : Nat} {C owner : String} {x y : MethodName} {b : ByteArray} {L : Nat} {r : Option FieldType} (h1 : Cond.methodLink own idx x ∈ lw_all) (h2 : Cond.sameMethod x.cls owner x.name x.desc ∈ lw_all) (h3 : Cond.selects C x y ∈ lw_all) (h4 : Cond.instanceMethod y ∈ lw_all) (h5 : Cond.initialized y.cls ∈ lw_all) (h6 : Cond.code y b L r ∈ lw_all) : GoodIn lw_all (va_wsU own idx C owner x y (ws_ y b L r)) := by
  refine lw_app ?_ (lw_meth h6)
  intro w hw
  simp only [List.mem_cons, List.not_mem_nil, or_false] at hw
  rcases hw with e | e | e | e | e <;> rw [e] <;> assumption
theorem lw_SU {own : String} {idx : Nat} {y : MethodName} {b : ByteArray} {L : Nat} {r : Option FieldType} (h1 : Cond.methodLink own idx y ∈ lw_all) (h2 : Cond.sameMethod y.cls y.cls y.name y.desc ∈ lw_all) (h3 : Cond.superclass own y.cls ∈ lw_all) (h4 : Cond.instanceMethod y ∈ lw_all) (h5 : Cond.initialized y.cls ∈ lw_all) (h6 : Cond.code y b L r ∈ lw_all) : GoodIn lw_all (va_wsSU own idx y (ws_ y b L r)) := by
  refine lw_app ?_ (lw_meth h6)
  intro w hw
  simp only [List.mem_cons, List.not_mem_nil, or_false] at hw
  rcases hw with e | e | e | e | e <;> rw [e] <;> assumption
theorem r_invU {i n b ci d2 : Nat} {z : Int} {cl : jC} {x : MethodName} {y : jM} {As rest : List Value} {P1 : jPo} (hc : jcls ci = some cl) (hd : decode k.2.1 pc = .ok (.invokevirtual i, 3)) (hl : jLU k.1.cls i cl.1 x y n) (hz : z = (b : Int)) (htg : jtg N b = ci) (hC : jCall G l d2 y (vR (b : Int) :: As) N F A P1) (hn : As.length = n) (hst : st = As.reverse ++ vR z :: rest) (hcat : rest.length ≤ 4) (hdd : d2 + 1 ≤ d)
    (kk : ∀ (o : Outcome) (N' : jSh) (F' : jFl) (A' : jAr), P1 o N' F' A' → jnx N ≤ jnx N' → (∃ v, o = .returned v ∧ J G l d k (pc + 3) ls (v.toList ++ rest) N' F' A' post) ∨ ∃ q, o = .threw q ∧ JT G l d k pc ls rest q N' F' A' post) : J G l d k pc ls st N F A post := by
  rw [vR_n hz] at hst
  rw [vR_nat] at hC
  refine J.callx hC (fun {o N' F' A'} hX {p e R s m args below meth c H locs cells slots a} X h1 h2 h3 h4 hRep hS hL => ?_) kk
  obtain ⟨y1, y2, y3, y4, y5⟩ := y
  obtain ⟨⟨hy5, hy3, hcode, hini⟩, hm, hyx, hlk, hsm, hse, hin⟩ := hl
  cases hy5
  subst hst
  exact vy_runU (C := cl.1) (owner := y1.cls) (x := x) (As := As) (rest := rest) (jFix X) hX.2.2 (va_cwU n X.2.2.2.2.2.2.2.1 (lw_U hlk hsm hse hin hini hcode) rfl rfl rfl hyx hm ⟨by show d2 + 1 ≤ _; omega, by show 8 + (y3 + 11) + 64 * d2 ≤ _; have : y3 ≤ 45 := hy3; omega⟩)
    ⟨jPre.blind, jrecv X.2.2.2.2.2.2.2.2.1 hRep htg hc, fun U hU hW => ⟨rfl, jPre.call X.2.2.2.2.2.2.2.2.1 X.2.2.2.2.2.2.2.2.2.1 X.2.2.2.2.2.2.2.2.2.2.1 hRep hS U hU hW⟩⟩ rfl hn hL.2.1 rfl (lv_room (jcat4 hcat)) hd ⟨h1, h2⟩
theorem r_invSU {i n b ci d2 : Nat} {z : Int} {cl : jC} {y : jM} {As rest : List Value} {P1 : jPo} (hd : decode k.2.1 pc = .ok (.invokespecial i, 3)) (hl : jLSU k.1.cls i y n) (hz : z = (b : Int)) (htg : jtg N b = ci) (hc : jcls ci = some cl) (hC : jCall G l d2 y (vR (b : Int) :: As) N F A P1) (hn : As.length = n) (hst : st = As.reverse ++ vR z :: rest) (hcat : rest.length ≤ 4) (hdd : d2 + 1 ≤ d)
    (kk : ∀ (o : Outcome) (N' : jSh) (F' : jFl) (A' : jAr), P1 o N' F' A' → jnx N ≤ jnx N' → (∃ v, o = .returned v ∧ J G l d k (pc + 3) ls (v.toList ++ rest) N' F' A' post) ∨ ∃ q, o = .threw q ∧ JT G l d k pc ls rest q N' F' A' post) : J G l d k pc ls st N F A post := by
  rw [vR_n hz] at hst
  rw [vR_nat] at hC
  refine J.callx hC (fun {o N' F' A'} hX {p e R s m args below meth c H locs cells slots a} X h1 h2 h3 h4 hRep hS hL => ?_) kk
  obtain ⟨y1, y2, y3, y4, y5⟩ := y
  obtain ⟨⟨hy5, hy3, hcode, hini⟩, hm, hlk, hsm, hsu, hin⟩ := hl
  cases hy5
  subst hst
  have hK := X.2.2.2.2.2.2.2.2.1
  exact vy_runSU (C := cl.1) (As := As) (rest := rest) (hK.1 ci cl hc).2 (jFix X) hX.2.2 (va_cwSU n X.2.2.2.2.2.2.2.1 (lw_SU hlk hsm hsu hin hini hcode) rfl rfl rfl hm ⟨by show d2 + 1 ≤ _; omega, by show 8 + (y3 + 11) + 64 * d2 ≤ _; have : y3 ≤ 45 := hy3; omega⟩)
    ⟨jPre.blind, jrecv hK hRep htg hc, fun U hU hW => ⟨rfl, jPre.call X.2.2.2.2.2.2.2.2.1 X.2.2.2.2.2.2.2.2.2.1 X.2.2.2.2.2.2.2.2.2.2.1 hRep hS U hU hW⟩⟩ rfl hn hL.2.1 rfl (lv_room (jcat4 hcat)) hd ⟨h1, h2⟩
/-! System.arraycopy -/
/-- n cells of src from sp on, laid into dst from dp on -/
def cpA (A : jAr) (src dst : Nat) (sp dp n : Int) : jAr := fun b j => if b = dst ∧ dp ≤ j ∧ j < dp + n then A src (j - dp + sp) else A b j
theorem r_copy {i a0 a t : Nat} {ty : FieldType} {y0 y sp dp n : Int} (hd : decode k.2.1 pc = .ok (.invokestatic i, 3)) (hl : Cond.methodLink k.1.cls i arraycopyName ∈ lw_all) (hy0 : y0 = (a0 : Int)) (hy : y = (a : Int)) (ht0 : jtg N a0 = t) (ht : jtg N a = t) (hty : jty t = some ty) (hB : gB G ≤ a)
    (hsp : 0 ≤ sp) (hdp : 0 ≤ dp) (hn : 0 ≤ n) (h1 : sp + n ≤ (jln N a0 : Int)) (h2 : dp + n ≤ (jln N a : Int))
    (hel : ∀ j : Int, sp ≤ j → j < sp + n → match ty with | .object C => jast N C (A a0 j) | .byte => -128 ≤ A a0 j ∧ A a0 j ≤ 127 | _ => False) (hty2 : ∀ C, ty = .object C → t % 3 = 2) (hty3 : ty = .byte → t % 3 = 0) (hcat : st.length ≤ 4) (hdd : 1 ≤ d)
    (h : J G l d k (pc + 3) ls st N F (cpA A a0 a sp dp n) post) : J G l d k pc ls (vI n :: vI dp :: vR y :: vI sp :: vR y0 :: st) N F A post := by
  rw [vR_n hy0, vR_n hy]
  obtain ⟨o, N', F', A', g1, g2, g3, g4⟩ := h
  refine ⟨o, N', F', A', g1, g2, g3, ?_⟩
  intro p e R s m args below meth c H locs cells slots mc ms ar X hcc hss hmc hms hd2 hl2 hRep hS hL
  have hts := X.2.2.2.2.2.2.2.1
  have hK := X.2.2.2.2.2.2.2.2.1
  obtain ⟨cs, s1, s2, s3, s4, s5, s6, s7, s8⟩ := hRep.2.2 a0 ty (by rw [ht0]; exact hty)
  obtain ⟨cd, d1, dd2, d3, d4, d5, d6, d7, d8⟩ := hRep.2.2 a ty (by rw [ht]; exact hty)
  obtain ⟨dv, dc, dz⟩ := d7 hB
  rw [ht0] at s8
  rw [ht] at d8 dc
  obtain ⟨ks, hks, cms, hkks⟩ := s2.2
  obtain ⟨kd, hkd, cmd, hkkd⟩ := dd2.2
  have rr : ∀ z : Int, 0 ≤ z → z ≤ 2147483647 → jR z := fun z q1 q2 => by omega
  have rsp : jR sp := by omega
  have rdp : jR dp := by omega
  have rn : jR n := by omega
  have nsp : (Int32.ofInt sp).toNatClampNeg = sp.toNat := i32_nat hsp (by omega)
  have ndp : (Int32.ofInt dp).toNatClampNeg = dp.toNat := i32_nat hdp (by omega)
  have nn : (Int32.ofInt n).toNatClampNeg = n.toNat := i32_nat hn (by omega)
  have hnl : ∀ z : Int, 0 ≤ z → jR z → ¬ Int32.ofInt z < 0 := fun z q1 q2 q3 => by
    have := (i32_lt (x := z) (y := 0) q2 (by decide)).mp q3
    omega
  intro T hT Y
  obtain ⟨vm', X', step⟩ := Y.arraycopy X.1 X.2.2.2.2.2.1 (hts _ hl) (hts _ q1048) (hts _ q1047) (hts _ q176) (src := a0) (dst := a) (cs := cs) (cd := cd) (srcPos := Int32.ofInt sp) (destPos := Int32.ofInt dp) (n := Int32.ofInt n) (by rw [hT]; exact s1) (by rw [hT]; exact d1)
    s2.1 dd2.1 s3 d3 hks hkd hkks hkkd (by cases ty <;> simp [refKind]) (hnl _ hsp rsp) (hnl _ hdp rdp) (hnl _ hn rn) (by rw [i32_toInt rsp, i32_toInt rn]; omega) (by rw [i32_toInt rdp, i32_toInt rn]; omega)
    (fun vm₁ hal i hi => by
      rw [nn] at hi
      rw [nsp]
      have hi2 : sp.toNat + i < jln N a0 := by omega
      have e : cs.slots.getD (sp.toNat + i) .null = jval t (A a0 (sp + (i : Int))) := by
        rw [Array.getD_eq_getD_getElem?, s8 _ hi2]
        show jval t (A a0 ((sp.toNat + i : Nat) : Int)) = _
        rw [show ((sp.toNat + i : Nat) : Int) = sp + (i : Int) by omega]
      rw [e]
      have hj := hel (sp + (i : Int)) (by omega) (by omega)
      cases ty with
      | byte =>
        rw [jval_0 (hty3 rfl)]
        exact ⟨ft_byte hj, trivial⟩
      | object C =>
        rw [jval_2 (hty2 C rfl)]
        rcases hj with hj | ⟨b, cl, hj, hc, hcs⟩
        · rw [hj, ← vR_null]; exact ⟨rfl, trivial⟩
        · rw [hj, vR_nat]
          obtain ⟨cv, v1, v2, v3, v4, -⟩ := hRep.2.1 b cl hc
          obtain ⟨-, hfc, kC, hkC, hkind⟩ := hK.1 _ cl hc
          obtain ⟨kA, comp, k1, k2, k3, -⟩ := (hK.2.1 t _ hty).2
          rw [dc] at hkd
          cases hkd.symm.trans k1
          cases hkkd.symm.trans k2
          obtain ⟨kcomp, hkcomp, -⟩ := Vm.findClass_spec k3
          obtain ⟨kC', hkC', -⟩ := hal.2.2 _ _ hkC
          obtain ⟨kcomp', hkcomp', -⟩ := hal.2.2 _ _ hkcomp
          refine ⟨rfl, cv, (show T.heap[b]? = some cv by rw [hT]; exact v1), (fun q h => by rw [h] at v3; cases v3), ⟨kC', by rw [v2]; exact hkC'⟩, ⟨kcomp', hkcomp'⟩, ?_⟩
          show vm₁.assignable _ _ = true
          rw [hal.assignable, v2]
          rcases hcs with e | e
          · subst e
            exact vb_asgS cmd _ k3 hfc
          · exact vb_asgC (hK.2.2.1 _ e) cmd _ k3 hfc
      | _ => exact hj.elim)
    (g := F0 m pc ar (vI n :: vI dp :: .ref a :: vI sp :: .ref a0 :: st)) rfl (by rw [X.2.2.2.2.1]; exact hL.2.1) (rest := st) rfl (by rw [X.2.1]; exact hd) (by omega) (by
      have h8 := jcat4 hcat
      have hw : nativeFrameWords "java/lang/System" "arraycopy" 5 ≤ 30 := by decide
      show 2 * 0 + (st.map fun v => v.category).sum + _ ≤ _
      omega)
  have hstl : (cs.stretch sp.toNat n.toNat).length = n.toNat := by simp [Cell.stretch]
  have hst2 : ∀ j : Nat, j < n.toNat → (cs.stretch sp.toNat n.toNat)[j]? = some (jval t (A a0 (sp + (j : Int)))) := by
    intro j hj
    unfold Cell.stretch
    rw [List.getElem?_map, List.getElem?_range hj]
    show some (cs.slots.getD (sp.toNat + j) .null) = _
    rw [Array.getD_eq_getD_getElem?, s8 _ (by omega)]
    show some (jval t (A a0 ((sp.toNat + j : Nat) : Int))) = _
    rw [show ((sp.toNat + j : Nat) : Int) = sp + (j : Int) by omega]
  rw [show copied cs cd (Int32.ofInt sp) (Int32.ofInt dp) (Int32.ofInt n) = cd.storeRun dp.toNat (cs.stretch sp.toNat n.toNat) by show cd.storeRun _ (cs.stretch _ _) = _; rw [nsp, ndp, nn]] at X' step
  have f1 := cd.storeRun_facts dp.toNat (cs.stretch sp.toNat n.toNat)
  have f2 : ∀ j : Nat, j < jln N a → (cd.storeRun dp.toNat (cs.stretch sp.toNat n.toNat)).slots[j]? = some (jval t (cpA A a0 a sp dp n a (j : Int))) := by
    intro j hj
    rw [Cell.storeRun_get _ _ _ _ (by rw [hstl]; omega), hstl]
    unfold cpA
    by_cases q : dp.toNat ≤ j ∧ j < dp.toNat + n.toNat
    · rw [if_pos q, if_pos ⟨rfl, by omega, by omega⟩, hst2 _ (by omega)]
      congr 3
      omega
    · rw [if_neg q, if_neg (fun w => q ⟨by omega, by omega⟩)]
      exact d8 j hj
  generalize cd.storeRun dp.toNat (cs.stretch sp.toNat n.toNat) = nc at X' step f1 f2
  obtain ⟨n1, n2, n3, -, -⟩ := f1
  have hlt : a < H.size := (Array.getElem?_eq_some_iff.mp d1).1
  have hheap : ((T.setVm vm').setCell a nc).heap = H.setIfInBounds a nc := by rw [← hT]; rfl
  generalize hH2 : H.setIfInBounds a nc = H2 at hheap
  have oq : ∀ q : Nat, q ≠ a → H2[q]? = H[q]? := fun q hq => by rw [← hH2]; simp [Array.getElem?_setIfInBounds, Ne.symm hq]
  have osz : H2.size = H.size := by rw [← hH2]; simp
  have oa : H2[a]? = some nc := by rw [← hH2]; simp [Array.getElem?_setIfInBounds, hlt]
  have hRep2 : jRep G s N F (cpA A a0 a sp dp n) H2 := by
    refine ⟨by rw [osz]; exact hRep.1, fun b c2 hb => ?_, fun b ty2 hb => ?_⟩
    · have hba : b ≠ a := by
        intro e
        subst e
        rw [ht] at hb
        rw [jcls_ty hb] at hty
        cases hty
      obtain ⟨cb, f1, f2⟩ := hRep.2.1 b c2 hb
      exact ⟨cb, by rw [oq b hba]; exact f1, f2⟩
    · by_cases hba : b = a
      · subst hba
        rw [ht] at hb
        cases Option.some.inj (hb.symm.trans hty)
        refine ⟨_, oa, ⟨by rw [n2]; exact dd2.1, kd, by rw [n1]; exact hkd, cmd, hkkd⟩, by rw [n2]; exact d3, by rw [n3]; exact d4, d5, by rw [n3]; exact d6, fun _ => ⟨by rw [n2]; exact dv, by rw [n1, ht]; exact dc, by rw [n3]; exact dz⟩, fun j hj => ?_⟩
        rw [f2 j hj, ht]
      · obtain ⟨cb, f1, f2, f3, f4, f5, f6, f7, f8⟩ := hRep.2.2 b ty2 hb
        refine ⟨cb, by rw [oq b hba]; exact f1, f2, f3, f4, f5, f6, f7, fun j hj => ?_⟩
        rw [f8 j hj]
        unfold cpA
        rw [if_neg (fun w => hba w.1)]
  obtain ⟨t2, a1, b1⟩ := g4 p e R s m args below meth c H2 (locs ++ (cs.stretch (Int32.ofInt sp).toNatClampNeg (Int32.ofInt n).toNatClampNeg).zipIdx.map fun q => ⟨a, (Int32.ofInt dp).toNatClampNeg + q.2⟩) cells slots mc ms ar X hcc hss hmc hms hd2 hl2 hRep2 ⟨by rw [osz]; exact hS.1, fun q q1 q2 => by
      rw [oq q (fun e => q2 (by rw [e]; exact hB))]
      exact hS.2.1 q q1 q2, fun q hq => by
      rcases List.mem_append.mp hq with h | h
      · exact hS.2.2 q h
      · obtain ⟨z, -, hz⟩ := List.mem_map.mp h
        rw [← hz]
        exact hB⟩ hL _ hheap X'
  exact ⟨t2, step t2 a1, b1⟩
end JR6
