set_option maxRecDepth 100000
set_option linter.unusedVariables false
/-! the two functions that twos is given: the classes made for them -/
def laD : ClassFile.MethodDescriptor := { parameters := [ClassFile.FieldType.object "ChildSays$Row", ClassFile.FieldType.object "ChildSays$Row"], returnType := some ClassFile.FieldType.boolean }
def laS (i : String) : Lambda.Shape := { iface := "ChildSays$Are", name := "so", sam := laD, captured := [], kind := 6, implClass := "ChildSays", implName := i, implDesc := laD, implItf := false, inst := laD }
/-- aload_1, aload_2, invokestatic 17, ireturn -/
def laB : ByteArray := ⟨#[0x2b, 0x2c, 0xb8, 0x00, 0x11, 0xac]⟩
theorem la0 : decode laB 0 = .ok (.aload_n 1, 1) := by decide +kernel
theorem la1 : decode laB 1 = .ok (.aload_n 2, 1) := by decide +kernel
theorem la2 : decode laB 2 = .ok (.invokestatic 17, 3) := by decide +kernel
theorem la5 : decode laB 5 = .ok (.ireturn, 1) := by decide +kernel
def laF (i : String) : ClassFile.ClassFile := ((laS i).file "ChildSays").getD { minorVersion := 0, majorVersion := 0, constantPool := #[], accessFlags := 0, thisClass := 0, superClass := 0, interfaces := #[], fields := #[], methods := #[], attributes := #[] }
def laM (i : String) : Method := ((layoutMethods (laF i)).bind (·[1]?)).getD default
/-- what is to be seen of the class that would be made -/
def laOk (i : String) : Prop := (((laS i).file "ChildSays").isSome = true ∧ ((layoutMethods (laF i)).bind (·[1]?)).isSome = true) ∧
  (((laM i).code.map fun c => (c.code.data, c.maxLocals)) = some (laB.data, 3) ∧ ((laM i).accessFlags, (laM i).sig.returnType) = (0x0001, (some .boolean : Option FieldType))) ∧
  ((laF i).constantPool[17]? = some (.methodref 14 16) ∧ (laF i).constantPool.className? 14 = some "ChildSays" ∧ (laF i).constantPool.nameAndType? 16 = some (i, "(LChildSays$Row;LChildSays$Row;)Z")) ∧
  ((laF i).constantPool[14]? = some (.class_ 13) ∧ (laF i).constantPool.string? 13 = some "ChildSays" ∧ 14 ≠ (laF i).thisClass)
theorem laOk_1 : laOk "lambda$apart$0" := ⟨⟨by decide +kernel, by decide +kernel⟩, ⟨by decide +kernel, by decide +kernel⟩, ⟨by decide +kernel, by decide +kernel, by decide +kernel⟩, by decide +kernel, by decide +kernel, by decide +kernel⟩
theorem laOk_2 : laOk "lambda$against$1" := ⟨⟨by decide +kernel, by decide +kernel⟩, ⟨by decide +kernel, by decide +kernel⟩, ⟨by decide +kernel, by decide +kernel, by decide +kernel⟩, by decide +kernel, by decide +kernel, by decide +kernel⟩
theorem la_made {i : String} (ok : laOk i) {e : Setting} {vm : Vm} {d c : ClassId} {dk : Class} (hd : vm.classes[d]? = some dk) (hname : dk.name = "ChildSays") (h : Lambda.isMade e vm d (laS i) c = true) :
    ∃ (k tk : Class) (file : ClassFile.ClassFile) (methk : Method) (ck : Code) (toy : ClassId) (t : MethodId),
      vm.classes[c]? = some k ∧ k.name = "ChildSays$$Lambda" ∧ k.cf = some file ∧ file.constantPool = (laF i).constantPool ∧
      vm.method? ⟨c, 1⟩ = some methk ∧ methk.code = some ck ∧ ck.code = laB ∧ ck.maxLocals = 3 ∧ methk.locks = false ∧ methk.accessFlags = 0x0001 ∧ methk.sig.returnType = some .boolean ∧
      vm.findClass "ChildSays" = some toy ∧ vm.classes[toy]? = some tk ∧ ((methodIn toy i "(LChildSays$Row;LChildSays$Row;)Z" tk.isInterface none).ask e vm).1 = .ok t ∧
      vm.methodReady c 17 t ∧ vm.classReady c 14 toy := by
  obtain ⟨⟨o1, o2⟩, ⟨o3, o4⟩, ⟨o5, o6, o7⟩, o8, o9, o10⟩ := ok
  obtain ⟨dk', k, ok, tk, file, cf, object, iface, toy, lay, methods, target, found, hd', hk, hfile, hcf, hobj, -, hok, hlay, hms, ht, htk, hg, -, hrec, -, -, -, hitf, hpool, hmeth, hfields, hty, hres, -⟩ := Lambda.isMade_spec h
  cases hd.symm.trans hd'
  have hcf1 : (laS i).file "ChildSays" = some (laF i) := by
    obtain ⟨x, hx⟩ := Option.isSome_iff_exists.mp o1
    simp [laF, hx]
  rw [hname, hcf1] at hcf
  cases hcf
  have h1 : methods[1]? = some (laM i) := by
    obtain ⟨x, hx⟩ := Option.isSome_iff_exists.mp o2
    have hm : laM i = x := by simp [laM, hx]
    rw [hms] at hx
    rw [hm]
    exact hx
  obtain ⟨b, hb, hsame⟩ := hmeth 1 (laM i) h1
  simp only [Lambda.sameMethod, Bool.and_eq_true, decide_eq_true_eq] at hsame
  obtain ⟨⟨hn, -, hsig, hfl⟩, hcode⟩ := hsame
  simp only [Prod.mk.injEq] at o4
  cases hfc : (laM i).code with
  | none => rw [hfc] at o3; cases o3
  | some x =>
    cases hbc : b.code with
    | none => simp [hfc, hbc] at hcode
    | some y =>
      simp only [hfc, hbc, Bool.and_eq_true, decide_eq_true_eq] at hcode
      simp only [hfc, Option.map_some, Option.some.injEq, Prod.mk.injEq] at o3
      refine ⟨k, tk, file, b, y, toy, target, hk, by rw [hrec.1, hname]; rfl, hfile, hpool.2.1, by simp [Vm.method?, hk, hb], hbc, ?_, by rw [← hcode.1.1.1.1.2.1]; exact o3.2, ?_, by rw [← hfl]; exact o4.1, by rw [← hsig]; exact o4.2, ht, htk, hg,
        ⟨k, hk, hres 17 _ (Lambda.resolvedOf_method o5 o6 ht htk o7 hg)⟩, ⟨k, hk, hres 14 _ (Lambda.resolvedOf_class o8 o10 o9 ht)⟩⟩
      · rw [← hcode.1.1.1.1.2.2]
        exact ByteArray.ext o3.1
      · simp [Method.locks, Method.isSynchronized, ← hfl, o4.1, hasFlag, Acc.synchronized]
theorem la_site {G : jG} {s : State} {H : Heap} {locs : List Loc} {q : MethodName × Nat × Nat × Lambda.Shape × Nat} {i : String} (hq : q ∈ jlm) (hσ : q.2.2.2.1 = laS i) (hcn : q.1.cls = "ChildSays") (hS : jS G s) (hV : va_S (jA G) s.heap H locs) :
    ∃ (c : ClassId) (m : MethodId) (kc : Class) (i0 p0 : Nat) (cell : Cell), s.methodNamed? q.1 = some m ∧ s.vm.classes[m.cls]? = some kc ∧ kc.name = "ChildSays" ∧ (kc.callSites.find? fun y => y.1 == m.idx && y.2.1 == q.2.1) = some (i0, p0, .constant (gS G q.2.2.2.2)) ∧
      Lambda.isMade { classPath := fun _ => none } s.vm m.cls (laS i) c = true ∧ s.lambdaCallable (laS i) c = true ∧ H[gS G q.2.2.2.2]? = some cell ∧ cell.cls = c ∧ cell.vm = .none := by
  obtain ⟨h1, c, h2⟩ := hS.2.2.2.1 q hq
  rw [hσ] at h2
  obtain ⟨m, kc, cf, i0, p0, lk, hm, hk, -, -, -, hfind, hmade, hcan, hl⟩ := State.lambdaAt?_spec h2
  obtain ⟨kc', hk', hnm⟩ := className_of_methodNamed hm
  cases hk.symm.trans hk'
  rcases hl with ⟨a, cell, rfl, h3, -, hcell, hcls, hvm, -⟩ | ⟨-, h3, -⟩
  · cases h3
    exact ⟨c, m, kc, i0, p0, cell, hm, hk, by rw [hnm, hcn], hfind, hmade, hcan, (hV.2.1 _ (Array.getElem?_eq_some_iff.mp hcell).1 h1).trans hcell, hcls, hvm⟩
  · cases h3
theorem la_desc : parseMethodDescriptor "(LChildSays$Row;LChildSays$Row;)Z" = some laD := by decide +kernel
set_option maxHeartbeats 4000000 in
theorem r_so {G : jG} {l : Launch} [jOff l] {d : Nat} {k : jM} {pc : Nat} {ls rest : List Value} {N : jSh} {F : jFl} {A : jAr} {post : jPo} {ct d2 : Nat} {i : String} {y : jM} {q : MethodName × Nat × Nat × Lambda.Shape × Nat} {x1 x2 z : Int} {P : Int → Prop} (hok : laOk i) (hσ : (laS i).sam.toString = "(LChildSays$Row;LChildSays$Row;)Z")
    (hy : y.1 = ⟨"ChildSays", i, "(LChildSays$Row;LChildSays$Row;)Z"⟩) (hyc : jcode y) (hyst : Cond.static y.1 ∈ lw_all) (hq : q ∈ jlm) (hqs : q.2.2.2.1 = laS i) (hqc : q.1.cls = "ChildSays") (ho : k.1.cls = "ChildSays") (hln : Cond.methodLink "ChildSays" 484 ⟨"ChildSays$Are", "so", "(LChildSays$Row;LChildSays$Row;)Z"⟩ ∈ lw_all)
    (hd : decode k.2.1 pc = .ok (.invokeinterface 484 ct, 5)) (hz : z = (gS G q.2.2.2.2 : Int)) (hC : jCall G l d2 y [vR x1, vR x2] N F A (jpB N F A P)) (hdd : d2 + 2 ≤ d) (hcat : rest.length ≤ 4)
    (kk : ∀ w, P w → (w = 0 ∨ w = 1) → J G l d k (pc + 5) ls (vI w :: rest) N F A post) : J G l d k pc ls (vR x2 :: vR x1 :: vR z :: rest) N F A post := by
  rw [vR_n hz]
  obtain ⟨o1, N1, F1, A1, ⟨w, rfl, rfl, rfl, rfl, hw1, hw2⟩, hX⟩ := hC
  obtain ⟨o, N', F', A', g1, g2, g3, g4⟩ := kk w hw1 hw2
  refine ⟨o, N', F', A', g1, g2, g3, ?_⟩
  intro p e R s m args below meth c H locs cells slots mc ms a X hcc hss hmc hms hd2 hl2 hRep hS hL
  obtain ⟨y1, y2, y3, y4, y5⟩ := y
  obtain ⟨hy5, hy3, hcode, hini⟩ := hyc
  cases hy5
  dsimp only at hy
  subst hy
  have hts := X.2.2.2.2.2.2.2.1
  have hJS := X.2.2.2.2.2.2.2.2.2.1
  have hexec := X.1
  obtain ⟨-, -, hM⟩ := hX
  simp only [Nat.sub_self] at hM
  obtain ⟨cK, mS, kS, i0, p0, cell, -, hkS, hnS, -, hmade, hcan, hcell, hcls, hvm⟩ := la_site hq hqs hqc hJS hS
  have hFc := hJS.2.2.2.2.1 ⟨"ChildSays$Are", "so", "(LChildSays$Row;LChildSays$Row;)Z"⟩ (List.mem_cons_of_mem _ List.mem_cons_self)
  refine jrun5 (o := .returned (some (vI w))) (mc := 0) (ms := 0) (rest := rest) (ar := [vR x1, vR x2].toArray) (N' := N1) (F' := F1) (A' := A1) ?_ hS (fun v hv H1 locs1 hR1 hS1 => ?_) (fun q h => by cases h)
  · intro T hT XT
    refine Or.inl ?_
    have hcT : T.heap[gS G q.2.2.2.2]? = some cell := by rw [hT]; exact hcell
    obtain ⟨r0, r, hn, hrm, hstR, hsigR⟩ := Cond.declares_spec hFc.1
    obtain ⟨cL, kL, r1, hcL, hkL, hiL, hfoundL, hn1⟩ := Cond.interfaceMethod_spec hFc.2
    cases hn.symm.trans hn1
    have hr0 : r0.cls = cL := Option.some.inj ((findClass_of_methodNamed hn).symm.trans hcL)
    obtain ⟨hnameR, hdescR⟩ := name_of_methodNamed hn hrm
    obtain ⟨kK, -, -, methk, ck, -, -, hkK, hkn, -, -, hmk, hck, hbytes, hml, hlk, hfl, hret, -⟩ := la_made hok hkS hnS hmade
    obtain ⟨-, -, -, -, -, -, -, iface', -, -, -, -, found, -, -, -, -, -, hi', -, -, -, -, -, -, hfound', -, -, -, -, -, -, -, -, -, -, hsel⟩ := Lambda.isMade_spec hmade
    have hi' : s.vm.findClass "ChildSays$Are" = some iface' := hi'
    cases hcL.symm.trans hi'
    have hfr : found = r0 := by
      have h1 : s.methodFound? "ChildSays$Are" "so" "(LChildSays$Row;LChildSays$Row;)Z" = some r0 := hfoundL
      simp only [State.methodFound?, hcL, hkL, hiL, Option.bind_eq_bind, Option.bind_some] at h1
      rw [hσ, show (laS i).name = "so" from rfl] at hfound'
      rw [hfound'] at h1
      exact Option.some.inj h1
    subst hfr
    obtain ⟨i2, hi2, hasg, hway⟩ := State.lambdaCallable_spec hcan
    have hi2 : s.vm.findClass "ChildSays$Are" = some i2 := hi2
    cases hcL.symm.trans hi2
    rw [hσ] at hway
    obtain ⟨vm₁, X₁, hstep₁⟩ := XT.invokeinterface hexec (own := "ChildSays") (by rw [← ho]; exact X.2.2.2.2.2.1) (hts _ hln) hn hrm hstR (by rw [hr0]; exact hkL) hiL (by decide) (a := gS G q.2.2.2.2) (cell := cell) (kcell := kK) hcT
      (fun z h => by rw [h] at hvm; cases hvm) (by rw [hcls]; exact hkK) (by rw [hcls, hr0]; exact hasg) (m' := ⟨cK, 1⟩) (meth' := methk) (by rw [Launch.admits_selectMethod XT.admits, hcls]; exact hsel) hmk (by rw [hcls, hnameR, hdescR]; exact hway) (by rw [hfl]; decide) (by simp [Method.isAbstract, hfl, hasFlag, Acc.abstract])
      (g := F0 m pc a (vR x2 :: vR x1 :: .ref (gS G q.2.2.2.2) :: rest)) rfl (argsL := [vR x1, vR x2]) (rest := rest) (by rw [la_desc] at hsigR; rw [← Option.some.inj hsigR]; rfl) rfl (by rw [X.2.1]; exact hd)
    have hW₁ : s.WarmedH (T.setVm vm₁).vm := X₁.warmed
    obtain ⟨kS', hkS', eS⟩ := hW₁.alike.2.2 _ _ hkS
    obtain ⟨kK2, tk, file, methk2, ck2, toy, t, hkK2, hkn2, hfile, hpool, hmk2, hck2, hbytes, hml, hlk, -, hret, htoy, htk, hlook, hready, hclsR⟩ := la_made hok hkS' (by rw [eS]; exact hnS) (Lambda.isMade_warmer hW₁ hmade)
    generalize hT₁ : T.setVm vm₁ = T₁ at X₁ hstep₁ hW₁ hkK2 hmk2 htoy htk hlook hready hclsR
    have hT₁h : T₁.heap = H := by rw [← hT₁]; exact hT
    obtain ⟨a3, ha3⟩ : ∃ a3 : Array Value, a3 = (.ref (gS G q.2.2.2.2) :: [vR x1, vR x2]).toArray := ⟨_, rfl⟩
    rw [← ha3] at hstep₁
    obtain ⟨Y₀, hin⟩ := X₁.into (g := F0 m pc a rest) rfl (hL.2.1.trans X.2.2.2.2.1.symm) (ig := .invokeinterface 484 ct) (len := 5) (by rw [X.2.1]; exact hd) (mk := ⟨cK, 1⟩) (methk := methk2) (ck := ck2) a3 (R' := jrm (d2 + 1) 0 0) hmk2 hck2 hlk
      (State.plainMethod.of_name (fun k' hk' => by cases hkK2.symm.trans hk'; rw [hkn2]; decide)) (by show d2 + 1 + 1 ≤ R.frames; omega) (by have hc8 := jcat4 hcat; show 2 * 0 + (rest.map fun v => v.category).sum + (ck2.maxLocals + 11) + 64 * (d2 + 1) ≤ R.locals; rw [hml]; omega) (by show cells + 0 ≤ _; omega) (by show slots + 0 ≤ _; omega)
    have hU₀v : ((T₁.setTop (F0 m pc a rest)).pushFrame (.java (entryFrame ⟨cK, 1⟩ a3 ck2.maxLocals))).vm = T₁.vm := rfl
    have hU₀h : ((T₁.setTop (F0 m pc a rest)).pushFrame (.java (entryFrame ⟨cK, 1⟩ a3 ck2.maxLocals))).heap = H := hT₁h
    have hent : entryFrame ⟨cK, 1⟩ a3 ck2.maxLocals = { method := ⟨cK, 1⟩, pc := 0, locals := #[.val (.ref (gS G q.2.2.2.2)), .val (vR x1), .val (vR x2)], stack := [], locked := none } := by
      rw [ha3, hml]
      have e1 := vR_isRef x1
      have e2 := vR_isRef x2
      revert e1 e2
      generalize vR x1 = v1
      generalize vR x2 = v2
      intro e1 e2
      cases v1 <;> simp [Value.isRef] at e1 <;> cases v2 <;> simp [Value.isRef] at e2 <;> rfl
    generalize hU₀ : (T₁.setTop (F0 m pc a rest)).pushFrame (.java (entryFrame ⟨cK, 1⟩ a3 ck2.maxLocals)) = U₀ at Y₀ hin hU₀v hU₀h
    generalize hs' : T₁.calling (F0 m pc a rest) ⟨cK, 1⟩ a3 = s' at Y₀
    have hs'v : s'.vm = T₁.vm := by rw [← hs']; rfl
    have hW' : s.WarmedH s'.vm := by rw [hs'v]; exact hW₁
    have gi := lw_meth (y := ⟨"ChildSays", i, "(LChildSays$Row;LChildSays$Row;)Z"⟩) hcode
    have vB := vy_back (l := l) (R := jrm (d2 + 1) 0 0) (p := p) (e := e) (below := .java (F0 m pc a rest) :: below) (s := s') (sargs := a3) (len := 3) (W9 := 8) (bytes := y2) (maxL := y3) (ret := y4) hM jPre.blind rfl rfl (Nat.le_refl _) (by show 8 + (y3 + 11) + 64 * d2 ≤ 64 * (d2 + 1); have : y3 ≤ 45 := hy3; omega)
      (fun w hw a' U hU => word_at (hW'.trans hU) (gi w hw).2 (hts w (gi w hw).1)) List.mem_cons_self (fun a' U hU => word_at (hW'.trans hU) (Or.inl (by simp [Cond.onTables, Cond.keeps, Cond.steady])) (hts _ hini))
    have hW0 : s.WarmedH U₀.vm := by rw [hU₀v]; exact hW₁
    have hcode0 : (Cond.code ⟨"ChildSays", i, "(LChildSays$Row;LChildSays$Row;)Z"⟩ y2 y3 y4).before #[] U₀ = true := word_at hW0 (Or.inl (by simp [Cond.onTables, Cond.keeps, Cond.steady])) (hts _ hcode)
    have hst0 : (Cond.static ⟨"ChildSays", i, "(LChildSays$Row;LChildSays$Row;)Z"⟩).before #[] U₀ = true := word_at hW0 (Or.inl (by simp [Cond.onTables, Cond.keeps, Cond.steady])) (hts _ hyst)
    have hini0 : (Cond.initialized "ChildSays").before #[] U₀ = true := word_at hW0 (Or.inl (by simp [Cond.onTables, Cond.keeps, Cond.steady])) (hts _ hini)
    obtain ⟨tB, hnB⟩ := Cond.code_named hcode0
    obtain ⟨methB, cB, hmB, -, -, -, -, -, -, hsigB⟩ := Cond.code_spec hnB hcode0
    have hstB : methB.isStatic = true := Cond.static_spec hnB hmB hst0
    have htoy0 : U₀.vm.findClass "ChildSays" = some toy := by rw [hU₀v]; exact htoy
    have hfT : U₀.vm.findClass "ChildSays" = some tB.cls := findClass_of_methodNamed hnB
    cases htoy0.symm.trans hfT
    have htk0 : U₀.vm.classes[tB.cls]? = some tk := by rw [hU₀v]; exact htk
    have hinitK : tk.init = .initialized := Cond.initialized_spec hfT htk0 hini0
    obtain ⟨kT', hkT', hnameT⟩ := className_of_methodNamed hnB
    cases htk0.symm.trans hkT'
    have htB : t = tB := by
      have h1 : U₀.methodFound? "ChildSays" i "(LChildSays$Row;LChildSays$Row;)Z" = some tB := State.methodFound?_of_named hnB ⟨by show "ChildSays" ≠ "java/lang/invoke/MethodHandle"; decide, by show "ChildSays" ≠ "java/lang/invoke/VarHandle"; decide⟩
      simp only [State.methodFound?, hfT, htk0, Option.bind_eq_bind, Option.bind_some] at h1
      rw [hU₀v, hlook] at h1
      exact Option.some.inj h1
    subst htB
    have hsp : ∀ z : Method, signaturePolymorphic tk z = false := fun z => by simp [signaturePolymorphic, hnameT]
    obtain ⟨b9, hmem⟩ := memberRef_ask' (e := e) (vm := U₀.vm) (d := cK) (index := 17) (by rw [hU₀v]; exact hkK2) hfile (Or.inl (by rw [hpool]; exact hok.2.2.1.1)) (by rw [hpool]; exact hok.2.2.1.2.2)
    have href : Op.plainRef U₀ e cK 17 := ⟨14, _, _, b9, t.cls, tk, hmem, by rw [hU₀v]; exact hclsR, htk0, by simp [hsp]⟩
    have c0 : decode ck2.code 0 = .ok (.aload_n 1, 1) := by rw [hbytes]; exact la0
    have c1 : decode ck2.code 1 = .ok (.aload_n 2, 1) := by rw [hbytes]; exact la1
    have c2 : decode ck2.code 2 = .ok (.invokestatic 17, 3) := by rw [hbytes]; exact la2
    have c5 : decode ck2.code 5 = .ok (.ireturn, 1) := by rw [hbytes]; exact la5
    have r1 := vR_isRef x1
    have r2 := vR_isRef x2
    rcases vB ⟨cK, 1⟩ methk2 ck2 ⟨U₀, [], 0, 0⟩ { method := ⟨cK, 1⟩, pc := 2, locals := #[.val (.ref (gS G q.2.2.2.2)), .val (vR x1), .val (vR x2)], stack := [], locked := none } (.invokestatic 17) t [vR x1, vR x2].toArray Y₀ rfl (by rw [hml]; rfl) c2 (by show 2 * 0 + 0 ≤ 8; decide) hnB ⟨Nat.le_refl _, Nat.le_refl _, rfl, jPre.call X.2.2.2.2.2.2.2.2.1 hJS X.2.2.2.2.2.2.2.2.2.2.1 hRep hS U₀ hU₀h hW0⟩ with ⟨v, ⟨U₁, L₁, m₁, n₁⟩, Y₁, ⟨g9, mk9, t9, L9, e1, e2, ⟨hv, hR9, hF9⟩, h1, hL9, h2, h3⟩, hsteps⟩ | ⟨q9, B, Y1, ⟨g9, mk9, t9, L9, E, ce, e1, e2, ⟨⟨hv, -⟩, -⟩, -⟩, -⟩
    · dsimp only [Pt.U, Pt.locs, Pt.cells, Pt.slots] at Y₁ e1 e2 h1 h2 h3 hsteps
      cases hv
      subst h1; subst h2; subst h3
      obtain ⟨fs, hleave, -, hended, hWe, hsame⟩ := Y₁.leave (v := some (vI w)) (fun h => by rw [hret] at h; cases h) hlk
      rw [← hs'] at hWe hsame
      obtain ⟨T', X', hW9, -, ht⟩ := X₁.outOf (g := F0 m pc a rest) rfl (ig := .invokeinterface 484 ct) (len := 5) (by rw [X.2.1]; exact hd) hended hWe hsame
      refine ⟨some (vI w), U₀.calling g9 mk9 [vR x1, vR x2].toArray, t9, T', L₁, hU₀h, by simpa using X', hL9, (congrArg State.heap ht).symm.trans e1, (congrArg State.vm ht).symm.trans e2, ⟨rfl, hR9, hF9⟩, fun target hg => ?_⟩
      have kA : Steps p.tables e (.java (F0 m pc a rest) :: below) (U₀.setTop { method := ⟨cK, 1⟩, pc := 0, locals := #[.val (.ref (gS G q.2.2.2.2)), .val (vR x1), .val (vR x2)], stack := [], locked := none }) (U₀.setTop { method := ⟨cK, 1⟩, pc := 1, locals := #[.val (.ref (gS G q.2.2.2.2)), .val (vR x1), .val (vR x2)], stack := [vR x1], locked := none }) := by
        jvm_step Y₀.here [hexec, c0, r1]
        exact Steps.refl _
      have kB : Steps p.tables e (.java (F0 m pc a rest) :: below) (U₀.setTop { method := ⟨cK, 1⟩, pc := 1, locals := #[.val (.ref (gS G q.2.2.2.2)), .val (vR x1), .val (vR x2)], stack := [vR x1], locked := none }) (U₀.setTop { method := ⟨cK, 1⟩, pc := 2, locals := #[.val (.ref (gS G q.2.2.2.2)), .val (vR x1), .val (vR x2)], stack := [vR x2, vR x1], locked := none }) := by
        jvm_step Y₀.here [hexec, c1, r2]
        exact Steps.refl _
      have hlen : [vR x1, vR x2].length = methB.sig.parameters.length := by
        have hp : parseMethodDescriptor "(LChildSays$Row;LChildSays$Row;)Z" = some methB.sig := hsigB
        rw [la_desc] at hp
        rw [← Option.some.inj hp]; rfl
      have kS : Steps p.tables e (.java (F0 m pc a rest) :: below) (U₀.setTop { method := ⟨cK, 1⟩, pc := 2, locals := #[.val (.ref (gS G q.2.2.2.2)), .val (vR x1), .val (vR x2)], stack := [vR x2, vR x1], locked := none }) (U₁.setTop { method := ⟨cK, 1⟩, pc := 5, locals := #[.val (.ref (gS G q.2.2.2.2)), .val (vR x1), .val (vR x2)], stack := [vI w], locked := none }) := by
        jvm_step Y₀.here [hexec, c2, Op.invokestatic.wp_ready (e := e) (s := U₀) (m := t) (k := tk) (meth := methB) (args := [vR x1, vR x2]) (rest := []) (f := { method := ⟨cK, 1⟩, pc := 2, locals := #[.val (.ref (gS G q.2.2.2.2)), .val (vR x1), .val (vR x2)], stack := [vR x2, vR x1], locked := none }) Y₀.here.top href (by rw [hU₀v]; exact hready) htk0 hmB (hsp _) hstB hinitK hlen rfl]
        intro acts
        rw [doInvoke_state]
        exact hsteps
      have kR : Steps p.tables e (.java (F0 m pc a rest) :: below) (U₁.setTop { method := ⟨cK, 1⟩, pc := 5, locals := #[.val (.ref (gS G q.2.2.2.2)), .val (vR x1), .val (vR x2)], stack := [vI w], locked := none }) (U₁.setFrames fs) := by
        have hm' : U₁.vm.method? ⟨cK, 1⟩ = some methk2 := Y₁.method'
        have hn : narrow .boolean (.int (Int32.ofInt w)) = .int (Int32.ofInt w) := nr_bool hw2
        have hl2 : ∀ (f : JFrame) (acts : List Action), f.method = ⟨cK, 1⟩ → f.locked = none → f.entered = [] → (doReturn e (U₁.setTop f) acts (some (.int (Int32.ofInt w)))).1 = U₁.setFrames fs := hleave
        show Steps p.tables e (.java (F0 m pc a rest) :: below) (U₁.setTop { method := ⟨cK, 1⟩, pc := 5, locals := #[.val (.ref (gS G q.2.2.2.2)), .val (vR x1), .val (vR x2)], stack := [.int (Int32.ofInt w)], locked := none }) (U₁.setFrames fs)
        jvm_step Y₁.here [Y₁.here.top, hexec, c5, hm', hret, hn]
        first | (intro acts; rw [hl2 _ acts rfl rfl rfl]) | rw [hl2 _ _ rfl rfl rfl]
        exact Steps.refl _
      refine hstep₁ target (fun acts => ?_)
      rw [hin acts, hent]
      refine (Steps.weaken (mid := [.java (F0 m pc a rest)]) (((kA.trans kB).trans kS).trans kR)).trans ?_
      rw [ht]
      exact hg
    · cases hv
  · cases hv
    simp only [Nat.add_zero]
    exact g4 p e R s m args below meth c H1 locs1 cells slots mc ms a X hcc hss hmc hms hd2 hl2 hR1 hS1 hL
