set_option maxRecDepth 100000
set_option linter.unusedVariables false
/-! Throwable.<init>, of a Fault, in a launch without stack traces -/
abbrev jOff (l : Launch) : Prop := Nonempty (PLift (l.stackTraces = false))
theorem jthr_w : ∀ w ∈ Bundle.throwableAtoms, w ∈ lw_all ∨ w ∈ jnw ∨ ∃ q ∈ jls, w = .laysStatic q.1 q.2.1 q.2.2 := by
  have key : Bundle.throwableAtoms.all (fun w => lw_all.elem w || jnw.elem w || jls.any (fun q => decide (w = .laysStatic q.1 q.2.1 q.2.2))) = true := by decide +kernel
  intro w hw
  have := List.all_eq_true.mp key w hw
  rcases Bool.or_eq_true_iff.mp this with h | h
  · rcases Bool.or_eq_true_iff.mp h with h | h
    · exact Or.inl (List.elem_iff.mp h)
    · exact Or.inr (Or.inl (List.elem_iff.mp h))
  · obtain ⟨q, hq, h⟩ := List.any_eq_true.mp h
    exact Or.inr (Or.inr ⟨q, hq, of_decide_eq_true h⟩)
def jthr_l : List Cond := [.methodLink "java/lang/Exception" 1 (Bundle.init0 Bundle.tN), .selects "ChildSays$Fault" Bundle.tFill0 Bundle.tFill0, .selects "ChildSays$Fault" Bundle.tFill Bundle.tFill, .lays "ChildSays$Fault" Bundle.tN "cause" "Ljava/lang/Throwable;", .lays "ChildSays$Fault" Bundle.tN "stackTrace" Bundle.steD, .lays "ChildSays$Fault" Bundle.tN "suppressedExceptions" Bundle.listD, .lays "ChildSays$Fault" Bundle.tN "backtrace" "Ljava/lang/Object;", .fieldLink Bundle.tN 198 Bundle.tN "backtrace" "Ljava/lang/Object;", .lays Bundle.tN Bundle.tN "backtrace" "Ljava/lang/Object;"]
theorem jthr_w2 : ∀ w ∈ jthr_l, w ∈ lw_all := by
  have key : jthr_l.all (fun w => lw_all.elem w) = true := by decide +kernel
  intro w hw
  exact List.elem_iff.mp (List.all_eq_true.mp key w hw)
section JTHR
variable {G : jG} {l : Launch} {d : Nat} {N : jSh} {F : jFl} {A : jAr} {post : jPo}
/-- what a Fault holds when Throwable has made its own fields -/
def thF (G : jG) (F : jFl) (o : Nat) : jFl := upF (upF (upF (upF F 7502 o (o : Int)) 7505 o ((gS G 22 : Int) - 1)) 7508 o ((gS G 23 : Int) - 1)) 7505 o ((gS G 22 : Int) - 1)
theorem vR_isRef (z : Int) : (vR z).isRef = true := by
  unfold vR
  split <;> rfl
theorem r_thrInit [hoff : jOff l] {o : Nat} {ls st : List Value} (hd6 : 6 ≤ d) (ht : jtg N o = 12) (hB : gB G ≤ o) (hbt : F 7514 o < 0) (hcat : st.length ≤ 3) (h : J G l d mJ8_init 4 ls st N (thF G F o) A post) : J G l d mJ8_init 1 ls (.ref o :: st) N F A post := by
  obtain ⟨out, N', F', A', h1, h2, h3, h4⟩ := h
  refine ⟨out, N', F', A', h1, h2, h3, ?_⟩
  intro p e R s m args below meth c H locs cells slots mc ms a X hc hs hmc hms hd hl hRep hS hL
  have htr0 : l.stackTraces = false := hoff.elim (fun h => h.down)
  have hexec := X.1
  have hb : c.code = cJ8_init := X.2.1
  have hts := X.2.2.2.2.2.2.2.1
  have hK := X.2.2.2.2.2.2.2.2.1
  have hJS := X.2.2.2.2.2.2.2.2.2.1
  have hLs : jLs G s := hJS.2.2.2.2.2
  have hown : s.vm.findClass "java/lang/Exception" = some m.cls := X.2.2.2.2.2.1
  have hcl : jcls 12 = some (RX11, TX11, 8, [(7502, false), (7505, false), (7508, false), (7511, false), (7514, false), (7515, false), (3600, true), (3603, true)]) := rfl
  obtain ⟨cell, c1, c2, c3, c4, c5, c6⟩ := hRep.2.1 o _ (by rw [ht]; exact hcl)
  obtain ⟨v1, v2, v3⟩ := c5 hB
  rw [ht] at c2 c6
  obtain ⟨hSl, hfc, kC, hkC, hkind⟩ := hK.1 12 _ hcl
  have zU := hJS.1 ("java/lang/Throwable", "UNASSIGNED_STACK", "[Ljava/lang/StackTraceElement;", 5022) (by decide)
  have zN := hJS.1 ("java/lang/Throwable", "SUPPRESSED_SENTINEL", "Ljava/util/List;", 5023) (by decide)
  intro T hT Y
  subst hT
  have htr : e.platform.stackTraces = false := (show e.platform.stackTraces = l.stackTraces by rw [Y.admits.platform]).trans htr0
  have howns : e.platform.frameOwnsMonitors = true := by rw [Y.admits.platform]
  have hfin : e.platform.finalization = false := by rw [Y.admits.platform]
  have hpl : e.platform.magicAccessors = ({} : Platform).magicAccessors := by rw [Y.admits.platform]
  have bef : ∀ w ∈ Bundle.throwableAtoms, w.before args s = true := fun w hw => by
    rcases jthr_w w hw with h | h | ⟨q, hq, h⟩
    · exact hts w h
    · exact va_Nw.use (by rcases List.mem_iff_getElem.mp hw with ⟨i, hi, rfl⟩; revert hi; revert i; decide) (hK.2.2.1 _ h)
    · obtain ⟨c', k', i', f', a', cell', q1, q2, q3, q4, q5, q6, q7, q8, q9, -⟩ := hLs q hq
      rw [h]
      exact Cond.laysStatic_of q1 (by rw [q7] at *; exact q2) q3 q4 q5 q6 q7 q8 q9
  have bef2 : ∀ w ∈ jthr_l, w.before args s = true := fun w hw => hts w (jthr_w2 w hw)
  obtain ⟨Th, Z, L, LZ, Ti⟩ := ThrowableC.of_atoms (args := args) howns hfin hpl bef
  have hsel0 : selectMethod e.platform s.vm cell.cls Th.fill0 = .method Th.fill0 := by
    obtain ⟨c9, r9, m9, q1, q2, q3, q4, -⟩ := Cond.selects_spec (bef2 (.selects "ChildSays$Fault" Bundle.tFill0 Bundle.tFill0) (by simp [jthr_l]))
    rw [c2]
    cases Option.some.inj (q1.symm.trans hfc)
    cases Option.some.inj (q2.symm.trans (State.methodFound?_of_named Ti.fill0 (by decide)))
    cases Option.some.inj (q3.symm.trans Ti.fill0)
    rw [Launch.admits_selectMethod Y.admits]; exact q4
  have hselF : selectMethod e.platform s.vm cell.cls Th.fill = .method Th.fill := by
    obtain ⟨c9, r9, m9, q1, q2, q3, q4, -⟩ := Cond.selects_spec (bef2 (.selects "ChildSays$Fault" Bundle.tFill Bundle.tFill) (by simp [jthr_l]))
    rw [c2]
    cases Option.some.inj (q1.symm.trans hfc)
    cases Option.some.inj (q2.symm.trans (State.methodFound?_of_named Ti.fill (by decide)))
    cases Option.some.inj (q3.symm.trans Ti.fill)
    rw [Launch.admits_selectMethod Y.admits]; exact q4
  have hk12 : s.vm.classes[gC G 12]? = some kC := hkC
  -- the slots
  have sl : ∀ kk : Nat, kk < 8 → ∃ (cf : ClassId) (kf : Class) (fi : Nat) (f : Field), s.fieldFound? (TX11 kk).1 (TX11 kk).2.1 (TX11 kk).2.2.1 = some (cf, kf, fi, f) ∧ f.slot = gI G 12 kk := fun kk hkk => hSl kk hkk
  have slC : Th.fCause.slot = gI G 12 0 := by
    obtain ⟨cf, kf, fi, f, y1, y2⟩ := sl 0 (by decide)
    have y1 : s.fieldFound? Bundle.tN "cause" "Ljava/lang/Throwable;" = some (cf, kf, fi, f) := y1
    cases Ti.cause.symm.trans y1
    exact y2
  have slS : Th.fStack.slot = gI G 12 1 := by
    obtain ⟨cf, kf, fi, f, y1, y2⟩ := sl 1 (by decide)
    have y1 : s.fieldFound? Bundle.tN "stackTrace" Bundle.steD = some (cf, kf, fi, f) := y1
    cases Ti.stack.symm.trans y1
    exact y2
  have slP : Th.fSupp.slot = gI G 12 2 := by
    obtain ⟨cf, kf, fi, f, y1, y2⟩ := sl 2 (by decide)
    have y1 : s.fieldFound? Bundle.tN "suppressedExceptions" Bundle.listD = some (cf, kf, fi, f) := y1
    cases Ti.supp.symm.trans y1
    exact y2
  obtain ⟨ci198, i198, fB, hk198, hg198, ha198, hsB, -, hnB, htB, hffB⟩ := Cond.ownField (t := .object "java/lang/Object") Ti.found L.cls (by decide +kernel) (bef2 (.fieldLink Bundle.tN 198 Bundle.tN "backtrace" "Ljava/lang/Object;") (by simp [jthr_l])) (bef2 (.lays Bundle.tN Bundle.tN "backtrace" "Ljava/lang/Object;") (by simp [jthr_l])) e.platform hpl
  have slB : fB.slot = gI G 12 4 := by
    obtain ⟨cf, kf, fi, f, y1, y2⟩ := sl 4 (by decide)
    have y1 : s.fieldFound? Bundle.tN "backtrace" "Ljava/lang/Object;" = some (cf, kf, fi, f) := y1
    cases hffB.symm.trans y1
    exact y2
  have ne : ∀ x y : Nat, x < 8 → y < 8 → x ≠ y → gI G 12 x ≠ gI G 12 y := fun x y hx hy hne => jslot_ne hts hK hcl hx hy hne
  -- the statics
  obtain ⟨cf1, kf1, fi1, f1, a1, ce1, u1, u2, u3, u4, u5, u6, u7, u8⟩ := zU
  obtain ⟨cf2, kf2, fi2, f2, a2, ce2, n1, n2, n3, n4, n5, n6, n7, n8⟩ := zN
  cases Ti.unassigned.symm.trans u1
  cases Ti.sentinel.symm.trans n1
  have hst := L.statics
  cases Option.some.inj (u4.symm.trans hst)
  cases Option.some.inj (n4.symm.trans hst)
  cases Option.some.inj (n5.symm.trans u5)
  have hcellS : T.heap[Th.aS]? = some ce1 := by rw [hS.2.1 _ (Array.getElem?_eq_some_iff.mp u5).1 u8]; exact u5
  have hneS : Th.aS ≠ o := fun w => u8 (by rw [w]; exact hB)
  have hknownS : ce1.vm ≠ .unknown := fun w => by rw [w] at u6; cases u6
  have jU : jsv G 5022 = vR ((gS G 22 : Int) - 1) := rfl
  have jN : jsv G 5023 = vR ((gS G 23 : Int) - 1) := rfl
  rw [jU] at u7
  rw [jN] at n7
  have cs : ∀ (kk fid : Nat), [((7502 : Nat), false), (7505, false), (7508, false), (7511, false), (7514, false), (7515, false), (3600, true), (3603, true)][kk]? = some (fid, false) → cell.slots[gI G 12 kk]? = some (jval fid (F fid o)) := fun kk fid h => c6 kk fid false h
  have z0 := cs 0 7502 rfl
  have z1 := cs 1 7505 rfl
  have z2 := cs 2 7508 rfl
  have z4 := cs 4 7514 rfl
  have lt0 := (Array.getElem?_eq_some_iff.mp z0).1
  have lt1 := (Array.getElem?_eq_some_iff.mp z1).1
  have lt2 := (Array.getElem?_eq_some_iff.mp z2).1
  have stC : s.fitsSlot cell.cls cell.vm Th.fCause.slot (.ref o) = true := by
    rw [c2, v1]
    exact And.right <| And.right <| u_store hfc hkC hkind (bef2 (.lays "ChildSays$Fault" Bundle.tN "cause" "Ljava/lang/Throwable;") (by simp [jthr_l])) Ti.cause (ty := .object "java/lang/Throwable") (by decide +kernel) rfl rfl
  have stS : ∀ z : Int, s.fitsSlot cell.cls cell.vm Th.fStack.slot (vR z) = true := fun z => by
    rw [c2, v1]
    exact And.right <| And.right <| u_store hfc hkC hkind (bef2 (.lays "ChildSays$Fault" Bundle.tN "stackTrace" Bundle.steD) (by simp [jthr_l])) Ti.stack (ty := .array (.object "java/lang/StackTraceElement")) (by decide +kernel) (by unfold vR; split <;> rfl) (by unfold vR; split <;> rfl)
  have stP : ∀ z : Int, s.fitsSlot cell.cls cell.vm Th.fSupp.slot (vR z) = true := fun z => by
    rw [c2, v1]
    exact And.right <| And.right <| u_store hfc hkC hkind (bef2 (.lays "ChildSays$Fault" Bundle.tN "suppressedExceptions" Bundle.listD) (by simp [jthr_l])) Ti.supp (ty := .object "java/util/List") (by decide +kernel) (by unfold vR; split <;> rfl) (by unfold vR; split <;> rfl)
  have vo : vR (o : Int) = .ref o := vR_nat o
  generalize hu : ((gS G 22 : Int) - 1) = uu at *
  generalize hn : ((gS G 23 : Int) - 1) = nn at *
  have d1 : decode c.code 1 = .ok (.invokespecial 1, 3) := by rw [hb]; exact dJ8_init_1
  have ctr : (st.map fun v => v.category).sum ≤ 8 := jcat4 (by omega)
  obtain ⟨tm, methC, cdC, kC', vm₁, hnC, -, -, -, -, -, -, -, hW₁, st1⟩ := Steps.initCold (tb := p.tables) (e := e) (below := below) (s := s) (U := T) Y.here hexec Y.warmed hpl hown (idx := 1) (t := Bundle.init0 Bundle.tN) rfl rfl (by decide) (bef2 (.methodLink "java/lang/Exception" 1 (Bundle.init0 Bundle.tN)) (by simp [jthr_l])) (bef (.instanceMethod Bundle.tInit0) (by simp [Bundle.throwableAtoms])) (bytes := LibCode.Throwable.Init0.code) (maxL := 1) (bef (.code Bundle.tInit0 LibCode.Throwable.Init0.code 1 none) (by simp [Bundle.throwableAtoms])) (f := F0 m 1 a (.ref o :: st)) rfl (a := o) (rest := st) rfl d1
  cases Option.some.inj (hnC.symm.trans Ti.init0)
  have X₁ := Y.noted hW₁
  have hskip : SkipFacts Th e.platform s (fun u => u) ⟨vR uu, vR_isRef _⟩ ((preparedCellV Th.toThrowableT cell o ⟨vR uu, vR_isRef _⟩ ⟨vR nn, vR_isRef _⟩).withEntry (T.setVm vm₁).cur) := by
    refine ⟨{ ci198 := ci198, i198 := i198, fBack := fB }, ⟨hk198, hg198, ha198, hsB⟩, ?_, fun _ _ => rfl⟩
    have b0 : fB.slot ≠ Th.fCause.slot := by rw [slB, slC]; exact ne 4 0 (by decide) (by decide) (by decide)
    have b1 : fB.slot ≠ Th.fStack.slot := by rw [slB, slS]; exact ne 4 1 (by decide) (by decide) (by decide)
    have b2 : fB.slot ≠ Th.fSupp.slot := by rw [slB, slP]; exact ne 4 2 (by decide) (by decide) (by decide)
    have zz : cell.slots[fB.slot]? = some .null := by
      rw [slB, z4]
      show some (vR (F 7514 o)) = _
      rw [vR_neg hbt]
    simpa [preparedCellV, Cell.setSlot, Cell.withEntry, Array.getElem?_setIfInBounds, b0, b1, b2, b0.symm, b1.symm, b2.symm] using zz
  obtain ⟨vm₂, X₂, st2⟩ := X₁.ctorPlainOffV hexec (g := { F0 m 1 a (.ref o :: st) with stack := st }) rfl (hL.2.1.trans X.2.2.2.2.1.symm) Th L Z LZ [] (fun P hP => nomatch hP) trivial (u0 := ⟨vR uu, vR_isRef _⟩) (sen := ⟨vR nn, vR_isRef _⟩) (self := o) (cell := cell) (cellS := ce1) c1 (fun k w => by rw [v1] at w; cases w) c4 v2 v3 hsel0 hselF hcellS hneS hknownS u7 n7 ⟨by rw [slC]; exact lt0, stC⟩ ⟨by rw [slS]; exact lt1, stS _⟩ ⟨by rw [slP]; exact lt2, stP _⟩ Ti.objLocals hskip htr [] d1 (by show 0 + 2 < R.frames; omega) (by show 2 * 0 + (st.map fun v => v.category).sum + (13 * 0 + 41) ≤ R.locals; omega)
  have hlt : o < T.heap.size := (Array.getElem?_eq_some_iff.mp c1).1
  -- the heap, store by store
  have hset : ∀ ce : Cell, (T.heap.setIfInBounds o ce)[o]? = some ce ∧ (T.heap.setIfInBounds o ce).size = T.heap.size ∧ ∀ q, q ≠ o → (T.heap.setIfInBounds o ce)[q]? = T.heap[q]? := fun ce => ⟨by simp [Array.getElem?_setIfInBounds, hlt], by simp, fun q hq => by simp [Array.getElem?_setIfInBounds, Ne.symm hq]⟩
  have r1 : jRep G s N (upF F 7502 o (o : Int)) A (T.heap.setIfInBounds o (cell.setSlot Th.fCause.slot (.ref o))) := by
    have e1 := (hset (cell.setSlot Th.fCause.slot (.ref o))).1
    rw [slC] at e1
    have := jRep.put (kk := 0) (fid := 7502) (fin := false) (z := (o : Int)) hts hK hRep hcl rfl ht c1 (by rw [← slC]; show _ = some (cell.setSlot Th.fCause.slot (vR (o : Int))); rw [vo]; exact (hset _).1) (hset (cell.setSlot Th.fCause.slot (.ref o))).2.1 (hset (cell.setSlot Th.fCause.slot (.ref o))).2.2
    exact this
  have r2 : jRep G s N (upF (upF F 7502 o (o : Int)) 7505 o uu) A (T.heap.setIfInBounds o ((cell.setSlot Th.fCause.slot (.ref o)).setSlot Th.fStack.slot (vR uu))) := by
    have := jRep.put (kk := 1) (fid := 7505) (fin := false) (z := uu) (H2 := T.heap.setIfInBounds o ((cell.setSlot Th.fCause.slot (.ref o)).setSlot Th.fStack.slot (vR uu))) hts hK r1 hcl rfl ht (hset _).1 (by rw [← slS]; exact (hset _).1) ((hset _).2.1.trans (hset _).2.1.symm) (fun q hq => ((hset _).2.2 q hq).trans ((hset _).2.2 q hq).symm)
    exact this
  have r3 : jRep G s N (upF (upF (upF F 7502 o (o : Int)) 7505 o uu) 7508 o nn) A (T.heap.setIfInBounds o (((cell.setSlot Th.fCause.slot (.ref o)).setSlot Th.fStack.slot (vR uu)).setSlot Th.fSupp.slot (vR nn))) := by
    have := jRep.put (kk := 2) (fid := 7508) (fin := false) (z := nn) (H2 := T.heap.setIfInBounds o (((cell.setSlot Th.fCause.slot (.ref o)).setSlot Th.fStack.slot (vR uu)).setSlot Th.fSupp.slot (vR nn))) hts hK r2 hcl rfl ht (hset _).1 (by rw [← slP]; exact (hset _).1) ((hset _).2.1.trans (hset _).2.1.symm) (fun q hq => ((hset _).2.2 q hq).trans ((hset _).2.2 q hq).symm)
    exact this
  have r4 : jRep G s N (upF (upF (upF (upF F 7502 o (o : Int)) 7505 o uu) 7508 o nn) 7505 o uu) A (T.heap.setIfInBounds o ((((cell.setSlot Th.fCause.slot (.ref o)).setSlot Th.fStack.slot (vR uu)).setSlot Th.fSupp.slot (vR nn)).setSlot Th.fStack.slot (vR uu))) := by
    have := jRep.put (kk := 1) (fid := 7505) (fin := false) (z := uu) (H2 := T.heap.setIfInBounds o ((((cell.setSlot Th.fCause.slot (.ref o)).setSlot Th.fStack.slot (vR uu)).setSlot Th.fSupp.slot (vR nn)).setSlot Th.fStack.slot (vR uu))) hts hK r3 hcl rfl ht (hset _).1 (by rw [← slS]; exact (hset _).1) ((hset _).2.1.trans (hset _).2.1.symm) (fun q hq => ((hset _).2.2 q hq).trans ((hset _).2.2 q hq).symm)
    exact this
  unfold thF at h4
  rw [hu, hn] at h4
  have fin := hset ((((cell.setSlot Th.fCause.slot (.ref o)).setSlot Th.fStack.slot (vR uu)).setSlot Th.fSupp.slot (vR nn)).setSlot Th.fStack.slot (vR uu))
  obtain ⟨t, y1, y2⟩ := h4 p e R s m args below meth c _ (locs ++ [⟨o, Th.fCause.slot⟩, ⟨o, Th.fStack.slot⟩, ⟨o, Th.fSupp.slot⟩, ⟨o, Th.fStack.slot⟩]) cells slots mc ms a X hc hs hmc hms hd hl r4 ⟨by rw [fin.2.1]; exact hS.1, fun q q1 q2 => by
    rw [fin.2.2 q (fun w => q2 (by rw [w]; exact hB))]
    exact hS.2.1 q q1 q2, fun q hq => by
      rcases List.mem_append.mp hq with w | w
      · exact hS.2.2 q w
      · simp only [List.mem_cons, List.not_mem_nil, or_false] at w
        rcases w with rfl | rfl | rfl | rfl <;> exact hB⟩ hL _ rfl X₂
  refine ⟨t, st1 _ (fun acts => ?_), y2⟩
  rw [doInvoke_state]
  exact st2 _ y1
end JTHR
theorem thF_o {G : jG} {F : jFl} {o : Nat} : ∀ f a, a ≠ o → thF G F o f a = F f a := fun f a ha => by
  have e : ∀ (F : jFl) (g : Nat) (z : Int), upF F g o z f a = F f a := fun F g z => if_neg (fun w => ha w.2)
  unfold thF
  rw [e, e, e, e]
theorem thF_25 {G : jG} {F : jFl} {o : Nat} : ∀ f, f / 300 ≠ 25 → thF G F o f o = F f o := fun f hf => by
  have e : ∀ (F : jFl) (g : Nat) (z : Int), g / 300 = 25 → upF F g o z f o = F f o := fun F g z hg => if_neg (fun w => hf (by rw [w.1]; exact hg))
  unfold thF
  rw [e _ _ _ (by decide), e _ _ _ (by decide), e _ _ _ (by decide), e _ _ _ (by decide)]
theorem thF_W {G : jG} {N : jSh} {F : jFl} {A : jAr} {o : Nat} (hW : jWg G N F A) : jWg G N (thF G F o) A := (((hW.wF (jRk_2 (by decide))).wF (jRk_2 (by decide))).wF (jRk_2 (by decide))).wF (jRk_2 (by decide))
