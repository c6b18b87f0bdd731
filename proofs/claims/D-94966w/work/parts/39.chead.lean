set_option maxRecDepth 100000
/-! what the component's walks lean on. NOT YET PROVED HERE: r_invP (a private method called by invokevirtual), vJ7_init (Throwable's constructor), r_mmax, r_mmin, r_mabs (Math: not plain names, to be had by the library's contracts), r_objEq (Object.equals) -/
theorem jR_c {z : Int} (h : 0 ≤ z ∧ z ≤ 65535) : jR z := by omega
theorem jR_y {z : Int} (h : -128 ≤ z ∧ z ≤ 127) : jR z := by omega
def jLP (own : String) (i : Nat) (y : jM) (n : Nat) : Prop := jcode y ∧ (y.1.cls ≠ "java/lang/invoke/MethodHandle" ∧ y.1.cls ≠ "java/lang/invoke/VarHandle" ∧ (parseMethodDescriptor y.1.desc).map (fun d => d.parameters.length) = some n) ∧ Cond.methodLink own i y.1 ∈ lw_all ∧ Cond.sameMethod y.1.cls y.1.cls y.1.name y.1.desc ∈ lw_all ∧ Cond.instanceMethod y.1 ∈ lw_all ∧ Cond.privateMethod y.1 ∈ jnw ∧ y.1.name ≠ "<init>"
section
variable {p : Program} {l : Launch} {e : Env} {R : Room} {s : State} {m : MethodId} {args : Array Value} {below : List Frame} {meth : Method} {c : Code} {H : Heap} {locs : List Loc} {cells slots : Nat}
theorem vy_callP {T : State} {locs : List Loc} {cells slots : Nat} (X : Stand p l e R s m args below meth c T locs cells slots) (hexec : p.tables.exec = Jvm.exec) {own C : String} {index : Nat} {y : MethodName} {bytes : ByteArray} {maxL : Nat} {ret : Option FieldType}
    (hown : s.vm.findClass own = some m.cls) (hlink : (Cond.methodLink own index y).before args s = true) (hsame : (Cond.sameMethod y.cls y.cls y.name y.desc).before args s = true)
    (hd0 : va_Decl s y) (howner : y.cls ≠ "java/lang/invoke/MethodHandle" ∧ y.cls ≠ "java/lang/invoke/VarHandle")
    (hpriv : (Cond.privateMethod y).before args s = true) (hinst : (Cond.instanceMethod y).before args s = true) (hcode : (Cond.code y bytes maxL ret).before args s = true)
    {W : Nat} {Pre : Pt → Array Value → Prop} {Post : Pt → Array Value → Option Value → Pt → Prop} {PostX : Pt → Array Value → Addr → Pt → Prop} (hK : vy_Back l R p e below s args y 3 W Pre Post PostX)
    {b : Addr} {cellB : Cell} (hcell : T.heap[b]? = some cellB) (hobj : cellB.vm.isStatics = false) (hcls : s.vm.findClass C = some cellB.cls)
    {g : JFrame} (hg : g.method = m) (hsize : g.locals.size = c.maxLocals) {argsL rest : List Value} (hlen : ∀ sig, parseMethodDescriptor y.desc = some sig → argsL.length = sig.parameters.length)
    (hstack : g.stack = argsL.reverse ++ .ref b :: rest) (hW : 2 * g.monitorRoom + (rest.map fun v => v.category).sum ≤ W) (hdg : decode c.code g.pc = .ok (.invokevirtual index, 3))
    (hpre : ∀ vm₁, s.WarmedH vm₁ → Pre ⟨T.setVm vm₁, locs, cells, slots⟩ (Value.ref b :: argsL).toArray) :
    (∃ (v : Option Value) (vm₁ : Vm) (B : Pt), s.WarmedH vm₁ ∧ Stand p l e R s m args below meth c B.U B.locs B.cells B.slots ∧ Post ⟨T.setVm vm₁, locs, cells, slots⟩ (Value.ref b :: argsL).toArray v B ∧
      ∀ target, Steps p.tables e below (B.U.setTop { g with pc := g.pc + 3, stack := v.toList ++ rest }) target → Steps p.tables e below (T.setTop g) target) ∨
    (∃ (q : Addr) (vm₁ : Vm) (B : Pt), s.WarmedH vm₁ ∧ Stand p l e R s m args below meth c B.U B.locs B.cells B.slots ∧ PostX ⟨T.setVm vm₁, locs, cells, slots⟩ (Value.ref b :: argsL).toArray q B ∧
      Steps p.tables e below (T.setTop g) ((B.U.setTop { g with stack := rest }).pushFrame (.throwing q))) := by
  obtain ⟨r0, r, hn, hrm, hstR, hsigR⟩ := hd0
  obtain ⟨cn, ck, r1, hcn, hck, hni, hf, hn1⟩ := Cond.sameMethod_found hsame
  cases hn.symm.trans hn1
  obtain ⟨mk, methM, hnamed, hmethM, -, habM⟩ := Cond.instanceMethod_spec hinst
  have hn2 : s.methodNamed? y = some r0 := hn
  cases hn2.symm.trans hnamed
  cases hrm.symm.trans hmethM
  have hkc : cn = r0.cls := Option.some.inj (hcn.symm.trans (findClass_of_methodNamed hnamed))
  subst hkc
  have hselP : selectMethod e.platform s.vm cellB.cls r0 = .method r0 := selectMethod_private hrm (Cond.privateMethod_at hpriv r0 r hnamed hrm)
  obtain ⟨vm₁, X₁, hstep₁⟩ := X.invokevirtualUp hexec hown hlink hsame howner hn hrm hstR (a := b) (cell := cellB) hcell
    (fun z h => by rw [h] at hobj; cases hobj) hselP hrm habM hck hni (g := g) hg (argsL := argsL) (rest := rest) (hlen _ hsigR) hstack hdg
  rcases hK m meth c ⟨T.setVm vm₁, locs, cells, slots⟩ { g with stack := rest } (.invokevirtual index) r0 (Value.ref b :: argsL).toArray X₁ hg hsize hdg hW (X₁.named hnamed) (hpre vm₁ X₁.warmed) with ⟨v, B, X', hpost, hsteps⟩ | ⟨q, B, X', hpost, hsteps⟩
  · exact Or.inl ⟨v, vm₁, B, X₁.warmed, X', hpost, fun target h => hstep₁ _ fun acts => by rw [doInvoke_state]; exact hsteps.trans h⟩
  · exact Or.inr ⟨q, vm₁, B, X₁.warmed, X', hpost, hstep₁ _ fun acts => by rw [doInvoke_state]; exact hsteps⟩
theorem vy_runP {y : MethodName} {bytes cc : ByteArray} {maxL nL mc ms n index : Nat} {ret : Option FieldType} {ws : List Cond} {rm : Room} {Pc : Array Value → State → Prop} {Qc : Array Value → State → Outcome → State → Prop} {XC : String → Addr → State → State → Prop} {free : Addr → Prop} {Ts : List Cond} {own C : String} {b : Addr} {As rest : List Value} {g : JFrame}
    (S : CallFix p m c cc nL s args Ts own) (hM : vy_Met l y ws rm Pc Qc XC mc ms free) (hbk : rm.cells = mc ∧ rm.slots = ms ∧ rm.frames + 1 ≤ R.frames ∧ 8 + (maxL + 11) + rm.locals ≤ R.locals ∧ (∀ w ∈ ws, ∀ (a' : Array Value) (U : State), s.WarmedH U.vm → w.before a' U = true) ∧ Cond.code y bytes maxL ret ∈ ws) (hl1 : (Cond.methodLink own index y).before args s = true) (hl2 : (Cond.sameMethod y.cls y.cls y.name y.desc).before args s = true) (hl4 : (Cond.instanceMethod y).before args s = true) (hini : (Cond.initialized y.cls).before args s = true) (hcode : (Cond.code y bytes maxL ret).before args s = true) (hlen : ∀ sig, parseMethodDescriptor y.desc = some sig → n = sig.parameters.length) (hpriv : (Cond.privateMethod y).before args s = true) (hnm : y.cls ≠ "java/lang/invoke/MethodHandle" ∧ y.cls ≠ "java/lang/invoke/VarHandle") (hp : PreV s H C b Pc As)
    (hg : g.method = m) (hn : As.length = n) (hsize : g.locals.size = nL) (hstack : g.stack = As.reverse ++ .ref b :: rest) (hW : 2 * g.monitorRoom + (rest.map fun v => v.category).sum ≤ 8) (hdg : decode cc g.pc = .ok (.invokevirtual index, 3)) (hf : cells + mc ≤ R.cells ∧ slots + ms ≤ R.slots) :
    vy_Run p l e R s m args below meth c H locs cells slots mc ms g rest (Qc (Value.ref b :: As).toArray) XC free := by
  obtain ⟨hrc, hrs, hfr, hlo, hws, hcw⟩ := hbk
  have hK : vy_Back l R p e below s args y 3 8 (PreOf R mc ms Pc) (PostOf Qc mc ms free) (vy_Post XC mc ms free) := vy_back (bytes := bytes) (maxL := maxL) (ret := ret) hM hp.1 hrc hrs hfr hlo hws hcw (fun a' U hW => word_at hW (Or.inl (by first | rfl | simp [Cond.onTables, Cond.keeps, Cond.steady])) hini)
  obtain ⟨hx, hb, hml, ho, -⟩ := S
  obtain ⟨-, ⟨cellB, hcB, hoB, hclB⟩, hPc⟩ := hp
  intro T hT X
  rcases vy_callP X hx (C := C) (bytes := bytes) (maxL := maxL) (ret := ret) ho hl1 hl2 (va_Decl.of hl4 hcode) hnm hpriv hl4 hcode hK (by rw [hT]; exact hcB) hoB hclB hg (hsize.trans hml.symm) (argsL := As) (rest := rest) (fun sig h => hn.trans (hlen sig h)) hstack hW (by rw [hb]; exact hdg)
    (fun vm₁ hW₁ => ⟨hf.1, hf.2, hPc (T.setVm vm₁) hT hW₁⟩) with ⟨v, vm₁, ⟨U', l2, c2, s2⟩, hW₁, X', ⟨g', mk, t, L, e1, e2, hq, h1, hL, h2, h3⟩, st⟩ | ⟨q, vm₁, ⟨U', l2, c2, s2⟩, hW₁, X', ⟨g', mk, t, L, E, ce, e1, e2, hq, hce, hcv, hcl, h1, hL, h2, h3⟩, st⟩
  · dsimp only [Pt.U, Pt.locs, Pt.cells, Pt.slots] at X' e1 e2 h1 h2 h3 st
    subst h1; subst h2; subst h3
    exact Or.inl ⟨v, (T.setVm vm₁).calling g' mk (Value.ref b :: As).toArray, t, U', L, hT, X', hL, e1, e2, hq, st⟩
  · dsimp only [Pt.U, Pt.locs, Pt.cells, Pt.slots] at X' e1 e2 h1 h2 h3 st hcl
    subst h1; subst h2; subst h3
    exact Or.inr ⟨q, (T.setVm vm₁).calling g' mk (Value.ref b :: As).toArray, t, U', L, E, ce, hT, X', hL, e1, e2, hq, hce, hcv, vy_cls hW₁ hcl, st⟩
end
theorem r_invP {G : jG} {l : Launch} {d : Nat} {k : jM} {pc : Nat} {ls st : List Value} {N : jSh} {F : jFl} {A : jAr} {post : jPo} {i n b ci d2 : Nat} {z : Int} {cl : jC} {y : jM} {As rest : List Value} {P1 : jPo} (hd : decode k.2.1 pc = .ok (.invokevirtual i, 3)) (hl : jLP k.1.cls i y n) (hz : z = (b : Int)) (htg : jtg N b = ci) (hc : jcls ci = some cl) (hC : jCall G l d2 y (vR (b : Int) :: As) N F A P1) (hn : As.length = n) (hst : st = As.reverse ++ vR z :: rest) (hcat : rest.length ≤ 4) (hdd : d2 + 1 ≤ d)
    (kk : ∀ (o : Outcome) (N' : jSh) (F' : jFl) (A' : jAr), P1 o N' F' A' → jnx N ≤ jnx N' → (∃ v, o = .returned v ∧ J G l d k (pc + 3) ls (v.toList ++ rest) N' F' A' post) ∨ ∃ q, o = .threw q ∧ JT G l d k pc ls rest q N' F' A' post) : J G l d k pc ls st N F A post := by
  rw [vR_n hz] at hst
  rw [vR_nat] at hC
  refine J.callx hC (fun {o N' F' A'} hX {p e R s m args below meth c H locs cells slots a} X h1 h2 h3 h4 hRep hS hL => ?_) kk
  obtain ⟨y1, y2, y3, y4, y5⟩ := y
  obtain ⟨⟨hy5, hy3, hcode, hini⟩, ⟨m1, m2, m3⟩, hlk, hsm, hin, hnw, hno⟩ := hl
  cases hy5
  subst hst
  have hts := X.2.2.2.2.2.2.2.1
  have hK := X.2.2.2.2.2.2.2.2.1
  exact vy_runP (C := cl.1) (As := As) (rest := rest) (maxL := y3) (ret := y4) (bytes := y2) (jFix X) hX.2.2 ⟨rfl, rfl, (by show d2 + 1 ≤ _; omega), (by show 8 + (y3 + 11) + 64 * d2 ≤ _; have : y3 ≤ 45 := hy3; omega), pay_in hts (lw_meth hcode), List.mem_cons_self⟩ (hts _ hlk) (hts _ hsm) (hts _ hin) (hts _ hini) (hts _ hcode) (fun sig h => by
      rw [h] at m3
      exact (Option.some.inj m3).symm) (va_Nw.use rfl (hK.2.2.1 _ hnw)) ⟨m1, m2⟩
    ⟨jPre.blind, jrecv hK hRep htg hc, fun U hU hW => ⟨rfl, jPre.call hK X.2.2.2.2.2.2.2.2.2.1 X.2.2.2.2.2.2.2.2.2.2.1 hRep hS U hU hW⟩⟩ rfl hn hL.2.1 rfl (lv_room (jcat4 hcat)) hd ⟨h1, h2⟩
/-- Throwable.<init>: its own fields (declarer 25) hold something -/
def wqJ7_init (o : Nat) (N : jSh) (F : jFl) (A : jAr) (Q : jFl → jAr → Prop) : Prop := jfn N 0 o = 1 ∧ F 7514 o < 0 ∧ ∀ F' : jFl, (∀ f a, a ≠ o → F' f a = F f a) → (∀ f, f / 300 ≠ 25 → F' f o = F f o) → Q F' A
section
variable {G : jG} {l : Launch} {d : Nat} {k : jM} {pc : Nat} {ls st : List Value} {N : jSh} {F : jFl} {A : jAr} {post : jPo}
theorem r_mmax {i n : Nat} {x y : Int} (hd : decode k.2.1 pc = .ok (.invokestatic i, 3)) (hl : jLS k.1.cls i mJ13_max n) (hx : jR x) (hy : jR y) (hcat : st.length ≤ 4) (hdd : 1 ≤ d) (h : J G l d k (pc + 3) ls (vI (if x ≤ y then y else x) :: st) N F A post) : J G l d k pc ls (vI y :: vI x :: st) N F A post := by
  obtain ⟨o, N', F', A', h1, h2, h3, h4⟩ := h
  refine ⟨o, N', F', A', h1, h2, h3, ?_⟩
  intro p e R s m args below meth c H locs cells slots mc ms a X hc hs hmc hms hd2 hl2 hRep hS hL
  have hts := X.2.2.2.2.2.2.2.1
  obtain ⟨⟨-, -, hcode, hini⟩, -, hlk, hst⟩ := hl
  refine va_mmax X.1 X.2.1 (X.2.2.2.2.1.trans hL.2.1.symm) X.2.2.2.2.2.1 (hts _ hlk) (hts _ hst) (hts _ hini) (hts _ hcode) (by omega) (by have := jcat4 hcat; omega) (by omega) (by omega) hd ?_
  rw [show (if Int32.ofInt x < Int32.ofInt y then Int32.ofInt y else Int32.ofInt x) = Int32.ofInt (if x ≤ y then y else x) by
    by_cases q : x < y
    · rw [if_pos ((i32_lt hx hy).mpr q), if_pos (by omega)]
    · rw [if_neg (fun w => q ((i32_lt hx hy).mp w))]
      by_cases q2 : x ≤ y
      · rw [if_pos q2, show y = x by omega]
      · rw [if_neg q2]]
  exact h4 p e R s m args below meth c H locs cells slots mc ms a X hc hs hmc hms hd2 hl2 hRep hS hL
theorem r_mmin {i n : Nat} {x y : Int} (hd : decode k.2.1 pc = .ok (.invokestatic i, 3)) (hl : jLS k.1.cls i mJ13_min n) (hx : jR x) (hy : jR y) (hcat : st.length ≤ 4) (hdd : 1 ≤ d) (h : J G l d k (pc + 3) ls (vI (if x ≤ y then x else y) :: st) N F A post) : J G l d k pc ls (vI y :: vI x :: st) N F A post := by
  obtain ⟨o, N', F', A', h1, h2, h3, h4⟩ := h
  refine ⟨o, N', F', A', h1, h2, h3, ?_⟩
  intro p e R s m args below meth c H locs cells slots mc ms a X hc hs hmc hms hd2 hl2 hRep hS hL
  have hts := X.2.2.2.2.2.2.2.1
  obtain ⟨⟨-, -, hcode, hini⟩, -, hlk, hst⟩ := hl
  refine va_mmin X.1 X.2.1 (X.2.2.2.2.1.trans hL.2.1.symm) X.2.2.2.2.2.1 (hts _ hlk) (hts _ hst) (hts _ hini) (hts _ hcode) (by omega) (by have := jcat4 hcat; omega) (by omega) (by omega) hd ?_
  rw [show (if Int32.ofInt y < Int32.ofInt x then Int32.ofInt y else Int32.ofInt x) = Int32.ofInt (if x ≤ y then x else y) by
    by_cases q : y < x
    · rw [if_pos ((i32_lt hy hx).mpr q), if_neg (by omega)]
    · rw [if_neg (fun w => q ((i32_lt hy hx).mp w)), if_pos (by omega)]]
  exact h4 p e R s m args below meth c H locs cells slots mc ms a X hc hs hmc hms hd2 hl2 hRep hS hL
theorem r_mabs {i n : Nat} {x : Int} (hd : decode k.2.1 pc = .ok (.invokestatic i, 3)) (hl : jLS k.1.cls i mJ13_abs n) (hx : jR x) (hcat : st.length ≤ 4) (hdd : 1 ≤ d) (h : J G l d k (pc + 3) ls (vI (if x < 0 then -x else x) :: st) N F A post) : J G l d k pc ls (vI x :: st) N F A post := by
  obtain ⟨o, N', F', A', h1, h2, h3, h4⟩ := h
  refine ⟨o, N', F', A', h1, h2, h3, ?_⟩
  intro p e R s m args below meth c H locs cells slots mc ms a X hc hs hmc hms hd2 hl2 hRep hS hL
  have hts := X.2.2.2.2.2.2.2.1
  obtain ⟨⟨-, -, hcode, hini⟩, -, hlk, hst⟩ := hl
  refine va_mabs X.1 X.2.1 (X.2.2.2.2.1.trans hL.2.1.symm) X.2.2.2.2.2.1 (hts _ hlk) (hts _ hst) (hts _ hini) (hts _ hcode) (by omega) (by have := jcat4 hcat; omega) (by omega) (by omega) hd ?_
  rw [show (if 0 ≤ Int32.ofInt x then Int32.ofInt x else 0 - Int32.ofInt x) = Int32.ofInt (if x < 0 then -x else x) by
    by_cases q : x < 0
    · rw [if_neg (fun w => by have := (i32_le (x := 0) (y := x) (by decide) hx).mp w; omega), if_pos q, Int32.ofInt_neg, Int32.zero_sub]
    · rw [if_pos (show (0 : Int32) ≤ Int32.ofInt x from (i32_le (x := 0) (y := x) (by decide) hx).mpr (by omega)), if_neg q]]
  exact h4 p e R s m args below meth c H locs cells slots mc ms a X hc hs hmc hms hd2 hl2 hRep hS hL
end
theorem vI_cat (z : Int) : (vI z).category = 1 := rfl
theorem r_invIN8 {G : jG} {l : Launch} {d : Nat} {k : jM} {pc : Nat} {ls st : List Value} {N : jSh} {F : jFl} {A : jAr} {post : jPo} {i n b d2 : Nat} {z : Int} {y : jM} {As rest : List Value} {P1 : jPo} (hd : decode k.2.1 pc = .ok (.invokespecial i, 3)) (hl : jLIN k.1.cls i y n) (hz : z = (b : Int)) (hC : jCall G l d2 y (vR (b : Int) :: As) N F A P1) (hn : As.length = n) (hst : st = As.reverse ++ vR z :: rest) (hcat : (rest.map fun v => v.category).sum ≤ 8) (hdd : d2 + 1 ≤ d)
    (kk : ∀ (o : Outcome) (N' : jSh) (F' : jFl) (A' : jAr), P1 o N' F' A' → jnx N ≤ jnx N' → (∃ v, o = .returned v ∧ J G l d k (pc + 3) ls (v.toList ++ rest) N' F' A' post) ∨ ∃ q, o = .threw q ∧ JT G l d k pc ls rest q N' F' A' post) : J G l d k pc ls st N F A post := by
  rw [vR_n hz] at hst
  rw [vR_nat] at hC
  exact j_invIN hd hl hC hn hst hcat hdd kk
/-! calls by an interface: CharSequence.charAt on a StringBuilder or a String -/
theorem jrun5 {G : jG} {p : Program} {l : Launch} {e : Env} {R : Room} {s : State} {m : MethodId} {args : Array Value} {below : List Frame} {meth : Method} {c : Code} {H : Heap} {locs : List Loc} {cells slots mc ms pc : Nat} {a : Array Slot} {st0 rest : List Value} {Q : State → Prop} {o : Outcome} {N' : jSh} {F' : jFl} {A' : jAr} {ar : Array Value}
    (hr : vy_Run5 p l e R s m args below meth c H locs cells slots mc ms (F0 m pc a st0) rest (jQc G o N' F' A' ar) (jXc G o N' F' A') (jA G)) (hS : va_S (jA G) s.heap H locs)
    (kk : ∀ (v : Option Value), o = .returned v → ∀ (H1 : Heap) (locs1 : List Loc), jRep G s N' F' A' H1 → va_S (jA G) s.heap H1 locs1 → W p l e R s m args below meth c H1 locs1 (cells + mc) (slots + ms) Q (F0 m (pc + 5) a (v.toList ++ rest)))
    (hno : ∀ q, o ≠ .threw q) : W p l e R s m args below meth c H locs cells slots Q (F0 m pc a st0) := by
  intro T hT X
  rcases hr T hT X with ⟨v, st₀, t, T', L, h0, X', hL, e1, e2, ⟨hv, hRep, hF⟩, stp⟩ | ⟨q, st₀, t, T', L, E, ce, h0, X', hL, e1, e2, ⟨⟨hv, -⟩, hRep, hF⟩, hce, hcv, hcl, stp⟩
  · obtain ⟨-, -, k3⟩ := vy_keep h0 e1 hS (fun q _ h => h) (fun q h => h) hL hF
    have hvm : t.vm.Alike s.vm := by rw [← e2]; exact X'.warmed.alike.symm
    obtain ⟨t2, a1, b1⟩ := kk v hv.symm T'.heap (locs ++ L) (by rw [e1]; exact jRep.moved hvm hRep) k3 T' rfl X'
    exact ⟨t2, stp t2 a1, b1⟩
  · exact absurd hv (hno q)
def jLF (own : String) (i : Nat) (C : String) (x : MethodName) (y : jM) (n : Nat) : Prop := jcode y ∧ (x.cls ≠ "java/lang/invoke/MethodHandle" ∧ x.cls ≠ "java/lang/invoke/VarHandle" ∧ (parseMethodDescriptor x.desc).map (fun d => d.parameters.length) = some n) ∧ Cond.methodLink own i x ∈ lw_all ∧ Cond.selects C x y.1 ∈ lw_all ∧ Cond.instanceMethod y.1 ∈ lw_all ∧ x ∈ jfm ∧ Cond.publicMethod y.1 ∈ jnw ∧ Cond.unhidden C x.name x.desc ∈ jnw ∧ Cond.castable C x.cls ∈ jnw
theorem lw_F {own : String} {idx : Nat} {C : String} {x y : MethodName} {b : ByteArray} {L : Nat} {r : Option FieldType} (h1 : Cond.methodLink own idx x ∈ lw_all) (h3 : Cond.selects C x y ∈ lw_all) (h4 : Cond.instanceMethod y ∈ lw_all) (h5 : Cond.initialized y.cls ∈ lw_all) (h6 : Cond.code y b L r ∈ lw_all) : GoodIn lw_all (va_wsF own idx C x y (ws_ y b L r)) := by
  refine lw_app ?_ (lw_meth h6)
  intro w hw
  simp only [List.mem_cons, List.not_mem_nil, or_false] at hw
  rcases hw with e | e | e | e <;> rw [e] <;> assumption
theorem r_invF {G : jG} {l : Launch} {d : Nat} {k : jM} {pc : Nat} {ls st : List Value} {N : jSh} {F : jFl} {A : jAr} {post : jPo} {i ct n b ci d2 : Nat} {z : Int} {cl : jC} {x : MethodName} {y : jM} {As rest : List Value} {P : Int → Prop} (hc : jcls ci = some cl) (hd : decode k.2.1 pc = .ok (.invokeinterface i ct, 5)) (hl : jLF k.1.cls i cl.1 x y n) (hz : z = (b : Int)) (htg : jtg N b = ci) (hC : jCall G l d2 y (vR (b : Int) :: As) N F A (jpC N F A P)) (hn : As.length = n) (hst : st = As.reverse ++ vR z :: rest) (hcat : rest.length ≤ 4) (hdd : d2 + 1 ≤ d)
    (kk : ∀ w, P w → (0 ≤ w ∧ w ≤ 65535) → J G l d k (pc + 5) ls (vI w :: rest) N F A post) : J G l d k pc ls st N F A post := by
  rw [vR_n hz] at hst
  rw [vR_nat] at hC
  obtain ⟨o1, N1, F1, A1, ⟨w, rfl, rfl, rfl, rfl, hw1, hw2⟩, hX⟩ := hC
  obtain ⟨o, N', F', A', g1, g2, g3, g4⟩ := kk w hw1 hw2
  refine ⟨o, N', F', A', g1, g2, g3, ?_⟩
  intro p e R s m args below meth c H locs cells slots mc ms a X hcc hss hmc hms hd2 hl2 hRep hS hL
  obtain ⟨y1, y2, y3, y4, y5⟩ := y
  obtain ⟨⟨hy5, hy3, hcode, hini⟩, hm, hlk, hse, hin, hfm, hpu, hun, hca⟩ := hl
  cases hy5
  subst hst
  have hts := X.2.2.2.2.2.2.2.1
  have hK := X.2.2.2.2.2.2.2.2.1
  have hFc := X.2.2.2.2.2.2.2.2.2.1.2.2.2.2.1 x hfm
  have hFw : va_Fw cl.1 x y1 s := va_Fw.of (A := #[]) hFc.1 hFc.2 (va_Nw.use rfl (hK.2.2.1 _ hpu)) (va_Nw.use rfl (hK.2.2.1 _ hun)) (va_Nw.use rfl (hK.2.2.1 _ hca))
  refine jrun5 (vy_runF (C := cl.1) (As := As) (rest := rest) (hK.1 ci cl hc).2 (jFix X) hX.2.2 (va_cwF n hts (lw_F hlk hse hin hini hcode) rfl rfl rfl hFw hm ⟨by show d2 + 1 ≤ _; omega, by show 8 + (y3 + 11) + 64 * d2 ≤ _; have : y3 ≤ 45 := hy3; omega⟩)
    ⟨jPre.blind, jrecv hK hRep htg hc, fun U hU hW => ⟨rfl, jPre.call hK X.2.2.2.2.2.2.2.2.2.1 X.2.2.2.2.2.2.2.2.2.2.1 hRep hS U hU hW⟩⟩ rfl hn hL.2.1 rfl (lv_room (jcat4 hcat)) hd ⟨by omega, by omega⟩) hS (fun v hv H1 locs1 hR1 hS1 => ?_) (fun q h => by cases h)
  cases hv
  simp only [Nat.sub_self, Nat.add_zero]
  exact g4 p e R s m args below meth c H1 locs1 cells slots mc ms a X hcc hss hmc hms hd2 hl2 hR1 hS1 hL
theorem lkF_B : jLF "ChildSays" 521 "java/lang/StringBuilder" ⟨"java/lang/CharSequence", "charAt", "(I)C"⟩ mJ4_charAt 1 := ⟨jcJ4_charAt, ⟨by decide, by decide, by decide +kernel⟩, q1885, q1893, q1895, List.mem_cons_self, List.mem_of_elem_eq_true (by decide +kernel), List.mem_of_elem_eq_true (by decide +kernel), List.mem_of_elem_eq_true (by decide +kernel)⟩
theorem lkF_S : jLF "ChildSays" 521 "java/lang/String" ⟨"java/lang/CharSequence", "charAt", "(I)C"⟩ mJ5_charAt 1 := ⟨jcJ5_charAt, ⟨by decide, by decide, by decide +kernel⟩, q1885, q1889, q831, List.mem_cons_self, List.mem_of_elem_eq_true (by decide +kernel), List.mem_of_elem_eq_true (by decide +kernel), List.mem_of_elem_eq_true (by decide +kernel)⟩
theorem r_ifChar {G : jG} {l : Launch} {d : Nat} {k : jM} {pc : Nat} {ls st : List Value} {N : jSh} {F : jFl} {A : jAr} {post : jPo} {ct b d2 : Nat} {z i : Int} {P : Int → Prop} (ho : k.1.cls = "ChildSays") (hd : decode k.2.1 pc = .ok (.invokeinterface 521 ct, 5)) (hz : z = (b : Int)) (hC : (jtg N b = 21 ∧ jCall G l d2 mJ4_charAt [vR (b : Int), vI i] N F A (jpC N F A P)) ∨ (jtg N b = 22 ∧ jCall G l d2 mJ5_charAt [vR (b : Int), vI i] N F A (jpC N F A P))) (hcat : st.length ≤ 4) (hdd : d2 + 1 ≤ d)
    (kk : ∀ w, P w → (0 ≤ w ∧ w ≤ 65535) → J G l d k (pc + 5) ls (vI w :: st) N F A post) : J G l d k pc ls (vI i :: vR z :: st) N F A post := by
  rcases hC with ⟨ht, hC⟩ | ⟨ht, hC⟩
  · exact r_invF (ci := 21) (As := [vI i]) (rest := st) rfl hd (by rw [ho]; exact lkF_B) hz ht hC rfl rfl hcat hdd kk
  · exact r_invF (ci := 22) (As := [vI i]) (rest := st) rfl hd (by rw [ho]; exact lkF_S) hz ht hC rfl rfl hcat hdd kk
/-- a difference that may wrap -/
def jWr (v e : Int) : Prop := jR v ∧ ∃ q : Int, v = e + 4294967296 * q
theorem jWr_ex (e : Int) : ∃ v : Int, jWr v e := ⟨(e + 2147483648) % 4294967296 - 2147483648, by unfold jR; omega, -((e + 2147483648) / 4294967296), by omega⟩
theorem jWr_v {v e : Int} (h : jWr v e) : vI v = vI e := by
  obtain ⟨_, q, hq⟩ := h
  have hb : Int.bmod (e + 4294967296 * q) (2 ^ 32) = Int.bmod e (2 ^ 32) := by
    have h : (e + 4294967296 * q) % (((2 ^ 32 : Nat)) : Int) = e % (((2 ^ 32 : Nat)) : Int) := by
      show (e + 4294967296 * q) % 4294967296 = e % 4294967296
      omega
    unfold Int.bmod
    rw [h]
  have hi : Int32.ofInt v = Int32.ofInt e := by
    apply Int32.toInt_inj.mp
    rw [Int32.toInt_ofInt, Int32.toInt_ofInt, hq]
    exact hb
  show Value.int (Int32.ofInt v) = Value.int (Int32.ofInt e)
  rw [hi]
theorem j_i2lw {G : jG} {l : Launch} {d : Nat} {k : jM} {pc : Nat} {ls st : List Value} {N : jSh} {F : jFl} {A : jAr} {post : jPo} {v x : Int} (hd : decode k.2.1 pc = .ok (.i2l, 1)) (hv : jWr v x) (h : J G l d k (pc + 1) ls (vL v :: st) N F A post) : J G l d k pc ls (vI x :: st) N F A post := by
  rw [← jWr_v hv]
  exact j_i2l hd hv.1 h
/-! Object.equals: no plain name, but no native row either -/
theorem vy_ofWF {l : Launch} {y : MethodName} {ws ws' : List Cond} {rm : Room} {Pc : Array Value → State → Prop} {Qc : Array Value → State → Outcome → State → Prop} {XC : String → Addr → State → State → Prop} {mc ms : Nat} {free : Addr → Prop} {cc : ByteArray} {maxL : Nat} {ret : Option FieldType}
    (hy : plainFor y = true) (hw : ws = Cond.code y cc maxL ret :: ws')
    (body : ∀ p e s m args below meth c s₁, BodyLoose p l y (headSpec ws rm) cc maxL ret e s m args below meth c s₁ → c.maxLocals = maxL → (∀ x ∈ c.exceptionTable.toList, False) → Pc args s →
      W p l e (headSpec ws rm).room s m args below meth c s.heap [] 0 0 (vy_MQ below Qc XC args s mc ms free) (entryFrame m args maxL)) : vy_Met l y ws rm Pc Qc XC mc ms free := by
  refine MetFree.of_bodySF (code := cc) (maxLocals := maxL) (ret := ret) hy ?_ ?_
  · intro args s m h hn
    obtain ⟨meth, c, h1, h2, h3, h4, h5, h6, -, -⟩ := Cond.code_spec hn (atoms_spec (ws := ws) h _ (by rw [hw]; exact List.mem_cons_self))
    exact ⟨meth, c, h1, h2, h3, h4, h5, h6⟩
  · intro p e s m args below meth c s₁ B hml hP _
    have hh0 : s₁.heap = s.heap := by rw [B.state]; rfl
    have ht : ∀ x ∈ c.exceptionTable.toList, False := by
      obtain ⟨meth9, c9, h1, h2, -, -, -, -, h7, -⟩ := Cond.code_spec B.named (atoms_spec (ws := ws) B.pre _ (by rw [hw]; exact List.mem_cons_self))
      cases Option.some.inj (h1.symm.trans B.method)
      cases Option.some.inj (h2.symm.trans (Stand.of_body B).code)
      intro x hx
      rw [Array.isEmpty_iff.mp h7] at hx
      cases hx
    obtain ⟨t, a1, o, b1, b2, b3⟩ := body p e s m args below meth c s₁ B hml ht hP s₁ hh0 (Stand.of_body B)
    exact ⟨t, o, a1, b1, b2, b3⟩
section
variable {G : jG} {l : Launch} {d : Nat} {k : jM} {pc : Nat} {ls st : List Value} {N : jSh} {F : jFl} {A : jAr} {post : jPo}
theorem jCall.ofF {As : List Value} (hy : plainFor k.1 = true) (hh : k.2.2.2.2 = []) (hlen : (jent As).length ≤ k.2.2.1) (hls : jloc As k.2.2.1 = ls) (h : J G l d k 0 ls [] N F A post) : jCall G l d k As N F A post := by
  obtain ⟨o, N', F', A', h1, h2, h3, h4⟩ := h
  subst hls
  obtain ⟨y, cc, maxL, ret, hl⟩ := k
  cases hh
  refine ⟨o, N', F', A', h1, h2, h3, ?_⟩
  refine vy_ofWF (cc := cc) (maxL := maxL) (ret := ret) (ws' := lw_all) hy rfl ?_
  intro p e s m args below meth c s₁ B hml hno hPc
  obtain ⟨rfl, hK, hS, hB, hRep⟩ := hPc
  have hts := atoms_spec (ws := jws (y, cc, maxL, ret, [])) B.pre
  have hin : meth.name = y.name := (name_of_methodNamed B.named B.method).1
  have ht : c.exceptionTable.toList = tableOf [] := by
    cases hq : c.exceptionTable.toList with
    | nil => rfl
    | cons x t => exact absurd (by rw [hq]; exact List.mem_cons_self) (hno x)
  rw [lg_entry_eq]
  exact h4 p e _ s m As.toArray below meth c s.heap [] 0 0 _ _ _ ⟨B.exec, B.bytes, B.returns, B.notSynchronized, hml, findClass_of_methodNamed B.named, hin, fun w hw => hts w (List.mem_cons_of_mem _ hw), hK, hS, hB, ht⟩ (by omega) (by omega) (Nat.le_refl _) (Nat.le_refl _) (Nat.le_refl _) (Nat.le_refl _) hRep va_S.rf (jL_entry As hlen)
theorem vJ15_equals {o : Nat} {y : Int} : jCall G l d mJ15_equals [vR (o : Int), vR y] N F A (fun q N' F' A' => q = .returned (some (vI (if (o : Int) = y then 1 else 0))) ∧ N' = N ∧ F' = F ∧ A' = A) := by
  refine jCall.ofF (by decide +kernel) rfl (ls := [vR (o : Int), vR y]) (by simp only [jent_R, jent_nil]; exact Nat.le_of_ble_eq_true rfl) (by simp only [jloc, jent_R, jent_nil]; rfl) ?_
  refine r_aload_n dJ15_equals_0 rfl ?_
  refine r_aload_n dJ15_equals_1 rfl ?_
  refine r_acmp_ne 9 dJ15_equals_2 rfl (fun hc => ?_) (fun hc => ?_)
  · refine j_iconst dJ15_equals_9 ?_
    refine j_zret (z := 0) dJ15_equals_10 rfl rfl ?_
    exact ⟨by rw [if_neg (fun w => hc (Or.inl w))], rfl, rfl, rfl⟩
  · refine j_iconst dJ15_equals_5 ?_
    refine j_goto 10 dJ15_equals_6 rfl ?_
    refine j_zret (z := 1) dJ15_equals_10 rfl rfl ?_
    exact ⟨by rw [if_pos (by omega)], rfl, rfl, rfl⟩
theorem r_objEq {i b n : Nat} {z y : Int} (hd : decode k.2.1 pc = .ok (.invokevirtual i, 3)) (hl : jLU k.1.cls i "ChildSays$Law" yJ15_equals mJ15_equals n) (hz : z = (b : Int)) (ht : jtg N b = 17) (hcat : st.length ≤ 4) (hdd : 1 ≤ d) (h : J G l d k (pc + 3) ls (vI (if z = y then 1 else 0) :: st) N F A post) : J G l d k pc ls (vR y :: vR z :: st) N F A post := by
  have hn : n = 1 := by
    have := hl.2.1.2.2
    rw [show (parseMethodDescriptor yJ15_equals.desc).map (fun d => d.parameters.length) = some 1 by decide +kernel] at this
    exact (Option.some.inj this).symm
  subst hn
  refine r_invU (ci := 17) (As := [vR y]) (rest := st) rfl hd hl hz ht (vJ15_equals (G := G) (l := l) (d := 0)) rfl rfl hcat hdd (fun o N' F' A' hP hN => Or.inl ?_)
  obtain ⟨q1, q2, q3, q4⟩ := hP
  subst q2 q3 q4
  refine ⟨_, q1, ?_⟩
  rw [← hz]
  exact h
end
/-! the logical shift by 31: the sign -/
theorem ush31 {x : Int} (hx : -2147483648 ≤ x ∧ x ≤ 2147483647) : ((Int32.ofInt x).toUInt32 >>> ((Int32.ofInt 31).toUInt32 &&& Int32.toUInt32 31)).toInt32 = Int32.ofInt (if x < 0 then 1 else 0) := by
  have e31 : ((Int32.ofInt 31).toUInt32 &&& Int32.toUInt32 31) = 31 := by decide
  rw [e31]
  have hn : (Int32.ofInt x).toUInt32.toNat = (x % 4294967296).toNat := by
    show (Int32.ofInt x).toBitVec.toNat = _
    rw [show (Int32.ofInt x).toBitVec = BitVec.ofInt 32 x from rfl, BitVec.toNat_ofInt]
    rfl
  have hs : ((Int32.ofInt x).toUInt32 >>> (31 : UInt32)).toNat = (x % 4294967296).toNat / 2147483648 := by
    rw [UInt32.toNat_shiftRight, hn, Nat.shiftRight_eq_div_pow]
    rfl
  by_cases w : x < 0
  · rw [if_pos w]
    have : (Int32.ofInt x).toUInt32 >>> (31 : UInt32) = 1 := UInt32.toNat_inj.mp (by rw [hs]; show _ = 1; omega)
    rw [this]; rfl
  · rw [if_neg w]
    have : (Int32.ofInt x).toUInt32 >>> (31 : UInt32) = 0 := UInt32.toNat_inj.mp (by rw [hs]; show _ = 0; omega)
    rw [this]; rfl
theorem j_iushr31 {G : jG} {l : Launch} {d : Nat} {k : jM} {pc : Nat} {ls st : List Value} {N : jSh} {F : jFl} {A : jAr} {post : jPo} {x : Int} (hd : decode k.2.1 pc = .ok (.iushr, 1)) (hx : jR x) (h : J G l d k (pc + 1) ls (vI (if x < 0 then 1 else 0) :: st) N F A post) : J G l d k pc ls (vI 31 :: vI x :: st) N F A post :=
  J.go (fun X _ _ _ w => lv_iushr X.1 X.2.1 hd (ush31 (by unfold jR at hx; omega)) w) h
section
theorem lkUJ3_83 : jLU "java/lang/AbstractStringBuilder" 83 "java/lang/StringBuilder" yJ3_isLatin1 mJ3_isLatin1 0 := ⟨jcJ3_isLatin1, ⟨by decide, by decide, by decide +kernel⟩, rfl, q1829, q1831, q1832, q1830⟩
theorem lkUJ2_93 : jLU "java/util/ArrayList" 93 "ChildSays$Law" yJ15_equals mJ15_equals 1 := ⟨jcJ15_equals, ⟨by decide, by decide, by decide +kernel⟩, rfl, q1360, q1362, q1366, q1361⟩
theorem lkPJ3_100 : jLP "java/lang/AbstractStringBuilder" 100 mJ3_ensureCapacityInternal 1 := ⟨jcJ3_ensureCapacityInternal, ⟨by decide, by decide, by decide +kernel⟩, q1809, q2693, q1811, List.mem_of_elem_eq_true (by decide +kernel), by decide⟩
theorem lkPJ3_104 : jLP "java/lang/AbstractStringBuilder" 104 mJ3_newCapacity 1 := ⟨jcJ3_newCapacity, ⟨by decide, by decide, by decide +kernel⟩, q1813, q2694, q1815, List.mem_of_elem_eq_true (by decide +kernel), by decide⟩
theorem lkSUJ4_333 : jLSU "java/lang/StringBuilder" 333 mJ3_setLength 1 := ⟨jcJ3_setLength, ⟨by decide, by decide +kernel⟩, q1806, q2692, q519, q1807⟩
theorem lkSUJ4_50 : jLSU "java/lang/StringBuilder" 50 mJ3_append 1 := ⟨jcJ3_append, ⟨by decide, by decide +kernel⟩, q1855, q2695, q519, q1856⟩
theorem lkSUJ4_343 : jLSU "java/lang/StringBuilder" 343 mJ3_length 0 := ⟨jcJ3_length, ⟨by decide, by decide +kernel⟩, q1878, q2697, q519, q1879⟩
theorem lkSUJ4_329 : jLSU "java/lang/StringBuilder" 329 mJ3_charAt 1 := ⟨jcJ3_charAt, ⟨by decide, by decide +kernel⟩, q1898, q2698, q519, q1899⟩
end
theorem r_named138 {G : jG} {l : Launch} {d : Nat} {k : jM} {pc : Nat} {ls st : List Value} {N : jSh} {F : jFl} {A : jAr} {post : jPo} {z : Int} {a : Nat} (hk : k.1.cls = "ChildSays") (hd : decode k.2.1 pc = .ok (.getfield 138, 3)) (hz : z = (a : Int)) (ht : jtg N a = 14 ∨ jtg N a = 15 ∨ jtg N a = 16 ∨ jtg N a = 17) (h : J G l d k (pc + 3) ls (vR (jfn N 3902 a) :: st) N F A post) : J G l d k pc ls (vR z :: st) N F A post := by
  rcases ht with ht | ht | ht | ht
  · exact r_gRF hd (by rw [hk]; exact flX0_138_14) hz ht rfl h
  · exact r_gRF hd (by rw [hk]; exact flX0_138_15) hz ht rfl h
  · exact r_gRF hd (by rw [hk]; exact flX0_138_16) hz ht rfl h
  · exact r_gRF hd (by rw [hk]; exact flX0_138_17) hz ht rfl h
