set_option maxRecDepth 100000
/-! J's rows: a method from its entry, its ends, calls, throws -/
/-- the arguments in a method's locals -/
def jent : List Value → List Value
  | [] => []
  | v :: vs => if v.category = 2 then v :: jD :: jent vs else v :: jent vs
theorem jent_len : ∀ vs : List Value, (jent vs).length = (lg_sl vs).length
  | [] => rfl
  | v :: vs => by
    by_cases h : v.category = 2
    · have e1 : jent (v :: vs) = v :: jD :: jent vs := by simp [jent, h]
      have e2 : lg_sl (v :: vs) = .val v :: .second :: lg_sl vs := by simp [lg_sl, h]
      rw [e1, e2, List.length_cons, List.length_cons, List.length_cons, List.length_cons, jent_len vs]
    · have e1 : jent (v :: vs) = v :: jent vs := by simp [jent, h]
      have e2 : lg_sl (v :: vs) = .val v :: lg_sl vs := by simp [lg_sl, h]
      rw [e1, e2, List.length_cons, List.length_cons, jent_len vs]
theorem jent_at : ∀ (vs : List Value) (i : Nat) (v : Value), (jent vs)[i]? = some v → v ≠ jD → (lg_sl vs)[i]? = some (.val v)
  | [], i, v, h, _ => by simp [jent] at h
  | w :: vs, i, v, h, hv => by
    by_cases hw : w.category = 2
    · have e1 : jent (w :: vs) = w :: jD :: jent vs := by simp [jent, hw]
      have e2 : lg_sl (w :: vs) = .val w :: .second :: lg_sl vs := by simp [lg_sl, hw]
      rw [e1] at h
      rw [e2]
      match i, h with
      | 0, h => cases h; rfl
      | 1, h => cases h; exact absurd rfl hv
      | j + 2, h => exact jent_at vs j v h hv
    · have e1 : jent (w :: vs) = w :: jent vs := by simp [jent, hw]
      have e2 : lg_sl (w :: vs) = .val w :: lg_sl vs := by simp [lg_sl, hw]
      rw [e1] at h
      rw [e2]
      match i, h with
      | 0, h => cases h; rfl
      | j + 1, h => exact jent_at vs j v h hv
def jloc (As : List Value) (n : Nat) : List Value := jent As ++ List.replicate (n - (jent As).length) jD
theorem jL_entry (As : List Value) {n : Nat} (h : (jent As).length ≤ n) : jL (jloc As n) n ((lg_sl As ++ List.replicate (n - (lg_sl As).length) Slot.unset).toArray) := by
  have h2 := lv_entry As (n := n) (by rw [← jent_len]; exact h)
  refine ⟨by simp [jloc]; omega, h2.1, h2.2.1, fun i v hi hv => ?_⟩
  have hlt : i < (jent As).length := by
    apply Classical.byContradiction
    intro q
    unfold jloc at hi
    rw [List.getElem?_append_right (by omega)] at hi
    have h3 := List.mem_of_getElem? hi
    exact hv (List.eq_of_mem_replicate h3)
  unfold jloc at hi
  rw [List.getElem?_append_left hlt] at hi
  have h4 := jent_at As i v hi hv
  rw [List.getElem?_toArray, List.getElem?_append_left (by rw [← jent_len]; exact hlt)]
  exact h4
section JC
variable {G : jG} {l : Launch} {d : Nat} {k : jM} {pc : Nat} {ls st : List Value} {N : jSh} {F : jFl} {A : jAr} {post : jPo}
theorem jPre.blind {As : List Value} : FrameBlind (va_Pc As (jPre G N F A)) := by
  intro a U g mk h
  obtain ⟨h1, h2, h3, h4, h5⟩ := h
  exact ⟨h1, jK.warm (s := U) (U := U.calling g mk a) (State.WarmedH.refl U) h2, jS.warm (s := U) (U := U.calling g mk a) (State.WarmedH.refl U) (fun _ _ _ => rfl) h3, h4, jRep.moved (u := U) (U := U.calling g mk a) (Vm.Alike.refl U.vm) h5⟩
theorem jPre.call {s : State} {H : Heap} {locs : List Loc} (hK : jK G s) (hS : jS G s) (hB : gB G ≤ s.heap.size) (hRep : jRep G s N F A H) (hV : va_S (jA G) s.heap H locs) (U : State) (hU : U.heap = H) (hW : s.WarmedH U.vm) : jPre G N F A U :=
  ⟨jK.warm hW hK, jS.warm hW (fun a h1 h2 => by rw [hU]; exact hV.2.1 a h1 h2) hS, by rw [hU]; exact Nat.le_trans hB hV.1, by rw [hU]; exact jRep.moved hW.alike hRep⟩
/-- a method from its entry (no handlers) -/
theorem jCall.of {As : List Value} (hy : plainName k.1.cls = true) (hh : k.2.2.2.2 = []) (hlen : (jent As).length ≤ k.2.2.1) (hls : jloc As k.2.2.1 = ls) (h : J G l d k 0 ls [] N F A post) : jCall G l d k As N F A post := by
  obtain ⟨o, N', F', A', h1, h2, h3, h4⟩ := h
  subst hls
  obtain ⟨y, cc, maxL, ret, hl⟩ := k
  cases hh
  refine ⟨o, N', F', A', h1, h2, h3, ?_⟩
  refine vy_ofW (cc := cc) (maxL := maxL) (ret := ret) (ws' := lw_all) hy rfl ?_
  intro p e s m args below meth c s₁ B hml hno hPc
  obtain ⟨rfl, hK, hS, hB, hRep⟩ := hPc
  have hts := atoms_spec (ws := jws (y, cc, maxL, ret, [])) B.pre
  have hin : meth.name = y.name := (name_of_methodNamed B.named B.method).1
  have ht : c.exceptionTable.toList = tableOf [] := by
    cases hq : c.exceptionTable.toList with
    | nil => rfl
    | cons x t => exact absurd (by rw [hq]; exact List.mem_cons_self) (hno x)
  rw [lg_entry_eq]
  exact h4 p e _ s m As.toArray below meth c s.heap [] 0 0 _ _ _ ⟨B.exec, B.bytes, B.returns, B.notSynchronized, hml, findClass_of_methodNamed B.named, hin, fun w hw => hts w (List.mem_cons_of_mem _ hw), hK, hS, hB, ht⟩ (by omega) (by omega) (Nat.le_refl _) (Nat.le_refl _) (Nat.le_refl _) (Nat.le_refl _) hRep va_S.rf (jL_entry As hlen)
/-- a method from its entry, with handlers -/
theorem jCall.ofH {As : List Value} (hy : plainName k.1.cls = true) (hh : jwd k = Cond.codeWith k.1 k.2.1 k.2.2.1 k.2.2.2.1 k.2.2.2.2) (hlen : (jent As).length ≤ k.2.2.1) (hls : jloc As k.2.2.1 = ls) (h : J G l d k 0 ls [] N F A post) : jCall G l d k As N F A post := by
  obtain ⟨o, N', F', A', h1, h2, h3, h4⟩ := h
  subst hls
  obtain ⟨y, cc, maxL, ret, hl⟩ := k
  refine ⟨o, N', F', A', h1, h2, h3, ?_⟩
  refine vy_ofWH (cc := cc) (maxL := maxL) (ret := ret) (hh := hl) (ws' := lw_all) hy (by show jwd _ :: lw_all = _; rw [hh]) ?_
  intro p e s m args below meth c s₁ B hml hPc
  obtain ⟨rfl, hK, hS, hB, hRep⟩ := hPc
  have hts := atoms_spec (ws := jws (y, cc, maxL, ret, hl)) B.pre
  have hin : meth.name = y.name := (name_of_methodNamed B.named B.method).1
  have h0 := hts _ List.mem_cons_self
  rw [hh] at h0
  have ht : c.exceptionTable.toList = tableOf hl := vy_table (x := y) B h0
  rw [lg_entry_eq]
  exact h4 p e _ s m As.toArray below meth c s.heap [] 0 0 _ _ _ ⟨B.exec, B.bytes, B.returns, B.notSynchronized, hml, findClass_of_methodNamed B.named, hin, fun w hw => hts w (List.mem_cons_of_mem _ hw), hK, hS, hB, ht⟩ (by omega) (by omega) (Nat.le_refl _) (Nat.le_refl _) (Nat.le_refl _) (Nat.le_refl _) hRep va_S.rf (jL_entry As hlen)
/-! ends -/
theorem jend {v : Option Value} (hp : post (.returned v) N F A)
    (hr : ∀ {p : Program} {e : Env} {R : Room} {s : State} {m : MethodId} {args : Array Value} {below : List Frame} {meth : Method} {c : Code} {H : Heap} {locs : List Loc} {cells slots : Nat} {a : Array Slot} {Qc : Array Value → State → Outcome → State → Prop} {free : Addr → Prop},
      jCtx G k p s m args meth c → (∀ t : State, t.heap = H → s.WarmedH t.vm → Qc args s (.returned v) t) → (∀ q ∈ locs, free q.base) → W p l e R s m args below meth c H locs cells slots (MQ below Qc args s cells slots free) (F0 m pc a st)) : J G l d k pc ls st N F A post := by
  refine ⟨.returned v, N, F, A, hp, Nat.le_refl _, Nat.le_refl _, ?_⟩
  intro p e R s m args below meth c H locs cells slots mc ms a X hc hs hmc hms hd hl hRep hS hL
  refine W.widen (k := mc) (n := ms) (by omega) (by omega) ?_
  exact vy_ret (hr X (fun t ht hW => ⟨rfl, by rw [ht]; exact jRep.moved hW.alike hRep, hS.F ht⟩) hS.2.2)
theorem j_iret {z : Int} (hd : decode k.2.1 pc = .ok (.ireturn, 1)) (hr : k.2.2.2.1 = some .int) (hp : post (.returned (some (vI z))) N F A) : J G l d k pc ls [vI z] N F A post :=
  jend hp (fun X hq hf => W.iret X.1 X.2.1 (X.2.2.1.trans hr) hq hf hd X.2.2.2.1)
theorem j_zret {z : Int} {ty : FieldType} (hd : decode k.2.1 pc = .ok (.ireturn, 1)) (hr : k.2.2.2.1 = some ty) (hn : narrow ty (vI z) = vI z) (hp : post (.returned (some (vI z))) N F A) : J G l d k pc ls [vI z] N F A post :=
  jend hp (fun X hq hf => W.zret X.1 X.2.1 (X.2.2.1.trans hr) hn hq hf hd X.2.2.2.1)
theorem j_lret {z : Int} (hd : decode k.2.1 pc = .ok (.lreturn, 1)) (hr : k.2.2.2.1 = some .long) (hp : post (.returned (some (vL z))) N F A) : J G l d k pc ls [vL z] N F A post :=
  jend hp (fun X hq hf => W.lret X.1 X.2.1 (X.2.2.1.trans hr) hq hf hd X.2.2.2.1)
theorem j_vret (hd : decode k.2.1 pc = .ok (.return_, 1)) (hr : k.2.2.2.1 = none) (hp : post (.returned none) N F A) : J G l d k pc ls [] N F A post :=
  jend hp (fun X hq hf => W.vret X.1 X.2.1 (X.2.2.1.trans hr) hq hf hd X.2.2.2.1)
theorem j_aret {b : Nat} {ty : FieldType} (hd : decode k.2.1 pc = .ok (.areturn, 1)) (hr : k.2.2.2.1 = some ty) (hrt : (∃ n, ty = .object n) ∨ ∃ t, ty = .array t) (hp : post (.returned (some (.ref b))) N F A) : J G l d k pc ls [.ref b] N F A post :=
  jend hp (fun X hq hf => W.aret X.1 X.2.1 (X.2.2.1.trans hr) hrt (Or.inr ⟨b, rfl⟩) hq hf hd X.2.2.2.1)
theorem j_aretN {ty : FieldType} (hd : decode k.2.1 pc = .ok (.areturn, 1)) (hr : k.2.2.2.1 = some ty) (hrt : (∃ n, ty = .object n) ∨ ∃ t, ty = .array t) (hp : post (.returned (some .null)) N F A) : J G l d k pc ls [.null] N F A post :=
  jend hp (fun X hq hf => W.aret X.1 X.2.1 (X.2.2.1.trans hr) hrt (Or.inl rfl) hq hf hd X.2.2.2.1)
/-! with an exception in flight -/
def jTX (G : jG) (l : Launch) (d : Nat) (k : jM) (pc : Nat) (ls st : List Value) (q : Nat) (N : jSh) (F : jFl) (A : jAr) (o : Outcome) (N' : jSh) (F' : jFl) (A' : jAr) : Prop :=
  jnx N ≤ jnx N' ∧ jsu N ≤ jsu N' ∧ ∀ (p : Program) (e : Env) (R : Room) (s : State) (m : MethodId) (args : Array Value) (below : List Frame) (meth : Method) (c : Code) (H : Heap) (locs : List Loc) (cells slots mc ms : Nat) (a : Array Slot),
    jCtx G k p s m args meth c → cells + (jnx N' - jnx N) ≤ mc → slots + (jsu N' - jsu N) ≤ ms → mc ≤ R.cells → ms ≤ R.slots → d ≤ R.frames → 64 * d ≤ R.locals → jRep G s N F A H → va_S (jA G) s.heap H locs → jL ls k.2.2.1 a →
    vy_W p l e R s m args below meth c H locs cells slots (vy_MQ below (jQc G o N' F' A') (jXc G o N' F' A') args s mc ms (jA G)) (F0 m pc a st) q
def JT (G : jG) (l : Launch) (d : Nat) (k : jM) (pc : Nat) (ls st : List Value) (q : Nat) (N : jSh) (F : jFl) (A : jAr) (post : jPo) : Prop :=
  ∃ (o : Outcome) (N' : jSh) (F' : jFl) (A' : jAr), post o N' F' A' ∧ jTX G l d k pc ls st q N F A o N' F' A'
theorem j_athrow {q : Nat} (hd : decode k.2.1 pc = .ok (.athrow, 1)) (h : JT G l d k pc ls st q N F A post) : J G l d k pc ls (.ref q :: st) N F A post := by
  obtain ⟨o, N', F', A', h1, h2, h3, h4⟩ := h
  refine ⟨o, N', F', A', h1, h2, h3, ?_⟩
  intro p e R s m args below meth c H locs cells slots mc ms a X hc hs hmc hms hdp hl hRep hS hL
  exact vy_athrow X.1 X.2.1 hd (h4 p e R s m args below meth c H locs cells slots mc ms a X hc hs hmc hms hdp hl hRep hS hL)
/-- thrown out of the method -/
theorem JT.out {q ci : Nat} {cl : jC} (hB : gB G ≤ q) (htg : jtg N q = ci) (hc : jcls ci = some cl) (hout : ∀ x ∈ tableOf k.2.2.2.2, covers x pc = false) (hp : post (.threw q) N F A) : JT G l d k pc ls st q N F A post := by
  refine ⟨.threw q, N, F, A, hp, Nat.le_refl _, Nat.le_refl _, ?_⟩
  intro p e R s m args below meth c H locs cells slots mc ms a X hcc hss hmc hms hd hl hRep hS hL
  subst htg
  obtain ⟨cell, h1, h2, h3, h4, h5, -⟩ := hRep.2.1 q cl hc
  have hK := X.2.2.2.2.2.2.2.2.1
  exact vy_out (E := cl.1) (ce := cell) (by rw [X.2.2.2.2.2.2.2.2.2.2.2]; exact hout) X.2.2.2.1 h1 (h5 hB).1 (by rw [h2]; exact (hK.1 _ cl hc).2.1)
    (fun t ht hA => ⟨⟨rfl, cl, hc, rfl⟩, by rw [ht]; exact jRep.moved hA hRep, hS.F ht⟩) hS.2.2 (by omega) (by omega)
/-- caught here -/
theorem JT.catch {q ci : Nat} {cl : jC} (x : Nat × Nat × Nat × Nat) (pre suf : List (Nat × Nat × Nat × Nat)) (hsp : k.2.2.2.2 = pre ++ x :: suf) (hpre : ∀ z ∈ tableOf pre, covers z pc = false) (hx : covers ⟨x.1, x.2.1, x.2.2.1, x.2.2.2⟩ pc = true) (h0 : x.2.2.2 ≠ 0) (hB : gB G ≤ q) (htg : jtg N q = ci) (hc : jcls ci = some cl) (hl1 : Cond.classLink k.1.cls x.2.2.2 cl.1 ∈ lw_all) (hcs : Cond.castable cl.1 cl.1 ∈ jnw) (h : J G l d k x.2.2.1 ls [.ref q] N F A post) : JT G l d k pc ls st q N F A post := by
  obtain ⟨o, N', F', A', h1, h2, h3, h4⟩ := h
  refine ⟨o, N', F', A', h1, h2, h3, ?_⟩
  intro p e R s m args below meth c H locs cells slots mc ms a X hcc hss hmc hms hd hl hRep hS hL
  subst htg
  obtain ⟨cell, g1, g2, g3, g4, g5, -⟩ := hRep.2.1 q cl hc
  have hts := X.2.2.2.2.2.2.2.1
  have hK := X.2.2.2.2.2.2.2.2.1
  have hcl := hK.1 _ cl hc
  refine vy_catch (own := k.1.cls) (name := cl.1) (E := cl.1) (ce := cell) X.2.2.2.2.2.1 (tableOf pre) ⟨x.1, x.2.1, x.2.2.1, x.2.2.2⟩ (tableOf suf) ?_ (fun z hz => Or.inl (hpre z hz)) hx h0 (hts _ hl1) ?_ g1 (g5 hB).1 (by rw [g2]; exact hcl.2.1) (h4 p e R s m args below meth c H locs cells slots mc ms a X hcc hss hmc hms hd hl hRep hS hL)
  · rw [X.2.2.2.2.2.2.2.2.2.2.2, hsp]
    simp [tableOf]
  · exact va_Nw.use rfl (hK.2.2.1 _ hcs)
/-! calls -/
theorem jFix {p : Program} {s : State} {m : MethodId} {args : Array Value} {meth : Method} {c : Code} (X : jCtx G k p s m args meth c) : CallFix p m c k.2.1 k.2.2.1 s args lw_all k.1.cls := ⟨X.1, X.2.1, X.2.2.2.2.1, X.2.2.2.2.2.1, X.2.2.2.2.2.2.2.1⟩
/-- behind a call -/
theorem jrun {p : Program} {e : Env} {R : Room} {s : State} {m : MethodId} {args : Array Value} {below : List Frame} {meth : Method} {c : Code} {H : Heap} {locs : List Loc} {cells slots mc ms pc : Nat} {a : Array Slot} {st0 rest : List Value} {Q : State → Prop} {o : Outcome} {N' : jSh} {F' : jFl} {A' : jAr} {ar : Array Value}
    (hr : vy_Run p l e R s m args below meth c H locs cells slots mc ms (F0 m pc a st0) rest (jQc G o N' F' A' ar) (jXc G o N' F' A') (jA G)) (hS : va_S (jA G) s.heap H locs)
    (kk : ∀ (v : Option Value), o = .returned v → ∀ (H1 : Heap) (locs1 : List Loc), jRep G s N' F' A' H1 → va_S (jA G) s.heap H1 locs1 → W p l e R s m args below meth c H1 locs1 (cells + mc) (slots + ms) Q (F0 m (pc + 3) a (v.toList ++ rest)))
    (kx : ∀ (q : Nat), o = .threw q → ∀ (H1 : Heap) (locs1 : List Loc), jRep G s N' F' A' H1 → va_S (jA G) s.heap H1 locs1 → vy_W p l e R s m args below meth c H1 locs1 (cells + mc) (slots + ms) Q (F0 m pc a rest) q) : W p l e R s m args below meth c H locs cells slots Q (F0 m pc a st0) := by
  intro T hT X
  rcases hr T hT X with ⟨v, st₀, t, T', L, h0, X', hL, e1, e2, ⟨hv, hRep, hF⟩, stp⟩ | ⟨q, st₀, t, T', L, E, ce, h0, X', hL, e1, e2, ⟨⟨hv, -⟩, hRep, hF⟩, hce, hcv, hcl, stp⟩
  · obtain ⟨-, -, k3⟩ := vy_keep h0 e1 hS (fun q _ h => h) (fun q h => h) hL hF
    have hvm : t.vm.Alike s.vm := by rw [← e2]; exact X'.warmed.alike.symm
    obtain ⟨t2, a1, b1⟩ := kk v hv.symm T'.heap (locs ++ L) (by rw [e1]; exact jRep.moved hvm hRep) k3 T' rfl X'
    exact ⟨t2, stp t2 a1, b1⟩
  · obtain ⟨-, -, k3⟩ := vy_keep h0 e1 hS (fun q _ h => h) (fun q h => h) hL hF
    have hvm : t.vm.Alike s.vm := by rw [← e2]; exact X'.warmed.alike.symm
    obtain ⟨t2, a1, b1⟩ := kx q hv T'.heap (locs ++ L) (by rw [e1]; exact jRep.moved hvm hRep) k3 T' rfl X'
    exact ⟨t2, stp.trans a1, b1⟩
/-- a call: its own row comes as 'run' -/
theorem J.callx {y : jM} {As rest : List Value} {d2 : Nat} {P1 : jPo} (hC : jCall G l d2 y As N F A P1)
    (run : ∀ {o : Outcome} {N' : jSh} {F' : jFl} {A' : jAr}, jCX G l d2 y As N F A o N' F' A' → ∀ {p : Program} {e : Env} {R : Room} {s : State} {m : MethodId} {args : Array Value} {below : List Frame} {meth : Method} {c : Code} {H : Heap} {locs : List Loc} {cells slots : Nat} {a : Array Slot},
      jCtx G k p s m args meth c → cells + (jnx N' - jnx N) ≤ R.cells → slots + (jsu N' - jsu N) ≤ R.slots → d ≤ R.frames → 64 * d ≤ R.locals → jRep G s N F A H → va_S (jA G) s.heap H locs → jL ls k.2.2.1 a →
      vy_Run p l e R s m args below meth c H locs cells slots (jnx N' - jnx N) (jsu N' - jsu N) (F0 m pc a st) rest (jQc G o N' F' A' As.toArray) (jXc G o N' F' A') (jA G))
    (kk : ∀ (o : Outcome) (N' : jSh) (F' : jFl) (A' : jAr), P1 o N' F' A' → jnx N ≤ jnx N' → (∃ v, o = .returned v ∧ J G l d k (pc + 3) ls (v.toList ++ rest) N' F' A' post) ∨ ∃ q, o = .threw q ∧ JT G l d k pc ls rest q N' F' A' post) : J G l d k pc ls st N F A post := by
  obtain ⟨o1, N1, F1, A1, hp, hX⟩ := hC
  have hX0 := hX
  obtain ⟨hX1, hX2, -⟩ := hX0
  rcases kk o1 N1 F1 A1 hp hX1 with ⟨v, rfl, o, N', F', A', h1, h2, h3, h4⟩ | ⟨q, rfl, o, N', F', A', h1, h2, h3, h4⟩
  · refine ⟨o, N', F', A', h1, Nat.le_trans hX1 h2, Nat.le_trans hX2 h3, ?_⟩
    intro p e R s m args below meth c H locs cells slots mc ms a X hc hs hmc hms hd hl hRep hS hL
    refine jrun (run hX X (by omega) (by omega) hd hl hRep hS hL) hS (fun v1 hv H1 locs1 hR1 hS1 => ?_) (fun q hq => by cases hq)
    cases hv
    exact h4 p e R s m args below meth c H1 locs1 _ _ mc ms a X (by omega) (by omega) hmc hms hd hl hR1 hS1 hL
  · refine ⟨o, N', F', A', h1, Nat.le_trans hX1 h2, Nat.le_trans hX2 h3, ?_⟩
    intro p e R s m args below meth c H locs cells slots mc ms a X hc hs hmc hms hd hl hRep hS hL
    refine jrun (run hX X (by omega) (by omega) hd hl hRep hS hL) hS (fun v1 hv => by cases hv) (fun q1 hq H1 locs1 hR1 hS1 => ?_)
    cases hq
    exact h4 p e R s m args below meth c H1 locs1 _ _ mc ms a X (by omega) (by omega) hmc hms hd hl hR1 hS1 hL
def jnm (y : MethodName) (n : Nat) : Prop := y.cls ≠ "java/lang/invoke/MethodHandle" ∧ y.cls ≠ "java/lang/invoke/VarHandle" ∧ (parseMethodDescriptor y.desc).map (fun d => d.parameters.length) = some n
def jcode (y : jM) : Prop := y.2.2.2.2 = [] ∧ y.2.2.1 ≤ 45 ∧ Cond.code y.1 y.2.1 y.2.2.1 y.2.2.2.1 ∈ lw_all ∧ Cond.initialized y.1.cls ∈ lw_all
def jLV (own : String) (i : Nat) (y : jM) (n : Nat) : Prop := jcode y ∧ jnm y.1 n ∧ Cond.methodLink own i y.1 ∈ lw_all ∧ Cond.instanceMethod y.1 ∈ lw_all ∧ Cond.selects y.1.cls y.1 y.1 ∈ lw_all
def jLS (own : String) (i : Nat) (y : jM) (n : Nat) : Prop := jcode y ∧ jnm y.1 n ∧ Cond.methodLink own i y.1 ∈ lw_all ∧ Cond.static y.1 ∈ lw_all
def jLI (own : String) (i : Nat) (y : jM) (n : Nat) : Prop := jcode y ∧ jnm y.1 n ∧ Cond.methodLink own i y.1 ∈ lw_all ∧ Cond.instanceMethod y.1 ∈ lw_all ∧ y.1.name = "<init>" ∧ y.2.2.2.1 = none
def jLVN (own : String) (i : Nat) (y : jM) (n : Nat) : Prop := jcode y ∧ jnm y.1 n ∧ (∃ host, Cond.methodLinkNest own i y.1 host ∈ jnw) ∧ Cond.instanceMethod y.1 ∈ lw_all ∧ Cond.selects y.1.cls y.1 y.1 ∈ lw_all
def jLSN (own : String) (i : Nat) (y : jM) (n : Nat) : Prop := jcode y ∧ jnm y.1 n ∧ (∃ host, Cond.methodLinkNest own i y.1 host ∈ jnw) ∧ Cond.static y.1 ∈ lw_all
def jLIN (own : String) (i : Nat) (y : jM) (n : Nat) : Prop := jcode y ∧ jnm y.1 n ∧ (∃ host, Cond.methodLinkNest own i y.1 host ∈ jnw) ∧ Cond.instanceMethod y.1 ∈ lw_all ∧ y.1.name = "<init>" ∧ y.2.2.2.1 = none
theorem jrecv {s : State} {H : Heap} {b ci : Nat} {cl : jC} (hK : jK G s) (hRep : jRep G s N F A H) (htg : jtg N b = ci) (hc : jcls ci = some cl) : ∃ cell : Cell, H[b]? = some cell ∧ cell.vm.isStatics = false ∧ s.vm.findClass cl.1 = some cell.cls := by
  subst htg
  obtain ⟨cell, g1, g2, g3, -⟩ := hRep.2.1 b cl hc
  exact ⟨cell, g1, g3, by rw [g2]; exact (hK.1 _ cl hc).2.1⟩
theorem j_invV {i n b ci d2 : Nat} {cl : jC} {y : jM} {As rest : List Value} {P1 : jPo} (hd : decode k.2.1 pc = .ok (.invokevirtual i, 3)) (hl : jLV k.1.cls i y n) (htg : jtg N b = ci) (hc : jcls ci = some cl) (hcn : cl.1 = y.1.cls) (hC : jCall G l d2 y (.ref b :: As) N F A P1) (hn : As.length = n) (hst : st = As.reverse ++ .ref b :: rest) (hcat : (rest.map fun v => v.category).sum ≤ 8) (hdd : d2 + 1 ≤ d)
    (kk : ∀ (o : Outcome) (N' : jSh) (F' : jFl) (A' : jAr), P1 o N' F' A' → jnx N ≤ jnx N' → (∃ v, o = .returned v ∧ J G l d k (pc + 3) ls (v.toList ++ rest) N' F' A' post) ∨ ∃ q, o = .threw q ∧ JT G l d k pc ls rest q N' F' A' post) : J G l d k pc ls st N F A post := by
  refine J.callx hC (fun {o N' F' A'} hX {p e R s m args below meth c H locs cells slots a} X h1 h2 h3 h4 hRep hS hL => ?_) kk
  obtain ⟨y1, y2, y3, y4, y5⟩ := y
  obtain ⟨⟨hy5, hy3, hcode, hini⟩, ⟨m1, m2, m3⟩, hlk, hin, hse⟩ := hl
  cases hy5
  subst hst
  exact vy_runV (C := y1.cls) (As := As) (rest := rest) (jFix X) hX.2.2 (cwV n X.2.2.2.2.2.2.2.1 (lw_V hlk hin hse hini hcode) rfl rfl rfl ⟨rfl, m1, m2, m3⟩ ⟨by show d2 + 1 ≤ _; omega, by show 8 + (y3 + 11) + 64 * d2 ≤ _; have : y3 ≤ 45 := hy3; omega⟩)
    ⟨jPre.blind, by rw [← hcn]; exact jrecv X.2.2.2.2.2.2.2.2.1 hRep htg hc, fun U hU hW => ⟨rfl, jPre.call X.2.2.2.2.2.2.2.2.1 X.2.2.2.2.2.2.2.2.2.1 X.2.2.2.2.2.2.2.2.2.2.1 hRep hS U hU hW⟩⟩ rfl hn hL.2.1 rfl (lv_room hcat) hd ⟨h1, h2⟩
theorem j_invS {i n d2 : Nat} {y : jM} {As rest : List Value} {P1 : jPo} (hd : decode k.2.1 pc = .ok (.invokestatic i, 3)) (hl : jLS k.1.cls i y n) (hC : jCall G l d2 y As N F A P1) (hn : As.length = n) (hst : st = As.reverse ++ rest) (hcat : (rest.map fun v => v.category).sum ≤ 8) (hdd : d2 + 1 ≤ d)
    (kk : ∀ (o : Outcome) (N' : jSh) (F' : jFl) (A' : jAr), P1 o N' F' A' → jnx N ≤ jnx N' → (∃ v, o = .returned v ∧ J G l d k (pc + 3) ls (v.toList ++ rest) N' F' A' post) ∨ ∃ q, o = .threw q ∧ JT G l d k pc ls rest q N' F' A' post) : J G l d k pc ls st N F A post := by
  refine J.callx hC (fun {o N' F' A'} hX {p e R s m args below meth c H locs cells slots a} X h1 h2 h3 h4 hRep hS hL => ?_) kk
  obtain ⟨y1, y2, y3, y4, y5⟩ := y
  obtain ⟨⟨hy5, hy3, hcode, hini⟩, ⟨m1, m2, m3⟩, hlk, hst2⟩ := hl
  cases hy5
  subst hst
  exact vy_runS (As := As) (rest := rest) (jFix X) hX.2.2 (va_cwS n X.2.2.2.2.2.2.2.1 (lw_S hlk hst2 hini hcode) rfl rfl rfl ⟨m1, m2, m3⟩ ⟨by show d2 + 1 ≤ _; omega, by show 8 + (y3 + 11) + 64 * d2 ≤ _; have : y3 ≤ 45 := hy3; omega⟩)
    ⟨jPre.blind, fun U hU hW => ⟨rfl, jPre.call X.2.2.2.2.2.2.2.2.1 X.2.2.2.2.2.2.2.2.2.1 X.2.2.2.2.2.2.2.2.2.2.1 hRep hS U hU hW⟩⟩ rfl hn hL.2.1 rfl (lv_room hcat) hd ⟨h1, h2⟩
theorem j_invI {i n b d2 : Nat} {y : jM} {As rest : List Value} {P1 : jPo} (hd : decode k.2.1 pc = .ok (.invokespecial i, 3)) (hl : jLI k.1.cls i y n) (hC : jCall G l d2 y (.ref b :: As) N F A P1) (hn : As.length = n) (hst : st = As.reverse ++ .ref b :: rest) (hcat : (rest.map fun v => v.category).sum ≤ 8) (hdd : d2 + 1 ≤ d)
    (kk : ∀ (o : Outcome) (N' : jSh) (F' : jFl) (A' : jAr), P1 o N' F' A' → jnx N ≤ jnx N' → (∃ v, o = .returned v ∧ J G l d k (pc + 3) ls (v.toList ++ rest) N' F' A' post) ∨ ∃ q, o = .threw q ∧ JT G l d k pc ls rest q N' F' A' post) : J G l d k pc ls st N F A post := by
  refine J.callx hC (fun {o N' F' A'} hX {p e R s m args below meth c H locs cells slots a} X h1 h2 h3 h4 hRep hS hL => ?_) kk
  obtain ⟨y1, y2, y3, y4, y5⟩ := y
  obtain ⟨⟨hy5, hy3, hcode, hini⟩, ⟨m1, m2, m3⟩, hlk, hin, hnm, hr⟩ := hl
  cases hy5
  cases hr
  subst hst
  have hts := X.2.2.2.2.2.2.2.1
  exact vy_runI (As := As) (rest := rest) (jFix X) hX.2.2 (cwI n hts (lw_meth hcode) rfl rfl rfl (hts _ hini) (hts _ hlk) (hts _ hin) hnm ⟨m1, m2, m3⟩ ⟨by show d2 + 1 ≤ _; omega, by show 8 + (y3 + 11) + 64 * d2 ≤ _; have : y3 ≤ 45 := hy3; omega⟩)
    ⟨jPre.blind, fun U hU hW => ⟨rfl, jPre.call X.2.2.2.2.2.2.2.2.1 X.2.2.2.2.2.2.2.2.2.1 X.2.2.2.2.2.2.2.2.2.2.1 hRep hS U hU hW⟩⟩ rfl hn hL.2.1 rfl (lv_room hcat) hd ⟨h1, h2⟩
theorem j_invVN {i n b ci d2 : Nat} {cl : jC} {y : jM} {As rest : List Value} {P1 : jPo} (hd : decode k.2.1 pc = .ok (.invokevirtual i, 3)) (hl : jLVN k.1.cls i y n) (htg : jtg N b = ci) (hc : jcls ci = some cl) (hcn : cl.1 = y.1.cls) (hC : jCall G l d2 y (.ref b :: As) N F A P1) (hn : As.length = n) (hst : st = As.reverse ++ .ref b :: rest) (hcat : (rest.map fun v => v.category).sum ≤ 8) (hdd : d2 + 1 ≤ d)
    (kk : ∀ (o : Outcome) (N' : jSh) (F' : jFl) (A' : jAr), P1 o N' F' A' → jnx N ≤ jnx N' → (∃ v, o = .returned v ∧ J G l d k (pc + 3) ls (v.toList ++ rest) N' F' A' post) ∨ ∃ q, o = .threw q ∧ JT G l d k pc ls rest q N' F' A' post) : J G l d k pc ls st N F A post := by
  refine J.callx hC (fun {o N' F' A'} hX {p e R s m args below meth c H locs cells slots a} X h1 h2 h3 h4 hRep hS hL => ?_) kk
  obtain ⟨y1, y2, y3, y4, y5⟩ := y
  obtain ⟨⟨hy5, hy3, hcode, hini⟩, ⟨m1, m2, m3⟩, ⟨host, hlk⟩, hin, hse⟩ := hl
  cases hy5
  subst hst
  have hts := X.2.2.2.2.2.2.2.1
  have hK := X.2.2.2.2.2.2.2.2.1
  exact vy_runVN (C := y1.cls) (host := host) (As := As) (rest := rest) (jFix X) hX.2.2 ⟨va_cnB n hts (lw_meth hcode) rfl rfl rfl (hK.2.2.1 _ hlk) (hts _ hini) ⟨m1, m2, m3⟩ ⟨by show d2 + 1 ≤ _; omega, by show 8 + (y3 + 11) + 64 * d2 ≤ _; have : y3 ≤ 45 := hy3; omega⟩, hts _ hin, hts _ hse⟩
    ⟨jPre.blind, by rw [← hcn]; exact jrecv hK hRep htg hc, fun U hU hW => ⟨rfl, jPre.call hK X.2.2.2.2.2.2.2.2.2.1 X.2.2.2.2.2.2.2.2.2.2.1 hRep hS U hU hW⟩⟩ rfl hn hL.2.1 rfl (lv_room hcat) hd ⟨h1, h2⟩
theorem j_invSN {i n d2 : Nat} {y : jM} {As rest : List Value} {P1 : jPo} (hd : decode k.2.1 pc = .ok (.invokestatic i, 3)) (hl : jLSN k.1.cls i y n) (hC : jCall G l d2 y As N F A P1) (hn : As.length = n) (hst : st = As.reverse ++ rest) (hcat : (rest.map fun v => v.category).sum ≤ 8) (hdd : d2 + 1 ≤ d)
    (kk : ∀ (o : Outcome) (N' : jSh) (F' : jFl) (A' : jAr), P1 o N' F' A' → jnx N ≤ jnx N' → (∃ v, o = .returned v ∧ J G l d k (pc + 3) ls (v.toList ++ rest) N' F' A' post) ∨ ∃ q, o = .threw q ∧ JT G l d k pc ls rest q N' F' A' post) : J G l d k pc ls st N F A post := by
  refine J.callx hC (fun {o N' F' A'} hX {p e R s m args below meth c H locs cells slots a} X h1 h2 h3 h4 hRep hS hL => ?_) kk
  obtain ⟨y1, y2, y3, y4, y5⟩ := y
  obtain ⟨⟨hy5, hy3, hcode, hini⟩, ⟨m1, m2, m3⟩, ⟨host, hlk⟩, hst2⟩ := hl
  cases hy5
  subst hst
  have hts := X.2.2.2.2.2.2.2.1
  have hK := X.2.2.2.2.2.2.2.2.1
  exact vy_runSN (host := host) (As := As) (rest := rest) (jFix X) hX.2.2 ⟨va_cnB n hts (lw_meth hcode) rfl rfl rfl (hK.2.2.1 _ hlk) (hts _ hini) ⟨m1, m2, m3⟩ ⟨by show d2 + 1 ≤ _; omega, by show 8 + (y3 + 11) + 64 * d2 ≤ _; have : y3 ≤ 45 := hy3; omega⟩, hts _ hst2, trivial⟩
    ⟨jPre.blind, fun U hU hW => ⟨rfl, jPre.call hK X.2.2.2.2.2.2.2.2.2.1 X.2.2.2.2.2.2.2.2.2.2.1 hRep hS U hU hW⟩⟩ rfl hn hL.2.1 rfl (lv_room hcat) hd ⟨h1, h2⟩
theorem j_invIN {i n b d2 : Nat} {y : jM} {As rest : List Value} {P1 : jPo} (hd : decode k.2.1 pc = .ok (.invokespecial i, 3)) (hl : jLIN k.1.cls i y n) (hC : jCall G l d2 y (.ref b :: As) N F A P1) (hn : As.length = n) (hst : st = As.reverse ++ .ref b :: rest) (hcat : (rest.map fun v => v.category).sum ≤ 8) (hdd : d2 + 1 ≤ d)
    (kk : ∀ (o : Outcome) (N' : jSh) (F' : jFl) (A' : jAr), P1 o N' F' A' → jnx N ≤ jnx N' → (∃ v, o = .returned v ∧ J G l d k (pc + 3) ls (v.toList ++ rest) N' F' A' post) ∨ ∃ q, o = .threw q ∧ JT G l d k pc ls rest q N' F' A' post) : J G l d k pc ls st N F A post := by
  refine J.callx hC (fun {o N' F' A'} hX {p e R s m args below meth c H locs cells slots a} X h1 h2 h3 h4 hRep hS hL => ?_) kk
  obtain ⟨y1, y2, y3, y4, y5⟩ := y
  obtain ⟨⟨hy5, hy3, hcode, hini⟩, ⟨m1, m2, m3⟩, ⟨host, hlk⟩, hin, hnm, hr⟩ := hl
  cases hy5
  cases hr
  subst hst
  have hts := X.2.2.2.2.2.2.2.1
  have hK := X.2.2.2.2.2.2.2.2.1
  exact vy_runIN (host := host) (As := As) (rest := rest) (jFix X) hX.2.2 ⟨va_cnB n hts (lw_meth hcode) rfl rfl rfl (hK.2.2.1 _ hlk) (hts _ hini) ⟨m1, m2, m3⟩ ⟨by show d2 + 1 ≤ _; omega, by show 8 + (y3 + 11) + 64 * d2 ≤ _; have : y3 ≤ 45 := hy3; omega⟩, hnm, hts _ hin⟩
    ⟨jPre.blind, fun U hU hW => ⟨rfl, jPre.call hK X.2.2.2.2.2.2.2.2.2.1 X.2.2.2.2.2.2.2.2.2.2.1 hRep hS U hU hW⟩⟩ rfl hn hL.2.1 rfl (lv_room hcat) hd ⟨h1, h2⟩
/-- Object's constructor -/
theorem j_objInit {i b : Nat} (hd : decode k.2.1 pc = .ok (.invokespecial i, 3)) (hl : Cond.methodLink k.1.cls i Lib.objectInit ∈ lw_all) (hdd : 1 ≤ d) (hcat : (st.map fun v => v.category).sum ≤ 8) (h : J G l d k (pc + 3) ls st N F A post) : J G l d k pc ls (.ref b :: st) N F A post := by
  obtain ⟨o, N', F', A', h1, h2, h3, h4⟩ := h
  refine ⟨o, N', F', A', h1, h2, h3, ?_⟩
  intro p e R s m args below meth c H locs cells slots mc ms a X hc hs hmc hms hd2 hl2 hRep hS hL
  have hts := X.2.2.2.2.2.2.2.1
  refine W.objInit (g := F0 m pc a (.ref b :: st)) X.1 X.2.1 X.2.2.2.2.2.1 (hts _ hl) (hts _ q188) (hts _ q189) rfl (hL.2.1.trans X.2.2.2.2.1.symm) rfl hd (by omega) ?_ (h4 p e R s m args below meth c H locs cells slots mc ms a X hc hs hmc hms hd2 hl2 hRep hS hL)
  show 2 * 0 + (st.map fun v => v.category).sum + 12 ≤ R.locals
  omega
end JC
