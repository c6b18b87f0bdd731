set_option maxRecDepth 100000
/-! J's rows over the heap -/
def jdf (f : Nat) : Int := if f % 3 = 2 then -1 else 0
/-- what the tables say of a class of ours -/
def jcOk (c : jC) : Prop := (∀ w ∈ u_ws c.1 c.2.1 c.2.2.1, w ∈ lw_all) ∧ (∀ a, a < c.2.2.1 → ∀ b, b < c.2.2.1 → a ≠ b → (c.2.1 a).2.1 ≠ (c.2.1 b).2.1) ∧ c.2.2.2.length ≤ c.2.2.1 ∧ (c.2.2.2.map (fun q => q.1)).Nodup ∧ Cond.instantiable c.1 c.2.2.1 ∈ lw_all ∧ Cond.initialized c.1 ∈ lw_all ∧
  ∃ ty : Nat → FieldType, (∀ k, k < c.2.2.1 → parseFieldDescriptor (c.2.1 k).2.2.1 = some (ty k)) ∧ ∀ k fid fin, c.2.2.2[k]? = some (fid, fin) → defaultValue (ty k) = jval fid (jdf fid) ∧ (c.2.1 k).2.2.2 = fin
theorem jdv_of {fl : List (Nat × Bool)} {ty : Nat → FieldType} {T : u_T} (h : (List.range fl.length).all (fun k => match fl[k]? with | some q => decide (defaultValue (ty k) = jval q.1 (jdf q.1)) && decide ((T k).2.2.2 = q.2) | none => true) = true) : ∀ k fid fin, fl[k]? = some (fid, fin) → defaultValue (ty k) = jval fid (jdf fid) ∧ (T k).2.2.2 = fin := by
  intro k fid fin hk
  have hlt := (List.getElem?_eq_some_iff.mp hk).1
  have h1 := List.all_eq_true.mp h k (List.mem_range.mpr hlt)
  simp only [hk] at h1
  rw [Bool.and_eq_true] at h1
  exact ⟨of_decide_eq_true h1.1, of_decide_eq_true h1.2⟩
theorem jc_X0 : ∀ c, jcls 1 = some c → jcOk c := by
  intro c h
  cases (show some (RX0, TX0, 17, _) = some c from h)
  exact ⟨in_X0, nmX0, by decide +kernel, by decide +kernel, q183, q147, tyX0, tyX0_ok, jdv_of (T := TX0) (by decide +kernel)⟩
theorem jc_X1 : ∀ c, jcls 2 = some c → jcOk c := by
  intro c h
  cases (show some (RX1, TX1, 11, _) = some c from h)
  exact ⟨in_X1, nmX1, by decide +kernel, by decide +kernel, q191, q148, tyX1, tyX1_ok, jdv_of (T := TX1) (by decide +kernel)⟩
theorem jc_X2 : ∀ c, jcls 3 = some c → jcOk c := by
  intro c h
  cases (show some (RX2, TX2, 5, _) = some c from h)
  exact ⟨in_X2, nmX2, by decide +kernel, by decide +kernel, q289, q152, tyX2, tyX2_ok, jdv_of (T := TX2) (by decide +kernel)⟩
theorem jc_X3 : ∀ c, jcls 4 = some c → jcOk c := by
  intro c h
  cases (show some (RX3, TX3, 3, _) = some c from h)
  exact ⟨in_X3, nmX3, by decide +kernel, by decide +kernel, q295, q153, tyX3, tyX3_ok, jdv_of (T := TX3) (by decide +kernel)⟩
theorem jc_X4 : ∀ c, jcls 5 = some c → jcOk c := by
  intro c h
  cases (show some (RX4, TX4, 4, _) = some c from h)
  exact ⟨in_X4, nmX4, by decide +kernel, by decide +kernel, q346, q154, tyX4, tyX4_ok, jdv_of (T := TX4) (by decide +kernel)⟩
theorem jc_X5 : ∀ c, jcls 6 = some c → jcOk c := by
  intro c h
  cases (show some (RX5, TX5, 5, _) = some c from h)
  exact ⟨in_X5, nmX5, by decide +kernel, by decide +kernel, q374, q155, tyX5, tyX5_ok, jdv_of (T := TX5) (by decide +kernel)⟩
theorem jc_X6 : ∀ c, jcls 7 = some c → jcOk c := by
  intro c h
  cases (show some (RX6, TX6, 6, _) = some c from h)
  exact ⟨in_X6, nmX6, by decide +kernel, by decide +kernel, q401, q156, tyX6, tyX6_ok, jdv_of (T := TX6) (by decide +kernel)⟩
theorem jc_X7 : ∀ c, jcls 8 = some c → jcOk c := by
  intro c h
  cases (show some (RX7, TX7, 7, _) = some c from h)
  exact ⟨in_X7, nmX7, by decide +kernel, by decide +kernel, q431, q157, tyX7, tyX7_ok, jdv_of (T := TX7) (by decide +kernel)⟩
theorem jc_X8 : ∀ c, jcls 9 = some c → jcOk c := by
  intro c h
  cases (show some (RX8, TX8, 5, _) = some c from h)
  exact ⟨in_X8, nmX8, by decide +kernel, by decide +kernel, q462, q158, tyX8, tyX8_ok, jdv_of (T := TX8) (by decide +kernel)⟩
theorem jc_X9 : ∀ c, jcls 10 = some c → jcOk c := by
  intro c h
  cases (show some (RX9, TX9, 80, _) = some c from h)
  exact ⟨in_X9, nmX9, by decide +kernel, by decide +kernel, q1924, q163, tyX9, tyX9_ok, jdv_of (T := TX9) (by decide +kernel)⟩
theorem jc_X10 : ∀ c, jcls 11 = some c → jcOk c := by
  intro c h
  cases (show some (RX10, TX10, 11, _) = some c from h)
  exact ⟨in_X10, nmX10, by decide +kernel, by decide +kernel, q614, q164, tyX10, tyX10_ok, jdv_of (T := TX10) (by decide +kernel)⟩
theorem jc_X11 : ∀ c, jcls 12 = some c → jcOk c := by
  intro c h
  cases (show some (RX11, TX11, 8, _) = some c from h)
  exact ⟨in_X11, nmX11, by decide +kernel, by decide +kernel, q666, q167, tyX11, tyX11_ok, jdv_of (T := TX11) (by decide +kernel)⟩
theorem jc_X13 : ∀ c, jcls 14 = some c → jcOk c := by
  intro c h
  cases (show some (RX13, TX13, 7, _) = some c from h)
  exact ⟨in_X13, nmX13, by decide +kernel, by decide +kernel, q875, q171, tyX13, tyX13_ok, jdv_of (T := TX13) (by decide +kernel)⟩
theorem jc_X14 : ∀ c, jcls 15 = some c → jcOk c := by
  intro c h
  cases (show some (RX14, TX14, 3, _) = some c from h)
  exact ⟨in_X14, nmX14, by decide +kernel, by decide +kernel, q1057, q177, tyX14, tyX14_ok, jdv_of (T := TX14) (by decide +kernel)⟩
theorem jc_X15 : ∀ c, jcls 16 = some c → jcOk c := by
  intro c h
  cases (show some (RX15, TX15, 7, _) = some c from h)
  exact ⟨in_X15, nmX15, by decide +kernel, by decide +kernel, q1083, q178, tyX15, tyX15_ok, jdv_of (T := TX15) (by decide +kernel)⟩
theorem jc_X16 : ∀ c, jcls 17 = some c → jcOk c := by
  intro c h
  cases (show some (RX16, TX16, 4, _) = some c from h)
  exact ⟨in_X16, nmX16, by decide +kernel, by decide +kernel, q1123, q179, tyX16, tyX16_ok, jdv_of (T := TX16) (by decide +kernel)⟩
theorem jc_X17 : ∀ c, jcls 18 = some c → jcOk c := by
  intro c h
  cases (show some (RX17, TX17, 7, _) = some c from h)
  exact ⟨in_X17, nmX17, by decide +kernel, by decide +kernel, q1480, q180, tyX17, tyX17_ok, jdv_of (T := TX17) (by decide +kernel)⟩
theorem jc_X18 : ∀ c, jcls 19 = some c → jcOk c := by
  intro c h
  cases (show some (RX18, TX18, 4, _) = some c from h)
  exact ⟨in_X18, nmX18, by decide +kernel, by decide +kernel, q1520, q181, tyX18, tyX18_ok, jdv_of (T := TX18) (by decide +kernel)⟩
theorem jc_J2 : ∀ c, jcls 20 = some c → jcOk c := by
  intro c h
  cases (show some (RJ2, TJ2, 3, _) = some c from h)
  exact ⟨in_J2, nmJ2, by decide +kernel, by decide +kernel, q197, q151, tyJ2, tyJ2_ok, jdv_of (T := TJ2) (by decide +kernel)⟩
theorem jc_J4 : ∀ c, jcls 21 = some c → jcOk c := by
  intro c h
  cases (show some (RJ4, TJ4, 4, _) = some c from h)
  exact ⟨in_J4, nmJ4, by decide +kernel, by decide +kernel, q490, q160, tyJ4, tyJ4_ok, jdv_of (T := TJ4) (by decide +kernel)⟩
theorem jc_J5 : ∀ c, jcls 22 = some c → jcOk c := by
  intro c h
  cases (show some (RJ5, TJ5, 4, _) = some c from h)
  exact ⟨in_J5, nmJ5, by decide +kernel, by decide +kernel, q751, q161, tyJ5, tyJ5_ok, jdv_of (T := TJ5) (by decide +kernel)⟩
theorem jcls_ok : ∀ (i : Nat) (c : jC), jcls i = some c → jcOk c := by
  intro i c h
  match i, h with
  | 0, h => exact absurd h (by simp [jcls])
  | 1, h => exact jc_X0 c h
  | 2, h => exact jc_X1 c h
  | 3, h => exact jc_X2 c h
  | 4, h => exact jc_X3 c h
  | 5, h => exact jc_X4 c h
  | 6, h => exact jc_X5 c h
  | 7, h => exact jc_X6 c h
  | 8, h => exact jc_X7 c h
  | 9, h => exact jc_X8 c h
  | 10, h => exact jc_X9 c h
  | 11, h => exact jc_X10 c h
  | 12, h => exact jc_X11 c h
  | 13, h => exact absurd h (by simp [jcls])
  | 14, h => exact jc_X13 c h
  | 15, h => exact jc_X14 c h
  | 16, h => exact jc_X15 c h
  | 17, h => exact jc_X16 c h
  | 18, h => exact jc_X17 c h
  | 19, h => exact jc_X18 c h
  | 20, h => exact jc_J2 c h
  | 21, h => exact jc_J4 c h
  | 22, h => exact jc_J5 c h
  | n + 23, h => exact absurd h (by simp [jcls, jclL])
theorem jcls_ty {t : Nat} {c : jC} (h : jcls t = some c) : jty t = none := by
  have h1 : t < 23 := by
    unfold jcls at h
    by_cases q : t = 0 ∨ t = 13
    · rw [if_pos q] at h; cases h
    · rw [if_neg q] at h
      exact (List.getElem?_eq_some_iff.mp h).1
  have key : ∀ t, t < 23 → jty t = none := by decide +kernel
  exact key t h1
/-! new pictures -/
def upF (F : jFl) (f a : Nat) (z : Int) : jFl := fun g b => if g = f ∧ b = a then z else F g b
def upA (A : jAr) (a : Nat) (i z : Int) : jAr := fun b j => if b = a ∧ j = i then z else A b j
/-- a final field of a new object -/
def jpF (N : jSh) (f a : Nat) (z : Int) : jSh := (N.1, N.2.1, N.2.2.1, N.2.2.2.1, fun g b => if g = f ∧ b = a then z else N.2.2.2.2 g b)
/-- a new cell of kind t, length n (an array's), slots sl, with an owner -/
def jnew (N : jSh) (t n sl : Nat) (o : Int) : jSh := (N.1 + 1, N.2.1 + sl, fun b => if b = N.1 then t else N.2.2.1 b, fun b => if b = N.1 then n else N.2.2.2.1 b, fun g b => if b = N.1 then (if g = 0 then o else jdf g) else N.2.2.2.2 g b)
def nwF (N : jSh) (F : jFl) : jFl := fun g b => if b = N.1 then jdf g else F g b
def nwA (N : jSh) (t : Nat) (A : jAr) : jAr := fun b i => if b = N.1 then jdf t else A b i
theorem upF_s {F : jFl} {f a : Nat} {z : Int} : upF F f a z f a = z := if_pos ⟨rfl, rfl⟩
theorem upF_f {F : jFl} {f g a b : Nat} {z : Int} (h : g ≠ f) : upF F f a z g b = F g b := if_neg (fun q => h q.1)
theorem upF_a {F : jFl} {f g a b : Nat} {z : Int} (h : b ≠ a) : upF F f a z g b = F g b := if_neg (fun q => h q.2)
theorem upA_s {A : jAr} {a : Nat} {i z : Int} : upA A a i z a i = z := if_pos ⟨rfl, rfl⟩
theorem upA_a {A : jAr} {a b : Nat} {i j z : Int} (h : b ≠ a) : upA A a i z b j = A b j := if_neg (fun q => h q.1)
theorem upA_i {A : jAr} {a b : Nat} {i j z : Int} (h : j ≠ i) : upA A a i z b j = A b j := if_neg (fun q => h q.2)
theorem upA_o {A : jAr} {a b : Nat} {i z : Int} (h : b ≠ a) : upA A a i z b = A b := funext fun _ => upA_a h
/-! an entry of a class's pool: a field, by number kk of the class ci -/
def jLk (own : String) (i ci kk fid : Nat) (fin : Bool) (dsc : String) : Prop :=
  ∃ (c : jC) (ref : String), jcls ci = some c ∧ c.2.2.2[kk]? = some (fid, fin) ∧ (c.2.1 kk).2.2.1 = dsc ∧ Cond.fieldLink own i ref (c.2.1 kk).2.1 dsc ∈ lw_all ∧ (ref = (c.2.1 kk).1 ∨ Cond.sameField ref (c.2.1 kk).1 (c.2.1 kk).2.1 dsc ∈ lw_all)
def jLkN (own : String) (i ci kk fid : Nat) (fin : Bool) (dsc : String) : Prop :=
  ∃ (c : jC) (ref host : String), jcls ci = some c ∧ c.2.2.2[kk]? = some (fid, fin) ∧ (c.2.1 kk).2.2.1 = dsc ∧ Cond.fieldLinkNest own i ref (c.2.1 kk).2.1 dsc host ∈ jnw ∧ (ref = (c.2.1 kk).1 ∨ Cond.sameField ref (c.2.1 kk).1 (c.2.1 kk).2.1 dsc ∈ lw_all)
section JH
variable {G : jG} {l : Launch} {d : Nat} {k : jM} {pc : Nat} {ls st : List Value} {N : jSh} {F : jFl} {A : jAr} {post : jPo}
theorem j_get {a i ci kk fid : Nat} {fin : Bool} {dsc : String} {v : Value} (hd : decode k.2.1 pc = .ok (.getfield i, 3)) (hf : jLk k.1.cls i ci kk fid fin dsc) (ht : jtg N a = ci) (hv : jval fid (if fin then jfn N fid a else F fid a) = v) (h : J G l d k (pc + 3) ls (v :: st) N F A post) : J G l d k pc ls (.ref a :: st) N F A post :=
  J.go (fun {p e R s m args below meth c H locs cells slots Q ar} X hRep _ _ w => by
    obtain ⟨hx, hb, hr, -, -, hown, -, hts, hK, -⟩ := X
    obtain ⟨cl, ref, hc, hk, rfl, hl, hs⟩ := hf
    obtain ⟨hin, hnm, hlen, -, -, -, ty, hty, -⟩ := jcls_ok ci cl hc
    subst ht
    obtain ⟨cell, h1, h2, h3, h4, -, h5⟩ := hRep.2.1 a cl hc
    obtain ⟨hS, hfc, kC, hkC, hkind⟩ := hK.1 _ cl hc
    have hlt : kk < cl.2.2.1 := Nat.lt_of_lt_of_le (List.getElem?_eq_some_iff.mp hk).1 hlen
    obtain ⟨cf, kf, fi, f, hi, hsl⟩ := hS kk hlt
    have hi2 : s.fieldFound? ref (cl.2.1 kk).2.1 (cl.2.1 kk).2.2.1 = some (cf, kf, fi, f) := by
      rcases hs with e | e
      · rw [e]; exact hi
      · exact u_same (hts _ e) _ hi
    refine W.getf hx hb hown (hts _ hl) hi2 (u_facts hfc hkC (u_lays hts hin hlt) hi).1 h1 h4 (v := v) ?_ rfl rfl hd w
    rw [hsl, h5 kk fid fin hk, hv]) h
theorem j_getN {a i ci kk fid : Nat} {fin : Bool} {dsc : String} {v : Value} (hd : decode k.2.1 pc = .ok (.getfield i, 3)) (hf : jLkN k.1.cls i ci kk fid fin dsc) (ht : jtg N a = ci) (hv : jval fid (if fin then jfn N fid a else F fid a) = v) (h : J G l d k (pc + 3) ls (v :: st) N F A post) : J G l d k pc ls (.ref a :: st) N F A post :=
  J.go (fun {p e R s m args below meth c H locs cells slots Q ar} X hRep _ _ w => by
    obtain ⟨hx, hb, hr, -, -, hown, -, hts, hK, -⟩ := X
    obtain ⟨cl, ref, host, hc, hk, rfl, hl, hs⟩ := hf
    obtain ⟨hin, hnm, hlen, -, -, -, ty, hty, -⟩ := jcls_ok ci cl hc
    subst ht
    obtain ⟨cell, h1, h2, h3, h4, -, h5⟩ := hRep.2.1 a cl hc
    obtain ⟨hS, hfc, kC, hkC, hkind⟩ := hK.1 _ cl hc
    have hlt : kk < cl.2.2.1 := Nat.lt_of_lt_of_le (List.getElem?_eq_some_iff.mp hk).1 hlen
    obtain ⟨cf, kf, fi, f, hi, hsl⟩ := hS kk hlt
    have hi2 : s.fieldFound? ref (cl.2.1 kk).2.1 (cl.2.1 kk).2.2.1 = some (cf, kf, fi, f) := by
      rcases hs with e | e
      · rw [e]; exact hi
      · exact u_same (hts _ e) _ hi
    refine va_Wgetf hx hb hown (va_Nw.use rfl (hK.2.2.1 _ hl)) hi2 (u_facts hfc hkC (u_lays hts hin hlt) hi).1 h1 h4 (v := v) ?_ rfl rfl hd w
    rw [hsl, h5 kk fid fin hk, hv]) h
theorem jtag_lt {U : State} {H : Heap} (h : jRep G U N F A H) {a : Nat} {c : jC} (hc : jcls (jtg N a) = some c) : a < H.size := by
  obtain ⟨cell, h1, -⟩ := h.2.1 a c hc
  exact (Array.getElem?_eq_some_iff.mp h1).1
theorem jtag_ltA {U : State} {H : Heap} (h : jRep G U N F A H) {a : Nat} {ty : FieldType} (hc : jty (jtg N a) = some ty) : a < H.size := by
  obtain ⟨cell, h1, -⟩ := h.2.2 a ty hc
  exact (Array.getElem?_eq_some_iff.mp h1).1
/-- the slots of a class's fields are apart -/
theorem jslot_ne {s : State} {args : Array Value} {ci : Nat} {cl : jC} (hts : ∀ w ∈ lw_all, w.before args s = true) (hK : jK G s) (hc : jcls ci = some cl) {x y : Nat} (hx : x < cl.2.2.1) (hy : y < cl.2.2.1) (hne : x ≠ y) : gI G ci x ≠ gI G ci y := by
  obtain ⟨hin, hnm, -, -, -, -, ty, hty, -⟩ := jcls_ok ci cl hc
  obtain ⟨hS, -⟩ := hK.1 ci cl hc
  obtain ⟨_, _, _, fa, hia, ea⟩ := hS x hx
  obtain ⟨_, _, _, fb, hib, eb⟩ := hS y hy
  rw [← ea, ← eb]
  refine u_apart (u_lays hts hin hx) (u_lays hts hin hy) hia hib ?_
  rw [(State.fieldFound?_type hia (hty x hx)).1, (State.fieldFound?_type hib (hty y hy)).1]
  exact hnm x hx y hy hne
/-- behind a store into a field -/
theorem jRep.put {s : State} {args : Array Value} {H H2 : Heap} {a ci kk fid : Nat} {fin : Bool} {cl : jC} {cell : Cell} {z : Int} (hts : ∀ w ∈ lw_all, w.before args s = true) (hK : jK G s) (hRep : jRep G s N F A H) (hc : jcls ci = some cl) (hk : cl.2.2.2[kk]? = some (fid, fin)) (ht : jtg N a = ci)
    (h1 : H[a]? = some cell) (e1 : H2[a]? = some (cell.setSlot (gI G ci kk) (jval fid z))) (e2 : H2.size = H.size) (e3 : ∀ q, q ≠ a → H2[q]? = H[q]?) :
    jRep G s (if fin then jpF N fid a z else N) (if fin then F else upF F fid a z) A H2 := by
  obtain ⟨hin, hnm, hlen, hnd, -⟩ := jcls_ok ci cl hc
  have hlt : kk < cl.2.2.1 := Nat.lt_of_lt_of_le (List.getElem?_eq_some_iff.mp hk).1 hlen
  have hg : ∀ (g : Nat) (b : Nat), jfn (if fin then jpF N fid a z else N) g b = if fin = true ∧ g = fid ∧ b = a then z else jfn N g b := by
    intro g b
    cases fin
    · simp
    · simp [jpF, jfn]
  have hF : ∀ (g : Nat) (b : Nat), (if fin then F else upF F fid a z) g b = if fin = false ∧ g = fid ∧ b = a then z else F g b := by
    intro g b
    cases fin
    · simp [upF]
    · simp
  have htg : ∀ b, jtg (if fin then jpF N fid a z else N) b = jtg N b := by intro b; cases fin <;> rfl
  have hln : ∀ b, jln (if fin then jpF N fid a z else N) b = jln N b := by intro b; cases fin <;> rfl
  refine ⟨?_, fun b c hb => ?_, fun b ty hb => ?_⟩
  · rw [e2, ← hRep.1]; cases fin <;> rfl
  · rw [htg] at hb ⊢
    obtain ⟨cb, g1, g2, g3, g4, g5, g6⟩ := hRep.2.1 b c hb
    by_cases hba : b = a
    · subst hba
      rw [ht] at hb g2 g6 ⊢
      cases Option.some.inj (hb.symm.trans hc)
      cases Option.some.inj (g1.symm.trans h1)
      refine ⟨_, e1, g2, g3, g4, g5, fun k2 f2 n2 hk2 => ?_⟩
      by_cases hkk : k2 = kk
      · subst hkk
        cases Option.some.inj (hk2.symm.trans hk)
        rw [Cell.slots_setSlot_self _ (k2_hasslot (g6 k2 fid fin hk))]
        rw [hg, hF]
        cases fin <;> simp
      · have h2 : k2 < cl.2.2.1 := Nat.lt_of_lt_of_le (List.getElem?_eq_some_iff.mp hk2).1 hlen
        have hfid : f2 ≠ fid := by
          intro e
          apply hkk
          have l1 : (cl.2.2.2.map (fun q => q.1))[k2]? = some f2 := by rw [List.getElem?_map, hk2]; rfl
          have l2 : (cl.2.2.2.map (fun q => q.1))[kk]? = some fid := by rw [List.getElem?_map, hk]; rfl
          rw [e] at l1
          exact (List.getElem?_inj (List.getElem?_eq_some_iff.mp l1).1 hnd).mp (l1.trans l2.symm)
        have a1 : jfn (if fin then jpF N fid b z else N) f2 b = jfn N f2 b := by rw [hg, if_neg (fun q => hfid q.2.1)]
        have a2 : (if fin then F else upF F fid b z) f2 b = F f2 b := by rw [hF, if_neg (fun q => hfid q.2.1)]
        rw [slot_ne _ _ (Ne.symm (jslot_ne hts hK hc h2 hlt hkk)), g6 k2 f2 n2 hk2, a1, a2]
    · refine ⟨cb, by rw [e3 b hba]; exact g1, g2, g3, g4, g5, fun k2 f2 n2 hk2 => ?_⟩
      have a1 : jfn (if fin then jpF N fid a z else N) f2 b = jfn N f2 b := by rw [hg, if_neg (fun q => hba q.2.2)]
      have a2 : (if fin then F else upF F fid a z) f2 b = F f2 b := by rw [hF, if_neg (fun q => hba q.2.2)]
      rw [g6 k2 f2 n2 hk2, a1, a2]
  · rw [htg] at hb ⊢
    have hba : b ≠ a := by
      intro e
      subst e
      rw [ht, jcls_ty hc] at hb
      cases hb
    obtain ⟨cb, g1, g2⟩ := hRep.2.2 b ty hb
    refine ⟨cb, by rw [e3 b hba]; exact g1, ?_⟩
    rw [hln]
    exact g2
theorem j_put {a i ci kk fid : Nat} {dsc : String} {v : Value} {z : Int} {ty : FieldType} (hd : decode k.2.1 pc = .ok (.putfield i, 3)) (hf : jLk k.1.cls i ci kk fid false dsc) (ht : jtg N a = ci) (hB : gB G ≤ a) (hty : parseFieldDescriptor dsc = some ty) (hv : jval fid z = v) (hn : narrow ty v = v) (hfit : fits ty v = true) (h : J G l d k (pc + 3) ls st N (upF F fid a z) A post) : J G l d k pc ls (v :: .ref a :: st) N F A post :=
  J.goW rfl rfl (fun {p e R s m args below meth c H locs cells slots Q ar} X hRep hS0 _ w => by
    obtain ⟨hx, hb, hr, -, -, hown, -, hts, hK, -⟩ := X
    obtain ⟨cl, ref, hc, hk, rfl, hl, hs⟩ := hf
    obtain ⟨hin, hnm, hlen, -, -, -, ty0, hty0, hfin⟩ := jcls_ok ci cl hc
    obtain ⟨cell, h1, h2, h3, h4, h6, h5⟩ := hRep.2.1 a cl (by rw [ht]; exact hc)
    rw [ht] at h2 h5
    obtain ⟨hS, hfc, kC, hkC, hkind⟩ := hK.1 ci cl hc
    have hlt : kk < cl.2.2.1 := Nat.lt_of_lt_of_le (List.getElem?_eq_some_iff.mp hk).1 hlen
    obtain ⟨cf, kf, fi, f, hi, hsl⟩ := hS kk hlt
    have hi2 : s.fieldFound? ref (cl.2.1 kk).2.1 (cl.2.1 kk).2.2.1 = some (cf, kf, fi, f) := by
      rcases hs with e | e
      · rw [e]; exact hi
      · exact u_same (hts _ e) _ hi
    have hlay := hts _ (hin _ (u_in_lay hlt))
    unfold u_lay at hlay
    rw [if_neg (by rw [(hfin kk fid false hk).2]; decide)] at hlay
    have hst := (u_facts hfc hkC (u_lays hts hin hlt) hi).1
    have h7 := u_store hfc hkC hkind hlay hi hty hn hfit
    refine W.putK hx hb (f := f) ⟨hown, hts _ hl, ⟨_, _, _, hi2⟩, hst⟩ (by rw [h2]; exact h7) h1 (h6 hB).1 (by rw [hsl]; exact k2_hasslot (h5 kk fid false hk)) rfl rfl hd fun H' e1 e2 e3 => ?_
    rw [hsl, ← hv] at e1
    exact w H' _ (jRep.put hts hK hRep hc hk ht h1 e1 e2 e3) (hS0.put e2 e3 hB)) h
theorem j_putN {a i ci kk fid : Nat} {dsc : String} {v : Value} {z : Int} {ty : FieldType} (hd : decode k.2.1 pc = .ok (.putfield i, 3)) (hf : jLkN k.1.cls i ci kk fid false dsc) (ht : jtg N a = ci) (hB : gB G ≤ a) (hty : parseFieldDescriptor dsc = some ty) (hv : jval fid z = v) (hn : narrow ty v = v) (hfit : fits ty v = true) (h : J G l d k (pc + 3) ls st N (upF F fid a z) A post) : J G l d k pc ls (v :: .ref a :: st) N F A post :=
  J.goW rfl rfl (fun {p e R s m args below meth c H locs cells slots Q ar} X hRep hS0 _ w => by
    obtain ⟨hx, hb, hr, -, -, hown, -, hts, hK, -⟩ := X
    obtain ⟨cl, ref, host, hc, hk, rfl, hl, hs⟩ := hf
    obtain ⟨hin, hnm, hlen, -, -, -, ty0, hty0, hfin⟩ := jcls_ok ci cl hc
    obtain ⟨cell, h1, h2, h3, h4, h6, h5⟩ := hRep.2.1 a cl (by rw [ht]; exact hc)
    rw [ht] at h2 h5
    obtain ⟨hS, hfc, kC, hkC, hkind⟩ := hK.1 ci cl hc
    have hlt : kk < cl.2.2.1 := Nat.lt_of_lt_of_le (List.getElem?_eq_some_iff.mp hk).1 hlen
    obtain ⟨cf, kf, fi, f, hi, hsl⟩ := hS kk hlt
    have hi2 : s.fieldFound? ref (cl.2.1 kk).2.1 (cl.2.1 kk).2.2.1 = some (cf, kf, fi, f) := by
      rcases hs with e | e
      · rw [e]; exact hi
      · exact u_same (hts _ e) _ hi
    have hlay := hts _ (hin _ (u_in_lay hlt))
    unfold u_lay at hlay
    rw [if_neg (by rw [(hfin kk fid false hk).2]; decide)] at hlay
    have hst := (u_facts hfc hkC (u_lays hts hin hlt) hi).1
    have h7 := u_store hfc hkC hkind hlay hi hty hn hfit
    refine va_WputK hx hb (f := f) hown (va_Nw.use rfl (hK.2.2.1 _ hl)) hi2 hst (by rw [h2]; exact h7) h1 (h6 hB).1 (by rw [hsl]; exact k2_hasslot (h5 kk fid false hk)) rfl rfl hd fun H' e1 e2 e3 => ?_
    rw [hsl, ← hv] at e1
    exact w H' _ (jRep.put hts hK hRep hc hk ht h1 e1 e2 e3) (hS0.put e2 e3 hB)) h
/-- a final field, in its class's constructor -/
theorem j_putF {a i ci kk fid : Nat} {dsc : String} {v : Value} {z : Int} {ty : FieldType} (hd : decode k.2.1 pc = .ok (.putfield i, 3)) (hf : jLk k.1.cls i ci kk fid true dsc) (ht : jtg N a = ci) (hB : gB G ≤ a) (hini : k.1.name = "<init>") (hdecl : ∀ c, jcls ci = some c → (c.2.1 kk).1 = k.1.cls) (hty : parseFieldDescriptor dsc = some ty) (hv : jval fid z = v) (hn : narrow ty v = v) (hfit : fits ty v = true) (h : J G l d k (pc + 3) ls st (jpF N fid a z) F A post) : J G l d k pc ls (v :: .ref a :: st) N F A post :=
  J.goW (N2 := jpF N fid a z) (F2 := F) (A2 := A) rfl rfl (fun {p e R s m args below meth c H locs cells slots Q ar} X hRep hS0 _ w => by
    obtain ⟨hx, hb, hr, -, -, hown, hnme, hts, hK, -⟩ := X
    obtain ⟨cl, ref, hc, hk, rfl, hl, hs⟩ := hf
    obtain ⟨hin, hnm, hlen, -, -, -, ty0, hty0, hfin⟩ := jcls_ok ci cl hc
    obtain ⟨cell, h1, h2, h3, h4, h6, h5⟩ := hRep.2.1 a cl (by rw [ht]; exact hc)
    rw [ht] at h2 h5
    obtain ⟨hS, hfc, kC, hkC, hkind⟩ := hK.1 ci cl hc
    have hlt : kk < cl.2.2.1 := Nat.lt_of_lt_of_le (List.getElem?_eq_some_iff.mp hk).1 hlen
    obtain ⟨cf, kf, fi, f, hi, hsl⟩ := hS kk hlt
    have hi2 : s.fieldFound? ref (cl.2.1 kk).2.1 (cl.2.1 kk).2.2.1 = some (cf, kf, fi, f) := by
      rcases hs with e | e
      · rw [e]; exact hi
      · exact u_same (hts _ e) _ hi
    have hlay := hts _ (hin _ (u_in_lay hlt))
    unfold u_lay at hlay
    rw [if_pos (hfin kk fid true hk).2] at hlay
    have hst := (u_facts hfc hkC (u_lays hts hin hlt) hi).1
    have hcf : m.cls = cf := by
      obtain ⟨_, _, c', _, _, _, -, -, hf', -, -, -, hown2, -⟩ := Cond.laysFinal_spec hlay
      have e1 : c' = cf := by have := hi.symm.trans hf'; simp at this; exact this.1.symm
      rw [hdecl cl hc] at hown2
      rw [← e1]; exact Option.some.inj (hown.symm.trans hown2)
    have h7 := u_fits hfc hkC hkind (Or.inr hlay) hi hty hn hfit
    refine W.putFinK hx hb hown (hts _ hl) hi2 hst hcf (hnme.trans hini) (by rw [h2]; exact h7) h1 (h6 hB).1 (by rw [hsl]; exact k2_hasslot (h5 kk fid true hk)) rfl rfl hd fun H' e1 e2 e3 => ?_
    rw [hsl, ← hv] at e1
    exact w H' _ (jRep.put hts hK hRep hc hk ht h1 e1 e2 e3) (hS0.put e2 e3 hB)) h
/-! arrays -/
theorem jin {i : Int} {n sz : Nat} (h : n ≤ sz) (hn : n < 2147483648) (hi : 0 ≤ i ∧ i < (n : Int)) : ¬ (Int32.ofInt i < 0 ∨ sz ≤ (Int32.ofInt i).toNatClampNeg) := by
  rw [i32_nat hi.1 (by omega)]
  rintro (h1 | h1)
  · have := (i32_lt (x := i) (y := 0) (by omega) (by omega)).mp h1
    omega
  · omega
end JH

