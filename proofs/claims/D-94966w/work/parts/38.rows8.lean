set_option maxRecDepth 100000
/-! composite rows for the component's walks: printed by gen/gen_rows8.py -/
def cmI (G : jG) (N : jSh) (P : Int → jFl → jAr → Prop) : jPo := fun o N' F' A' => ∃ z, o = .returned (some (vI z)) ∧ N' = N ∧ jWg G N F' A' ∧ P z F' A' ∧ jR z
def cnI (G : jG) (N : jSh) (P : Int → jSh → jFl → jAr → Prop) : jPo := fun o N' F' A' => ∃ z, o = .returned (some (vI z)) ∧ jWg G N' F' A' ∧ jTx N N' ∧ P z N' F' A' ∧ jR z
def cmB (G : jG) (N : jSh) (P : Int → jFl → jAr → Prop) : jPo := fun o N' F' A' => ∃ z, o = .returned (some (vI z)) ∧ N' = N ∧ jWg G N F' A' ∧ P z F' A' ∧ (z = 0 ∨ z = 1)
def cnB (G : jG) (N : jSh) (P : Int → jSh → jFl → jAr → Prop) : jPo := fun o N' F' A' => ∃ z, o = .returned (some (vI z)) ∧ jWg G N' F' A' ∧ jTx N N' ∧ P z N' F' A' ∧ (z = 0 ∨ z = 1)
def jpC (N : jSh) (F : jFl) (A : jAr) (P : Int → Prop) : jPo := fun o N' F' A' => ∃ z, o = .returned (some (vI z)) ∧ N' = N ∧ F' = F ∧ A' = A ∧ P z ∧ (0 ≤ z ∧ z ≤ 65535)
def cmC (G : jG) (N : jSh) (P : Int → jFl → jAr → Prop) : jPo := fun o N' F' A' => ∃ z, o = .returned (some (vI z)) ∧ N' = N ∧ jWg G N F' A' ∧ P z F' A' ∧ (0 ≤ z ∧ z ≤ 65535)
def cnC (G : jG) (N : jSh) (P : Int → jSh → jFl → jAr → Prop) : jPo := fun o N' F' A' => ∃ z, o = .returned (some (vI z)) ∧ jWg G N' F' A' ∧ jTx N N' ∧ P z N' F' A' ∧ (0 ≤ z ∧ z ≤ 65535)
def jpY (N : jSh) (F : jFl) (A : jAr) (P : Int → Prop) : jPo := fun o N' F' A' => ∃ z, o = .returned (some (vI z)) ∧ N' = N ∧ F' = F ∧ A' = A ∧ P z ∧ (-128 ≤ z ∧ z ≤ 127)
def cmY (G : jG) (N : jSh) (P : Int → jFl → jAr → Prop) : jPo := fun o N' F' A' => ∃ z, o = .returned (some (vI z)) ∧ N' = N ∧ jWg G N F' A' ∧ P z F' A' ∧ (-128 ≤ z ∧ z ≤ 127)
def cnY (G : jG) (N : jSh) (P : Int → jSh → jFl → jAr → Prop) : jPo := fun o N' F' A' => ∃ z, o = .returned (some (vI z)) ∧ jWg G N' F' A' ∧ jTx N N' ∧ P z N' F' A' ∧ (-128 ≤ z ∧ z ≤ 127)
def cmL (G : jG) (N : jSh) (P : Int → jFl → jAr → Prop) : jPo := fun o N' F' A' => ∃ z, o = .returned (some (vL z)) ∧ N' = N ∧ jWg G N F' A' ∧ P z F' A' ∧ jRL z
def cnL (G : jG) (N : jSh) (P : Int → jSh → jFl → jAr → Prop) : jPo := fun o N' F' A' => ∃ z, o = .returned (some (vL z)) ∧ jWg G N' F' A' ∧ jTx N N' ∧ P z N' F' A' ∧ jRL z
def jpR (N : jSh) (F : jFl) (A : jAr) (P : Int → Prop) : jPo := fun o N' F' A' => ∃ z, o = .returned (some (vR z)) ∧ N' = N ∧ F' = F ∧ A' = A ∧ P z ∧ True
def cmR (G : jG) (N : jSh) (P : Int → jFl → jAr → Prop) : jPo := fun o N' F' A' => ∃ z, o = .returned (some (vR z)) ∧ N' = N ∧ jWg G N F' A' ∧ P z F' A' ∧ True
def cnR (G : jG) (N : jSh) (P : Int → jSh → jFl → jAr → Prop) : jPo := fun o N' F' A' => ∃ z, o = .returned (some (vR z)) ∧ jWg G N' F' A' ∧ jTx N N' ∧ P z N' F' A' ∧ True
def jpV (N : jSh) (F : jFl) (A : jAr) (P : Prop) : jPo := fun o N' F' A' => o = .returned none ∧ N' = N ∧ F' = F ∧ A' = A ∧ P
def cmV (G : jG) (N : jSh) (P : jFl → jAr → Prop) : jPo := fun o N' F' A' => o = .returned none ∧ N' = N ∧ jWg G N F' A' ∧ P F' A'
def cnV (G : jG) (N : jSh) (P : jSh → jFl → jAr → Prop) : jPo := fun o N' F' A' => o = .returned none ∧ jWg G N' F' A' ∧ jTx N N' ∧ P N' F' A'
/-- a Fault is thrown -/
def cT (G : jG) (N : jSh) (X : Nat → jSh → jFl → jAr → Prop) : jPo := fun o N' F' A' => ∃ q, o = .threw q ∧ jWg G N' F' A' ∧ jTx N N' ∧ jtg N' q = 12 ∧ jfn N' 0 q = 1 ∧ X q N' F' A'
def cX (G : jG) (N : jSh) (X : Nat → jSh → jFl → jAr → Prop) (P : jPo) : jPo := fun o N' F' A' => P o N' F' A' ∨ cT G N X o N' F' A'
section JC8
variable {G : jG} {l : Launch} {d : Nat} {k : jM} {pc : Nat} {ls st rest : List Value} {N : jSh} {F : jFl} {A : jAr} {post : jPo}
theorem ckmI {P : Int → jFl → jAr → Prop} (h : ∀ z F' A', jWg G N F' A' → P z F' A' → jR z → J G l d k (pc + 3) ls (vI z :: rest) N F' A' post) : jAft G l d k pc ls rest N post (cmI G N P) := by
  intro o N' F' A' hp _
  obtain ⟨z, rfl, rfl, hw, h1, h2⟩ := hp
  exact Or.inl ⟨_, rfl, h z _ _ hw h1 h2⟩
theorem cknI {P : Int → jSh → jFl → jAr → Prop} (h : ∀ z N' F' A', jWg G N' F' A' → jTx N N' → P z N' F' A' → jR z → J G l d k (pc + 3) ls (vI z :: rest) N' F' A' post) : jAft G l d k pc ls rest N post (cnI G N P) := by
  intro o N' F' A' hp _
  obtain ⟨z, rfl, hw, ht, h1, h2⟩ := hp
  exact Or.inl ⟨_, rfl, h z _ _ _ hw ht h1 h2⟩
theorem ckmB {P : Int → jFl → jAr → Prop} (h : ∀ z F' A', jWg G N F' A' → P z F' A' → (z = 0 ∨ z = 1) → J G l d k (pc + 3) ls (vI z :: rest) N F' A' post) : jAft G l d k pc ls rest N post (cmB G N P) := by
  intro o N' F' A' hp _
  obtain ⟨z, rfl, rfl, hw, h1, h2⟩ := hp
  exact Or.inl ⟨_, rfl, h z _ _ hw h1 h2⟩
theorem cknB {P : Int → jSh → jFl → jAr → Prop} (h : ∀ z N' F' A', jWg G N' F' A' → jTx N N' → P z N' F' A' → (z = 0 ∨ z = 1) → J G l d k (pc + 3) ls (vI z :: rest) N' F' A' post) : jAft G l d k pc ls rest N post (cnB G N P) := by
  intro o N' F' A' hp _
  obtain ⟨z, rfl, hw, ht, h1, h2⟩ := hp
  exact Or.inl ⟨_, rfl, h z _ _ _ hw ht h1 h2⟩
theorem jkpC {P : Int → Prop} (h : ∀ z, P z → (0 ≤ z ∧ z ≤ 65535) → J G l d k (pc + 3) ls (vI z :: rest) N F A post) : jAft G l d k pc ls rest N post (jpC N F A P) := by
  intro o N' F' A' hp _
  obtain ⟨z, rfl, rfl, rfl, rfl, h1, h2⟩ := hp
  exact Or.inl ⟨_, rfl, h z h1 h2⟩
theorem ckmC {P : Int → jFl → jAr → Prop} (h : ∀ z F' A', jWg G N F' A' → P z F' A' → (0 ≤ z ∧ z ≤ 65535) → J G l d k (pc + 3) ls (vI z :: rest) N F' A' post) : jAft G l d k pc ls rest N post (cmC G N P) := by
  intro o N' F' A' hp _
  obtain ⟨z, rfl, rfl, hw, h1, h2⟩ := hp
  exact Or.inl ⟨_, rfl, h z _ _ hw h1 h2⟩
theorem cknC {P : Int → jSh → jFl → jAr → Prop} (h : ∀ z N' F' A', jWg G N' F' A' → jTx N N' → P z N' F' A' → (0 ≤ z ∧ z ≤ 65535) → J G l d k (pc + 3) ls (vI z :: rest) N' F' A' post) : jAft G l d k pc ls rest N post (cnC G N P) := by
  intro o N' F' A' hp _
  obtain ⟨z, rfl, hw, ht, h1, h2⟩ := hp
  exact Or.inl ⟨_, rfl, h z _ _ _ hw ht h1 h2⟩
theorem jkpY {P : Int → Prop} (h : ∀ z, P z → (-128 ≤ z ∧ z ≤ 127) → J G l d k (pc + 3) ls (vI z :: rest) N F A post) : jAft G l d k pc ls rest N post (jpY N F A P) := by
  intro o N' F' A' hp _
  obtain ⟨z, rfl, rfl, rfl, rfl, h1, h2⟩ := hp
  exact Or.inl ⟨_, rfl, h z h1 h2⟩
theorem ckmY {P : Int → jFl → jAr → Prop} (h : ∀ z F' A', jWg G N F' A' → P z F' A' → (-128 ≤ z ∧ z ≤ 127) → J G l d k (pc + 3) ls (vI z :: rest) N F' A' post) : jAft G l d k pc ls rest N post (cmY G N P) := by
  intro o N' F' A' hp _
  obtain ⟨z, rfl, rfl, hw, h1, h2⟩ := hp
  exact Or.inl ⟨_, rfl, h z _ _ hw h1 h2⟩
theorem cknY {P : Int → jSh → jFl → jAr → Prop} (h : ∀ z N' F' A', jWg G N' F' A' → jTx N N' → P z N' F' A' → (-128 ≤ z ∧ z ≤ 127) → J G l d k (pc + 3) ls (vI z :: rest) N' F' A' post) : jAft G l d k pc ls rest N post (cnY G N P) := by
  intro o N' F' A' hp _
  obtain ⟨z, rfl, hw, ht, h1, h2⟩ := hp
  exact Or.inl ⟨_, rfl, h z _ _ _ hw ht h1 h2⟩
theorem ckmL {P : Int → jFl → jAr → Prop} (h : ∀ z F' A', jWg G N F' A' → P z F' A' → jRL z → J G l d k (pc + 3) ls (vL z :: rest) N F' A' post) : jAft G l d k pc ls rest N post (cmL G N P) := by
  intro o N' F' A' hp _
  obtain ⟨z, rfl, rfl, hw, h1, h2⟩ := hp
  exact Or.inl ⟨_, rfl, h z _ _ hw h1 h2⟩
theorem cknL {P : Int → jSh → jFl → jAr → Prop} (h : ∀ z N' F' A', jWg G N' F' A' → jTx N N' → P z N' F' A' → jRL z → J G l d k (pc + 3) ls (vL z :: rest) N' F' A' post) : jAft G l d k pc ls rest N post (cnL G N P) := by
  intro o N' F' A' hp _
  obtain ⟨z, rfl, hw, ht, h1, h2⟩ := hp
  exact Or.inl ⟨_, rfl, h z _ _ _ hw ht h1 h2⟩
theorem jkpR {P : Int → Prop} (h : ∀ z, P z → True → J G l d k (pc + 3) ls (vR z :: rest) N F A post) : jAft G l d k pc ls rest N post (jpR N F A P) := by
  intro o N' F' A' hp _
  obtain ⟨z, rfl, rfl, rfl, rfl, h1, h2⟩ := hp
  exact Or.inl ⟨_, rfl, h z h1 h2⟩
theorem ckmR {P : Int → jFl → jAr → Prop} (h : ∀ z F' A', jWg G N F' A' → P z F' A' → True → J G l d k (pc + 3) ls (vR z :: rest) N F' A' post) : jAft G l d k pc ls rest N post (cmR G N P) := by
  intro o N' F' A' hp _
  obtain ⟨z, rfl, rfl, hw, h1, h2⟩ := hp
  exact Or.inl ⟨_, rfl, h z _ _ hw h1 h2⟩
theorem cknR {P : Int → jSh → jFl → jAr → Prop} (h : ∀ z N' F' A', jWg G N' F' A' → jTx N N' → P z N' F' A' → True → J G l d k (pc + 3) ls (vR z :: rest) N' F' A' post) : jAft G l d k pc ls rest N post (cnR G N P) := by
  intro o N' F' A' hp _
  obtain ⟨z, rfl, hw, ht, h1, h2⟩ := hp
  exact Or.inl ⟨_, rfl, h z _ _ _ hw ht h1 h2⟩
theorem jkpV {P : Prop} (h : P → J G l d k (pc + 3) ls rest N F A post) : jAft G l d k pc ls rest N post (jpV N F A P) := by
  intro o N' F' A' hp _
  obtain ⟨rfl, rfl, rfl, rfl, h1⟩ := hp
  exact Or.inl ⟨_, rfl, h h1⟩
theorem ckmV {P : jFl → jAr → Prop} (h : ∀ F' A', jWg G N F' A' → P F' A' → J G l d k (pc + 3) ls rest N F' A' post) : jAft G l d k pc ls rest N post (cmV G N P) := by
  intro o N' F' A' hp _
  obtain ⟨rfl, rfl, hw, h1⟩ := hp
  exact Or.inl ⟨_, rfl, h _ _ hw h1⟩
theorem cknV {P : jSh → jFl → jAr → Prop} (h : ∀ N' F' A', jWg G N' F' A' → jTx N N' → P N' F' A' → J G l d k (pc + 3) ls rest N' F' A' post) : jAft G l d k pc ls rest N post (cnV G N P) := by
  intro o N' F' A' hp _
  obtain ⟨rfl, hw, ht, h1⟩ := hp
  exact Or.inl ⟨_, rfl, h _ _ _ hw ht h1⟩
theorem ckX {P : jPo} {X : Nat → jSh → jFl → jAr → Prop} (hx : ∀ q N' F' A', jWg G N' F' A' → jTx N N' → jtg N' q = 12 → jfn N' 0 q = 1 → X q N' F' A' → JT G l d k pc ls rest q N' F' A' post) (h : jAft G l d k pc ls rest N post P) : jAft G l d k pc ls rest N post (cX G N X P) := by
  intro o N' F' A' hp hn
  rcases hp with hp | ⟨q, rfl, hw, ht, h1, h2, h3⟩
  · exact h o N' F' A' hp hn
  · exact Or.inr ⟨q, rfl, hx q _ _ _ hw ht h1 h2 h3⟩
/-- an exception goes through a method without a handler there -/
theorem JT.thru {q : Nat} {N0 : jSh} {P : jPo} {X : Nat → jSh → jFl → jAr → Prop} (hout : ∀ x ∈ tableOf k.2.2.2.2, covers x pc = false) (hw : jWg G N F A) (ht : jTx N0 N) (h1 : jtg N q = 12) (h2 : jfn N 0 q = 1) (hX : X q N F A) : JT G l d k pc ls st q N F A (cX G N0 X P) :=
  JT.out (hw.2.1 q h2) h1 rfl hout (Or.inr ⟨q, rfl, hw, ht, h1, h2, hX⟩)
theorem hout0 {y : jM} (h : y.2.2.2.2 = []) (pc : Nat) : ∀ x ∈ tableOf y.2.2.2.2, covers x pc = false := by
  rw [h]
  intro x hx
  cases hx
/-- new cells -/
theorem c_new {i ci sl : Nat} {cl : jC} (hW : jWg G N F A) (hd : decode k.2.1 pc = .ok (.new i, 3)) (hc : jcls ci = some cl) (hl : Cond.classLink k.1.cls i cl.1 ∈ lw_all) (hsl : cl.2.2.1 = sl) (h100 : Nat.ble ci 99 = true) (h : ∀ (b : Nat) (N1 : jSh) (F1 : jFl), b = jnx N → N1 = jnew N ci 0 sl 1 → F1 = nwF N F → jtg N1 b = ci → jfn N1 0 b = 1 → jTx N N1 → jWg G N1 F1 A → J G l d k (pc + 3) ls (vR (b : Int) :: st) N1 F1 A post) : J G l d k pc ls st N F A post := by
  subst hsl
  exact r_new hd hc hl (h _ _ _ rfl rfl rfl (by rw [jnew_tg, if_pos rfl]) (by rw [jnew_fn, if_pos rfl, if_pos rfl]) jTx.new (hW.newO (by have := Nat.le_of_ble_eq_true h100; omega)))
theorem c_newa {t n : Nat} {i : Int} {ty : FieldType} {at_ : ArrayType} (hW : jWg G N F A) (hd : decode k.2.1 pc = .ok (.newarray at_, 2)) (hty : jty t = some ty) (he : newarray.typeOf at_ = ty) (hdv : defaultValue ty = jval t (jdf t)) (hprim : ∀ C, ty ≠ .object C) (hw : Cond.arrayClass ty ∈ lw_all) (hcb : componentBytes ty ≤ 8) (hi : i = (n : Int)) (hn : n ≤ 1000000) (h : ∀ (b : Nat) (N1 : jSh) (F1 : jFl) (A1 : jAr), b = jnx N → N1 = jnew N t n n 1 → F1 = nwF N F → A1 = nwA N t A → jtg N1 b = t → jfn N1 0 b = 1 → jTx N N1 → jWg G N1 F1 A1 → J G l d k (pc + 2) ls (vR (b : Int) :: st) N1 F1 A1 post) : J G l d k pc ls (vI i :: st) N F A post :=
  r_newa hd hty he hdv hprim hw hi (Nat.le_trans (Nat.mul_le_mul hn hcb) (by omega)) (by omega) (h _ _ _ _ rfl rfl rfl rfl (by rw [jnew_tg, if_pos rfl]) (by rw [jnew_fn, if_pos rfl, if_pos rfl]) jTx.new hW.newA)
theorem c_anew {t n ix : Nat} {i : Int} {C : String} (hW : jWg G N F A) (hd : decode k.2.1 pc = .ok (.anewarray ix, 3)) (hty : jty t = some (.object C)) (hk : t % 3 = 2) (hl : Cond.classLink k.1.cls ix C ∈ lw_all) (hao : C ∈ jao) (hi : i = (n : Int)) (hn : n ≤ 1000000) (h : ∀ (b : Nat) (N1 : jSh) (F1 : jFl) (A1 : jAr), b = jnx N → N1 = jnew N t n n 1 → F1 = nwF N F → A1 = nwA N t A → jtg N1 b = t → jfn N1 0 b = 1 → jTx N N1 → jWg G N1 F1 A1 → J G l d k (pc + 3) ls (vR (b : Int) :: st) N1 F1 A1 post) : J G l d k pc ls (vI i :: st) N F A post :=
  r_anew hd hty hk hl hao hi (by omega) (h _ _ _ _ rfl rfl rfl rfl (by rw [jnew_tg, if_pos rfl]) (by rw [jnew_fn, if_pos rfl, if_pos rfl]) jTx.new hW.newA)
theorem jWg.cp (h : jWg G N F A) {a0 a t : Nat} {sp dp n : Int} (h0 : jtg N a0 = t) (h1 : jtg N a = t) (ht : Nat.ble 100 t = true) : jWg G N F (cpA A a0 a sp dp n) := by
  refine ⟨⟨h.1.1, fun b j h100 => ?_, h.1.2.2⟩, h.2⟩
  unfold cpA
  by_cases q : b = a ∧ dp ≤ j ∧ j < dp + n
  · rw [if_pos q, q.1, h1, ← h0]
    exact h.1.2.1 a0 _ (by rw [h0]; exact Nat.le_of_ble_eq_true ht)
  · rw [if_neg q]
    exact h.1.2.1 b j h100
theorem c_copy {i a0 a t : Nat} {ty : FieldType} {y0 y sp dp n : Int} (hW : jWg G N F A) (hd : decode k.2.1 pc = .ok (.invokestatic i, 3)) (hl : Cond.methodLink k.1.cls i arraycopyName ∈ lw_all) (hy0 : y0 = (a0 : Int)) (hy : y = (a : Int)) (ht0 : jtg N a0 = t) (ht : jtg N a = t) (hty : jty t = some ty) (h100 : Nat.ble 100 t = true) (hO : jfn N 0 a = 1)
    (hr : 0 ≤ sp ∧ 0 ≤ dp ∧ 0 ≤ n ∧ sp + n ≤ (jln N a0 : Int) ∧ dp + n ≤ (jln N a : Int))
    (hel : ∀ j : Int, sp ≤ j → j < sp + n → match ty with | .object C => jast N C (A a0 j) | .byte => -128 ≤ A a0 j ∧ A a0 j ≤ 127 | _ => False) (hty2 : ∀ C, ty = .object C → t % 3 = 2) (hty3 : ty = .byte → t % 3 = 0) (hcat : st.length ≤ 4) (hdd : 1 ≤ d)
    (h : ∀ A1 : jAr, A1 = cpA A a0 a sp dp n → jWg G N F A1 → J G l d k (pc + 3) ls st N F A1 post) : J G l d k pc ls (vI n :: vI dp :: vR y :: vI sp :: vR y0 :: st) N F A post :=
  r_copy hd hl hy0 hy ht0 ht hty (hW.2.1 a hO) hr.1 hr.2.1 hr.2.2.1 hr.2.2.2.1 hr.2.2.2.2 hel hty2 hty3 hcat hdd (h _ rfl (hW.cp ht0 ht h100))
theorem c_pI {z y : Int} {a i ci kk fid : Nat} (hW : jWg G N F A) (hd : decode k.2.1 pc = .ok (.putfield i, 3)) (hf : jLk k.1.cls i ci kk fid false "I") (hy : y = (a : Int)) (ht : jtg N a = ci) (hO : jfn N 0 a = 1) (hk : fid % 3 = 0) (hr : jR z) (h : ∀ F1 : jFl, F1 = upF F fid a z → jWg G N F1 A → J G l d k (pc + 3) ls st N F1 A post) : J G l d k pc ls (vI z :: vR y :: st) N F A post :=
  r_pI hd hf hy ht (hW.2.1 a hO) hk (h _ rfl (hW.wF (jRk_0 hk hr)))
theorem c_pZ {z y : Int} {a i ci kk fid : Nat} (hW : jWg G N F A) (hd : decode k.2.1 pc = .ok (.putfield i, 3)) (hf : jLk k.1.cls i ci kk fid false "Z") (hy : y = (a : Int)) (ht : jtg N a = ci) (hO : jfn N 0 a = 1) (hk : fid % 3 = 0) (hr : jR z) (hb : z = 0 ∨ z = 1) (h : ∀ F1 : jFl, F1 = upF F fid a z → jWg G N F1 A → J G l d k (pc + 3) ls st N F1 A post) : J G l d k pc ls (vI z :: vR y :: st) N F A post :=
  r_pZ hd hf hy ht (hW.2.1 a hO) hk hb (h _ rfl (hW.wF (jRk_0 hk hr)))
theorem c_pC {z y : Int} {a i ci kk fid : Nat} (hW : jWg G N F A) (hd : decode k.2.1 pc = .ok (.putfield i, 3)) (hf : jLk k.1.cls i ci kk fid false "C") (hy : y = (a : Int)) (ht : jtg N a = ci) (hO : jfn N 0 a = 1) (hk : fid % 3 = 0) (hr : jR z) (hb : 0 ≤ z ∧ z ≤ 65535) (h : ∀ F1 : jFl, F1 = upF F fid a z → jWg G N F1 A → J G l d k (pc + 3) ls st N F1 A post) : J G l d k pc ls (vI z :: vR y :: st) N F A post :=
  r_pC hd hf hy ht (hW.2.1 a hO) hk hb (h _ rfl (hW.wF (jRk_0 hk hr)))
theorem c_pB {z y : Int} {a i ci kk fid : Nat} (hW : jWg G N F A) (hd : decode k.2.1 pc = .ok (.putfield i, 3)) (hf : jLk k.1.cls i ci kk fid false "B") (hy : y = (a : Int)) (ht : jtg N a = ci) (hO : jfn N 0 a = 1) (hk : fid % 3 = 0) (hr : jR z) (hb : -128 ≤ z ∧ z ≤ 127) (h : ∀ F1 : jFl, F1 = upF F fid a z → jWg G N F1 A → J G l d k (pc + 3) ls st N F1 A post) : J G l d k pc ls (vI z :: vR y :: st) N F A post :=
  r_pB hd hf hy ht (hW.2.1 a hO) hk hb (h _ rfl (hW.wF (jRk_0 hk hr)))
theorem c_pJ {z y : Int} {a i ci kk fid : Nat} (hW : jWg G N F A) (hd : decode k.2.1 pc = .ok (.putfield i, 3)) (hf : jLk k.1.cls i ci kk fid false "J") (hy : y = (a : Int)) (ht : jtg N a = ci) (hO : jfn N 0 a = 1) (hk : fid % 3 = 1) (hr : jRL z) (h : ∀ F1 : jFl, F1 = upF F fid a z → jWg G N F1 A → J G l d k (pc + 3) ls st N F1 A post) : J G l d k pc ls (vL z :: vR y :: st) N F A post :=
  r_pJ hd hf hy ht (hW.2.1 a hO) hk (h _ rfl (hW.wF (jRk_1 hk hr)))
theorem c_pR {z y : Int} {a i ci kk fid : Nat} {dsc : String} {ty : FieldType} (hW : jWg G N F A) (hd : decode k.2.1 pc = .ok (.putfield i, 3)) (hf : jLk k.1.cls i ci kk fid false dsc) (hy : y = (a : Int)) (ht : jtg N a = ci) (hO : jfn N 0 a = 1) (hk : fid % 3 = 2) (hty : parseFieldDescriptor dsc = some ty) (hrt : (∃ n, ty = .object n) ∨ ∃ t, ty = .array t) (h : ∀ F1 : jFl, F1 = upF F fid a z → jWg G N F1 A → J G l d k (pc + 3) ls st N F1 A post) : J G l d k pc ls (vR z :: vR y :: st) N F A post :=
  r_pR hd hf hy ht (hW.2.1 a hO) hk hty hrt (h _ rfl (hW.wF (jRk_2 hk)))
theorem c_pIN {z y : Int} {a i ci kk fid : Nat} (hW : jWg G N F A) (hd : decode k.2.1 pc = .ok (.putfield i, 3)) (hf : jLkN k.1.cls i ci kk fid false "I") (hy : y = (a : Int)) (ht : jtg N a = ci) (hO : jfn N 0 a = 1) (hk : fid % 3 = 0) (hr : jR z) (h : ∀ F1 : jFl, F1 = upF F fid a z → jWg G N F1 A → J G l d k (pc + 3) ls st N F1 A post) : J G l d k pc ls (vI z :: vR y :: st) N F A post :=
  r_pIN hd hf hy ht (hW.2.1 a hO) hk (h _ rfl (hW.wF (jRk_0 hk hr)))
theorem c_pZN {z y : Int} {a i ci kk fid : Nat} (hW : jWg G N F A) (hd : decode k.2.1 pc = .ok (.putfield i, 3)) (hf : jLkN k.1.cls i ci kk fid false "Z") (hy : y = (a : Int)) (ht : jtg N a = ci) (hO : jfn N 0 a = 1) (hk : fid % 3 = 0) (hr : jR z) (hb : z = 0 ∨ z = 1) (h : ∀ F1 : jFl, F1 = upF F fid a z → jWg G N F1 A → J G l d k (pc + 3) ls st N F1 A post) : J G l d k pc ls (vI z :: vR y :: st) N F A post :=
  r_pZN hd hf hy ht (hW.2.1 a hO) hk hb (h _ rfl (hW.wF (jRk_0 hk hr)))
theorem c_pCN {z y : Int} {a i ci kk fid : Nat} (hW : jWg G N F A) (hd : decode k.2.1 pc = .ok (.putfield i, 3)) (hf : jLkN k.1.cls i ci kk fid false "C") (hy : y = (a : Int)) (ht : jtg N a = ci) (hO : jfn N 0 a = 1) (hk : fid % 3 = 0) (hr : jR z) (hb : 0 ≤ z ∧ z ≤ 65535) (h : ∀ F1 : jFl, F1 = upF F fid a z → jWg G N F1 A → J G l d k (pc + 3) ls st N F1 A post) : J G l d k pc ls (vI z :: vR y :: st) N F A post :=
  r_pCN hd hf hy ht (hW.2.1 a hO) hk hb (h _ rfl (hW.wF (jRk_0 hk hr)))
theorem c_pBN {z y : Int} {a i ci kk fid : Nat} (hW : jWg G N F A) (hd : decode k.2.1 pc = .ok (.putfield i, 3)) (hf : jLkN k.1.cls i ci kk fid false "B") (hy : y = (a : Int)) (ht : jtg N a = ci) (hO : jfn N 0 a = 1) (hk : fid % 3 = 0) (hr : jR z) (hb : -128 ≤ z ∧ z ≤ 127) (h : ∀ F1 : jFl, F1 = upF F fid a z → jWg G N F1 A → J G l d k (pc + 3) ls st N F1 A post) : J G l d k pc ls (vI z :: vR y :: st) N F A post :=
  r_pBN hd hf hy ht (hW.2.1 a hO) hk hb (h _ rfl (hW.wF (jRk_0 hk hr)))
theorem c_pJN {z y : Int} {a i ci kk fid : Nat} (hW : jWg G N F A) (hd : decode k.2.1 pc = .ok (.putfield i, 3)) (hf : jLkN k.1.cls i ci kk fid false "J") (hy : y = (a : Int)) (ht : jtg N a = ci) (hO : jfn N 0 a = 1) (hk : fid % 3 = 1) (hr : jRL z) (h : ∀ F1 : jFl, F1 = upF F fid a z → jWg G N F1 A → J G l d k (pc + 3) ls st N F1 A post) : J G l d k pc ls (vL z :: vR y :: st) N F A post :=
  r_pJN hd hf hy ht (hW.2.1 a hO) hk (h _ rfl (hW.wF (jRk_1 hk hr)))
theorem c_pRN {z y : Int} {a i ci kk fid : Nat} {dsc : String} {ty : FieldType} (hW : jWg G N F A) (hd : decode k.2.1 pc = .ok (.putfield i, 3)) (hf : jLkN k.1.cls i ci kk fid false dsc) (hy : y = (a : Int)) (ht : jtg N a = ci) (hO : jfn N 0 a = 1) (hk : fid % 3 = 2) (hty : parseFieldDescriptor dsc = some ty) (hrt : (∃ n, ty = .object n) ∨ ∃ t, ty = .array t) (h : ∀ F1 : jFl, F1 = upF F fid a z → jWg G N F1 A → J G l d k (pc + 3) ls st N F1 A post) : J G l d k pc ls (vR z :: vR y :: st) N F A post :=
  r_pRN hd hf hy ht (hW.2.1 a hO) hk hty hrt (h _ rfl (hW.wF (jRk_2 hk)))
theorem c_pIF {z y : Int} {a i ci kk fid : Nat} (hW : jWg G N F A) (hd : decode k.2.1 pc = .ok (.putfield i, 3)) (hf : jLk k.1.cls i ci kk fid true "I") (hy : y = (a : Int)) (ht : jtg N a = ci) (hO : jfn N 0 a = 1) (hk : fid % 3 = 0) (hr : jR z) (hini : k.1.name = "<init>") (hdecl : ∀ c, jcls ci = some c → (c.2.1 kk).1 = k.1.cls) (hf0 : fid ≠ 0) (h : ∀ N1 : jSh, N1 = jpF N fid a z → jTx N N1 → jWg G N1 F A → J G l d k (pc + 3) ls st N1 F A post) : J G l d k pc ls (vI z :: vR y :: st) N F A post :=
  r_pIF hd hf hy ht (hW.2.1 a hO) hk hini hdecl (h _ rfl (jTx.f hf0) (hW.wf (jRk_0 hk hr) hf0))
theorem c_pZF {z y : Int} {a i ci kk fid : Nat} (hW : jWg G N F A) (hd : decode k.2.1 pc = .ok (.putfield i, 3)) (hf : jLk k.1.cls i ci kk fid true "Z") (hy : y = (a : Int)) (ht : jtg N a = ci) (hO : jfn N 0 a = 1) (hk : fid % 3 = 0) (hr : jR z) (hb : z = 0 ∨ z = 1) (hini : k.1.name = "<init>") (hdecl : ∀ c, jcls ci = some c → (c.2.1 kk).1 = k.1.cls) (hf0 : fid ≠ 0) (h : ∀ N1 : jSh, N1 = jpF N fid a z → jTx N N1 → jWg G N1 F A → J G l d k (pc + 3) ls st N1 F A post) : J G l d k pc ls (vI z :: vR y :: st) N F A post :=
  r_pZF hd hf hy ht (hW.2.1 a hO) hk hb hini hdecl (h _ rfl (jTx.f hf0) (hW.wf (jRk_0 hk hr) hf0))
theorem c_pBF {z y : Int} {a i ci kk fid : Nat} (hW : jWg G N F A) (hd : decode k.2.1 pc = .ok (.putfield i, 3)) (hf : jLk k.1.cls i ci kk fid true "B") (hy : y = (a : Int)) (ht : jtg N a = ci) (hO : jfn N 0 a = 1) (hk : fid % 3 = 0) (hr : jR z) (hb : -128 ≤ z ∧ z ≤ 127) (hini : k.1.name = "<init>") (hdecl : ∀ c, jcls ci = some c → (c.2.1 kk).1 = k.1.cls) (hf0 : fid ≠ 0) (h : ∀ N1 : jSh, N1 = jpF N fid a z → jTx N N1 → jWg G N1 F A → J G l d k (pc + 3) ls st N1 F A post) : J G l d k pc ls (vI z :: vR y :: st) N F A post :=
  r_pBF hd hf hy ht (hW.2.1 a hO) hk hb hini hdecl (h _ rfl (jTx.f hf0) (hW.wf (jRk_0 hk hr) hf0))
theorem c_pRF {z y : Int} {a i ci kk fid : Nat} {dsc : String} {ty : FieldType} (hW : jWg G N F A) (hd : decode k.2.1 pc = .ok (.putfield i, 3)) (hf : jLk k.1.cls i ci kk fid true dsc) (hy : y = (a : Int)) (ht : jtg N a = ci) (hO : jfn N 0 a = 1) (hk : fid % 3 = 2) (hini : k.1.name = "<init>") (hdecl : ∀ c, jcls ci = some c → (c.2.1 kk).1 = k.1.cls) (hf0 : fid ≠ 0) (hty : parseFieldDescriptor dsc = some ty) (hrt : (∃ n, ty = .object n) ∨ ∃ t, ty = .array t) (h : ∀ N1 : jSh, N1 = jpF N fid a z → jTx N N1 → jWg G N1 F A → J G l d k (pc + 3) ls st N1 F A post) : J G l d k pc ls (vR z :: vR y :: st) N F A post :=
  r_pRF hd hf hy ht (hW.2.1 a hO) hk hini hdecl hty hrt (h _ rfl (jTx.f hf0) (hW.wf (jRk_2 hk) hf0))
theorem c_iast {a : Nat} {y i z : Int} (hW : jWg G N F A) (hd : decode k.2.1 pc = .ok (.iastore, 1)) (hy : y = (a : Int)) (ht : jtg N a = 102) (hO : jfn N 0 a = 1) (hi : 0 ≤ i ∧ i < (jln N a : Int)) (hr : jR z) (h : ∀ A1 : jAr, A1 = upA A a i z → jWg G N F A1 → J G l d k (pc + 1) ls st N F A1 post) : J G l d k pc ls (vI z :: vI i :: vR y :: st) N F A post :=
  r_iast hd hy ht (hW.2.1 a hO) hi (h _ rfl (hW.wA ht (jRk_0 rfl hr)))
theorem c_last {a : Nat} {y i z : Int} (hW : jWg G N F A) (hd : decode k.2.1 pc = .ok (.lastore, 1)) (hy : y = (a : Int)) (ht : jtg N a = 103) (hO : jfn N 0 a = 1) (hi : 0 ≤ i ∧ i < (jln N a : Int)) (hr : jRL z) (h : ∀ A1 : jAr, A1 = upA A a i z → jWg G N F A1 → J G l d k (pc + 1) ls st N F A1 post) : J G l d k pc ls (vL z :: vI i :: vR y :: st) N F A post :=
  r_last hd hy ht (hW.2.1 a hO) hi (h _ rfl (hW.wA ht (jRk_1 rfl hr)))
theorem c_zast {a : Nat} {y i z : Int} (hW : jWg G N F A) (hd : decode k.2.1 pc = .ok (.bastore, 1)) (hy : y = (a : Int)) (ht : jtg N a = 105) (hO : jfn N 0 a = 1) (hi : 0 ≤ i ∧ i < (jln N a : Int)) (hr : jR z) (hz : z = 0 ∨ z = 1) (h : ∀ A1 : jAr, A1 = upA A a i z → jWg G N F A1 → J G l d k (pc + 1) ls st N F A1 post) : J G l d k pc ls (vI z :: vI i :: vR y :: st) N F A post :=
  r_zast hd hy ht (hW.2.1 a hO) hi hz (h _ rfl (hW.wA ht (jRk_0 rfl hr)))
theorem c_bast {a : Nat} {y i z : Int} (hW : jWg G N F A) (hd : decode k.2.1 pc = .ok (.bastore, 1)) (hy : y = (a : Int)) (ht : jtg N a = 108) (hO : jfn N 0 a = 1) (hi : 0 ≤ i ∧ i < (jln N a : Int)) (hr : jR z) (hz : -128 ≤ z ∧ z ≤ 127) (h : ∀ A1 : jAr, A1 = upA A a i z → jWg G N F A1 → J G l d k (pc + 1) ls st N F A1 post) : J G l d k pc ls (vI z :: vI i :: vR y :: st) N F A post :=
  r_bast hd hy ht (hW.2.1 a hO) hi hz (h _ rfl (hW.wA ht (jRk_0 rfl hr)))
theorem c_cast {a : Nat} {y i z : Int} (hW : jWg G N F A) (hd : decode k.2.1 pc = .ok (.castore, 1)) (hy : y = (a : Int)) (ht : jtg N a = 111) (hO : jfn N 0 a = 1) (hi : 0 ≤ i ∧ i < (jln N a : Int)) (hr : jR z) (hz : 0 ≤ z ∧ z ≤ 65535) (h : ∀ A1 : jAr, A1 = upA A a i z → jWg G N F A1 → J G l d k (pc + 1) ls st N F A1 post) : J G l d k pc ls (vI z :: vI i :: vR y :: st) N F A post :=
  r_cast hd hy ht (hW.2.1 a hO) hi hz (h _ rfl (hW.wA ht (jRk_0 rfl hr)))
theorem c_aast {a t : Nat} {C : String} {y i z : Int} (hW : jWg G N F A) (hd : decode k.2.1 pc = .ok (.aastore, 1)) (hy : y = (a : Int)) (ht : jtg N a = t) (hty : jty t = some (.object C)) (hO : jfn N 0 a = 1) (hi : 0 ≤ i ∧ i < (jln N a : Int)) (hz : jast N C z) (hk : t % 3 = 2) (h : ∀ A1 : jAr, A1 = upA A a i z → jWg G N F A1 → J G l d k (pc + 1) ls st N F A1 post) : J G l d k pc ls (vR z :: vI i :: vR y :: st) N F A post :=
  r_aast hd hy ht hty (hW.2.1 a hO) hi hz hk (h _ rfl (hW.wA ht (jRk_2 hk)))
theorem jnmR {x v : Int} (e : v = x) (h : J G l d k pc ls (vR v :: st) N F A post) : J G l d k pc ls (vR x :: st) N F A post := e ▸ h
/-- Object.getClass of an array of objects: the class object -/
theorem r_getC {i a : Nat} {y : Int} (hd : decode k.2.1 pc = .ok (.invokevirtual i, 3)) (hl : Cond.methodLink k.1.cls i ⟨"java/lang/Object", "getClass", "()Ljava/lang/Class;"⟩ ∈ lw_all) (hy : y = (a : Int)) (ht : jtg N a = 104) (hO : gB G ≤ a) (hcat : st.length ≤ 4) (hdd : 1 ≤ d) (h : J G l d k (pc + 3) ls (vR (gS G 20 : Int) :: st) N F A post) : J G l d k pc ls (vR y :: st) N F A post := by
  rw [vR_n hy]
  rw [vR_nat] at h
  obtain ⟨o, N', F', A', h1, h2, h3, h4⟩ := h
  refine ⟨o, N', F', A', h1, h2, h3, ?_⟩
  intro p e R s m args below meth c H locs cells slots mc ms ar X hcc hss hmc hms hd2 hl2 hRep hS hL
  have hts := X.2.2.2.2.2.2.2.1
  have hK := X.2.2.2.2.2.2.2.2.1
  obtain ⟨cell, g1, g2, g3, g4, g5, g6, g7, g8⟩ := hRep.2.2 a (.object "java/lang/Object") (by rw [ht]; rfl)
  obtain ⟨f1, f2, f3⟩ := g7 hO
  rw [ht] at f2
  refine va_getC (C := "[Ljava/lang/Object;") X.1 X.2.1 (X.2.2.2.2.1.trans hL.2.1.symm) X.2.2.2.2.2.1 (hts _ hl) (va_Nw.use rfl (hK.2.2.1 _ (List.mem_of_elem_eq_true (by decide +kernel)))) (hts _ q2728) (hts _ q1013) (hts _ q1036) X.2.2.2.2.2.2.2.2.2.1.2.2.1 ⟨cell, g1, by rw [f1]; rfl, by rw [f2]; exact va_nmO (hK.2.1 104 _ rfl).2 (by decide +kernel)⟩ (by omega) (by have := jcat4 hcat; omega) hd (h4 p e R s m args below meth c H locs cells slots mc ms ar X hcc hss hmc hms hd2 hl2 hRep hS hL)
end JC8
