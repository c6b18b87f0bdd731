set_option maxRecDepth 100000
/-! rows whose references are numbers: vR z (below 0: null) -/
theorem vR_n {z : Int} {b : Nat} (h : z = (b : Int)) : vR z = .ref b := by rw [h, vR_nat]
theorem vR_cat (z : Int) : (vR z).category = 1 := by
  unfold vR
  by_cases h : z < 0
  · rw [if_pos h]; rfl
  · rw [if_neg h]; rfl
theorem vR_cases (z : Int) : (∃ b : Nat, vR z = .ref b) ∨ vR z = .null := by
  unfold vR
  by_cases h : z < 0
  · rw [if_pos h]; exact Or.inr rfl
  · rw [if_neg h]; exact Or.inl ⟨_, rfl⟩
theorem vR_null : (Value.null) = vR (-1) := (vR_neg (by decide)).symm
theorem jent_nil : jent [] = [] := rfl
theorem jent_I (z : Int) (vs : List Value) : jent (vI z :: vs) = vI z :: jent vs := rfl
theorem jent_L (z : Int) (vs : List Value) : jent (vL z :: vs) = vL z :: jD :: jent vs := rfl
theorem jent_R (z : Int) (vs : List Value) : jent (vR z :: vs) = vR z :: jent vs := by
  unfold jent
  rw [if_neg (by rw [vR_cat]; decide)]
  cases vs <;> rfl
theorem jcat_le : ∀ (n : Nat) (rest : List Value), rest.length ≤ n → (rest.map fun v => v.category).sum ≤ 2 * n
  | n, [], _ => by simp
  | 0, v :: r, h => by simp at h
  | n + 1, v :: r, h => by
    have h1 := jcat_le n r (by simp at h; omega)
    have h2 : v.category ≤ 2 := by cases v <;> first | exact Nat.le_of_ble_eq_true rfl | simp [Value.category]
    rw [List.map_cons, List.sum_cons]
    omega
theorem jcat4 {rest : List Value} (h : rest.length ≤ 4) : (rest.map fun v => v.category).sum ≤ 8 := jcat_le 4 rest h
theorem jokR {ls : List Value} {i : Nat} {z : Int} (h1 : ls[i]? = some (vR z)) (h2 : i + 1 < ls.length) : jok ls (i + 1) = true := by
  unfold jok
  rw [Bool.and_eq_true]
  refine ⟨decide_eq_true h2, ?_⟩
  show (match ls[i]? with | some v => decide (v.category = 1) | none => true) = true
  rw [h1]
  exact decide_eq_true (vR_cat z)
/-- all is well: ranges; what bears the mark is ours; what has a kind is there -/
def jWg (G : jG) (N : jSh) (F : jFl) (A : jAr) : Prop := jWf N F A ∧ (∀ a, jfn N 0 a = 1 → gB G ≤ a) ∧ gB G ≤ jnx N ∧ ∀ a, jtg N a ≠ 0 → a < jnx N
/-- kinds and lengths stay -/
def jTx (N N' : jSh) : Prop := jnx N ≤ jnx N' ∧ ∀ a, a < jnx N → jtg N' a = jtg N a ∧ jln N' a = jln N a ∧ jfn N' 0 a = jfn N 0 a
theorem jTx.refl (N : jSh) : jTx N N := ⟨Nat.le_refl _, fun _ _ => ⟨rfl, rfl, rfl⟩⟩
theorem jTx.trans {N N' N'' : jSh} (h : jTx N N') (h2 : jTx N' N'') : jTx N N'' := ⟨Nat.le_trans h.1 h2.1, fun a ha => by
  obtain ⟨e1, e2, e3⟩ := h.2 a ha
  obtain ⟨f1, f2, f3⟩ := h2.2 a (Nat.lt_of_lt_of_le ha h.1)
  exact ⟨f1.trans e1, f2.trans e2, f3.trans e3⟩⟩
section JW4
variable {G : jG} {N N' : jSh} {F : jFl} {A : jAr}
theorem jTx.tg (h : jTx N N') (hW : jWg G N F A) {a t : Nat} (ht : jtg N a = t) (h0 : Nat.ble 1 t = true := by rfl) : jtg N' a = t := by
  have := Nat.le_of_ble_eq_true h0
  rw [(h.2 a (hW.2.2.2 a (by omega))).1, ht]
theorem jTx.ln (h : jTx N N') (hW : jWg G N F A) {a t n : Nat} (ht : jtg N a = t) (hn : jln N a = n) (h0 : Nat.ble 1 t = true := by rfl) : jln N' a = n := by
  have := Nat.le_of_ble_eq_true h0
  rw [(h.2 a (hW.2.2.2 a (by omega))).2.1, hn]
theorem jTx.ow (h : jTx N N') (hW : jWg G N F A) {a t : Nat} (ht : jtg N a = t) (hn : jfn N 0 a = 1) (h0 : Nat.ble 1 t = true := by rfl) : jfn N' 0 a = 1 := by
  have := Nat.le_of_ble_eq_true h0
  rw [(h.2 a (hW.2.2.2 a (by omega))).2.2, hn]
theorem jWg.wF (h : jWg G N F A) {f a : Nat} {z : Int} (hz : jRk f z) : jWg G N (upF F f a z) A := ⟨jWf_F h.1 hz, h.2⟩
theorem jWg.wA (h : jWg G N F A) {a t : Nat} {i z : Int} (ht : jtg N a = t) (hz : jRk t z) : jWg G N F (upA A a i z) := ⟨jWf_A h.1 ht hz, h.2⟩
theorem jWg.wf (h : jWg G N F A) {f a : Nat} {z : Int} (hz : jRk f z) (hf : f ≠ 0) : jWg G (jpF N f a z) F A := by
  refine ⟨⟨h.1.1, h.1.2.1, fun g b hg => ?_⟩, fun b hb => h.2.1 b ?_, h.2.2⟩
  · show jRk g (if g = f ∧ b = a then z else N.2.2.2.2 g b)
    by_cases q : g = f ∧ b = a
    · rw [if_pos q, q.1]; exact hz
    · rw [if_neg q]; exact h.1.2.2 g b hg
  · have e : jfn (jpF N f a z) 0 b = jfn N 0 b := by
      show (if 0 = f ∧ b = a then z else N.2.2.2.2 0 b) = _
      rw [if_neg (fun q => hf q.1.symm)]
      rfl
    rw [← e]; exact hb
theorem jTx.f {f a : Nat} {z : Int} (hf : f ≠ 0) : jTx N (jpF N f a z) := ⟨Nat.le_refl _, fun b _ => ⟨rfl, rfl, by
  show (if 0 = f ∧ b = a then z else N.2.2.2.2 0 b) = _
  rw [if_neg (fun q => hf q.1.symm)]
  rfl⟩⟩
theorem jTx.new {t n sl : Nat} {o : Int} : jTx N (jnew N t n sl o) := ⟨Nat.le_succ _, fun b hb => by
  have h : b ≠ jnx N := Nat.ne_of_lt hb
  rw [jnew_tg, if_neg h, jnew_ln, if_neg h, jnew_fn, if_neg h]
  exact ⟨rfl, rfl, rfl⟩⟩
theorem jWg.newO (h : jWg G N F A) {t n sl : Nat} {o : Int} (ht : t < 100) : jWg G (jnew N t n sl o) (nwF N F) A := by
  refine ⟨⟨fun f a => ?_, fun a i h1 => ?_, fun f a hf => ?_⟩, fun a ha => ?_, Nat.le_trans h.2.2.1 (Nat.le_succ _), fun a ha => ?_⟩
  · rw [nwF_r]
    by_cases q : a = jnx N
    · rw [if_pos q]; exact jRk_d f
    · rw [if_neg q]; exact h.1.1 f a
  · rw [jnew_tg] at h1 ⊢
    by_cases q : a = jnx N
    · rw [if_pos q] at h1; omega
    · rw [if_neg q] at h1 ⊢; exact h.1.2.1 a i h1
  · rw [jnew_fn, if_neg hf]
    by_cases q : a = jnx N
    · rw [if_pos q]; exact jRk_d f
    · rw [if_neg q]; exact h.1.2.2 f a hf
  · rw [jnew_fn] at ha
    by_cases q : a = jnx N
    · rw [q]; exact h.2.2.1
    · rw [if_neg q] at ha; exact h.2.1 a ha
  · rw [jnew_tg] at ha
    show a < jnx N + 1
    by_cases q : a = jnx N
    · omega
    · rw [if_neg q] at ha; exact Nat.lt_succ_of_lt (h.2.2.2 a ha)
theorem jWg.newA (h : jWg G N F A) {t n sl : Nat} {o : Int} : jWg G (jnew N t n sl o) (nwF N F) (nwA N t A) := by
  refine ⟨⟨fun f a => ?_, fun a i h1 => ?_, fun f a hf => ?_⟩, fun a ha => ?_, Nat.le_trans h.2.2.1 (Nat.le_succ _), fun a ha => ?_⟩
  · rw [nwF_r]
    by_cases q : a = jnx N
    · rw [if_pos q]; exact jRk_d f
    · rw [if_neg q]; exact h.1.1 f a
  · rw [jnew_tg] at h1 ⊢
    rw [nwA_r]
    by_cases q : a = jnx N
    · rw [if_pos q, if_pos q]; exact jRk_d t
    · rw [if_neg q] at h1 ⊢; rw [if_neg q]; exact h.1.2.1 a i h1
  · rw [jnew_fn, if_neg hf]
    by_cases q : a = jnx N
    · rw [if_pos q]; exact jRk_d f
    · rw [if_neg q]; exact h.1.2.2 f a hf
  · rw [jnew_fn] at ha
    by_cases q : a = jnx N
    · rw [q]; exact h.2.2.1
    · rw [if_neg q] at ha; exact h.2.1 a ha
  · rw [jnew_tg] at ha
    show a < jnx N + 1
    by_cases q : a = jnx N
    · omega
    · rw [if_neg q] at ha; exact Nat.lt_succ_of_lt (h.2.2.2 a ha)
theorem jWg.fi (h : jWg G N F A) {f a : Nat} (hf : f % 3 = 0) : jR (F f a) := h.1.fi hf
theorem jWg.fl (h : jWg G N F A) {f a : Nat} (hf : f % 3 = 1) : jRL (F f a) := h.1.fl hf
theorem jWg.ai (h : jWg G N F A) {a t : Nat} {i : Int} (ht : jtg N a = t) (hf : t % 3 = 0) (h1 : Nat.ble 100 t = true := by rfl) : jR (A a i) := h.1.ai ht hf h1
theorem jWg.al (h : jWg G N F A) {a t : Nat} {i : Int} (ht : jtg N a = t) (hf : t % 3 = 1) (h1 : Nat.ble 100 t = true := by rfl) : jRL (A a i) := h.1.al ht hf h1
theorem jWg.ni (h : jWg G N F A) {f a : Nat} (hf : f % 3 = 0) (h0 : f ≠ 0) : jR (jfn N f a) := h.1.ni hf h0
end JW4
section JR4
variable {G : jG} {l : Launch} {d : Nat} {k : jM} {pc : Nat} {ls st : List Value} {N : jSh} {F : jFl} {A : jAr} {post : jPo}
theorem r_null (hd : decode k.2.1 pc = .ok (.aconst_null, 1)) (h : J G l d k (pc + 1) ls (vR (-1) :: st) N F A post) : J G l d k pc ls st N F A post :=
  j_null hd (by rw [vR_null]; exact h)
theorem r_aload_n {i : Fin 4} {z : Int} (hd : decode k.2.1 pc = .ok (.aload_n i, 1)) (hi : ls[(i : Nat)]? = some (vR z)) (h : J G l d k (pc + 1) ls (vR z :: st) N F A post) : J G l d k pc ls st N F A post := by
  rcases vR_cases z with ⟨b, e⟩ | e
  · rw [e] at hi h; exact j_aload_n hd hi h
  · rw [e] at hi h; exact j_aload_nN hd hi h
theorem r_aload {i : Nat} {z : Int} (hd : decode k.2.1 pc = .ok (.aload i, 2)) (hi : ls[i]? = some (vR z)) (h : J G l d k (pc + 2) ls (vR z :: st) N F A post) : J G l d k pc ls st N F A post := by
  rcases vR_cases z with ⟨b, e⟩ | e
  · rw [e] at hi h; exact j_aload hd hi h
  · rw [e] at hi h; exact j_aloadN hd hi h
theorem r_astore_n {i : Fin 4} {z : Int} (hd : decode k.2.1 pc = .ok (.astore_n i, 1)) (hok : jok ls (i : Nat) = true) (h : J G l d k (pc + 1) (ls.set (i : Nat) (vR z)) st N F A post) : J G l d k pc ls (vR z :: st) N F A post := by
  rcases vR_cases z with ⟨b, e⟩ | e
  · rw [e] at h ⊢; exact j_astore_n hd hok h
  · rw [e] at h ⊢; exact j_astore_nN hd hok h
theorem r_astore {i : Nat} {z : Int} (hd : decode k.2.1 pc = .ok (.astore i, 2)) (hok : jok ls i = true) (h : J G l d k (pc + 2) (ls.set i (vR z)) st N F A post) : J G l d k pc ls (vR z :: st) N F A post := by
  rcases vR_cases z with ⟨b, e⟩ | e
  · rw [e] at h ⊢; exact j_astore hd hok h
  · rw [e] at h ⊢; exact j_astoreN hd hok h
theorem r_ifnull {z : Int} {off : Int} (tgt : Nat) (hd : decode k.2.1 pc = .ok (.ifnull off, 3)) (ht : (pc : Int) + off = (tgt : Int)) (h1 : z < 0 → J G l d k tgt ls st N F A post) (h2 : ¬ (z < 0) → J G l d k (pc + 3) ls st N F A post) : J G l d k pc ls (vR z :: st) N F A post := by
  by_cases q : z < 0
  · rw [vR_neg q]; exact j_ifnullN tgt hd ht (h1 q)
  · rw [vR_n (b := z.toNat) (by omega)]; exact j_ifnull hd (h2 q)
theorem r_ifnonnull {z : Int} {off : Int} (tgt : Nat) (hd : decode k.2.1 pc = .ok (.ifnonnull off, 3)) (ht : (pc : Int) + off = (tgt : Int)) (h1 : ¬ (z < 0) → J G l d k tgt ls st N F A post) (h2 : z < 0 → J G l d k (pc + 3) ls st N F A post) : J G l d k pc ls (vR z :: st) N F A post := by
  by_cases q : z < 0
  · rw [vR_neg q]; exact j_ifnonnullN hd (h2 q)
  · rw [vR_n (b := z.toNat) (by omega)]; exact j_ifnonnull tgt hd ht (h1 q)
def rfO (z : Int) : Option Nat := if z < 0 then none else some z.toNat
theorem rfO_v (z : Int) : va_rf (rfO z) = vR z := by
  unfold rfO vR
  by_cases h : z < 0
  · rw [if_pos h, if_pos h]; rfl
  · rw [if_neg h, if_neg h]; rfl
theorem rfO_eq {x y : Int} : rfO x = rfO y ↔ (x = y ∨ (x < 0 ∧ y < 0)) := by
  unfold rfO
  by_cases h : x < 0
  · by_cases g : y < 0
    · rw [if_pos h, if_pos g]; exact ⟨fun _ => Or.inr ⟨h, g⟩, fun _ => rfl⟩
    · rw [if_pos h, if_neg g]
      exact ⟨fun e => (by cases e), fun e => by omega⟩
  · by_cases g : y < 0
    · rw [if_neg h, if_pos g]
      exact ⟨fun e => (by cases e), fun e => by omega⟩
    · rw [if_neg h, if_neg g]
      constructor
      · intro e
        have := Option.some.inj e
        omega
      · intro e
        have : x = y := by omega
        rw [this]
theorem r_acmp_eq {x y : Int} {off : Int} (tgt : Nat) (hd : decode k.2.1 pc = .ok (.if_acmp .eq off, 3)) (ht : (pc : Int) + off = (tgt : Int)) (h1 : (x = y ∨ (x < 0 ∧ y < 0)) → J G l d k tgt ls st N F A post) (h2 : ¬ (x = y ∨ (x < 0 ∧ y < 0)) → J G l d k (pc + 3) ls st N F A post) : J G l d k pc ls (vR y :: vR x :: st) N F A post := by
  rw [← rfO_v, ← rfO_v]
  by_cases q : x = y ∨ (x < 0 ∧ y < 0)
  · exact J.go (fun X _ _ _ w => lv_acmp_eq X.1 X.2.1 hd ht (fun _ => w) (fun n => absurd (rfO_eq.mpr q) n)) (h1 q)
  · exact J.go (fun X _ _ _ w => lv_acmp_eq X.1 X.2.1 hd ht (fun e => absurd (rfO_eq.mp e) q) (fun _ => w)) (h2 q)
theorem r_acmp_ne {x y : Int} {off : Int} (tgt : Nat) (hd : decode k.2.1 pc = .ok (.if_acmp .ne off, 3)) (ht : (pc : Int) + off = (tgt : Int)) (h1 : ¬ (x = y ∨ (x < 0 ∧ y < 0)) → J G l d k tgt ls st N F A post) (h2 : (x = y ∨ (x < 0 ∧ y < 0)) → J G l d k (pc + 3) ls st N F A post) : J G l d k pc ls (vR y :: vR x :: st) N F A post := by
  rw [← rfO_v, ← rfO_v]
  by_cases q : x = y ∨ (x < 0 ∧ y < 0)
  · exact J.go (fun X _ _ _ w => lv_acmp_ne X.1 X.2.1 hd ht (fun n => absurd (rfO_eq.mpr q) n) (fun _ => w)) (h2 q)
  · exact J.go (fun X _ _ _ w => lv_acmp_ne X.1 X.2.1 hd ht (fun _ => w) (fun e => absurd (rfO_eq.mp e) q)) (h1 q)
theorem r_i2c {x : Int} (hd : decode k.2.1 pc = .ok (.i2c, 1)) (hx : 0 ≤ x ∧ x ≤ 65535) (h : J G l d k (pc + 1) ls (vI x :: st) N F A post) : J G l d k pc ls (vI x :: st) N F A post :=
  J.go (fun X _ _ _ w => lv_i2c X.1 X.2.1 hd (by
    have key : ∀ n : Nat, n ≤ 65535 → ((Int32.ofInt (n : Int)).toUInt32 % 65536).toInt32 = Int32.ofInt (n : Int) := by
      intro n hn
      apply Int32.toBitVec_inj.mp
      apply BitVec.eq_of_toNat_eq
      have e1 : (Int32.ofInt (n : Int)).toBitVec.toNat = n := by
        show (BitVec.ofInt 32 (n : Int)).toNat = n
        rw [BitVec.toNat_ofInt]
        omega
      show ((Int32.ofInt (n : Int)).toBitVec % (65536 : BitVec 32)).toNat = _
      rw [BitVec.toNat_umod, e1]
      show n % 65536 = n
      omega
    have := key x.toNat (by omega)
    rw [Int.toNat_of_nonneg hx.1] at this
    exact this) w) h
/-- what fits into a byte, as it is read -/
def jby (x : Int) : Int := (x + 128) % 256 - 128
theorem jby_id {x : Int} (h : -128 ≤ x ∧ x ≤ 127) : jby x = x := by unfold jby; omega
theorem jby_R (x : Int) : -128 ≤ jby x ∧ jby x ≤ 127 := by unfold jby; omega
theorem r_i2b {x : Int} (hd : decode k.2.1 pc = .ok (.i2b, 1)) (hx : jR x) (h : J G l d k (pc + 1) ls (vI (jby x) :: st) N F A post) : J G l d k pc ls (vI x :: st) N F A post :=
  J.go (fun X _ _ _ w => lv_i2b X.1 X.2.1 hd (by
    apply Int32.toInt_inj.mp
    rw [i32_toInt (x := jby x) (by have := jby_R x; omega)]
    rw [Int8.toInt_toInt32, Int32.toInt_toInt8, i32_toInt hx, Int.bmod_def]
    unfold jby
    show (if x % (256 : Int) < (256 + 1) / 2 then x % (256 : Int) else x % (256 : Int) - 256) = _
    omega) w) h
end JR4
