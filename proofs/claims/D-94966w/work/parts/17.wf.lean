set_option maxRecDepth 100000
/-! what all numbers of a picture keep: their ranges; locals forgotten; ends as the walks say them -/
def jRk (k : Nat) (z : Int) : Prop := match k % 3 with
  | 0 => jR z
  | 1 => jRL z
  | _ => True
theorem jRk_0 {k : Nat} {z : Int} (h : k % 3 = 0) (hz : jR z) : jRk k z := by unfold jRk; rw [h]; exact hz
theorem jRk_1 {k : Nat} {z : Int} (h : k % 3 = 1) (hz : jRL z) : jRk k z := by unfold jRk; rw [h]; exact hz
theorem jRk_2 {k : Nat} {z : Int} (h : k % 3 = 2) : jRk k z := by unfold jRk; rw [h]; trivial
theorem jRk.i {k : Nat} {z : Int} (hz : jRk k z) (h : k % 3 = 0) : jR z := by unfold jRk at hz; rw [h] at hz; exact hz
theorem jRk.l {k : Nat} {z : Int} (hz : jRk k z) (h : k % 3 = 1) : jRL z := by unfold jRk at hz; rw [h] at hz; exact hz
theorem jRk_d (k : Nat) : jRk k (jdf k) := by
  have h : k % 3 = 0 ∨ k % 3 = 1 ∨ k % 3 = 2 := by omega
  unfold jdf
  rcases h with h | h | h
  · rw [if_neg (by omega)]; exact jRk_0 h (by decide)
  · rw [if_neg (by omega)]; exact jRk_1 h (by decide)
  · exact jRk_2 h
/-- all numbers are in their ranges -/
def jWf (N : jSh) (F : jFl) (A : jAr) : Prop := (∀ f a, jRk f (F f a)) ∧ (∀ a i, 100 ≤ jtg N a → jRk (jtg N a) (A a i)) ∧ ∀ f a, f ≠ 0 → jRk f (jfn N f a)
section JWF
variable {N : jSh} {F : jFl} {A : jAr}
theorem jWf.fi (h : jWf N F A) {f a : Nat} (hf : f % 3 = 0) : jR (F f a) := (h.1 f a).i hf
theorem jWf.fl (h : jWf N F A) {f a : Nat} (hf : f % 3 = 1) : jRL (F f a) := (h.1 f a).l hf
theorem jWf.ai (h : jWf N F A) {a t : Nat} {i : Int} (ht : jtg N a = t) (hf : t % 3 = 0) (h1 : Nat.ble 100 t = true := by rfl) : jR (A a i) := (h.2.1 a i (by rw [ht]; exact Nat.le_of_ble_eq_true h1)).i (by rw [ht]; exact hf)
theorem jWf.al (h : jWf N F A) {a t : Nat} {i : Int} (ht : jtg N a = t) (hf : t % 3 = 1) (h1 : Nat.ble 100 t = true := by rfl) : jRL (A a i) := (h.2.1 a i (by rw [ht]; exact Nat.le_of_ble_eq_true h1)).l (by rw [ht]; exact hf)
theorem jWf.ni (h : jWf N F A) {f a : Nat} (hf : f % 3 = 0) (h0 : f ≠ 0) : jR (jfn N f a) := (h.2.2 f a h0).i hf
theorem jWf_F (h : jWf N F A) {f a : Nat} {z : Int} (hz : jRk f z) : jWf N (upF F f a z) A := by
  refine ⟨fun g b => ?_, h.2⟩
  show jRk g (if g = f ∧ b = a then z else F g b)
  by_cases q : g = f ∧ b = a
  · rw [if_pos q, q.1]; exact hz
  · rw [if_neg q]; exact h.1 g b
theorem jWf_A (h : jWf N F A) {a t : Nat} {i z : Int} (ht : jtg N a = t) (hz : jRk t z) : jWf N F (upA A a i z) := by
  refine ⟨h.1, fun b j h1 => ?_, h.2.2⟩
  show jRk (jtg N b) (if b = a ∧ j = i then z else A b j)
  by_cases q : b = a ∧ j = i
  · rw [if_pos q, q.1, ht]; exact hz
  · rw [if_neg q]; exact h.2.1 b j h1
end JWF
/-- locals forgotten -/
def jWk (a b : List Value) : Prop := a.length = b.length ∧ ∀ (i : Nat) (v : Value), b[i]? = some v → v ≠ jD → a[i]? = some v
theorem jWk.nil : jWk [] [] := ⟨rfl, fun _ _ h => by cases h⟩
theorem jWk.eq {v : Value} {l m : List Value} (h : jWk l m) : jWk (v :: l) (v :: m) := by
  refine ⟨by rw [List.length_cons, List.length_cons, h.1], fun i w hi hw => ?_⟩
  match i, hi with
  | 0, hi => exact hi
  | i + 1, hi => exact h.2 i w hi hw
theorem jWk.no {v : Value} {l m : List Value} (h : jWk l m) : jWk (v :: l) (jD :: m) := by
  refine ⟨by rw [List.length_cons, List.length_cons, h.1], fun i w hi hw => ?_⟩
  match i, hi with
  | 0, hi => cases hi; exact absurd rfl hw
  | i + 1, hi => exact h.2 i w hi hw
section JWK
variable {G : jG} {l : Launch} {d : Nat} {k : jM} {pc : Nat} {ls ls2 st rest : List Value} {N : jSh} {F : jFl} {A : jAr} {post : jPo}
theorem J.wk (hw : jWk ls ls2) (h : J G l d k pc ls2 st N F A post) : J G l d k pc ls st N F A post :=
  J.goL (fun _ L w => w _ ⟨hw.1.symm.trans L.1, L.2.1, L.2.2.1, fun i v hi hv => L.2.2.2 i v (hw.2 i v hi hv) hv⟩) h
/-! ends of the walks: pure or not; int, boolean, long, void -/
def jpI (N : jSh) (F : jFl) (A : jAr) (P : Int → Prop) : jPo := fun o N' F' A' => ∃ z, o = .returned (some (vI z)) ∧ N' = N ∧ F' = F ∧ A' = A ∧ P z ∧ jR z
def jpB (N : jSh) (F : jFl) (A : jAr) (P : Int → Prop) : jPo := fun o N' F' A' => ∃ z, o = .returned (some (vI z)) ∧ N' = N ∧ F' = F ∧ A' = A ∧ P z ∧ (z = 0 ∨ z = 1)
def jpL (N : jSh) (F : jFl) (A : jAr) (P : Int → Prop) : jPo := fun o N' F' A' => ∃ z, o = .returned (some (vL z)) ∧ N' = N ∧ F' = F ∧ A' = A ∧ P z ∧ jRL z
def jmI (N : jSh) (P : Int → jFl → jAr → Prop) : jPo := fun o N' F' A' => ∃ z, o = .returned (some (vI z)) ∧ N' = N ∧ jWf N F' A' ∧ P z F' A' ∧ jR z
def jmB (N : jSh) (P : Int → jFl → jAr → Prop) : jPo := fun o N' F' A' => ∃ z, o = .returned (some (vI z)) ∧ N' = N ∧ jWf N F' A' ∧ P z F' A' ∧ (z = 0 ∨ z = 1)
def jmL (N : jSh) (P : Int → jFl → jAr → Prop) : jPo := fun o N' F' A' => ∃ z, o = .returned (some (vL z)) ∧ N' = N ∧ jWf N F' A' ∧ P z F' A' ∧ jRL z
def jmV (N : jSh) (P : jFl → jAr → Prop) : jPo := fun o N' F' A' => o = .returned none ∧ N' = N ∧ jWf N F' A' ∧ P F' A'
abbrev jAft (G : jG) (l : Launch) (d : Nat) (k : jM) (pc : Nat) (ls rest : List Value) (N : jSh) (post : jPo) (P1 : jPo) : Prop :=
  ∀ (o : Outcome) (N' : jSh) (F' : jFl) (A' : jAr), P1 o N' F' A' → jnx N ≤ jnx N' → (∃ v, o = .returned v ∧ J G l d k (pc + 3) ls (v.toList ++ rest) N' F' A' post) ∨ ∃ q, o = .threw q ∧ JT G l d k pc ls rest q N' F' A' post
theorem jkpI {P : Int → Prop} (h : ∀ z, P z → jR z → J G l d k (pc + 3) ls (vI z :: rest) N F A post) : jAft G l d k pc ls rest N post (jpI N F A P) := by
  intro o N' F' A' hp _
  obtain ⟨z, rfl, rfl, rfl, rfl, h1, h2⟩ := hp
  exact Or.inl ⟨_, rfl, h z h1 h2⟩
theorem jkpB {P : Int → Prop} (h : ∀ z, P z → (z = 0 ∨ z = 1) → J G l d k (pc + 3) ls (vI z :: rest) N F A post) : jAft G l d k pc ls rest N post (jpB N F A P) := by
  intro o N' F' A' hp _
  obtain ⟨z, rfl, rfl, rfl, rfl, h1, h2⟩ := hp
  exact Or.inl ⟨_, rfl, h z h1 h2⟩
theorem jkpL {P : Int → Prop} (h : ∀ z, P z → jRL z → J G l d k (pc + 3) ls (vL z :: rest) N F A post) : jAft G l d k pc ls rest N post (jpL N F A P) := by
  intro o N' F' A' hp _
  obtain ⟨z, rfl, rfl, rfl, rfl, h1, h2⟩ := hp
  exact Or.inl ⟨_, rfl, h z h1 h2⟩
theorem jkmI {P : Int → jFl → jAr → Prop} (h : ∀ z F' A', jWf N F' A' → P z F' A' → jR z → J G l d k (pc + 3) ls (vI z :: rest) N F' A' post) : jAft G l d k pc ls rest N post (jmI N P) := by
  intro o N' F' A' hp _
  obtain ⟨z, rfl, rfl, hw, h1, h2⟩ := hp
  exact Or.inl ⟨_, rfl, h z _ _ hw h1 h2⟩
theorem jkmB {P : Int → jFl → jAr → Prop} (h : ∀ z F' A', jWf N F' A' → P z F' A' → (z = 0 ∨ z = 1) → J G l d k (pc + 3) ls (vI z :: rest) N F' A' post) : jAft G l d k pc ls rest N post (jmB N P) := by
  intro o N' F' A' hp _
  obtain ⟨z, rfl, rfl, hw, h1, h2⟩ := hp
  exact Or.inl ⟨_, rfl, h z _ _ hw h1 h2⟩
theorem jkmL {P : Int → jFl → jAr → Prop} (h : ∀ z F' A', jWf N F' A' → P z F' A' → jRL z → J G l d k (pc + 3) ls (vL z :: rest) N F' A' post) : jAft G l d k pc ls rest N post (jmL N P) := by
  intro o N' F' A' hp _
  obtain ⟨z, rfl, rfl, hw, h1, h2⟩ := hp
  exact Or.inl ⟨_, rfl, h z _ _ hw h1 h2⟩
theorem jkmV {P : jFl → jAr → Prop} (h : ∀ F' A', jWf N F' A' → P F' A' → J G l d k (pc + 3) ls rest N F' A' post) : jAft G l d k pc ls rest N post (jmV N P) := by
  intro o N' F' A' hp _
  obtain ⟨rfl, rfl, hw, h1⟩ := hp
  exact Or.inl ⟨_, rfl, h _ _ hw h1⟩
/-! field rows by kind -/
theorem j_getI {a i ci kk fid : Nat} {dsc : String} (hd : decode k.2.1 pc = .ok (.getfield i, 3)) (hf : jLk k.1.cls i ci kk fid false dsc) (ht : jtg N a = ci) (hk : fid % 3 = 0) (h : J G l d k (pc + 3) ls (vI (F fid a) :: st) N F A post) : J G l d k pc ls (.ref a :: st) N F A post :=
  j_get hd hf ht (jval_0 hk _) h
theorem j_getL {a i ci kk fid : Nat} {dsc : String} (hd : decode k.2.1 pc = .ok (.getfield i, 3)) (hf : jLk k.1.cls i ci kk fid false dsc) (ht : jtg N a = ci) (hk : fid % 3 = 1) (h : J G l d k (pc + 3) ls (vL (F fid a) :: st) N F A post) : J G l d k pc ls (.ref a :: st) N F A post :=
  j_get hd hf ht (jval_1 hk _) h
theorem j_getFR {a b i ci kk fid : Nat} {dsc : String} (hd : decode k.2.1 pc = .ok (.getfield i, 3)) (hf : jLk k.1.cls i ci kk fid true dsc) (ht : jtg N a = ci) (hk : fid % 3 = 2) (hb : jfn N fid a = (b : Int)) (h : J G l d k (pc + 3) ls (.ref b :: st) N F A post) : J G l d k pc ls (.ref a :: st) N F A post :=
  j_get hd hf ht (by show jval fid (jfn N fid a) = _; rw [jval_2 hk, hb, vR_nat]) h
theorem j_putI {a i ci kk fid : Nat} {z : Int} (hd : decode k.2.1 pc = .ok (.putfield i, 3)) (hf : jLk k.1.cls i ci kk fid false "I") (ht : jtg N a = ci) (hB : gB G ≤ a) (hk : fid % 3 = 0) (h : J G l d k (pc + 3) ls st N (upF F fid a z) A post) : J G l d k pc ls (vI z :: .ref a :: st) N F A post :=
  j_put (ty := .int) hd hf ht hB (by decide) (jval_0 hk _) rfl rfl h
theorem j_putZ {a i ci kk fid : Nat} {z : Int} (hd : decode k.2.1 pc = .ok (.putfield i, 3)) (hf : jLk k.1.cls i ci kk fid false "Z") (ht : jtg N a = ci) (hB : gB G ≤ a) (hk : fid % 3 = 0) (hz : z = 0 ∨ z = 1) (h : J G l d k (pc + 3) ls st N (upF F fid a z) A post) : J G l d k pc ls (vI z :: .ref a :: st) N F A post :=
  j_put (ty := .boolean) hd hf ht hB (by decide) (jval_0 hk _) (nr_bool hz) (ft_bool hz) h
theorem j_putL {a i ci kk fid : Nat} {z : Int} (hd : decode k.2.1 pc = .ok (.putfield i, 3)) (hf : jLk k.1.cls i ci kk fid false "J") (ht : jtg N a = ci) (hB : gB G ≤ a) (hk : fid % 3 = 1) (h : J G l d k (pc + 3) ls st N (upF F fid a z) A post) : J G l d k pc ls (vL z :: .ref a :: st) N F A post :=
  j_put (ty := .long) hd hf ht hB (by decide) (jval_1 hk _) rfl rfl h
end JWK
theorem jR_b {z : Int} (h : z = 0 ∨ z = 1) : jR z := by rcases h with rfl | rfl <;> decide
theorem jR_ite {c : Prop} [Decidable c] {x y : Int} (hx : jR x) (hy : jR y) : jR (if c then x else y) := by
  by_cases q : c
  · rw [if_pos q]; exact hx
  · rw [if_neg q]; exact hy
theorem jB_ite {c : Prop} [Decidable c] {x y : Int} (hx : x = 0 ∨ x = 1) (hy : y = 0 ∨ y = 1) : (if c then x else y) = 0 ∨ (if c then x else y) = 1 := by
  by_cases q : c
  · rw [if_pos q]; exact hx
  · rw [if_neg q]; exact hy
/-! names for numbers on the stack; bits -/
section JBT
variable {G : jG} {l : Launch} {d : Nat} {k : jM} {pc : Nat} {ls st : List Value} {N : jSh} {F : jFl} {A : jAr} {post : jPo}
theorem jnmI {x v : Int} (e : v = x) (h : J G l d k pc ls (vI v :: st) N F A post) : J G l d k pc ls (vI x :: st) N F A post := e ▸ h
theorem jnmL {x v : Int} (e : v = x) (h : J G l d k pc ls (vL v :: st) N F A post) : J G l d k pc ls (vL x :: st) N F A post := e ▸ h
theorem jnmF {F1 : jFl} (e : F1 = F) (h : J G l d k pc ls st N F1 A post) : J G l d k pc ls st N F A post := e ▸ h
theorem jnmA {A1 : jAr} (e : A1 = A) (h : J G l d k pc ls st N F A1 post) : J G l d k pc ls st N F A post := e ▸ h
theorem jR_L {x : Int} (h : jR x) : jRL x := by omega
theorem jR_mod {x m : Int} (h : 0 < m ∧ m ≤ 2147483647) : jR (x % m) := by
  have h1 := Int.emod_nonneg x (show m ≠ 0 by omega)
  have h2 := Int.emod_lt_of_pos x h.1
  omega
theorem pw_cast (n : Nat) : ((2 ^ n : Nat) : Int) = (2 : Int) ^ n := by norm_cast
theorem div_pw {x : Int} (n : Nat) {lo hi : Int} (hlo : lo ≤ 0) (hhi : 0 ≤ hi) (h : lo ≤ x ∧ x ≤ hi) : lo ≤ x / 2 ^ n ∧ x / 2 ^ n ≤ hi := by
  have hp : (0 : Int) < 2 ^ n := by rw [← pw_cast]; exact_mod_cast Nat.two_pow_pos n
  have h1 : (1 : Int) ≤ 2 ^ n := by omega
  rcases (by omega : x < 0 ∨ 0 ≤ x) with q | q
  · have a1 : x / 2 ^ n ≤ 0 := by
      have := Int.ediv_neg_of_neg_of_pos q hp
      omega
    have a2 : lo ≤ x / 2 ^ n := by
      apply Int.le_ediv_of_mul_le hp
      have h3 : lo * 2 ^ n ≤ lo * 1 := Int.mul_le_mul_of_nonpos_left hlo h1
      omega
    omega
  · have a1 : 0 ≤ x / 2 ^ n := Int.ediv_nonneg q (by omega)
    have a2 : x / 2 ^ n ≤ x := Int.ediv_le_self _ q
    omega
theorem jR_shr {x : Int} {n : Nat} (h : jR x) : jR (x / 2 ^ n) := div_pw n (by decide) (by decide) h
theorem jRL_shr {x : Int} {n : Nat} (h : jRL x) : jRL (x / 2 ^ n) := div_pw n (by decide) (by decide) h
theorem sh31 : ∀ n : Nat, n < 32 → ((Int32.ofInt (n : Int) &&& 31).toBitVec.smod 32).toNat = n := by decide +kernel
theorem sh63 : ∀ n : Nat, n < 64 → (((Int32.ofInt (n : Int)).toInt64 &&& 63).toBitVec.smod 64).toNat = n := by decide +kernel
theorem j_ishr {x y : Int} (hd : decode k.2.1 pc = .ok (.ishr, 1)) (hx : jR x) (hy : 0 ≤ y ∧ y < 32) (h : J G l d k (pc + 1) ls (vI (x / 2 ^ y.toNat) :: st) N F A post) : J G l d k pc ls (vI y :: vI x :: st) N F A post :=
  J.go (fun X _ _ _ w => lv_ishr X.1 X.2.1 hd (by
    have e : Int32.ofInt x >>> (Int32.ofInt y &&& 31) = Int32.ofInt (x / 2 ^ y.toNat) := by
      apply Int32.toInt_inj.mp
      have e1 : ((Int32.ofInt y &&& 31).toBitVec.smod 32).toNat = y.toNat := by
        have := sh31 y.toNat (by omega)
        rw [Int.toNat_of_nonneg hy.1] at this
        exact this
      rw [pk_shr _ _ _ e1, i32_toInt hx, i32_toInt (jR_shr hx), Int.shiftRight_eq_div_pow, pw_cast]
    rw [e]
    exact w)) h
theorem j_lshr {x y : Int} (hd : decode k.2.1 pc = .ok (.lshr, 1)) (hx : jRL x) (hy : 0 ≤ y ∧ y < 64) (h : J G l d k (pc + 1) ls (vL (x / 2 ^ y.toNat) :: st) N F A post) : J G l d k pc ls (vI y :: vL x :: st) N F A post :=
  J.go (fun X _ _ _ w => lv_lshr X.1 X.2.1 hd (by
    apply Int64.toInt_inj.mp
    have e1 : (((Int32.ofInt y).toInt64 &&& 63).toBitVec.smod 64).toNat = y.toNat := by
      have := sh63 y.toNat (by omega)
      rw [Int.toNat_of_nonneg hy.1] at this
      exact this
    have e2 : (Int64.ofInt x >>> ((Int32.ofInt y).toInt64 &&& 63)).toInt = (Int64.ofInt x).toInt >>> y.toNat := by
      rw [← e1]
      exact BitVec.toInt_sshiftRight ..
    rw [e2, i64_toInt hx, i64_toInt (jRL_shr hx), Int.shiftRight_eq_div_pow, pw_cast]) w) h
theorem mul_pw_emod (x : Int) (P M : Int) : (x % M * P) % M = (x * P) % M := by
  rw [Int.mul_emod, Int.emod_emod_of_dvd x (Int.dvd_refl M), ← Int.mul_emod]
theorem shl_nat (x : Int) (n w : Nat) : (x % ((2 ^ w : Nat) : Int)).toNat * 2 ^ n % 2 ^ w = ((x * 2 ^ n) % ((2 ^ w : Nat) : Int)).toNat := by
  have hM : ((2 ^ w : Nat) : Int) ≠ 0 := by
    have := Nat.two_pow_pos w
    omega
  have h0 := Int.emod_nonneg x hM
  have h1 := Int.emod_nonneg (x * 2 ^ n) hM
  apply Int.ofNat.inj
  show (((x % ((2 ^ w : Nat) : Int)).toNat * 2 ^ n % 2 ^ w : Nat) : Int) = (((x * 2 ^ n) % ((2 ^ w : Nat) : Int)).toNat : Int)
  rw [Int.toNat_of_nonneg h1, Int.natCast_emod, Int.natCast_mul, Int.toNat_of_nonneg h0, pw_cast n]
  exact mul_pw_emod x _ _
theorem j_ishl {x y : Int} (hd : decode k.2.1 pc = .ok (.ishl, 1)) (hy : 0 ≤ y ∧ y < 32) (h : J G l d k (pc + 1) ls (vI (x * 2 ^ y.toNat) :: st) N F A post) : J G l d k pc ls (vI y :: vI x :: st) N F A post :=
  J.go (fun X _ _ _ w => lv_ishl X.1 X.2.1 hd (by
    have e : Int32.ofInt x <<< (Int32.ofInt y &&& 31) = Int32.ofInt (x * 2 ^ y.toNat) := by
      apply Int32.toBitVec_inj.mp
      apply BitVec.eq_of_toNat_eq
      have e1 : ((Int32.ofInt y &&& 31).toBitVec.smod 32).toNat = y.toNat := by
        have := sh31 y.toNat (by omega)
        rw [Int.toNat_of_nonneg hy.1] at this
        exact this
      rw [pk_shl _ _ _ e1]
      have e2 : ∀ z : Int, (Int32.ofInt z).toBitVec.toNat = (z % ((2 ^ 32 : Nat) : Int)).toNat := by
        intro z
        show (BitVec.ofInt 32 z).toNat = _
        rw [BitVec.toNat_ofInt]
      rw [e2, e2]
      exact shl_nat x _ 32
    rw [e]
    exact w)) h
theorem j_lshl {x y : Int} (hd : decode k.2.1 pc = .ok (.lshl, 1)) (hy : 0 ≤ y ∧ y < 64) (h : J G l d k (pc + 1) ls (vL (x * 2 ^ y.toNat) :: st) N F A post) : J G l d k pc ls (vI y :: vL x :: st) N F A post :=
  J.go (fun X _ _ _ w => lv_lshl X.1 X.2.1 hd (by
    apply Int64.toBitVec_inj.mp
    apply BitVec.eq_of_toNat_eq
    have e1 : (((Int32.ofInt y).toInt64 &&& 63).toBitVec.smod 64).toNat = y.toNat := by
      have := sh63 y.toNat (by omega)
      rw [Int.toNat_of_nonneg hy.1] at this
      exact this
    have e2 : ∀ z : Int, (Int64.ofInt z).toBitVec.toNat = (z % ((2 ^ 64 : Nat) : Int)).toNat := by
      intro z
      show (BitVec.ofInt 64 z).toNat = _
      rw [BitVec.toNat_ofInt]
    have e3 : (Int64.ofInt x <<< ((Int32.ofInt y).toInt64 &&& 63)).toBitVec.toNat = (Int64.ofInt x).toBitVec.toNat * 2 ^ y.toNat % 2 ^ 64 := by
      show ((Int64.ofInt x).toBitVec <<< (((Int32.ofInt y).toInt64 &&& 63).toBitVec.smod 64).toNat).toNat = _
      rw [e1, BitVec.toNat_shiftLeft, Nat.shiftLeft_eq]
    rw [e3, e2, e2]
    exact shl_nat x _ 64) w) h
def jor (x y : Int) : Int := ((x.toNat ||| y.toNat : Nat) : Int)
def jand (x y : Int) : Int := ((x.toNat &&& y.toNat : Nat) : Int)
theorem i32_N {x : Int} (h : 0 ≤ x) : Int32.ofInt x = nI x.toNat := by
  unfold nI
  rw [← Int32.ofInt_eq_ofNat, Int.toNat_of_nonneg h]
theorem i64_N {x : Int} (h : 0 ≤ x) : Int64.ofInt x = lN x.toNat := by
  unfold lN
  rw [← Int64.ofInt_eq_ofNat, Int.toNat_of_nonneg h]
theorem j_lor {x y : Int} (hd : decode k.2.1 pc = .ok (.lor, 1)) (hx : 0 ≤ x ∧ x ≤ 9223372036854775807) (hy : 0 ≤ y ∧ y ≤ 9223372036854775807) (h : J G l d k (pc + 1) ls (vL (jor x y) :: st) N F A post) : J G l d k pc ls (vL y :: vL x :: st) N F A post :=
  J.go (fun X _ _ _ w => lv_lor X.1 X.2.1 hd (by
    have e : Int64.ofInt x ||| Int64.ofInt y = Int64.ofInt (jor x y) := by
      rw [i64_N hx.1, i64_N hy.1, i64_N (show 0 ≤ jor x y from Int.natCast_nonneg _)]
      have ha : x.toNat < 2 ^ 64 := by omega
      have hb : y.toNat < 2 ^ 64 := by omega
      have tb : ∀ n : Nat, (lN n).toBitVec = BitVec.ofNat 64 n := fun _ => rfl
      apply Int64.toBitVec_inj.mp
      rw [Int64.toBitVec_or, tb, tb, tb]
      apply BitVec.eq_of_toNat_eq
      rw [BitVec.toNat_or, BitVec.toNat_ofNat, BitVec.toNat_ofNat, BitVec.toNat_ofNat, Nat.mod_eq_of_lt ha, Nat.mod_eq_of_lt hb]
      exact (Nat.mod_eq_of_lt (Nat.or_lt_two_pow ha hb)).symm
    rw [e]
    exact w)) h
theorem j_land {x y : Int} (hd : decode k.2.1 pc = .ok (.land, 1)) (hx : 0 ≤ x ∧ x ≤ 9223372036854775807) (hy : 0 ≤ y ∧ y ≤ 9223372036854775807) (h : J G l d k (pc + 1) ls (vL (jand x y) :: st) N F A post) : J G l d k pc ls (vL y :: vL x :: st) N F A post :=
  J.go (fun X _ _ _ w => lv_land X.1 X.2.1 hd (by
    have e : Int64.ofInt x &&& Int64.ofInt y = Int64.ofInt (jand x y) := by
      rw [i64_N hx.1, i64_N hy.1, i64_N (show 0 ≤ jand x y from Int.natCast_nonneg _)]
      have ha : x.toNat < 2 ^ 64 := by omega
      have hb : y.toNat < 2 ^ 64 := by omega
      have tb : ∀ n : Nat, (lN n).toBitVec = BitVec.ofNat 64 n := fun _ => rfl
      apply Int64.toBitVec_inj.mp
      rw [Int64.toBitVec_and, tb, tb, tb]
      apply BitVec.eq_of_toNat_eq
      rw [BitVec.toNat_and, BitVec.toNat_ofNat, BitVec.toNat_ofNat, BitVec.toNat_ofNat, Nat.mod_eq_of_lt ha, Nat.mod_eq_of_lt hb]
      exact (Nat.mod_eq_of_lt (Nat.and_lt_two_pow _ hb)).symm
    rw [e]
    exact w)) h
theorem j_ior {x y : Int} (hd : decode k.2.1 pc = .ok (.ior, 1)) (hx : 0 ≤ x ∧ x ≤ 2147483647) (hy : 0 ≤ y ∧ y ≤ 2147483647) (h : J G l d k (pc + 1) ls (vI (jor x y) :: st) N F A post) : J G l d k pc ls (vI y :: vI x :: st) N F A post :=
  J.go (fun X _ _ _ w => lv_ior X.1 X.2.1 hd (by
    have e : Int32.ofInt x ||| Int32.ofInt y = Int32.ofInt (jor x y) := by
      rw [i32_N hx.1, i32_N hy.1, i32_N (show 0 ≤ jor x y from Int.natCast_nonneg _)]
      have ha : x.toNat < 2 ^ 32 := by omega
      have hb : y.toNat < 2 ^ 32 := by omega
      have tb : ∀ n : Nat, (nI n).toBitVec = BitVec.ofNat 32 n := fun _ => rfl
      apply Int32.toBitVec_inj.mp
      rw [Int32.toBitVec_or, tb, tb, tb]
      apply BitVec.eq_of_toNat_eq
      rw [BitVec.toNat_or, BitVec.toNat_ofNat, BitVec.toNat_ofNat, BitVec.toNat_ofNat, Nat.mod_eq_of_lt ha, Nat.mod_eq_of_lt hb]
      exact (Nat.mod_eq_of_lt (Nat.or_lt_two_pow ha hb)).symm
    rw [e]
    exact w)) h
theorem j_ldcw {i : Nat} {n : Int} (hd : decode k.2.1 pc = .ok (.ldc_w i, 3)) (hw : Cond.constant k.1.cls i (Int32.ofInt n) ∈ lw_all) (h : J G l d k (pc + 3) ls (vI n :: st) N F A post) : J G l d k pc ls st N F A post :=
  J.go (fun X _ _ _ w => lv_ldcw X.1 X.2.1 X.2.2.2.2.2.1 (X.2.2.2.2.2.2.2.1 _ hw) hd w) h
end JBT
