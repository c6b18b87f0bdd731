set_option maxRecDepth 100000
/-! J's rows: constants, locals, stack, arithmetic, branches -/
section JR
variable {G : jG} {l : Launch} {d : Nat} {k : jM} {pc : Nat} {ls st : List Value} {N : jSh} {F : jFl} {A : jAr} {post : jPo}
theorem i8_lit {n : Int} (h0 : -128 ≤ n) (h1 : n < 128) : (Int8.ofInt n).toInt32 = Int32.ofInt n := by
  apply Int32.toInt_inj.mp
  rw [Int8.toInt_toInt32, Int8.toInt_ofInt_of_le (by omega) (by omega), i32_toInt (by omega)]
theorem i16_lit {n : Int} (h0 : -32768 ≤ n) (h1 : n < 32768) : (Int16.ofInt n).toInt32 = Int32.ofInt n := by
  apply Int32.toInt_inj.mp
  rw [Int16.toInt_toInt32, Int16.toInt_ofInt_of_le (by omega) (by omega), i32_toInt (by omega)]
theorem j_iconst {n : Int} (hd : decode k.2.1 pc = .ok (.iconst n, 1)) (h : J G l d k (pc + 1) ls (vI n :: st) N F A post) : J G l d k pc ls st N F A post :=
  J.go (fun X _ _ _ w => lv_iconst X.1 X.2.1 hd rfl w) h
theorem j_bipush {n : Int} (hd : decode k.2.1 pc = .ok (.bipush n, 2)) (h : J G l d k (pc + 2) ls (vI n :: st) N F A post) (h0 : -128 ≤ n ∧ n < 128 := by decide) : J G l d k pc ls st N F A post :=
  J.go (fun X _ _ _ w => lv_bipush X.1 X.2.1 hd (i8_lit h0.1 h0.2) w) h
theorem j_sipush {n : Int} (hd : decode k.2.1 pc = .ok (.sipush n, 3)) (h : J G l d k (pc + 3) ls (vI n :: st) N F A post) (h0 : -32768 ≤ n ∧ n < 32768 := by decide) : J G l d k pc ls st N F A post :=
  J.go (fun X _ _ _ w => lv_sipush X.1 X.2.1 hd (i16_lit h0.1 h0.2) w) h
theorem j_lconst {n : Fin 2} (z : Int) (hz : Int64.ofNat (n : Nat) = Int64.ofInt z) (hd : decode k.2.1 pc = .ok (.lconst n, 1)) (h : J G l d k (pc + 1) ls (vL z :: st) N F A post) : J G l d k pc ls st N F A post :=
  J.go (fun X _ _ _ w => lv_lconst X.1 X.2.1 hd hz w) h
theorem j_null (hd : decode k.2.1 pc = .ok (.aconst_null, 1)) (h : J G l d k (pc + 1) ls (.null :: st) N F A post) : J G l d k pc ls st N F A post :=
  J.go (fun X _ _ _ w => lv_null X.1 X.2.1 hd w) h
theorem j_ldc {i : Nat} {n : Int} (hd : decode k.2.1 pc = .ok (.ldc i, 2)) (hw : Cond.constant k.1.cls i (Int32.ofInt n) ∈ lw_all) (h : J G l d k (pc + 2) ls (vI n :: st) N F A post) : J G l d k pc ls st N F A post :=
  J.go (fun X _ _ _ w => lv_ldc X.1 X.2.1 X.2.2.2.2.2.1 (X.2.2.2.2.2.2.2.1 _ hw) hd w) h
theorem j_ldc2 {i : Nat} {n : Int} (hd : decode k.2.1 pc = .ok (.ldc2_w i, 3)) (hw : Cond.constantLong k.1.cls i (Int64.ofInt n) ∈ lw_all) (h : J G l d k (pc + 3) ls (vL n :: st) N F A post) : J G l d k pc ls st N F A post :=
  J.go (fun X _ _ _ w => lv_ldc2 X.1 X.2.1 X.2.2.2.2.2.1 (X.2.2.2.2.2.2.2.1 _ hw) hd w) h
theorem jL.at {n : Nat} {a : Array Slot} (h : jL ls n a) {i : Nat} {v : Value} (hi : ls[i]? = some v) (hv : v ≠ jD) : a[i]? = some (.val v) := h.2.2.2 i v hi hv
theorem vI_D (z : Int) : vI z ≠ jD := fun h => by cases h
theorem vL_D (z : Int) : vL z ≠ jD := fun h => by cases h
theorem vr_D (a : Nat) : Value.ref a ≠ jD := fun h => by cases h
theorem vn_D : Value.null ≠ jD := fun h => by cases h

theorem j_iload_n {i : Fin 4} {z : Int} (hd : decode k.2.1 pc = .ok (.iload_n i, 1)) (hi : ls[(i : Nat)]? = some (vI z)) (h : J G l d k (pc + 1) ls (vI z :: st) N F A post) : J G l d k pc ls st N F A post :=
  J.go (fun X _ _ L w => lv_iload_n X.1 X.2.1 hd rfl (L.at hi (vI_D z)) w) h
theorem j_iload {i : Nat} {z : Int} (hd : decode k.2.1 pc = .ok (.iload i, 2)) (hi : ls[i]? = some (vI z)) (h : J G l d k (pc + 2) ls (vI z :: st) N F A post) : J G l d k pc ls st N F A post :=
  J.go (fun X _ _ L w => lv_iload X.1 X.2.1 hd (L.at hi (vI_D z)) w) h
theorem j_lload_n {i : Fin 4} {z : Int} (hd : decode k.2.1 pc = .ok (.lload_n i, 1)) (hi : ls[(i : Nat)]? = some (vL z)) (h : J G l d k (pc + 1) ls (vL z :: st) N F A post) : J G l d k pc ls st N F A post :=
  J.go (fun X _ _ L w => lv_lload_n X.1 X.2.1 hd rfl (L.at hi (vL_D z)) w) h
theorem j_lload {i : Nat} {z : Int} (hd : decode k.2.1 pc = .ok (.lload i, 2)) (hi : ls[i]? = some (vL z)) (h : J G l d k (pc + 2) ls (vL z :: st) N F A post) : J G l d k pc ls st N F A post :=
  J.go (fun X _ _ L w => lv_lload X.1 X.2.1 hd (L.at hi (vL_D z)) w) h
theorem j_aload_n {i : Fin 4} {b : Nat} (hd : decode k.2.1 pc = .ok (.aload_n i, 1)) (hi : ls[(i : Nat)]? = some (.ref b)) (h : J G l d k (pc + 1) ls (.ref b :: st) N F A post) : J G l d k pc ls st N F A post :=
  J.go (fun X _ _ L w => lv_aload_n X.1 X.2.1 hd rfl (L.at hi (vr_D b)) w) h
theorem j_aload {i : Nat} {b : Nat} (hd : decode k.2.1 pc = .ok (.aload i, 2)) (hi : ls[i]? = some (.ref b)) (h : J G l d k (pc + 2) ls (.ref b :: st) N F A post) : J G l d k pc ls st N F A post :=
  J.go (fun X _ _ L w => lv_aload X.1 X.2.1 hd (L.at hi (vr_D b)) w) h
theorem j_aload_nN {i : Fin 4} (hd : decode k.2.1 pc = .ok (.aload_n i, 1)) (hi : ls[(i : Nat)]? = some .null) (h : J G l d k (pc + 1) ls (.null :: st) N F A post) : J G l d k pc ls st N F A post :=
  J.go (fun X _ _ L w => lv_aload_nN X.1 X.2.1 hd rfl (L.at hi vn_D) w) h
theorem j_aloadN {i : Nat} (hd : decode k.2.1 pc = .ok (.aload i, 2)) (hi : ls[i]? = some .null) (h : J G l d k (pc + 2) ls (.null :: st) N F A post) : J G l d k pc ls st N F A post :=
  J.go (fun X _ _ L w => lv_aloadN X.1 X.2.1 hd (L.at hi vn_D) w) h
/-- the listed pairs of a list of locals -/
def jpr (ls : List Value) : List (Nat × Value) := (List.range ls.length).filterMap fun i => match ls[i]? with
  | some v => if v = jD then none else some (i, v)
  | none => none
theorem jpr_mem {i : Nat} {v : Value} (h : ls[i]? = some v) (hv : v ≠ jD) : (i, v) ∈ jpr ls := by
  have hi : i < ls.length := (List.getElem?_eq_some_iff.mp h).1
  refine List.mem_filterMap.mpr ⟨i, List.mem_range.mpr hi, ?_⟩
  simp only [h]
  rw [if_neg hv]
theorem jpr_of {q : Nat × Value} (h : q ∈ jpr ls) : ls[q.1]? = some q.2 ∧ q.2 ≠ jD := by
  obtain ⟨i, -, hi⟩ := List.mem_filterMap.mp h
  cases hx : ls[i]? with
  | none => rw [hx] at hi; cases hi
  | some v =>
    rw [hx] at hi
    by_cases hv : v = jD
    · simp only [hv, if_true] at hi
      cases hi
    · simp only [if_neg hv] at hi
      cases hi
      exact ⟨hx, hv⟩
theorem jL.has {n : Nat} {a : Array Slot} (h : jL ls n a) : lv_has a n (jpr ls) :=
  ⟨h.2.1, h.2.2.1, fun q hq => h.2.2.2 q.1 q.2 (jpr_of hq).1 (jpr_of hq).2⟩
/-- a place may be written: no long stands just ahead of it -/
def jok (ls : List Value) (i : Nat) : Bool := decide (i < ls.length) && (match i with
  | 0 => true
  | j + 1 => match ls[j]? with
    | some v => decide (v.category = 1)
    | none => true)
theorem jL.set1 {n i : Nat} {x : Value} {a a2 : Array Slot} (L : jL ls n a) (hok : jok ls i = true) (h : lv_has a2 n ((i, x) :: (jpr ls).filter (fun q => !(q.1 == i) && !(q.1 + 1 == i && q.2.category == 2)))) : jL (ls.set i x) n a2 := by
  unfold jok at hok
  rw [Bool.and_eq_true] at hok
  have hi := of_decide_eq_true hok.1
  refine ⟨by rw [List.length_set]; exact L.1, h.1, h.2.1, fun j v hj hv => ?_⟩
  by_cases e : j = i
  · subst e
    rw [List.getElem?_set_self hi] at hj
    cases hj
    exact h.2.2 _ List.mem_cons_self
  · rw [List.getElem?_set_ne (Ne.symm e)] at hj
    refine h.2.2 (j, v) (List.mem_cons_of_mem _ (List.mem_filter.mpr ⟨jpr_mem hj hv, ?_⟩))
    have h2 : ¬ (j + 1 = i ∧ v.category = 2) := by
      rintro ⟨e1, e2⟩
      subst e1
      have h3 := hok.2
      simp only [hj] at h3
      have h4 := of_decide_eq_true h3
      omega
    simp only [Bool.and_eq_true, Bool.not_eq_true', beq_eq_false_iff_ne, Bool.and_eq_false_iff, ne_eq]
    refine ⟨e, ?_⟩
    by_cases e1 : j + 1 = i
    · exact Or.inr (by simpa using fun e2 => h2 ⟨e1, e2⟩)
    · exact Or.inl (by simpa using e1)
theorem jL.set2 {n i : Nat} {x : Value} {a a2 : Array Slot} (L : jL ls n a) (hok : jok ls i = true) (hi1 : i + 1 < ls.length) (h : lv_has a2 n ((i, x) :: (jpr ls).filter (fun q => !(q.1 == i) && (!(q.1 == i + 1) && !(q.1 + 1 == i && q.2.category == 2))))) : jL ((ls.set i x).set (i + 1) jD) n a2 := by
  unfold jok at hok
  rw [Bool.and_eq_true] at hok
  have hi := of_decide_eq_true hok.1
  refine ⟨by rw [List.length_set, List.length_set]; exact L.1, h.1, h.2.1, fun j v hj hv => ?_⟩
  by_cases e0 : j = i + 1
  · subst e0
    rw [List.getElem?_set_self (by rw [List.length_set]; exact hi1)] at hj
    cases hj
    exact absurd rfl hv
  rw [List.getElem?_set_ne (Ne.symm e0)] at hj
  by_cases e : j = i
  · subst e
    rw [List.getElem?_set_self hi] at hj
    cases hj
    exact h.2.2 _ List.mem_cons_self
  · rw [List.getElem?_set_ne (Ne.symm e)] at hj
    refine h.2.2 (j, v) (List.mem_cons_of_mem _ (List.mem_filter.mpr ⟨jpr_mem hj hv, ?_⟩))
    have h2 : ¬ (j + 1 = i ∧ v.category = 2) := by
      rintro ⟨e1, e2⟩
      subst e1
      have h3 := hok.2
      simp only [hj] at h3
      have h4 := of_decide_eq_true h3
      omega
    simp only [Bool.and_eq_true, Bool.not_eq_true', beq_eq_false_iff_ne, Bool.and_eq_false_iff, ne_eq]
    refine ⟨e, e0, ?_⟩
    by_cases e1 : j + 1 = i
    · exact Or.inr (by simpa using fun e2 => h2 ⟨e1, e2⟩)
    · exact Or.inl (by simpa using e1)
theorem jok_lt {i : Nat} (h : jok ls i = true) : i < ls.length := by
  unfold jok at h
  rw [Bool.and_eq_true] at h
  exact of_decide_eq_true h.1

theorem j_istore_n {i : Fin 4} {z : Int} (hd : decode k.2.1 pc = .ok (.istore_n i, 1)) (hok : jok ls (i : Nat) = true) (h : J G l d k (pc + 1) (ls.set (i : Nat) (vI z)) st N F A post) : J G l d k pc ls (vI z :: st) N F A post :=
  J.goL (fun X L w => lv_istore_n X.1 X.2.1 hd rfl L.has (by rw [← L.1]; exact jok_lt hok) rfl (fun a2 h2 => w a2 (L.set1 hok h2))) h
theorem j_istore {i : Nat} {z : Int} (hd : decode k.2.1 pc = .ok (.istore i, 2)) (hok : jok ls i = true) (h : J G l d k (pc + 2) (ls.set i (vI z)) st N F A post) : J G l d k pc ls (vI z :: st) N F A post :=
  J.goL (fun X L w => lv_istore X.1 X.2.1 hd L.has (by rw [← L.1]; exact jok_lt hok) rfl (fun a2 h2 => w a2 (L.set1 hok h2))) h
theorem j_astore_n {i : Fin 4} {b : Nat} (hd : decode k.2.1 pc = .ok (.astore_n i, 1)) (hok : jok ls (i : Nat) = true) (h : J G l d k (pc + 1) (ls.set (i : Nat) (.ref b)) st N F A post) : J G l d k pc ls (.ref b :: st) N F A post :=
  J.goL (fun X L w => lv_astore_n X.1 X.2.1 hd rfl L.has (by rw [← L.1]; exact jok_lt hok) rfl (fun a2 h2 => w a2 (L.set1 hok h2))) h
theorem j_astore {i : Nat} {b : Nat} (hd : decode k.2.1 pc = .ok (.astore i, 2)) (hok : jok ls i = true) (h : J G l d k (pc + 2) (ls.set i (.ref b)) st N F A post) : J G l d k pc ls (.ref b :: st) N F A post :=
  J.goL (fun X L w => lv_astore X.1 X.2.1 hd L.has (by rw [← L.1]; exact jok_lt hok) rfl (fun a2 h2 => w a2 (L.set1 hok h2))) h
theorem j_astore_nN {i : Fin 4} (hd : decode k.2.1 pc = .ok (.astore_n i, 1)) (hok : jok ls (i : Nat) = true) (h : J G l d k (pc + 1) (ls.set (i : Nat) .null) st N F A post) : J G l d k pc ls (.null :: st) N F A post :=
  J.goL (fun X L w => lv_astore_nN X.1 X.2.1 hd rfl L.has (by rw [← L.1]; exact jok_lt hok) rfl (fun a2 h2 => w a2 (L.set1 hok h2))) h
theorem j_astoreN {i : Nat} (hd : decode k.2.1 pc = .ok (.astore i, 2)) (hok : jok ls i = true) (h : J G l d k (pc + 2) (ls.set i .null) st N F A post) : J G l d k pc ls (.null :: st) N F A post :=
  J.goL (fun X L w => lv_astoreN X.1 X.2.1 hd L.has (by rw [← L.1]; exact jok_lt hok) rfl (fun a2 h2 => w a2 (L.set1 hok h2))) h
theorem j_lstore_n {i : Fin 4} {z : Int} (hd : decode k.2.1 pc = .ok (.lstore_n i, 1)) (hok : jok ls (i : Nat) = true) (h1 : (i : Nat) + 1 < ls.length) (h : J G l d k (pc + 1) ((ls.set (i : Nat) (vL z)).set ((i : Nat) + 1) jD) st N F A post) : J G l d k pc ls (vL z :: st) N F A post :=
  J.goL (fun X L w => lv_lstore_n X.1 X.2.1 hd rfl L.has (by rw [← L.1]; exact h1) rfl (fun a2 h2 => w a2 (L.set2 hok h1 h2))) h
theorem j_lstore {i : Nat} {z : Int} (hd : decode k.2.1 pc = .ok (.lstore i, 2)) (hok : jok ls i = true) (h1 : i + 1 < ls.length) (h : J G l d k (pc + 2) ((ls.set i (vL z)).set (i + 1) jD) st N F A post) : J G l d k pc ls (vL z :: st) N F A post :=
  J.goL (fun X L w => lv_lstore X.1 X.2.1 hd L.has (by rw [← L.1]; exact h1) rfl (fun a2 h2 => w a2 (L.set2 hok h1 h2))) h
theorem jpr_place {i : Nat} {v : Value} (h : ls[i]? = some v) (hv : v ≠ jD) : ∃ j : Nat, (jpr ls)[j]? = some (i, v) := List.getElem?_of_mem (jpr_mem h hv)
theorem j_iinc {i : Nat} {n z : Int} (hd : decode k.2.1 pc = .ok (.iinc i n, 3)) (hi : ls[i]? = some (vI z)) (hok : jok ls i = true) (h : J G l d k (pc + 3) (ls.set i (vI (z + n))) st N F A post) : J G l d k pc ls st N F A post :=
  J.goL (fun X L w => by
    obtain ⟨j, hj⟩ := jpr_place hi (vI_D z)
    exact lv_iinc X.1 X.2.1 hd L.has hj rfl (by rw [← L.1]; exact jok_lt hok) rfl (fun a2 h2 => w a2 (L.set1 hok (by rw [show vI (z + n) = Value.int (Int32.ofInt z + Int32.ofInt n) from congrArg Value.int (Int32.ofInt_add z n)]; exact h2)))) h

theorem j_dup {v : Value} (hd : decode k.2.1 pc = .ok (.dup, 1)) (hv : v.category = 1) (h : J G l d k (pc + 1) ls (v :: v :: st) N F A post) : J G l d k pc ls (v :: st) N F A post :=
  J.go (fun X _ _ _ w_ => lv_dup X.1 X.2.1 hd hv w_) h
theorem j_pop {v : Value} (hd : decode k.2.1 pc = .ok (.pop, 1)) (hv : v.category = 1) (h : J G l d k (pc + 1) ls (st) N F A post) : J G l d k pc ls (v :: st) N F A post :=
  J.go (fun X _ _ _ w_ => lv_pop X.1 X.2.1 hd hv w_) h
theorem j_dup_x1 {v w : Value} (hd : decode k.2.1 pc = .ok (.dup_x1, 1)) (hv : v.category = 1) (hw : w.category = 1) (h : J G l d k (pc + 1) ls (v :: w :: v :: st) N F A post) : J G l d k pc ls (v :: w :: st) N F A post :=
  J.go (fun X _ _ _ w_ => lv_dup_x1 X.1 X.2.1 hd hv hw w_) h
theorem j_dup_x2 {u v w : Value} (hd : decode k.2.1 pc = .ok (.dup_x2, 1)) (hv : v.category = 1) (hw : w.category = 1) (hu : u.category = 1) (h : J G l d k (pc + 1) ls (v :: w :: u :: v :: st) N F A post) : J G l d k pc ls (v :: w :: u :: st) N F A post :=
  J.go (fun X _ _ _ w_ => lv_dup_x2 X.1 X.2.1 hd hv hw hu w_) h
theorem j_dup2 {v w : Value} (hd : decode k.2.1 pc = .ok (.dup2, 1)) (hv : v.category = 1) (hw : w.category = 1) (h : J G l d k (pc + 1) ls (v :: w :: v :: w :: st) N F A post) : J G l d k pc ls (v :: w :: st) N F A post :=
  J.go (fun X _ _ _ w_ => lv_dup2_11 X.1 X.2.1 hd hv hw w_) h
theorem j_dup2l {v : Value} (hd : decode k.2.1 pc = .ok (.dup2, 1)) (hv : v.category = 2) (h : J G l d k (pc + 1) ls (v :: v :: st) N F A post) : J G l d k pc ls (v :: st) N F A post :=
  J.go (fun X _ _ _ w_ => lv_dup2_2 X.1 X.2.1 hd hv w_) h

theorem j_iadd {x y : Int} (hd : decode k.2.1 pc = .ok (.iadd, 1)) (h : J G l d k (pc + 1) ls (vI (x + y) :: st) N F A post) : J G l d k pc ls (vI y :: vI x :: st) N F A post :=
  J.go (fun X _ _ _ w => lv_iadd X.1 X.2.1 hd (by rw [← Int32.ofInt_add]; exact w)) h
theorem j_isub {x y : Int} (hd : decode k.2.1 pc = .ok (.isub, 1)) (h : J G l d k (pc + 1) ls (vI (x - y) :: st) N F A post) : J G l d k pc ls (vI y :: vI x :: st) N F A post :=
  J.go (fun X _ _ _ w => lv_isub X.1 X.2.1 hd (by rw [← Int32.ofInt_sub]; exact w)) h
theorem j_imul {x y : Int} (hd : decode k.2.1 pc = .ok (.imul, 1)) (h : J G l d k (pc + 1) ls (vI (x * y) :: st) N F A post) : J G l d k pc ls (vI y :: vI x :: st) N F A post :=
  J.go (fun X _ _ _ w => lv_imul X.1 X.2.1 hd (by rw [← Int32.ofInt_mul]; exact w)) h
theorem j_ladd {x y : Int} (hd : decode k.2.1 pc = .ok (.ladd, 1)) (h : J G l d k (pc + 1) ls (vL (x + y) :: st) N F A post) : J G l d k pc ls (vL y :: vL x :: st) N F A post :=
  J.go (fun X _ _ _ w => lv_ladd X.1 X.2.1 hd (by rw [← Int64.ofInt_add]; exact w)) h
theorem j_lsub {x y : Int} (hd : decode k.2.1 pc = .ok (.lsub, 1)) (h : J G l d k (pc + 1) ls (vL (x - y) :: st) N F A post) : J G l d k pc ls (vL y :: vL x :: st) N F A post :=
  J.go (fun X _ _ _ w => lv_lsub X.1 X.2.1 hd (by rw [← Int64.ofInt_sub]; exact w)) h
theorem j_lmul {x y : Int} (hd : decode k.2.1 pc = .ok (.lmul, 1)) (h : J G l d k (pc + 1) ls (vL (x * y) :: st) N F A post) : J G l d k pc ls (vL y :: vL x :: st) N F A post :=
  J.go (fun X _ _ _ w => lv_lmul X.1 X.2.1 hd (by rw [← Int64.ofInt_mul]; exact w)) h
theorem j_ineg {x : Int} (hd : decode k.2.1 pc = .ok (.ineg, 1)) (h : J G l d k (pc + 1) ls (vI (-x) :: st) N F A post) : J G l d k pc ls (vI x :: st) N F A post :=
  J.go (fun X _ _ _ w => lv_ineg X.1 X.2.1 hd (by rw [← Int32.ofInt_neg]; exact w)) h
theorem i32_div {x y : Int} (h0 : 0 ≤ x) (hx : x ≤ 2147483647) (hy0 : 0 < y) (hy : y ≤ 2147483647) : Int32.ofInt x / Int32.ofInt y = Int32.ofInt (x / y) := by
  have hq : x / y ≤ x := Int.ediv_le_self y h0
  have hq0 : 0 ≤ x / y := Int.ediv_nonneg h0 (by omega)
  apply Int32.toInt_inj.mp
  rw [Int32.toInt_div, i32_toInt (by omega), i32_toInt (by omega), i32_toInt (by omega), Int.tdiv_eq_ediv_of_nonneg h0]
  exact Int.bmod_eq_of_le (by omega) (by omega)
theorem i64_div {x y : Int} (h0 : 0 ≤ x) (hx : x ≤ 9223372036854775807) (hy0 : 0 < y) (hy : y ≤ 9223372036854775807) : Int64.ofInt x / Int64.ofInt y = Int64.ofInt (x / y) := by
  have hq : x / y ≤ x := Int.ediv_le_self y h0
  have hq0 : 0 ≤ x / y := Int.ediv_nonneg h0 (by omega)
  apply Int64.toInt_inj.mp
  rw [Int64.toInt_div, i64_toInt (by omega), i64_toInt (by omega), i64_toInt (by omega), Int.tdiv_eq_ediv_of_nonneg h0]
  exact Int.bmod_eq_of_le (by omega) (by omega)
theorem i32_ne0 {y : Int} (hy0 : 0 < y) (hy : y ≤ 2147483647) : ¬ Int32.ofInt y = 0 := by
  intro e
  have h := congrArg Int32.toInt e
  rw [i32_toInt (by omega), Int32.toInt_zero] at h
  omega
theorem i64_ne0 {y : Int} (hy0 : 0 < y) (hy : y ≤ 9223372036854775807) : ¬ Int64.ofInt y = 0 := by
  intro e
  have h := congrArg Int64.toInt e
  rw [i64_toInt (by omega), Int64.toInt_zero] at h
  omega
theorem j_idiv {x y : Int} (hd : decode k.2.1 pc = .ok (.idiv, 1)) (hx : 0 ≤ x ∧ x ≤ 2147483647) (hy : 0 < y ∧ y ≤ 2147483647) (h : J G l d k (pc + 1) ls (vI (x / y) :: st) N F A post) : J G l d k pc ls (vI y :: vI x :: st) N F A post :=
  J.go (fun X _ _ _ w => lv_idiv X.1 X.2.1 hd (i32_ne0 hy.1 hy.2) (by rw [i32_div hx.1 hx.2 hy.1 hy.2]; exact w)) h
theorem j_irem {x y : Int} (hd : decode k.2.1 pc = .ok (.irem, 1)) (hx : 0 ≤ x ∧ x ≤ 2147483647) (hy : 0 < y ∧ y ≤ 2147483647) (h : J G l d k (pc + 1) ls (vI (x % y) :: st) N F A post) : J G l d k pc ls (vI y :: vI x :: st) N F A post :=
  J.go (fun X _ _ _ w => lv_irem X.1 X.2.1 hd (i32_ne0 hy.1 hy.2) (by
    rw [i32_div hx.1 hx.2 hy.1 hy.2, ← Int32.ofInt_mul, ← Int32.ofInt_sub, show x - x / y * y = x % y by rw [Int.mul_comm]; exact (Int.emod_def x y).symm]
    exact w)) h
theorem j_ldiv {x y : Int} (hd : decode k.2.1 pc = .ok (.ldiv, 1)) (hx : 0 ≤ x ∧ x ≤ 9223372036854775807) (hy : 0 < y ∧ y ≤ 9223372036854775807) (h : J G l d k (pc + 1) ls (vL (x / y) :: st) N F A post) : J G l d k pc ls (vL y :: vL x :: st) N F A post :=
  J.go (fun X _ _ _ w => lv_ldiv X.1 X.2.1 hd (i64_ne0 hy.1 hy.2) (by rw [i64_div hx.1 hx.2 hy.1 hy.2]; exact w)) h
theorem j_lrem {x y : Int} (hd : decode k.2.1 pc = .ok (.lrem, 1)) (hx : 0 ≤ x ∧ x ≤ 9223372036854775807) (hy : 0 < y ∧ y ≤ 9223372036854775807) (h : J G l d k (pc + 1) ls (vL (x % y) :: st) N F A post) : J G l d k pc ls (vL y :: vL x :: st) N F A post :=
  J.go (fun X _ _ _ w => lv_lrem X.1 X.2.1 hd (i64_ne0 hy.1 hy.2) (by
    rw [i64_div hx.1 hx.2 hy.1 hy.2, ← Int64.ofInt_mul, ← Int64.ofInt_sub, show x - x / y * y = x % y by rw [Int.mul_comm]; exact (Int.emod_def x y).symm]
    exact w)) h
theorem j_i2l {x : Int} (hd : decode k.2.1 pc = .ok (.i2l, 1)) (hx : jR x) (h : J G l d k (pc + 1) ls (vL x :: st) N F A post) : J G l d k pc ls (vI x :: st) N F A post :=
  J.go (fun X _ _ _ w => lv_i2l X.1 X.2.1 hd (by apply Int64.toInt_inj.mp; rw [Int32.toInt_toInt64, i32_toInt hx, i64_toInt (by omega)]) w) h
theorem j_l2i {x : Int} (hd : decode k.2.1 pc = .ok (.l2i, 1)) (h : J G l d k (pc + 1) ls (vI x :: st) N F A post) : J G l d k pc ls (vL x :: st) N F A post :=
  J.go (fun X _ _ _ w => lv_l2i X.1 X.2.1 hd Int64.toInt32_ofInt w) h

theorem j_if_eq {x : Int} {off : Int} (tgt : Nat) (hd : decode k.2.1 pc = .ok (.ifCond .eq off, 3)) (ht : (pc : Int) + off = (tgt : Int)) (hx : jR x) (h1 : x = 0 → J G l d k tgt ls st N F A post) (h2 : ¬ (x = 0) → J G l d k (pc + 3) ls st N F A post) : J G l d k pc ls (vI x :: st) N F A post := by
  by_cases q : x = 0
  · exact J.go (fun X _ _ _ w => lv_if_eq X.1 X.2.1 hd ht (fun _ => w) (fun n => absurd ((i32_eq hx (by decide : jR 0)).mpr q) n)) (h1 q)
  · exact J.go (fun X _ _ _ w => lv_if_eq X.1 X.2.1 hd ht (fun n => absurd ((i32_eq hx (by decide : jR 0)).mp n) q) (fun _ => w)) (h2 q)
theorem j_icmp_eq {x y : Int} {off : Int} (tgt : Nat) (hd : decode k.2.1 pc = .ok (.if_icmp .eq off, 3)) (ht : (pc : Int) + off = (tgt : Int)) (hx : jR x) (hy : jR y) (h1 : x = y → J G l d k tgt ls st N F A post) (h2 : ¬ (x = y) → J G l d k (pc + 3) ls st N F A post) : J G l d k pc ls (vI y :: vI x :: st) N F A post := by
  by_cases q : x = y
  · exact J.go (fun X _ _ _ w => lv_icmp_eq X.1 X.2.1 hd ht (fun _ => w) (fun n => absurd ((i32_eq hx hy).mpr q) n)) (h1 q)
  · exact J.go (fun X _ _ _ w => lv_icmp_eq X.1 X.2.1 hd ht (fun n => absurd ((i32_eq hx hy).mp n) q) (fun _ => w)) (h2 q)
theorem j_if_ne {x : Int} {off : Int} (tgt : Nat) (hd : decode k.2.1 pc = .ok (.ifCond .ne off, 3)) (ht : (pc : Int) + off = (tgt : Int)) (hx : jR x) (h1 : ¬ x = 0 → J G l d k tgt ls st N F A post) (h2 : ¬ (¬ x = 0) → J G l d k (pc + 3) ls st N F A post) : J G l d k pc ls (vI x :: st) N F A post := by
  by_cases q : x = 0
  · exact J.go (fun X _ _ _ w => lv_if_ne X.1 X.2.1 hd ht (fun n => absurd ((i32_eq hx (by decide : jR 0)).mpr q) n) (fun _ => w)) (h2 (fun n => n q))
  · exact J.go (fun X _ _ _ w => lv_if_ne X.1 X.2.1 hd ht (fun _ => w) (fun n => absurd ((i32_eq hx (by decide : jR 0)).mp n) q)) (h1 q)
theorem j_icmp_ne {x y : Int} {off : Int} (tgt : Nat) (hd : decode k.2.1 pc = .ok (.if_icmp .ne off, 3)) (ht : (pc : Int) + off = (tgt : Int)) (hx : jR x) (hy : jR y) (h1 : ¬ x = y → J G l d k tgt ls st N F A post) (h2 : ¬ (¬ x = y) → J G l d k (pc + 3) ls st N F A post) : J G l d k pc ls (vI y :: vI x :: st) N F A post := by
  by_cases q : x = y
  · exact J.go (fun X _ _ _ w => lv_icmp_ne X.1 X.2.1 hd ht (fun n => absurd ((i32_eq hx hy).mpr q) n) (fun _ => w)) (h2 (fun n => n q))
  · exact J.go (fun X _ _ _ w => lv_icmp_ne X.1 X.2.1 hd ht (fun _ => w) (fun n => absurd ((i32_eq hx hy).mp n) q)) (h1 q)
theorem j_if_lt {x : Int} {off : Int} (tgt : Nat) (hd : decode k.2.1 pc = .ok (.ifCond .lt off, 3)) (ht : (pc : Int) + off = (tgt : Int)) (hx : jR x) (h1 : x < 0 → J G l d k tgt ls st N F A post) (h2 : ¬ (x < 0) → J G l d k (pc + 3) ls st N F A post) : J G l d k pc ls (vI x :: st) N F A post := by
  by_cases q : x < 0
  · exact J.go (fun X _ _ _ w => lv_if_lt X.1 X.2.1 hd ht (fun _ => w) (fun n => absurd ((i32_lt hx (by decide : jR 0)).mpr q) n)) (h1 q)
  · exact J.go (fun X _ _ _ w => lv_if_lt X.1 X.2.1 hd ht (fun n => absurd ((i32_lt hx (by decide : jR 0)).mp n) q) (fun _ => w)) (h2 q)
theorem j_icmp_lt {x y : Int} {off : Int} (tgt : Nat) (hd : decode k.2.1 pc = .ok (.if_icmp .lt off, 3)) (ht : (pc : Int) + off = (tgt : Int)) (hx : jR x) (hy : jR y) (h1 : x < y → J G l d k tgt ls st N F A post) (h2 : ¬ (x < y) → J G l d k (pc + 3) ls st N F A post) : J G l d k pc ls (vI y :: vI x :: st) N F A post := by
  by_cases q : x < y
  · exact J.go (fun X _ _ _ w => lv_icmp_lt X.1 X.2.1 hd ht (fun _ => w) (fun n => absurd ((i32_lt hx hy).mpr q) n)) (h1 q)
  · exact J.go (fun X _ _ _ w => lv_icmp_lt X.1 X.2.1 hd ht (fun n => absurd ((i32_lt hx hy).mp n) q) (fun _ => w)) (h2 q)
theorem j_if_ge {x : Int} {off : Int} (tgt : Nat) (hd : decode k.2.1 pc = .ok (.ifCond .ge off, 3)) (ht : (pc : Int) + off = (tgt : Int)) (hx : jR x) (h1 : 0 ≤ x → J G l d k tgt ls st N F A post) (h2 : ¬ (0 ≤ x) → J G l d k (pc + 3) ls st N F A post) : J G l d k pc ls (vI x :: st) N F A post := by
  by_cases q : 0 ≤ x
  · exact J.go (fun X _ _ _ w => lv_if_ge X.1 X.2.1 hd ht (fun _ => w) (fun n => absurd ((i32_le (by decide : jR 0) hx).mpr q) n)) (h1 q)
  · exact J.go (fun X _ _ _ w => lv_if_ge X.1 X.2.1 hd ht (fun n => absurd ((i32_le (by decide : jR 0) hx).mp n) q) (fun _ => w)) (h2 q)
theorem j_icmp_ge {x y : Int} {off : Int} (tgt : Nat) (hd : decode k.2.1 pc = .ok (.if_icmp .ge off, 3)) (ht : (pc : Int) + off = (tgt : Int)) (hx : jR x) (hy : jR y) (h1 : y ≤ x → J G l d k tgt ls st N F A post) (h2 : ¬ (y ≤ x) → J G l d k (pc + 3) ls st N F A post) : J G l d k pc ls (vI y :: vI x :: st) N F A post := by
  by_cases q : y ≤ x
  · exact J.go (fun X _ _ _ w => lv_icmp_ge X.1 X.2.1 hd ht (fun _ => w) (fun n => absurd ((i32_le hy hx).mpr q) n)) (h1 q)
  · exact J.go (fun X _ _ _ w => lv_icmp_ge X.1 X.2.1 hd ht (fun n => absurd ((i32_le hy hx).mp n) q) (fun _ => w)) (h2 q)
theorem j_if_gt {x : Int} {off : Int} (tgt : Nat) (hd : decode k.2.1 pc = .ok (.ifCond .gt off, 3)) (ht : (pc : Int) + off = (tgt : Int)) (hx : jR x) (h1 : 0 < x → J G l d k tgt ls st N F A post) (h2 : ¬ (0 < x) → J G l d k (pc + 3) ls st N F A post) : J G l d k pc ls (vI x :: st) N F A post := by
  by_cases q : 0 < x
  · exact J.go (fun X _ _ _ w => lv_if_gt X.1 X.2.1 hd ht (fun _ => w) (fun n => absurd ((i32_lt (by decide : jR 0) hx).mpr q) n)) (h1 q)
  · exact J.go (fun X _ _ _ w => lv_if_gt X.1 X.2.1 hd ht (fun n => absurd ((i32_lt (by decide : jR 0) hx).mp n) q) (fun _ => w)) (h2 q)
theorem j_icmp_gt {x y : Int} {off : Int} (tgt : Nat) (hd : decode k.2.1 pc = .ok (.if_icmp .gt off, 3)) (ht : (pc : Int) + off = (tgt : Int)) (hx : jR x) (hy : jR y) (h1 : y < x → J G l d k tgt ls st N F A post) (h2 : ¬ (y < x) → J G l d k (pc + 3) ls st N F A post) : J G l d k pc ls (vI y :: vI x :: st) N F A post := by
  by_cases q : y < x
  · exact J.go (fun X _ _ _ w => lv_icmp_gt X.1 X.2.1 hd ht (fun _ => w) (fun n => absurd ((i32_lt hy hx).mpr q) n)) (h1 q)
  · exact J.go (fun X _ _ _ w => lv_icmp_gt X.1 X.2.1 hd ht (fun n => absurd ((i32_lt hy hx).mp n) q) (fun _ => w)) (h2 q)
theorem j_if_le {x : Int} {off : Int} (tgt : Nat) (hd : decode k.2.1 pc = .ok (.ifCond .le off, 3)) (ht : (pc : Int) + off = (tgt : Int)) (hx : jR x) (h1 : x ≤ 0 → J G l d k tgt ls st N F A post) (h2 : ¬ (x ≤ 0) → J G l d k (pc + 3) ls st N F A post) : J G l d k pc ls (vI x :: st) N F A post := by
  by_cases q : x ≤ 0
  · exact J.go (fun X _ _ _ w => lv_if_le X.1 X.2.1 hd ht (fun _ => w) (fun n => absurd ((i32_le hx (by decide : jR 0)).mpr q) n)) (h1 q)
  · exact J.go (fun X _ _ _ w => lv_if_le X.1 X.2.1 hd ht (fun n => absurd ((i32_le hx (by decide : jR 0)).mp n) q) (fun _ => w)) (h2 q)
theorem j_icmp_le {x y : Int} {off : Int} (tgt : Nat) (hd : decode k.2.1 pc = .ok (.if_icmp .le off, 3)) (ht : (pc : Int) + off = (tgt : Int)) (hx : jR x) (hy : jR y) (h1 : x ≤ y → J G l d k tgt ls st N F A post) (h2 : ¬ (x ≤ y) → J G l d k (pc + 3) ls st N F A post) : J G l d k pc ls (vI y :: vI x :: st) N F A post := by
  by_cases q : x ≤ y
  · exact J.go (fun X _ _ _ w => lv_icmp_le X.1 X.2.1 hd ht (fun _ => w) (fun n => absurd ((i32_le hx hy).mpr q) n)) (h1 q)
  · exact J.go (fun X _ _ _ w => lv_icmp_le X.1 X.2.1 hd ht (fun n => absurd ((i32_le hx hy).mp n) q) (fun _ => w)) (h2 q)
theorem j_goto {off : Int} (tgt : Nat) (hd : decode k.2.1 pc = .ok (.goto off, 3)) (ht : (pc : Int) + off = (tgt : Int)) (h : J G l d k tgt ls st N F A post) : J G l d k pc ls st N F A post :=
  J.go (fun X _ _ _ w => lv_goto X.1 X.2.1 hd ht w) h
def jcmp (x y : Int) : Int := if y < x then 1 else if x = y then 0 else -1
theorem j_lcmp {x y : Int} (hd : decode k.2.1 pc = .ok (.lcmp, 1)) (hx : jRL x) (hy : jRL y) (h : J G l d k (pc + 1) ls (vI (jcmp x y) :: st) N F A post) : J G l d k pc ls (vL y :: vL x :: st) N F A post :=
  J.go (fun X _ _ _ w => W.lcmp X.1 X.2.1 hd (by
    have e : lg_cmp (Int64.ofInt x) (Int64.ofInt y) = Int32.ofInt (jcmp x y) := by
      unfold lg_cmp jcmp
      by_cases h1 : y < x
      · rw [if_pos ((i64_lt hy hx).mpr h1), if_pos h1]; rfl
      · rw [if_neg (fun n => h1 ((i64_lt hy hx).mp n)), if_neg h1]
        by_cases h2 : x = y
        · rw [if_pos ((i64_eq hx hy).mpr h2), if_pos h2]; rfl
        · rw [if_neg (fun n => h2 ((i64_eq hx hy).mp n)), if_neg h2]; rfl
    rw [e]
    exact w)) h
theorem jcmp_eq0 {x y : Int} : jcmp x y = 0 ↔ x = y := by
  unfold jcmp
  by_cases h1 : y < x
  · rw [if_pos h1]; omega
  · rw [if_neg h1]
    by_cases h2 : x = y
    · rw [if_pos h2]; omega
    · rw [if_neg h2]; omega
theorem jcmp_lt0 {x y : Int} : jcmp x y < 0 ↔ x < y := by
  unfold jcmp
  by_cases h1 : y < x
  · rw [if_pos h1]; omega
  · rw [if_neg h1]
    by_cases h2 : x = y
    · rw [if_pos h2]; omega
    · rw [if_neg h2]; omega
theorem jcmp_gt0 {x y : Int} : 0 < jcmp x y ↔ y < x := by
  unfold jcmp
  by_cases h1 : y < x
  · rw [if_pos h1]; omega
  · rw [if_neg h1]
    by_cases h2 : x = y
    · rw [if_pos h2]; omega
    · rw [if_neg h2]; omega
theorem jcmp_R {x y : Int} : jR (jcmp x y) := by
  unfold jcmp
  by_cases h1 : y < x
  · rw [if_pos h1]; decide
  · rw [if_neg h1]
    by_cases h2 : x = y
    · rw [if_pos h2]; decide
    · rw [if_neg h2]; decide
theorem j_ifnull {a : Nat} {off : Int} (hd : decode k.2.1 pc = .ok (.ifnull off, 3)) (h : J G l d k (pc + 3) ls st N F A post) : J G l d k pc ls (.ref a :: st) N F A post :=
  J.go (fun X _ _ _ w => lv_ifnull X.1 X.2.1 hd w) h
theorem j_ifnonnull {a : Nat} {off : Int} (tgt : Nat) (hd : decode k.2.1 pc = .ok (.ifnonnull off, 3)) (ht : (pc : Int) + off = (tgt : Int)) (h : J G l d k tgt ls st N F A post) : J G l d k pc ls (.ref a :: st) N F A post :=
  J.go (fun X _ _ _ w => lv_ifnonnull X.1 X.2.1 hd ht w) h
theorem j_ifnullN {off : Int} (tgt : Nat) (hd : decode k.2.1 pc = .ok (.ifnull off, 3)) (ht : (pc : Int) + off = (tgt : Int)) (h : J G l d k tgt ls st N F A post) : J G l d k pc ls (.null :: st) N F A post :=
  J.go (fun X _ _ _ w => lv_ifnullN X.1 X.2.1 hd ht w) h
theorem j_ifnonnullN {off : Int} (hd : decode k.2.1 pc = .ok (.ifnonnull off, 3)) (h : J G l d k (pc + 3) ls st N F A post) : J G l d k pc ls (.null :: st) N F A post :=
  J.go (fun X _ _ _ w => lv_ifnonnullN X.1 X.2.1 hd w) h
theorem j_tableOut {dflt lo hi : Int} {offs : Array Int} {len : Nat} {x : Int} (tgt : Nat) (hd : decode k.2.1 pc = .ok (.tableswitch dflt lo hi offs, len)) (hx : jR x) (hr : x < lo ∨ hi < x) (ht : (pc : Int) + dflt = (tgt : Int)) (h : J G l d k tgt ls st N F A post) : J G l d k pc ls (vI x :: st) N F A post :=
  J.go (fun X _ _ _ w => lv_tableOut X.1 X.2.1 hd (by rw [i32_toInt hx]; exact hr) ht w) h
theorem j_tableIn {dflt lo hi : Int} {offs : Array Int} {len : Nat} {x off : Int} (tgt : Nat) (hd : decode k.2.1 pc = .ok (.tableswitch dflt lo hi offs, len)) (hx : jR x) (h1 : lo ≤ x) (h2 : x ≤ hi) (ho : offs[(x - lo).toNat]? = some off) (ht : (pc : Int) + off = (tgt : Int)) (h : J G l d k tgt ls st N F A post) : J G l d k pc ls (vI x :: st) N F A post :=
  J.go (fun X _ _ _ w => lv_tableIn X.1 X.2.1 hd (by rw [i32_toInt hx]; omega) (by rw [i32_toInt hx]; omega) (by rw [i32_toInt hx]; exact ho) ht w) h
/-! bits -/
theorem i32_and {x : Int} {m : Int} (n : Nat) (hn : n ≤ 30) (hm : (Int32.ofInt m).toBitVec.toNat = 2 ^ n - 1) : Int32.ofInt x &&& Int32.ofInt m = Int32.ofInt (x % (2 ^ n : Nat)) := by
  rw [pk_and (Int32.ofInt x) n hm]
  unfold nI
  rw [← Int32.ofInt_eq_ofNat]
  congr 1
  have e : (Int32.ofInt x).toBitVec = BitVec.ofInt 32 x := rfl
  rw [e, BitVec.toNat_ofInt]
  have hp : (2 ^ n : Nat) ∣ 2 ^ 32 := Nat.pow_dvd_pow 2 (by omega)
  have hp0 : (0 : Int) < ((2 ^ n : Nat) : Int) := by exact_mod_cast Nat.two_pow_pos n
  have h0 : 0 ≤ x % ((2 ^ 32 : Nat) : Int) := Int.emod_nonneg _ (by decide)
  rw [Int.natCast_emod, Int.toNat_of_nonneg h0]
  exact Int.emod_emod_of_dvd x (Int.natCast_dvd_natCast.mpr hp)
theorem j_iand {x m : Int} (n : Nat) (hn : n ≤ 30) (hm : (Int32.ofInt m).toBitVec.toNat = 2 ^ n - 1) (hd : decode k.2.1 pc = .ok (.iand, 1)) (h : J G l d k (pc + 1) ls (vI (x % (2 ^ n : Nat)) :: st) N F A post) : J G l d k pc ls (vI m :: vI x :: st) N F A post :=
  J.go (fun X _ _ _ w => lv_iand X.1 X.2.1 hd (by rw [i32_and n hn hm]; exact w)) h
end JR
