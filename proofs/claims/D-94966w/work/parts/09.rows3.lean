set_option maxRecDepth 100000
/-! J's rows: arrays, new -/
section JA
variable {G : jG} {l : Launch} {d : Nat} {k : jM} {pc : Nat} {ls st : List Value} {N : jSh} {F : jFl} {A : jAr} {post : jPo}
theorem j_iald {a n : Nat} {i : Int} (hd : decode k.2.1 pc = .ok (.iaload, 1)) (ht : jtg N a = 102) (hn : jln N a = n) (hi : 0 ≤ i ∧ i < (n : Int)) (h : J G l d k (pc + 1) ls (vI (A a i) :: st) N F A post) : J G l d k pc ls (vI i :: .ref a :: st) N F A post :=
  J.go (fun {p e R s m args below meth c H locs cells slots Q ar} X hRep _ _ w => by
    obtain ⟨hx, hb, -⟩ := X
    obtain ⟨cell, h1, h2, h3, h4, h5, h6, -, h8⟩ := hRep.2.2 a .int (by rw [ht]; rfl)
    rw [hn] at h4 h5 h8
    rw [ht] at h8
    have e : (i.toNat : Int) = i := Int.toNat_of_nonneg hi.1
    refine W.iald (v := vI (A a i)) hx hb h1 h2 h3 (jin h4 h5 hi) ?_ rfl rfl hd w
    rw [i32_nat hi.1 (by omega)]
    have h9 := h8 i.toNat (by omega)
    rw [e] at h9
    exact h9) h
theorem j_lald {a n : Nat} {i : Int} (hd : decode k.2.1 pc = .ok (.laload, 1)) (ht : jtg N a = 103) (hn : jln N a = n) (hi : 0 ≤ i ∧ i < (n : Int)) (h : J G l d k (pc + 1) ls (vL (A a i) :: st) N F A post) : J G l d k pc ls (vI i :: .ref a :: st) N F A post :=
  J.go (fun {p e R s m args below meth c H locs cells slots Q ar} X hRep _ _ w => by
    obtain ⟨hx, hb, -⟩ := X
    obtain ⟨cell, h1, h2, h3, h4, h5, h6, -, h8⟩ := hRep.2.2 a .long (by rw [ht]; rfl)
    rw [hn] at h4 h5 h8
    rw [ht] at h8
    have e : (i.toNat : Int) = i := Int.toNat_of_nonneg hi.1
    refine W.lald (v := vL (A a i)) hx hb h1 h2 h3 (jin h4 h5 hi) ?_ rfl rfl hd w
    rw [i32_nat hi.1 (by omega)]
    have h9 := h8 i.toNat (by omega)
    rw [e] at h9
    exact h9) h
theorem j_zald {a n : Nat} {i : Int} (hd : decode k.2.1 pc = .ok (.baload, 1)) (ht : jtg N a = 105) (hn : jln N a = n) (hi : 0 ≤ i ∧ i < (n : Int)) (h : J G l d k (pc + 1) ls (vI (A a i) :: st) N F A post) : J G l d k pc ls (vI i :: .ref a :: st) N F A post :=
  J.go (fun {p e R s m args below meth c H locs cells slots Q ar} X hRep _ _ w => by
    obtain ⟨hx, hb, -⟩ := X
    obtain ⟨cell, h1, h2, h3, h4, h5, h6, -, h8⟩ := hRep.2.2 a .boolean (by rw [ht]; rfl)
    rw [hn] at h4 h5 h8
    rw [ht] at h8
    have e : (i.toNat : Int) = i := Int.toNat_of_nonneg hi.1
    refine W.zald (v := vI (A a i)) hx hb h1 h2 h3 (jin h4 h5 hi) ?_ rfl rfl hd w
    rw [i32_nat hi.1 (by omega)]
    have h9 := h8 i.toNat (by omega)
    rw [e] at h9
    exact h9) h
theorem j_bald {a n : Nat} {i : Int} (hd : decode k.2.1 pc = .ok (.baload, 1)) (ht : jtg N a = 108) (hn : jln N a = n) (hi : 0 ≤ i ∧ i < (n : Int)) (h : J G l d k (pc + 1) ls (vI (A a i) :: st) N F A post) : J G l d k pc ls (vI i :: .ref a :: st) N F A post :=
  J.go (fun {p e R s m args below meth c H locs cells slots Q ar} X hRep _ _ w => by
    obtain ⟨hx, hb, -⟩ := X
    obtain ⟨cell, h1, h2, h3, h4, h5, h6, -, h8⟩ := hRep.2.2 a .byte (by rw [ht]; rfl)
    rw [hn] at h4 h5 h8
    rw [ht] at h8
    have e : (i.toNat : Int) = i := Int.toNat_of_nonneg hi.1
    refine W.bald (v := vI (A a i)) hx hb h1 h2 h3 (jin h4 h5 hi) ?_ rfl rfl hd w
    rw [i32_nat hi.1 (by omega)]
    have h9 := h8 i.toNat (by omega)
    rw [e] at h9
    exact h9) h
theorem j_cald {a n : Nat} {i : Int} (hd : decode k.2.1 pc = .ok (.caload, 1)) (ht : jtg N a = 111) (hn : jln N a = n) (hi : 0 ≤ i ∧ i < (n : Int)) (h : J G l d k (pc + 1) ls (vI (A a i) :: st) N F A post) : J G l d k pc ls (vI i :: .ref a :: st) N F A post :=
  J.go (fun {p e R s m args below meth c H locs cells slots Q ar} X hRep _ _ w => by
    obtain ⟨hx, hb, -⟩ := X
    obtain ⟨cell, h1, h2, h3, h4, h5, h6, -, h8⟩ := hRep.2.2 a .char (by rw [ht]; rfl)
    rw [hn] at h4 h5 h8
    rw [ht] at h8
    have e : (i.toNat : Int) = i := Int.toNat_of_nonneg hi.1
    refine W.cald (v := vI (A a i)) hx hb h1 h2 h3 (jin h4 h5 hi) ?_ rfl rfl hd w
    rw [i32_nat hi.1 (by omega)]
    have h9 := h8 i.toNat (by omega)
    rw [e] at h9
    exact h9) h
theorem j_aald {a n t : Nat} {C : String} {i : Int} {v : Value} (hd : decode k.2.1 pc = .ok (.aaload, 1)) (ht : jtg N a = t) (hty : jty t = some (.object C)) (hn : jln N a = n) (hi : 0 ≤ i ∧ i < (n : Int)) (hv : jval t (A a i) = v) (h : J G l d k (pc + 1) ls (v :: st) N F A post) : J G l d k pc ls (vI i :: .ref a :: st) N F A post :=
  J.go (fun {p e R s m args below meth c H locs cells slots Q ar} X hRep _ _ w => by
    obtain ⟨hx, hb, -⟩ := X
    obtain ⟨cell, h1, h2, h3, h4, h5, h6, -, h8⟩ := hRep.2.2 a (.object C) (by rw [ht]; exact hty)
    rw [hn] at h4 h5 h8
    rw [ht] at h8
    have e : (i.toNat : Int) = i := Int.toNat_of_nonneg hi.1
    refine W.aald (v := v) hx hb h1 h2 rfl h3 (jin h4 h5 hi) ?_ rfl rfl hd w
    rw [i32_nat hi.1 (by omega), ← hv]
    have h9 := h8 i.toNat (by omega)
    rw [e] at h9
    exact h9) h
theorem j_alen {a n : Nat} {ty : FieldType} (hd : decode k.2.1 pc = .ok (.arraylength, 1)) (hty : jty (jtg N a) = some ty) (hn : jln N a = n) (h : J G l d k (pc + 1) ls (vI (n : Int) :: st) N F A post) : J G l d k pc ls (.ref a :: st) N F A post :=
  J.go (fun {p e R s m args below meth c H locs cells slots Q ar} X hRep _ _ w => by
    obtain ⟨hx, hb, -⟩ := X
    obtain ⟨cell, h1, h2, h3, h4, h5, h6, -, h8⟩ := hRep.2.2 a ty hty
    rw [hn] at h6
    refine W.alen hx hb h1 h2 (n := Int32.ofInt (n : Int)) ?_ rfl rfl hd w
    rw [h6, Int32.ofInt_eq_ofNat]) h
theorem jisA {s : State} {cell : Cell} {ty : FieldType} {i : Nat} {v : Value} (h : s.isArrayOf cell ty) : s.isArrayOf (cell.setSlot i v) ty := h
theorem jRep.putA {s : State} {H H2 : Heap} {a t : Nat} {ty : FieldType} {cell : Cell} {i z : Int} (hRep : jRep G s N F A H) (ht : jtg N a = t) (hty : jty t = some ty) (h1 : H[a]? = some cell) (hi : 0 ≤ i ∧ i < (jln N a : Int))
    (e1 : H2[a]? = some (cell.setSlot i.toNat (jval t z))) (e2 : H2.size = H.size) (e3 : ∀ q, q ≠ a → H2[q]? = H[q]?) : jRep G s N F (upA A a i z) H2 := by
  refine ⟨by rw [e2]; exact hRep.1, fun b c hb => ?_, fun b ty2 hb => ?_⟩
  · have hba : b ≠ a := by
      intro e
      subst e
      rw [ht] at hb
      rw [jcls_ty hb] at hty
      cases hty
    obtain ⟨cb, g1, g2⟩ := hRep.2.1 b c hb
    exact ⟨cb, by rw [e3 b hba]; exact g1, g2⟩
  · obtain ⟨cb, g1, g2, g3, g4, g5, g6, g7, g8⟩ := hRep.2.2 b ty2 hb
    by_cases hba : b = a
    · subst hba
      cases Option.some.inj (g1.symm.trans h1)
      have hsz : (cell.setSlot i.toNat (jval t z)).slots.size = cell.slots.size := by simp [Cell.setSlot]
      refine ⟨_, e1, g2, g3, by rw [hsz]; exact g4, g5, by rw [hsz]; exact g6, fun q => ⟨(g7 q).1, (g7 q).2.1, by rw [hsz]; exact (g7 q).2.2⟩, fun j hj => ?_⟩
      by_cases hji : j = i.toNat
      · subst hji
        rw [Cell.slots_setSlot_self _ (by omega), ht]
        rw [Int.toNat_of_nonneg hi.1, upA_s]
      · rw [slot_ne _ _ (Ne.symm hji), g8 j hj, upA_i (by omega)]
    · refine ⟨cb, by rw [e3 b hba]; exact g1, g2, g3, g4, g5, g6, g7, fun j hj => ?_⟩
      rw [g8 j hj, upA_a hba]
theorem j_iast {a n : Nat} {i z : Int} (hd : decode k.2.1 pc = .ok (.iastore, 1)) (ht : jtg N a = 102) (hB : gB G ≤ a) (hn : jln N a = n) (hi : 0 ≤ i ∧ i < (n : Int)) (h : J G l d k (pc + 1) ls st N F (upA A a i z) post) : J G l d k pc ls (vI z :: vI i :: .ref a :: st) N F A post :=
  J.goW rfl rfl (fun {p e R s m args below meth c H locs cells slots Q ar} X hRep hS0 _ w => by
    obtain ⟨hx, hb, -⟩ := X
    obtain ⟨cell, h1, h2, h3, h4, h5, h6, -, h8⟩ := hRep.2.2 a .int (by rw [ht]; rfl)
    rw [hn] at h4 h5
    refine W.iast hx hb h1 h2 h3 (jin h4 h5 hi) rfl rfl hd fun H2 e1 e2 e3 => ?_
    rw [i32_nat hi.1 (by omega)] at e1
    
    exact w H2 _ (jRep.putA hRep ht rfl h1 (by rw [hn]; exact hi) e1 e2 e3) (hS0.put e2 e3 hB)) h
theorem j_last {a n : Nat} {i z : Int} (hd : decode k.2.1 pc = .ok (.lastore, 1)) (ht : jtg N a = 103) (hB : gB G ≤ a) (hn : jln N a = n) (hi : 0 ≤ i ∧ i < (n : Int)) (h : J G l d k (pc + 1) ls st N F (upA A a i z) post) : J G l d k pc ls (vL z :: vI i :: .ref a :: st) N F A post :=
  J.goW rfl rfl (fun {p e R s m args below meth c H locs cells slots Q ar} X hRep hS0 _ w => by
    obtain ⟨hx, hb, -⟩ := X
    obtain ⟨cell, h1, h2, h3, h4, h5, h6, -, h8⟩ := hRep.2.2 a .long (by rw [ht]; rfl)
    rw [hn] at h4 h5
    refine W.last hx hb h1 h2 h3 (jin h4 h5 hi) rfl rfl hd fun H2 e1 e2 e3 => ?_
    rw [i32_nat hi.1 (by omega)] at e1
    
    exact w H2 _ (jRep.putA hRep ht rfl h1 (by rw [hn]; exact hi) e1 e2 e3) (hS0.put e2 e3 hB)) h
theorem nr_bool {z : Int} (hz : z = 0 ∨ z = 1) : narrow .boolean (.int (Int32.ofInt z)) = vI z := by
  rcases hz with rfl | rfl <;> decide
theorem nr_byte {z : Int} (hz : -128 ≤ z ∧ z ≤ 127) : narrow .byte (.int (Int32.ofInt z)) = vI z := by
  show Value.int (Int32.ofInt z).toInt8.toInt32 = vI z
  congr 1
  apply Int32.toInt_inj.mp
  rw [Int8.toInt_toInt32, Int32.toInt_toInt8, i32_toInt (by omega)]
  exact Int.bmod_eq_of_le (by omega) (by omega)
theorem nr_char {z : Int} (hz : 0 ≤ z ∧ z ≤ 65535) : narrow .char (.int (Int32.ofInt z)) = vI z := by
  have h := (pk_charN (q := z.toNat) (by omega)).1
  have e : nI z.toNat = Int32.ofInt z := by
    unfold nI
    rw [← Int32.ofInt_eq_ofNat, Int.toNat_of_nonneg hz.1]
  rw [e] at h
  exact h
theorem ft_bool {z : Int} (hz : z = 0 ∨ z = 1) : fits .boolean (vI z) = true := by
  rcases hz with rfl | rfl <;> decide
theorem ft_byte {z : Int} (hz : -128 ≤ z ∧ z ≤ 127) : fits .byte (vI z) = true := by
  have h := nr_byte hz
  have h2 : (Int32.ofInt z).toInt8.toInt32 = Int32.ofInt z := Value.int.inj h
  have h3 := pk_fb (Int32.ofInt z)
  rw [h2] at h3
  exact h3
theorem ft_char {z : Int} (hz : 0 ≤ z ∧ z ≤ 65535) : fits .char (vI z) = true := by
  have h := (pk_charN (q := z.toNat) (by omega)).2
  have e : nI z.toNat = Int32.ofInt z := by
    unfold nI
    rw [← Int32.ofInt_eq_ofNat, Int.toNat_of_nonneg hz.1]
  rw [e] at h
  exact h
theorem j_zast {a n : Nat} {i z : Int} (hd : decode k.2.1 pc = .ok (.bastore, 1)) (ht : jtg N a = 105) (hB : gB G ≤ a) (hn : jln N a = n) (hi : 0 ≤ i ∧ i < (n : Int)) (hz : z = 0 ∨ z = 1) (h : J G l d k (pc + 1) ls st N F (upA A a i z) post) : J G l d k pc ls (vI z :: vI i :: .ref a :: st) N F A post :=
  J.goW rfl rfl (fun {p e R s m args below meth c H locs cells slots Q ar} X hRep hS0 _ w => by
    obtain ⟨hx, hb, -⟩ := X
    obtain ⟨cell, h1, h2, h3, h4, h5, h6, -, h8⟩ := hRep.2.2 a .boolean (by rw [ht]; rfl)
    rw [hn] at h4 h5
    refine W.zast hx hb h1 h2 h3 (jin h4 h5 hi) rfl rfl hd fun H2 e1 e2 e3 => ?_
    rw [i32_nat hi.1 (by omega)] at e1
    rw [nr_bool hz] at e1
    exact w H2 _ (jRep.putA hRep ht rfl h1 (by rw [hn]; exact hi) e1 e2 e3) (hS0.put e2 e3 hB)) h
theorem j_bast {a n : Nat} {i z : Int} (hd : decode k.2.1 pc = .ok (.bastore, 1)) (ht : jtg N a = 108) (hB : gB G ≤ a) (hn : jln N a = n) (hi : 0 ≤ i ∧ i < (n : Int)) (hz : -128 ≤ z ∧ z ≤ 127) (h : J G l d k (pc + 1) ls st N F (upA A a i z) post) : J G l d k pc ls (vI z :: vI i :: .ref a :: st) N F A post :=
  J.goW rfl rfl (fun {p e R s m args below meth c H locs cells slots Q ar} X hRep hS0 _ w => by
    obtain ⟨hx, hb, -⟩ := X
    obtain ⟨cell, h1, h2, h3, h4, h5, h6, -, h8⟩ := hRep.2.2 a .byte (by rw [ht]; rfl)
    rw [hn] at h4 h5
    refine W.bast hx hb h1 h2 h3 (jin h4 h5 hi) rfl rfl hd fun H2 e1 e2 e3 => ?_
    rw [i32_nat hi.1 (by omega)] at e1
    rw [nr_byte hz] at e1
    exact w H2 _ (jRep.putA hRep ht rfl h1 (by rw [hn]; exact hi) e1 e2 e3) (hS0.put e2 e3 hB)) h
theorem j_cast {a n : Nat} {i z : Int} (hd : decode k.2.1 pc = .ok (.castore, 1)) (ht : jtg N a = 111) (hB : gB G ≤ a) (hn : jln N a = n) (hi : 0 ≤ i ∧ i < (n : Int)) (hz : 0 ≤ z ∧ z ≤ 65535) (h : J G l d k (pc + 1) ls st N F (upA A a i z) post) : J G l d k pc ls (vI z :: vI i :: .ref a :: st) N F A post :=
  J.goW rfl rfl (fun {p e R s m args below meth c H locs cells slots Q ar} X hRep hS0 _ w => by
    obtain ⟨hx, hb, -⟩ := X
    obtain ⟨cell, h1, h2, h3, h4, h5, h6, -, h8⟩ := hRep.2.2 a .char (by rw [ht]; rfl)
    rw [hn] at h4 h5
    refine W.cast hx hb h1 h2 h3 (jin h4 h5 hi) rfl rfl hd fun H2 e1 e2 e3 => ?_
    rw [i32_nat hi.1 (by omega)] at e1
    rw [nr_char hz] at e1
    exact w H2 _ (jRep.putA hRep ht rfl h1 (by rw [hn]; exact hi) e1 e2 e3) (hS0.put e2 e3 hB)) h
/-- a reference into an array: of the array's own class, or castable to it -/
theorem j_aast {a n t b ci : Nat} {C : String} {cl : jC} {i : Int} (hd : decode k.2.1 pc = .ok (.aastore, 1)) (ht : jtg N a = t) (hty : jty t = some (.object C)) (hB : gB G ≤ a) (hn : jln N a = n) (hi : 0 ≤ i ∧ i < (n : Int)) (htb : jtg N b = ci) (hc : jcls ci = some cl) (hcs : C = cl.1 ∨ Cond.castable cl.1 C ∈ jnw) (hk : t % 3 = 2) (h : J G l d k (pc + 1) ls st N F (upA A a i (b : Int)) post) : J G l d k pc ls (.ref b :: vI i :: .ref a :: st) N F A post :=
  J.goW rfl rfl (fun {p e R s m args below meth c H locs cells slots Q ar} X hRep hS0 _ w => by
    obtain ⟨hx, hb, -, -, -, -, -, -, hK, -⟩ := X
    obtain ⟨cell, h1, h2, h3, h4, h5, h6, h7, h8⟩ := hRep.2.2 a (.object C) (by rw [ht]; exact hty)
    rw [hn] at h4 h5
    obtain ⟨cv, g1, g2, g3, g4, -⟩ := hRep.2.1 b cl (by rw [htb]; exact hc)
    obtain ⟨-, hfc, kC, hkC, hkind⟩ := hK.1 ci cl hc
    obtain ⟨kA, comp, k1, k2, k3, -⟩ := (hK.2.1 t _ hty).2
    obtain ⟨hc0, hc1, -⟩ := h7 hB
    rw [ht] at hc1
    rw [htb] at g2
    obtain ⟨kcomp, hkcomp, -⟩ := Vm.findClass_spec k3
    have hasg : s.vm.assignable (gC G ci) comp = true := by
      rcases hcs with e | e
      · subst e
        exact vb_asgS comp _ k3 hfc
      · exact vb_asgC (hK.2.2.1 _ e) comp _ k3 hfc
    have hin := jin h4 h5 hi
    refine W.aast hx hb h1 (fun q e => by rw [hc0] at e; cases e) h3 (by rw [hc1]; exact k1) k2 rfl hkcomp ⟨fun e => hin (Or.inl e), Nat.not_le.mp fun e => hin (Or.inr e)⟩ g1 (fun q e => by rw [e] at g3; cases g3) (by rw [g2]; exact hkC) (by rw [g2]; exact hasg) rfl rfl hd fun H2 e1 e2 e3 => ?_
    rw [i32_nat hi.1 (by omega)] at e1
    refine w H2 _ (jRep.putA hRep ht hty h1 (by rw [hn]; exact hi) ?_ e2 e3) (hS0.put e2 e3 hB)
    rw [jval_2 hk, vR_nat]
    exact e1) h
theorem j_aastN {a n t : Nat} {C : String} {i : Int} (hd : decode k.2.1 pc = .ok (.aastore, 1)) (ht : jtg N a = t) (hty : jty t = some (.object C)) (hB : gB G ≤ a) (hn : jln N a = n) (hi : 0 ≤ i ∧ i < (n : Int)) (hk : t % 3 = 2) (h : J G l d k (pc + 1) ls st N F (upA A a i (-1)) post) : J G l d k pc ls (.null :: vI i :: .ref a :: st) N F A post :=
  J.goW rfl rfl (fun {p e R s m args below meth c H locs cells slots Q ar} X hRep hS0 _ w => by
    obtain ⟨hx, hb, -⟩ := X
    obtain ⟨cell, h1, h2, h3, h4, h5, h6, h7, h8⟩ := hRep.2.2 a (.object C) (by rw [ht]; exact hty)
    rw [hn] at h4 h5
    refine va_WaastN hx hb h1 h2 h3 (jin h4 h5 hi) rfl rfl hd fun H2 e1 e2 e3 => ?_
    rw [i32_nat hi.1 (by omega)] at e1
    refine w H2 _ (jRep.putA hRep ht hty h1 (by rw [hn]; exact hi) ?_ e2 e3) (hS0.put e2 e3 hB)
    rw [jval_2 hk, vR_neg (by decide)]
    exact e1) h
/-! new cells -/
theorem jnew_tg {t n sl a : Nat} {o : Int} : jtg (jnew N t n sl o) a = if a = jnx N then t else jtg N a := rfl
theorem jnew_ln {t n sl a : Nat} {o : Int} : jln (jnew N t n sl o) a = if a = jnx N then n else jln N a := rfl
theorem jnew_fn {t n sl f a : Nat} {o : Int} : jfn (jnew N t n sl o) f a = if a = jnx N then (if f = 0 then o else jdf f) else jfn N f a := rfl
theorem jnew_nx {t n sl : Nat} {o : Int} : jnx (jnew N t n sl o) = jnx N + 1 := rfl
theorem jnew_su {t n sl : Nat} {o : Int} : jsu (jnew N t n sl o) = jsu N + sl := rfl
theorem nwF_r {g b : Nat} : nwF N F g b = if b = jnx N then jdf g else F g b := rfl
theorem nwA_r {t b : Nat} {i : Int} : nwA N t A b i = if b = jnx N then jdf t else A b i := rfl
/-- the fields that a class's object has bear numbers above 0 -/
theorem jcls_pos : ∀ (i : Nat) (c : jC), jcls i = some c → ∀ (k fid : Nat) (fin : Bool), c.2.2.2[k]? = some (fid, fin) → fid ≠ 0 := by
  have key : jclL.all (fun c => c.2.2.2.all (fun q => decide (q.1 ≠ 0))) = true := by decide +kernel
  intro i c h k fid fin hk
  unfold jcls at h
  by_cases q : i = 0 ∨ i = 13
  · rw [if_pos q] at h; cases h
  · rw [if_neg q] at h
    have h1 := List.all_eq_true.mp key c (List.mem_of_getElem? h)
    exact of_decide_eq_true (List.all_eq_true.mp h1 (fid, fin) (List.mem_of_getElem? hk))
theorem jRep.born {s : State} {H H2 : Heap} {t n sl : Nat} {o : Int} (hRep : jRep G s N F A H) (e2 : H2.size = H.size + 1) (e3 : ∀ q, q < H.size → H2[q]? = H[q]?)
    (ho : ∀ c, jcls t = some c → jobj G c t H.size (jnew N t n sl o) (nwF N F) H2) (ha : ∀ ty, jty t = some ty → jarr G s ty t H.size (jnew N t n sl o) (nwA N t A) H2) (A2 : jAr) (hA2 : A2 = nwA N t A ∨ (A2 = A ∧ jty t = none)) : jRep G s (jnew N t n sl o) (nwF N F) A2 H2 := by
  have hnx : jnx N = H.size := hRep.1
  refine ⟨by rw [e2, jnew_nx, hnx], fun b c hb => ?_, fun b ty hb => ?_⟩
  · rw [jnew_tg] at hb ⊢
    by_cases hbn : b = jnx N
    · rw [if_pos hbn] at hb ⊢
      rw [hbn, hnx]
      exact ho c hb
    · rw [if_neg hbn] at hb ⊢
      obtain ⟨cb, g1, g2, g3, g4, g5, g6⟩ := hRep.2.1 b c hb
      have hlt : b < H.size := (Array.getElem?_eq_some_iff.mp g1).1
      refine ⟨cb, by rw [e3 b hlt]; exact g1, g2, g3, g4, g5, fun k2 f2 n2 hk2 => ?_⟩
      rw [g6 k2 f2 n2 hk2, jnew_fn, if_neg hbn, nwF_r, if_neg hbn]
  · rw [jnew_tg] at hb ⊢
    by_cases hbn : b = jnx N
    · rw [if_pos hbn] at hb ⊢
      rw [hbn, hnx]
      rcases hA2 with rfl | ⟨-, hn⟩
      · exact ha ty hb
      · rw [hn] at hb; cases hb
    · rw [if_neg hbn] at hb ⊢
      obtain ⟨cb, g1, g2, g3, g4, g5, g6, g7, g8⟩ := hRep.2.2 b ty hb
      have hlt : b < H.size := (Array.getElem?_eq_some_iff.mp g1).1
      have hl : jln (jnew N t n sl o) b = jln N b := by rw [jnew_ln, if_neg hbn]
      have hA : ∀ i, A2 b i = A b i := by
        intro i
        rcases hA2 with rfl | ⟨rfl, -⟩
        · rw [nwA_r, if_neg hbn]
        · rfl
      refine ⟨cb, by rw [e3 b hlt]; exact g1, g2, g3, by rw [hl]; exact g4, by rw [hl]; exact g5, by rw [hl]; exact g6, by rw [hl]; exact g7, fun j hj => ?_⟩
      rw [hl] at hj
      rw [g8 j hj, hA]
theorem j_new {i ci : Nat} {cl : jC} (o : Int) (hd : decode k.2.1 pc = .ok (.new i, 3)) (hc : jcls ci = some cl) (hl : Cond.classLink k.1.cls i cl.1 ∈ lw_all) (h : J G l d k (pc + 3) ls (.ref (jnx N) :: st) (jnew N ci 0 cl.2.2.1 o) (nwF N F) A post) : J G l d k pc ls st N F A post :=
  J.goN (n := cl.2.2.1) (N2 := jnew N ci 0 cl.2.2.1 o) (F2 := nwF N F) (A2 := A) rfl rfl (fun {p e R s m args below meth c H locs cells slots Q ar} X hRep hS0 _ hcs hss w => by
    obtain ⟨hx, hb, hr, -, -, hown, -, hts, hK, -, hB, -⟩ := X
    obtain ⟨hin, hnm, hlen, hnd, hins, hini, ty, hty, hdv⟩ := jcls_ok ci cl hc
    have hKn := hK.1 ci cl hc
    have hnx : jnx N = H.size := hRep.1
    rw [hnx] at w
    refine W.newcK hx hb hown (hts _ hl) (hts _ hins) (hts _ hini) rfl hd hcs hss hKn.2.1 rfl fun H2 kC hkC e1 e2 e3 => ?_
    refine w H2 (jRep.born hRep e2 e3 (fun c hc2 => ?_) (fun ty2 h2 => ?_) A (Or.inr ⟨rfl, jcls_ty hc⟩)) ⟨by rw [e2]; exact Nat.le_succ_of_le hS0.1, fun q h1 h2 => (e3 q (Nat.lt_of_lt_of_le h1 hS0.1)).trans (hS0.2.1 q h1 h2), hS0.2.2⟩
    · cases Option.some.inj (hc2.symm.trans hc)
      obtain ⟨cell, g1, g2, g3, g4⟩ := u_born ty hts hin hKn hkC e1 hty
      refine ⟨cell, g1, g2, by rw [g3]; rfl, (by rw [g3]; exact fun e => by cases e), fun _ => ⟨g3, by rw [Option.some.inj (g1.symm.trans e1)]; exact ⟨rfl, rfl⟩⟩, fun k2 f2 n2 hk2 => ?_⟩
      have hlt : k2 < cl.2.2.1 := Nat.lt_of_lt_of_le (List.getElem?_eq_some_iff.mp hk2).1 hlen
      rw [g4 k2 hlt]
      show some (defaultValue (ty k2)) = _
      rw [(hdv k2 f2 n2 hk2).1]
      cases n2
      · show _ = some (jval f2 (nwF N F f2 H.size))
        rw [nwF_r, if_pos hnx.symm]
      · show _ = some (jval f2 (jfn (jnew N ci 0 cl.2.2.1 o) f2 H.size))
        rw [jnew_fn, if_pos hnx.symm, if_neg (jcls_pos ci cl hc k2 f2 true hk2)]
    · rw [jcls_ty hc] at h2; cases h2) h
theorem jarr_born {s : State} {H2 : Heap} {h t n : Nat} {ty : FieldType} {o : Int} (hnx : jnx N = h) (hn : n < 2147483648) (hAr : ArrOfT s (gA G t) ty) (e1 : H2[h]? = some (arrV (gA G t) n (fun _ => jval t (jdf t)))) : jarr G s ty t h (jnew N t n n o) (nwA N t A) H2 := by
  have hl : jln (jnew N t n n o) h = n := by rw [jnew_ln, if_pos hnx.symm]
  refine ⟨_, e1, hAr _ _, (fun e => by cases e), by rw [hl, arrV_size]; exact Nat.le_refl _, by rw [hl]; exact hn, by rw [hl, arrV_size], fun _ => ⟨rfl, rfl, by rw [hl, arrV_size]⟩, fun j hj => ?_⟩
  rw [hl] at hj
  rw [arrV_read _ _ hj, nwA_r, if_pos hnx.symm]
theorem j_newa {t n : Nat} {i : Int} {ty : FieldType} {at_ : ArrayType} (o : Int) (hd : decode k.2.1 pc = .ok (.newarray at_, 2)) (hty : jty t = some ty) (he : newarray.typeOf at_ = ty) (hdv : defaultValue ty = jval t (jdf t)) (hprim : ∀ C, ty ≠ .object C) (hw : Cond.arrayClass ty ∈ lw_all) (hi : i = (n : Int)) (hbytes : n * componentBytes ty ≤ 536870912) (hn : n ≤ 536870912) (h : J G l d k (pc + 2) ls (.ref (jnx N) :: st) (jnew N t n n o) (nwF N F) (nwA N t A) post) : J G l d k pc ls (vI i :: st) N F A post :=
  J.goN (n := n) (N2 := jnew N t n n o) (F2 := nwF N F) (A2 := nwA N t A) rfl rfl (fun {p e R s m args below meth c H locs cells slots Q ar} X hRep hS0 _ hcs hss w => by
    obtain ⟨hx, hb, hr, -, -, hown, -, hts, hK, -, hB, -⟩ := X
    have hnx : jnx N = H.size := hRep.1
    rw [hnx] at w
    subst hi
    subst he
    refine va_newaK hx hb (hts _ hw) rfl hd (N := n) rfl (by
      intro e
      have := (i32_lt (x := (n : Int)) (y := 0) (by omega) (by omega)).mp e
      omega) (by rw [i32_nat (by omega) (by omega)]; rfl) hbytes hcs hss rfl fun H2 cA e1 e2 e3 hAr hNm => ?_
    have hcA : cA = gA G t := by
      have h1 := (hK.2.1 t _ hty).2
      have h2 : s.vm.findClass ("[" ++ (newarray.typeOf at_).toString) = some (gA G t) := by
        revert h1
        generalize hx2 : newarray.typeOf at_ = ty2
        intro h1
        cases ty2 <;> first | exact h1 | exact absurd hx2 (hprim _)
      exact Option.some.inj (hNm.symm.trans h2)
    subst hcA
    refine w H2 (jRep.born hRep e2 e3 (fun c hc2 => ?_) (fun ty2 h2 => ?_) _ (Or.inl rfl)) ⟨by rw [e2]; exact Nat.le_succ_of_le hS0.1, fun q h1 h2 => (e3 q (Nat.lt_of_lt_of_le h1 hS0.1)).trans (hS0.2.1 q h1 h2), hS0.2.2⟩
    · rw [jcls_ty hc2] at hty; cases hty
    · cases Option.some.inj (h2.symm.trans hty)
      refine jarr_born hnx (by omega) hAr ?_
      rw [← hdv]
      exact e1) h
theorem j_anew {t n ix : Nat} {i : Int} {C : String} (o : Int) (hd : decode k.2.1 pc = .ok (.anewarray ix, 3)) (hty : jty t = some (.object C)) (hk : t % 3 = 2) (hl : Cond.classLink k.1.cls ix C ∈ lw_all) (hao : C ∈ jao) (hi : i = (n : Int)) (hn : n * 4 ≤ 536870912) (h : J G l d k (pc + 3) ls (.ref (jnx N) :: st) (jnew N t n n o) (nwF N F) (nwA N t A) post) : J G l d k pc ls (vI i :: st) N F A post :=
  J.goN (n := n) (N2 := jnew N t n n o) (F2 := nwF N F) (A2 := nwA N t A) rfl rfl (fun {p e R s m args below meth c H locs cells slots Q ar} X hRep hS0 _ hcs hss w => by
    obtain ⟨hx, hb, hr, -, -, hown, -, hts, hK, -, hB, -⟩ := X
    have hnx : jnx N = H.size := hRep.1
    rw [hnx] at w
    subst hi
    have hnn : (Int32.ofInt (n : Int)).toNatClampNeg = n := by rw [i32_nat (by omega) (by omega)]; rfl
    refine W.anew hx hb hown (hts _ hl) (va_AO.use (hK.2.2.2 _ hao)) rfl hd rfl (by
      intro e
      have := (i32_lt (x := (n : Int)) (y := 0) (by omega) (by omega)).mp e
      omega) (by rw [hnn]; exact hn) hcs (by rw [hnn]; exact hss) fun cA kA comp f1 f2 f3 f4 => ?_
    rw [hnn]
    generalize hH2 : H.push ({ cls := cA, slots := Array.replicate n .null, vm := .none } : Cell) = H2
    have e2 : H2.size = H.size + 1 := by rw [← hH2, Array.size_push]
    have e1 : H2[H.size]? = some (arrV cA n (fun _ => .null)) := by rw [← hH2, Array.getElem?_push_size, ← arrV_new]
    have e3 : ∀ q : Nat, q < H.size → H2[q]? = H[q]? := fun q hq => by rw [← hH2, Array.getElem?_push, if_neg (Nat.ne_of_lt hq)]
    obtain ⟨kA2, comp2, k1, k2, k3, k4⟩ := (hK.2.1 t _ hty).2
    have hcA : cA = gA G t := Option.some.inj (f1.symm.trans k4)
    subst hcA
    refine w H2 (jRep.born hRep e2 e3 (fun c hc2 => ?_) (fun ty2 h2 => ?_) _ (Or.inl rfl)) ⟨by rw [e2]; exact Nat.le_succ_of_le hS0.1, fun q h1 h2 => (e3 q (Nat.lt_of_lt_of_le h1 hS0.1)).trans (hS0.2.1 q h1 h2), hS0.2.2⟩
    · rw [jcls_ty hc2] at hty; cases hty
    · cases Option.some.inj (h2.symm.trans hty)
      refine jarr_born hnx (by omega) (hK.2.1 t _ hty).1 ?_
      have hj : jval t (jdf t) = .null := by
        rw [jval_2 hk]
        unfold jdf
        rw [if_pos hk, vR_neg (by decide)]
      rw [hj]
      exact e1) h
end JA
