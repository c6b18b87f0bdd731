set_option maxRecDepth 100000
/-! rows over the heap, references as numbers: printed by gen/gen_rows5.py -/
theorem fit_R {ty : FieldType} (h : (∃ n, ty = .object n) ∨ ∃ t, ty = .array t) (z : Int) : fits ty (vR z) = true := by
  rcases vR_cases z with ⟨b, e⟩ | e <;> rw [e] <;> rcases h with ⟨n, rfl⟩ | ⟨t, rfl⟩ <;> rfl
theorem nr_R {ty : FieldType} (h : (∃ n, ty = .object n) ∨ ∃ t, ty = .array t) (z : Int) : narrow ty (vR z) = vR z := by
  rcases vR_cases z with ⟨b, e⟩ | e <;> rw [e] <;> rcases h with ⟨n, rfl⟩ | ⟨t, rfl⟩ <;> rfl
theorem vI_lt {x y : Int} (hx : jR x) (hy : jR y) (h : x ≤ y) : Int32.ofInt x ≤ Int32.ofInt y := (i32_le hx hy).mpr h
section JR5
variable {G : jG} {l : Launch} {d : Nat} {k : jM} {pc : Nat} {ls st : List Value} {N : jSh} {F : jFl} {A : jAr} {post : jPo}
theorem r_gI {z : Int} {a i ci kk fid : Nat} {dsc : String} (hd : decode k.2.1 pc = .ok (.getfield i, 3)) (hf : jLk k.1.cls i ci kk fid false dsc) (hz : z = (a : Int)) (ht : jtg N a = ci) (hk : fid % 3 = 0) (h : J G l d k (pc + 3) ls (vI (F fid a) :: st) N F A post) : J G l d k pc ls (vR z :: st) N F A post := by
  rw [vR_n hz]
  exact j_get hd hf ht (jval_0 hk _) h
theorem r_gL {z : Int} {a i ci kk fid : Nat} {dsc : String} (hd : decode k.2.1 pc = .ok (.getfield i, 3)) (hf : jLk k.1.cls i ci kk fid false dsc) (hz : z = (a : Int)) (ht : jtg N a = ci) (hk : fid % 3 = 1) (h : J G l d k (pc + 3) ls (vL (F fid a) :: st) N F A post) : J G l d k pc ls (vR z :: st) N F A post := by
  rw [vR_n hz]
  exact j_get hd hf ht (jval_1 hk _) h
theorem r_gR {z : Int} {a i ci kk fid : Nat} {dsc : String} (hd : decode k.2.1 pc = .ok (.getfield i, 3)) (hf : jLk k.1.cls i ci kk fid false dsc) (hz : z = (a : Int)) (ht : jtg N a = ci) (hk : fid % 3 = 2) (h : J G l d k (pc + 3) ls (vR (F fid a) :: st) N F A post) : J G l d k pc ls (vR z :: st) N F A post := by
  rw [vR_n hz]
  exact j_get hd hf ht (jval_2 hk _) h
theorem r_gIF {z : Int} {a i ci kk fid : Nat} {dsc : String} (hd : decode k.2.1 pc = .ok (.getfield i, 3)) (hf : jLk k.1.cls i ci kk fid true dsc) (hz : z = (a : Int)) (ht : jtg N a = ci) (hk : fid % 3 = 0) (h : J G l d k (pc + 3) ls (vI (jfn N fid a) :: st) N F A post) : J G l d k pc ls (vR z :: st) N F A post := by
  rw [vR_n hz]
  exact j_get hd hf ht (jval_0 hk _) h
theorem r_gLF {z : Int} {a i ci kk fid : Nat} {dsc : String} (hd : decode k.2.1 pc = .ok (.getfield i, 3)) (hf : jLk k.1.cls i ci kk fid true dsc) (hz : z = (a : Int)) (ht : jtg N a = ci) (hk : fid % 3 = 1) (h : J G l d k (pc + 3) ls (vL (jfn N fid a) :: st) N F A post) : J G l d k pc ls (vR z :: st) N F A post := by
  rw [vR_n hz]
  exact j_get hd hf ht (jval_1 hk _) h
theorem r_gRF {z : Int} {a i ci kk fid : Nat} {dsc : String} (hd : decode k.2.1 pc = .ok (.getfield i, 3)) (hf : jLk k.1.cls i ci kk fid true dsc) (hz : z = (a : Int)) (ht : jtg N a = ci) (hk : fid % 3 = 2) (h : J G l d k (pc + 3) ls (vR (jfn N fid a) :: st) N F A post) : J G l d k pc ls (vR z :: st) N F A post := by
  rw [vR_n hz]
  exact j_get hd hf ht (jval_2 hk _) h
theorem r_gIN {z : Int} {a i ci kk fid : Nat} {dsc : String} (hd : decode k.2.1 pc = .ok (.getfield i, 3)) (hf : jLkN k.1.cls i ci kk fid false dsc) (hz : z = (a : Int)) (ht : jtg N a = ci) (hk : fid % 3 = 0) (h : J G l d k (pc + 3) ls (vI (F fid a) :: st) N F A post) : J G l d k pc ls (vR z :: st) N F A post := by
  rw [vR_n hz]
  exact j_getN hd hf ht (jval_0 hk _) h
theorem r_gLN {z : Int} {a i ci kk fid : Nat} {dsc : String} (hd : decode k.2.1 pc = .ok (.getfield i, 3)) (hf : jLkN k.1.cls i ci kk fid false dsc) (hz : z = (a : Int)) (ht : jtg N a = ci) (hk : fid % 3 = 1) (h : J G l d k (pc + 3) ls (vL (F fid a) :: st) N F A post) : J G l d k pc ls (vR z :: st) N F A post := by
  rw [vR_n hz]
  exact j_getN hd hf ht (jval_1 hk _) h
theorem r_gRN {z : Int} {a i ci kk fid : Nat} {dsc : String} (hd : decode k.2.1 pc = .ok (.getfield i, 3)) (hf : jLkN k.1.cls i ci kk fid false dsc) (hz : z = (a : Int)) (ht : jtg N a = ci) (hk : fid % 3 = 2) (h : J G l d k (pc + 3) ls (vR (F fid a) :: st) N F A post) : J G l d k pc ls (vR z :: st) N F A post := by
  rw [vR_n hz]
  exact j_getN hd hf ht (jval_2 hk _) h
theorem r_gIFN {z : Int} {a i ci kk fid : Nat} {dsc : String} (hd : decode k.2.1 pc = .ok (.getfield i, 3)) (hf : jLkN k.1.cls i ci kk fid true dsc) (hz : z = (a : Int)) (ht : jtg N a = ci) (hk : fid % 3 = 0) (h : J G l d k (pc + 3) ls (vI (jfn N fid a) :: st) N F A post) : J G l d k pc ls (vR z :: st) N F A post := by
  rw [vR_n hz]
  exact j_getN hd hf ht (jval_0 hk _) h
theorem r_gLFN {z : Int} {a i ci kk fid : Nat} {dsc : String} (hd : decode k.2.1 pc = .ok (.getfield i, 3)) (hf : jLkN k.1.cls i ci kk fid true dsc) (hz : z = (a : Int)) (ht : jtg N a = ci) (hk : fid % 3 = 1) (h : J G l d k (pc + 3) ls (vL (jfn N fid a) :: st) N F A post) : J G l d k pc ls (vR z :: st) N F A post := by
  rw [vR_n hz]
  exact j_getN hd hf ht (jval_1 hk _) h
theorem r_gRFN {z : Int} {a i ci kk fid : Nat} {dsc : String} (hd : decode k.2.1 pc = .ok (.getfield i, 3)) (hf : jLkN k.1.cls i ci kk fid true dsc) (hz : z = (a : Int)) (ht : jtg N a = ci) (hk : fid % 3 = 2) (h : J G l d k (pc + 3) ls (vR (jfn N fid a) :: st) N F A post) : J G l d k pc ls (vR z :: st) N F A post := by
  rw [vR_n hz]
  exact j_getN hd hf ht (jval_2 hk _) h
theorem r_pI {z y : Int} {a i ci kk fid : Nat} (hd : decode k.2.1 pc = .ok (.putfield i, 3)) (hf : jLk k.1.cls i ci kk fid false "I") (hy : y = (a : Int)) (ht : jtg N a = ci) (hB : gB G ≤ a) (hk : fid % 3 = 0) (h : J G l d k (pc + 3) ls st N (upF F fid a z) A post) : J G l d k pc ls (vI z :: vR y :: st) N F A post := by
  rw [vR_n hy]
  exact j_put (ty := .int) hd hf ht hB (by decide) (jval_0 hk _) rfl rfl h
theorem r_pZ {z y : Int} {a i ci kk fid : Nat} (hd : decode k.2.1 pc = .ok (.putfield i, 3)) (hf : jLk k.1.cls i ci kk fid false "Z") (hy : y = (a : Int)) (ht : jtg N a = ci) (hB : gB G ≤ a) (hk : fid % 3 = 0) (hb : z = 0 ∨ z = 1) (h : J G l d k (pc + 3) ls st N (upF F fid a z) A post) : J G l d k pc ls (vI z :: vR y :: st) N F A post := by
  rw [vR_n hy]
  exact j_put (ty := .boolean) hd hf ht hB (by decide) (jval_0 hk _) (nr_bool hb) (ft_bool hb) h
theorem r_pC {z y : Int} {a i ci kk fid : Nat} (hd : decode k.2.1 pc = .ok (.putfield i, 3)) (hf : jLk k.1.cls i ci kk fid false "C") (hy : y = (a : Int)) (ht : jtg N a = ci) (hB : gB G ≤ a) (hk : fid % 3 = 0) (hb : 0 ≤ z ∧ z ≤ 65535) (h : J G l d k (pc + 3) ls st N (upF F fid a z) A post) : J G l d k pc ls (vI z :: vR y :: st) N F A post := by
  rw [vR_n hy]
  exact j_put (ty := .char) hd hf ht hB (by decide) (jval_0 hk _) (nr_char hb) (ft_char hb) h
theorem r_pB {z y : Int} {a i ci kk fid : Nat} (hd : decode k.2.1 pc = .ok (.putfield i, 3)) (hf : jLk k.1.cls i ci kk fid false "B") (hy : y = (a : Int)) (ht : jtg N a = ci) (hB : gB G ≤ a) (hk : fid % 3 = 0) (hb : -128 ≤ z ∧ z ≤ 127) (h : J G l d k (pc + 3) ls st N (upF F fid a z) A post) : J G l d k pc ls (vI z :: vR y :: st) N F A post := by
  rw [vR_n hy]
  exact j_put (ty := .byte) hd hf ht hB (by decide) (jval_0 hk _) (nr_byte hb) (ft_byte hb) h
theorem r_pJ {z y : Int} {a i ci kk fid : Nat} (hd : decode k.2.1 pc = .ok (.putfield i, 3)) (hf : jLk k.1.cls i ci kk fid false "J") (hy : y = (a : Int)) (ht : jtg N a = ci) (hB : gB G ≤ a) (hk : fid % 3 = 1) (h : J G l d k (pc + 3) ls st N (upF F fid a z) A post) : J G l d k pc ls (vL z :: vR y :: st) N F A post := by
  rw [vR_n hy]
  exact j_put (ty := .long) hd hf ht hB (by decide) (jval_1 hk _) rfl rfl h
theorem r_pR {z y : Int} {a i ci kk fid : Nat} {dsc : String} {ty : FieldType} (hd : decode k.2.1 pc = .ok (.putfield i, 3)) (hf : jLk k.1.cls i ci kk fid false dsc) (hy : y = (a : Int)) (ht : jtg N a = ci) (hB : gB G ≤ a) (hk : fid % 3 = 2) (hty : parseFieldDescriptor dsc = some ty) (hrt : (∃ n, ty = .object n) ∨ ∃ t, ty = .array t) (h : J G l d k (pc + 3) ls st N (upF F fid a z) A post) : J G l d k pc ls (vR z :: vR y :: st) N F A post := by
  rw [vR_n hy]
  exact j_put (ty := ty) hd hf ht hB hty (jval_2 hk _) (nr_R hrt z) (fit_R hrt z) h
theorem r_pIN {z y : Int} {a i ci kk fid : Nat} (hd : decode k.2.1 pc = .ok (.putfield i, 3)) (hf : jLkN k.1.cls i ci kk fid false "I") (hy : y = (a : Int)) (ht : jtg N a = ci) (hB : gB G ≤ a) (hk : fid % 3 = 0) (h : J G l d k (pc + 3) ls st N (upF F fid a z) A post) : J G l d k pc ls (vI z :: vR y :: st) N F A post := by
  rw [vR_n hy]
  exact j_putN (ty := .int) hd hf ht hB (by decide) (jval_0 hk _) rfl rfl h
theorem r_pZN {z y : Int} {a i ci kk fid : Nat} (hd : decode k.2.1 pc = .ok (.putfield i, 3)) (hf : jLkN k.1.cls i ci kk fid false "Z") (hy : y = (a : Int)) (ht : jtg N a = ci) (hB : gB G ≤ a) (hk : fid % 3 = 0) (hb : z = 0 ∨ z = 1) (h : J G l d k (pc + 3) ls st N (upF F fid a z) A post) : J G l d k pc ls (vI z :: vR y :: st) N F A post := by
  rw [vR_n hy]
  exact j_putN (ty := .boolean) hd hf ht hB (by decide) (jval_0 hk _) (nr_bool hb) (ft_bool hb) h
theorem r_pCN {z y : Int} {a i ci kk fid : Nat} (hd : decode k.2.1 pc = .ok (.putfield i, 3)) (hf : jLkN k.1.cls i ci kk fid false "C") (hy : y = (a : Int)) (ht : jtg N a = ci) (hB : gB G ≤ a) (hk : fid % 3 = 0) (hb : 0 ≤ z ∧ z ≤ 65535) (h : J G l d k (pc + 3) ls st N (upF F fid a z) A post) : J G l d k pc ls (vI z :: vR y :: st) N F A post := by
  rw [vR_n hy]
  exact j_putN (ty := .char) hd hf ht hB (by decide) (jval_0 hk _) (nr_char hb) (ft_char hb) h
theorem r_pBN {z y : Int} {a i ci kk fid : Nat} (hd : decode k.2.1 pc = .ok (.putfield i, 3)) (hf : jLkN k.1.cls i ci kk fid false "B") (hy : y = (a : Int)) (ht : jtg N a = ci) (hB : gB G ≤ a) (hk : fid % 3 = 0) (hb : -128 ≤ z ∧ z ≤ 127) (h : J G l d k (pc + 3) ls st N (upF F fid a z) A post) : J G l d k pc ls (vI z :: vR y :: st) N F A post := by
  rw [vR_n hy]
  exact j_putN (ty := .byte) hd hf ht hB (by decide) (jval_0 hk _) (nr_byte hb) (ft_byte hb) h
theorem r_pJN {z y : Int} {a i ci kk fid : Nat} (hd : decode k.2.1 pc = .ok (.putfield i, 3)) (hf : jLkN k.1.cls i ci kk fid false "J") (hy : y = (a : Int)) (ht : jtg N a = ci) (hB : gB G ≤ a) (hk : fid % 3 = 1) (h : J G l d k (pc + 3) ls st N (upF F fid a z) A post) : J G l d k pc ls (vL z :: vR y :: st) N F A post := by
  rw [vR_n hy]
  exact j_putN (ty := .long) hd hf ht hB (by decide) (jval_1 hk _) rfl rfl h
theorem r_pRN {z y : Int} {a i ci kk fid : Nat} {dsc : String} {ty : FieldType} (hd : decode k.2.1 pc = .ok (.putfield i, 3)) (hf : jLkN k.1.cls i ci kk fid false dsc) (hy : y = (a : Int)) (ht : jtg N a = ci) (hB : gB G ≤ a) (hk : fid % 3 = 2) (hty : parseFieldDescriptor dsc = some ty) (hrt : (∃ n, ty = .object n) ∨ ∃ t, ty = .array t) (h : J G l d k (pc + 3) ls st N (upF F fid a z) A post) : J G l d k pc ls (vR z :: vR y :: st) N F A post := by
  rw [vR_n hy]
  exact j_putN (ty := ty) hd hf ht hB hty (jval_2 hk _) (nr_R hrt z) (fit_R hrt z) h
theorem r_pIF {z y : Int} {a i ci kk fid : Nat} (hd : decode k.2.1 pc = .ok (.putfield i, 3)) (hf : jLk k.1.cls i ci kk fid true "I") (hy : y = (a : Int)) (ht : jtg N a = ci) (hB : gB G ≤ a) (hk : fid % 3 = 0) (hini : k.1.name = "<init>") (hdecl : ∀ c, jcls ci = some c → (c.2.1 kk).1 = k.1.cls) (h : J G l d k (pc + 3) ls st (jpF N fid a z) F A post) : J G l d k pc ls (vI z :: vR y :: st) N F A post := by
  rw [vR_n hy]
  exact j_putF (ty := .int) hd hf ht hB hini hdecl (by decide) (jval_0 hk _) rfl rfl h
theorem r_pZF {z y : Int} {a i ci kk fid : Nat} (hd : decode k.2.1 pc = .ok (.putfield i, 3)) (hf : jLk k.1.cls i ci kk fid true "Z") (hy : y = (a : Int)) (ht : jtg N a = ci) (hB : gB G ≤ a) (hk : fid % 3 = 0) (hb : z = 0 ∨ z = 1) (hini : k.1.name = "<init>") (hdecl : ∀ c, jcls ci = some c → (c.2.1 kk).1 = k.1.cls) (h : J G l d k (pc + 3) ls st (jpF N fid a z) F A post) : J G l d k pc ls (vI z :: vR y :: st) N F A post := by
  rw [vR_n hy]
  exact j_putF (ty := .boolean) hd hf ht hB hini hdecl (by decide) (jval_0 hk _) (nr_bool hb) (ft_bool hb) h
theorem r_pCF {z y : Int} {a i ci kk fid : Nat} (hd : decode k.2.1 pc = .ok (.putfield i, 3)) (hf : jLk k.1.cls i ci kk fid true "C") (hy : y = (a : Int)) (ht : jtg N a = ci) (hB : gB G ≤ a) (hk : fid % 3 = 0) (hb : 0 ≤ z ∧ z ≤ 65535) (hini : k.1.name = "<init>") (hdecl : ∀ c, jcls ci = some c → (c.2.1 kk).1 = k.1.cls) (h : J G l d k (pc + 3) ls st (jpF N fid a z) F A post) : J G l d k pc ls (vI z :: vR y :: st) N F A post := by
  rw [vR_n hy]
  exact j_putF (ty := .char) hd hf ht hB hini hdecl (by decide) (jval_0 hk _) (nr_char hb) (ft_char hb) h
theorem r_pBF {z y : Int} {a i ci kk fid : Nat} (hd : decode k.2.1 pc = .ok (.putfield i, 3)) (hf : jLk k.1.cls i ci kk fid true "B") (hy : y = (a : Int)) (ht : jtg N a = ci) (hB : gB G ≤ a) (hk : fid % 3 = 0) (hb : -128 ≤ z ∧ z ≤ 127) (hini : k.1.name = "<init>") (hdecl : ∀ c, jcls ci = some c → (c.2.1 kk).1 = k.1.cls) (h : J G l d k (pc + 3) ls st (jpF N fid a z) F A post) : J G l d k pc ls (vI z :: vR y :: st) N F A post := by
  rw [vR_n hy]
  exact j_putF (ty := .byte) hd hf ht hB hini hdecl (by decide) (jval_0 hk _) (nr_byte hb) (ft_byte hb) h
theorem r_pJF {z y : Int} {a i ci kk fid : Nat} (hd : decode k.2.1 pc = .ok (.putfield i, 3)) (hf : jLk k.1.cls i ci kk fid true "J") (hy : y = (a : Int)) (ht : jtg N a = ci) (hB : gB G ≤ a) (hk : fid % 3 = 1) (hini : k.1.name = "<init>") (hdecl : ∀ c, jcls ci = some c → (c.2.1 kk).1 = k.1.cls) (h : J G l d k (pc + 3) ls st (jpF N fid a z) F A post) : J G l d k pc ls (vL z :: vR y :: st) N F A post := by
  rw [vR_n hy]
  exact j_putF (ty := .long) hd hf ht hB hini hdecl (by decide) (jval_1 hk _) rfl rfl h
theorem r_pRF {z y : Int} {a i ci kk fid : Nat} {dsc : String} {ty : FieldType} (hd : decode k.2.1 pc = .ok (.putfield i, 3)) (hf : jLk k.1.cls i ci kk fid true dsc) (hy : y = (a : Int)) (ht : jtg N a = ci) (hB : gB G ≤ a) (hk : fid % 3 = 2) (hini : k.1.name = "<init>") (hdecl : ∀ c, jcls ci = some c → (c.2.1 kk).1 = k.1.cls) (hty : parseFieldDescriptor dsc = some ty) (hrt : (∃ n, ty = .object n) ∨ ∃ t, ty = .array t) (h : J G l d k (pc + 3) ls st (jpF N fid a z) F A post) : J G l d k pc ls (vR z :: vR y :: st) N F A post := by
  rw [vR_n hy]
  exact j_putF (ty := ty) hd hf ht hB hini hdecl hty (jval_2 hk _) (nr_R hrt z) (fit_R hrt z) h
theorem r_iald {a : Nat} {y i : Int} (hd : decode k.2.1 pc = .ok (.iaload, 1)) (hy : y = (a : Int)) (ht : jtg N a = 102) (hi : 0 ≤ i ∧ i < (jln N a : Int)) (h : J G l d k (pc + 1) ls (vI (A a i) :: st) N F A post) : J G l d k pc ls (vI i :: vR y :: st) N F A post := by
  rw [vR_n hy]
  exact j_iald hd ht rfl hi h
theorem r_lald {a : Nat} {y i : Int} (hd : decode k.2.1 pc = .ok (.laload, 1)) (hy : y = (a : Int)) (ht : jtg N a = 103) (hi : 0 ≤ i ∧ i < (jln N a : Int)) (h : J G l d k (pc + 1) ls (vL (A a i) :: st) N F A post) : J G l d k pc ls (vI i :: vR y :: st) N F A post := by
  rw [vR_n hy]
  exact j_lald hd ht rfl hi h
theorem r_zald {a : Nat} {y i : Int} (hd : decode k.2.1 pc = .ok (.baload, 1)) (hy : y = (a : Int)) (ht : jtg N a = 105) (hi : 0 ≤ i ∧ i < (jln N a : Int)) (h : J G l d k (pc + 1) ls (vI (A a i) :: st) N F A post) : J G l d k pc ls (vI i :: vR y :: st) N F A post := by
  rw [vR_n hy]
  exact j_zald hd ht rfl hi h
theorem r_bald {a : Nat} {y i : Int} (hd : decode k.2.1 pc = .ok (.baload, 1)) (hy : y = (a : Int)) (ht : jtg N a = 108) (hi : 0 ≤ i ∧ i < (jln N a : Int)) (h : J G l d k (pc + 1) ls (vI (A a i) :: st) N F A post) : J G l d k pc ls (vI i :: vR y :: st) N F A post := by
  rw [vR_n hy]
  exact j_bald hd ht rfl hi h
theorem r_cald {a : Nat} {y i : Int} (hd : decode k.2.1 pc = .ok (.caload, 1)) (hy : y = (a : Int)) (ht : jtg N a = 111) (hi : 0 ≤ i ∧ i < (jln N a : Int)) (h : J G l d k (pc + 1) ls (vI (A a i) :: st) N F A post) : J G l d k pc ls (vI i :: vR y :: st) N F A post := by
  rw [vR_n hy]
  exact j_cald hd ht rfl hi h
theorem r_iast {a : Nat} {y i z : Int} (hd : decode k.2.1 pc = .ok (.iastore, 1)) (hy : y = (a : Int)) (ht : jtg N a = 102) (hB : gB G ≤ a) (hi : 0 ≤ i ∧ i < (jln N a : Int)) (h : J G l d k (pc + 1) ls st N F (upA A a i z) post) : J G l d k pc ls (vI z :: vI i :: vR y :: st) N F A post := by
  rw [vR_n hy]
  exact j_iast hd ht hB rfl hi h
theorem r_last {a : Nat} {y i z : Int} (hd : decode k.2.1 pc = .ok (.lastore, 1)) (hy : y = (a : Int)) (ht : jtg N a = 103) (hB : gB G ≤ a) (hi : 0 ≤ i ∧ i < (jln N a : Int)) (h : J G l d k (pc + 1) ls st N F (upA A a i z) post) : J G l d k pc ls (vL z :: vI i :: vR y :: st) N F A post := by
  rw [vR_n hy]
  exact j_last hd ht hB rfl hi h
theorem r_zast {a : Nat} {y i z : Int} (hd : decode k.2.1 pc = .ok (.bastore, 1)) (hy : y = (a : Int)) (ht : jtg N a = 105) (hB : gB G ≤ a) (hi : 0 ≤ i ∧ i < (jln N a : Int)) (hz : z = 0 ∨ z = 1) (h : J G l d k (pc + 1) ls st N F (upA A a i z) post) : J G l d k pc ls (vI z :: vI i :: vR y :: st) N F A post := by
  rw [vR_n hy]
  exact j_zast hd ht hB rfl hi hz h
theorem r_bast {a : Nat} {y i z : Int} (hd : decode k.2.1 pc = .ok (.bastore, 1)) (hy : y = (a : Int)) (ht : jtg N a = 108) (hB : gB G ≤ a) (hi : 0 ≤ i ∧ i < (jln N a : Int)) (hz : -128 ≤ z ∧ z ≤ 127) (h : J G l d k (pc + 1) ls st N F (upA A a i z) post) : J G l d k pc ls (vI z :: vI i :: vR y :: st) N F A post := by
  rw [vR_n hy]
  exact j_bast hd ht hB rfl hi hz h
theorem r_cast {a : Nat} {y i z : Int} (hd : decode k.2.1 pc = .ok (.castore, 1)) (hy : y = (a : Int)) (ht : jtg N a = 111) (hB : gB G ≤ a) (hi : 0 ≤ i ∧ i < (jln N a : Int)) (hz : 0 ≤ z ∧ z ≤ 65535) (h : J G l d k (pc + 1) ls st N F (upA A a i z) post) : J G l d k pc ls (vI z :: vI i :: vR y :: st) N F A post := by
  rw [vR_n hy]
  exact j_cast hd ht hB rfl hi hz h
theorem r_aald {a t : Nat} {C : String} {y i : Int} (hd : decode k.2.1 pc = .ok (.aaload, 1)) (hy : y = (a : Int)) (ht : jtg N a = t) (hty : jty t = some (.object C)) (hk : t % 3 = 2) (hi : 0 ≤ i ∧ i < (jln N a : Int)) (h : J G l d k (pc + 1) ls (vR (A a i) :: st) N F A post) : J G l d k pc ls (vI i :: vR y :: st) N F A post := by
  rw [vR_n hy]
  exact j_aald hd ht hty rfl hi (jval_2 hk _) h
theorem r_alen {a t : Nat} {y : Int} {ty : FieldType} (hd : decode k.2.1 pc = .ok (.arraylength, 1)) (hy : y = (a : Int)) (ht : jtg N a = t) (hty : jty t = some ty) (h : J G l d k (pc + 1) ls (vI (jln N a : Int) :: st) N F A post) : J G l d k pc ls (vR y :: st) N F A post := by
  rw [vR_n hy]
  exact j_alen hd (by rw [ht]; exact hty) rfl h
/-- what a cell of an array may hold -/
def jast (N : jSh) (C : String) (z : Int) : Prop := z = -1 ∨ ∃ (b : Nat) (cl : jC), z = (b : Int) ∧ jcls (jtg N b) = some cl ∧ (C = cl.1 ∨ Cond.castable cl.1 C ∈ jnw)
theorem r_aast {a t : Nat} {C : String} {y i z : Int} (hd : decode k.2.1 pc = .ok (.aastore, 1)) (hy : y = (a : Int)) (ht : jtg N a = t) (hty : jty t = some (.object C)) (hB : gB G ≤ a) (hi : 0 ≤ i ∧ i < (jln N a : Int)) (hz : jast N C z) (hk : t % 3 = 2) (h : J G l d k (pc + 1) ls st N F (upA A a i z) post) : J G l d k pc ls (vR z :: vI i :: vR y :: st) N F A post := by
  rw [vR_n hy]
  rcases hz with rfl | ⟨b, cl, rfl, hc, hcs⟩
  · rw [← vR_null]
    exact j_aastN hd ht hty hB rfl hi hk h
  · rw [vR_nat]
    exact j_aast hd ht hty hB rfl hi rfl hc hcs hk h
theorem r_new {i ci : Nat} {cl : jC} (hd : decode k.2.1 pc = .ok (.new i, 3)) (hc : jcls ci = some cl) (hl : Cond.classLink k.1.cls i cl.1 ∈ lw_all) (h : J G l d k (pc + 3) ls (vR (jnx N : Int) :: st) (jnew N ci 0 cl.2.2.1 1) (nwF N F) A post) : J G l d k pc ls st N F A post :=
  j_new 1 hd hc hl (by rw [← vR_nat]; exact h)
theorem r_newa {t n : Nat} {i : Int} {ty : FieldType} {at_ : ArrayType} (hd : decode k.2.1 pc = .ok (.newarray at_, 2)) (hty : jty t = some ty) (he : newarray.typeOf at_ = ty) (hdv : defaultValue ty = jval t (jdf t)) (hprim : ∀ C, ty ≠ .object C) (hw : Cond.arrayClass ty ∈ lw_all) (hi : i = (n : Int)) (hbytes : n * componentBytes ty ≤ 536870912) (hn : n ≤ 536870912) (h : J G l d k (pc + 2) ls (vR (jnx N : Int) :: st) (jnew N t n n 1) (nwF N F) (nwA N t A) post) : J G l d k pc ls (vI i :: st) N F A post :=
  j_newa 1 hd hty he hdv hprim hw hi hbytes hn (by rw [← vR_nat]; exact h)
theorem r_anew {t n ix : Nat} {i : Int} {C : String} (hd : decode k.2.1 pc = .ok (.anewarray ix, 3)) (hty : jty t = some (.object C)) (hk : t % 3 = 2) (hl : Cond.classLink k.1.cls ix C ∈ lw_all) (hao : C ∈ jao) (hi : i = (n : Int)) (hn : n * 4 ≤ 536870912) (h : J G l d k (pc + 3) ls (vR (jnx N : Int) :: st) (jnew N t n n 1) (nwF N F) (nwA N t A) post) : J G l d k pc ls (vI i :: st) N F A post :=
  j_anew 1 hd hty hk hl hao hi hn (by rw [← vR_nat]; exact h)
theorem r_aret {z : Int} {ty : FieldType} (hd : decode k.2.1 pc = .ok (.areturn, 1)) (hr : k.2.2.2.1 = some ty) (hrt : (∃ n, ty = .object n) ∨ ∃ t, ty = .array t) (hp : post (.returned (some (vR z))) N F A) : J G l d k pc ls [vR z] N F A post := by
  rcases vR_cases z with ⟨b, e⟩ | e
  · rw [e] at hp ⊢; exact j_aret hd hr hrt hp
  · rw [e] at hp ⊢; exact j_aretN hd hr hrt hp
theorem r_athrow {z : Int} {q : Nat} (hd : decode k.2.1 pc = .ok (.athrow, 1)) (hz : z = (q : Int)) (h : JT G l d k pc ls st q N F A post) : J G l d k pc ls (vR z :: st) N F A post := by
  rw [vR_n hz]
  exact j_athrow hd h
theorem r_objInit {i b : Nat} {z : Int} (hd : decode k.2.1 pc = .ok (.invokespecial i, 3)) (hl : Cond.methodLink k.1.cls i Lib.objectInit ∈ lw_all) (hz : z = (b : Int)) (hdd : 1 ≤ d) (hcat : st.length ≤ 4) (h : J G l d k (pc + 3) ls st N F A post) : J G l d k pc ls (vR z :: st) N F A post := by
  rw [vR_n hz]
  exact j_objInit hd hl hdd (jcat4 hcat) h
theorem r_invV {i n b d2 ci : Nat} {z : Int} {cl : jC} {y : jM} {As rest : List Value} {P1 : jPo} (hd : decode k.2.1 pc = .ok (.invokevirtual i, 3)) (hl : jLV k.1.cls i y n) (hz : z = (b : Int)) (htg : jtg N b = ci) (hc : jcls ci = some cl) (hcn : cl.1 = y.1.cls) (hC : jCall G l d2 y (vR (b : Int) :: As) N F A P1) (hn : As.length = n) (hst : st = As.reverse ++ vR z :: rest) (hcat : rest.length ≤ 4) (hdd : d2 + 1 ≤ d)
    (kk : ∀ (o : Outcome) (N' : jSh) (F' : jFl) (A' : jAr), P1 o N' F' A' → jnx N ≤ jnx N' → (∃ v, o = .returned v ∧ J G l d k (pc + 3) ls (v.toList ++ rest) N' F' A' post) ∨ ∃ q, o = .threw q ∧ JT G l d k pc ls rest q N' F' A' post) : J G l d k pc ls st N F A post := by
  rw [vR_n hz] at hst
  rw [vR_nat] at hC
  exact j_invV hd hl htg hc hcn hC hn hst (jcat4 hcat) hdd kk
theorem r_invVN {i n b d2 ci : Nat} {z : Int} {cl : jC} {y : jM} {As rest : List Value} {P1 : jPo} (hd : decode k.2.1 pc = .ok (.invokevirtual i, 3)) (hl : jLVN k.1.cls i y n) (hz : z = (b : Int)) (htg : jtg N b = ci) (hc : jcls ci = some cl) (hcn : cl.1 = y.1.cls) (hC : jCall G l d2 y (vR (b : Int) :: As) N F A P1) (hn : As.length = n) (hst : st = As.reverse ++ vR z :: rest) (hcat : rest.length ≤ 4) (hdd : d2 + 1 ≤ d)
    (kk : ∀ (o : Outcome) (N' : jSh) (F' : jFl) (A' : jAr), P1 o N' F' A' → jnx N ≤ jnx N' → (∃ v, o = .returned v ∧ J G l d k (pc + 3) ls (v.toList ++ rest) N' F' A' post) ∨ ∃ q, o = .threw q ∧ JT G l d k pc ls rest q N' F' A' post) : J G l d k pc ls st N F A post := by
  rw [vR_n hz] at hst
  rw [vR_nat] at hC
  exact j_invVN hd hl htg hc hcn hC hn hst (jcat4 hcat) hdd kk
theorem r_invI {i n b d2 : Nat} {z : Int} {y : jM} {As rest : List Value} {P1 : jPo} (hd : decode k.2.1 pc = .ok (.invokespecial i, 3)) (hl : jLI k.1.cls i y n) (hz : z = (b : Int)) (hC : jCall G l d2 y (vR (b : Int) :: As) N F A P1) (hn : As.length = n) (hst : st = As.reverse ++ vR z :: rest) (hcat : rest.length ≤ 4) (hdd : d2 + 1 ≤ d)
    (kk : ∀ (o : Outcome) (N' : jSh) (F' : jFl) (A' : jAr), P1 o N' F' A' → jnx N ≤ jnx N' → (∃ v, o = .returned v ∧ J G l d k (pc + 3) ls (v.toList ++ rest) N' F' A' post) ∨ ∃ q, o = .threw q ∧ JT G l d k pc ls rest q N' F' A' post) : J G l d k pc ls st N F A post := by
  rw [vR_n hz] at hst
  rw [vR_nat] at hC
  exact j_invI hd hl hC hn hst (jcat4 hcat) hdd kk
theorem r_invIN {i n b d2 : Nat} {z : Int} {y : jM} {As rest : List Value} {P1 : jPo} (hd : decode k.2.1 pc = .ok (.invokespecial i, 3)) (hl : jLIN k.1.cls i y n) (hz : z = (b : Int)) (hC : jCall G l d2 y (vR (b : Int) :: As) N F A P1) (hn : As.length = n) (hst : st = As.reverse ++ vR z :: rest) (hcat : rest.length ≤ 4) (hdd : d2 + 1 ≤ d)
    (kk : ∀ (o : Outcome) (N' : jSh) (F' : jFl) (A' : jAr), P1 o N' F' A' → jnx N ≤ jnx N' → (∃ v, o = .returned v ∧ J G l d k (pc + 3) ls (v.toList ++ rest) N' F' A' post) ∨ ∃ q, o = .threw q ∧ JT G l d k pc ls rest q N' F' A' post) : J G l d k pc ls st N F A post := by
  rw [vR_n hz] at hst
  rw [vR_nat] at hC
  exact j_invIN hd hl hC hn hst (jcat4 hcat) hdd kk
theorem r_invS {i n d2 : Nat} {y : jM} {As rest : List Value} {P1 : jPo} (hd : decode k.2.1 pc = .ok (.invokestatic i, 3)) (hl : jLS k.1.cls i y n) (hC : jCall G l d2 y As N F A P1) (hn : As.length = n) (hst : st = As.reverse ++ rest) (hcat : rest.length ≤ 4) (hdd : d2 + 1 ≤ d)
    (kk : ∀ (o : Outcome) (N' : jSh) (F' : jFl) (A' : jAr), P1 o N' F' A' → jnx N ≤ jnx N' → (∃ v, o = .returned v ∧ J G l d k (pc + 3) ls (v.toList ++ rest) N' F' A' post) ∨ ∃ q, o = .threw q ∧ JT G l d k pc ls rest q N' F' A' post) : J G l d k pc ls st N F A post :=
  j_invS hd hl hC hn hst (jcat4 hcat) hdd kk
theorem r_invSN {i n d2 : Nat} {y : jM} {As rest : List Value} {P1 : jPo} (hd : decode k.2.1 pc = .ok (.invokestatic i, 3)) (hl : jLSN k.1.cls i y n) (hC : jCall G l d2 y As N F A P1) (hn : As.length = n) (hst : st = As.reverse ++ rest) (hcat : rest.length ≤ 4) (hdd : d2 + 1 ≤ d)
    (kk : ∀ (o : Outcome) (N' : jSh) (F' : jFl) (A' : jAr), P1 o N' F' A' → jnx N ≤ jnx N' → (∃ v, o = .returned v ∧ J G l d k (pc + 3) ls (v.toList ++ rest) N' F' A' post) ∨ ∃ q, o = .threw q ∧ JT G l d k pc ls rest q N' F' A' post) : J G l d k pc ls st N F A post :=
  j_invSN hd hl hC hn hst (jcat4 hcat) hdd kk
end JR5
