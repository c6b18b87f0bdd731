set_option maxRecDepth 100000
/-! J: a picture of the heap by numbers, and a method's run over it. Shape: next address, slots used, kind of a cell (1.. an object's class, 100.. an array's), length, final fields. -/
abbrev jC : Type := String × u_T × Nat × List (Nat × Bool)
def jclL : List jC := [("", fun _ => ("", "", "", false), 0, []),
  (RX0, TX0, 17, [(302, true), (303, false), (308, true), (311, false), (312, false), (315, false), (319, false), (323, true), (326, true), (329, true), (330, false), (335, true), (338, true), (341, true), (344, true), (347, true), (350, true)]),
  (RX1, TX1, 11, [(600, false), (603, false), (606, false), (609, false), (612, false), (617, true), (620, true), (623, true), (626, true), (629, true), (632, true)]),
  (RX2, TX2, 5, [(902, true), (903, false), (906, false), (911, false), (914, true)]),
  (RX3, TX3, 3, [(1202, true), (1203, false), (1206, false)]),
  (RX4, TX4, 4, [(1502, true), (1505, true), (1506, false), (1511, true)]),
  (RX5, TX5, 5, [(1802, true), (1805, true), (1808, true), (1809, false), (1814, true)]),
  (RX6, TX6, 6, [(2102, true), (2105, true), (2106, false), (2109, false), (2112, false), (2117, true)]),
  (RX7, TX7, 7, [(2402, true), (2405, true), (2408, true), (2411, false), (2412, false), (2415, false), (2420, true)]),
  (RX8, TX8, 5, [(2702, true), (2705, true), (2706, false), (2709, false), (2714, true)]),
  (RX9, TX9, 80, [(3002, true), (3003, false), (3006, false), (3009, false), (3012, false), (3015, false), (3018, false), (3022, false), (3024, false), (3027, false), (3030, false), (3033, false), (3036, false), (3039, false), (3044, true), (3047, true), (3050, true), (3053, true), (3056, true), (3059, true), (3062, true), (3065, true), (3068, true), (3071, true), (3074, true), (3077, true), (3080, true), (3083, true), (3086, true), (3089, true), (3092, true), (3095, true), (3098, true), (3101, true), (3104, true), (3107, true), (3110, true), (3113, true), (3114, false), (3119, true), (3120, false), (3123, false), (3128, true), (3131, true), (3134, true), (3137, true), (3140, true), (3143, true), (3146, true), (3149, true), (3152, true), (3153, false), (3156, false), (3160, false), (3164, true), (3165, false), (3168, false), (3171, false), (3176, true), (3177, false), (3180, false), (3183, false), (3186, false), (3191, true), (3192, false), (3197, true), (3200, true), (3203, true), (3206, true), (3209, true), (3212, true), (3215, true), (3218, true), (3221, true), (3222, false), (3225, false), (3228, false), (3231, false), (3236, true), (3237, false)]),
  (RX10, TX10, 11, [(3300, true), (3305, true), (3306, false), (3309, false), (3312, false), (3315, false), (3318, false), (3321, false), (3324, false), (3329, false), (3332, true)]),
  (RX11, TX11, 8, [(7502, false), (7505, false), (7508, false), (7511, false), (7514, false), (7515, false), (3600, true), (3603, true)]),
  ("", fun _ => ("", "", "", false), 0, []),
  (RX13, TX13, 7, [(3902, true), (3903, true), (4200, false), (4203, false), (4206, false), (4209, false), (4212, false)]),
  (RX14, TX14, 3, [(3902, true), (3903, true), (4502, true)]),
  (RX15, TX15, 7, [(3902, true), (3903, true), (4802, true), (4803, false), (4806, false), (4811, true), (4814, true)]),
  (RX16, TX16, 4, [(3902, true), (3903, true), (5102, true), (5103, false)]),
  (RX17, TX17, 7, [(5400, true), (5403, true), (5408, true), (5411, true), (5414, true), (5417, true), (5420, true)]),
  (RX18, TX18, 4, [(5700, true), (5703, true), (5706, true), (5709, true)]),
  (RJ2, TJ2, 3, [(6900, false), (6002, false), (6003, false)]),
  (RJ4, TJ4, 4, [(7202, false), (7203, false), (7206, false), (7209, false)]),
  (RJ5, TJ5, 4, [(6602, true), (6603, true)])]
def jcls (i : Nat) : Option jC := if i = 0 ∨ i = 13 then none else jclL[i]?
def jty (t : Nat) : Option FieldType := match t with
  | 102 => some .int
  | 103 => some .long
  | 104 => some (.object "java/lang/Object")
  | 105 => some .boolean
  | 107 => some (.object "ChildSays$Word")
  | 108 => some .byte
  | 110 => some (.object "ChildSays$Saying")
  | 111 => some .char
  | 113 => some (.object "ChildSays$Law")
  | 116 => some (.object "ChildSays$Row")
  | 119 => some (.object "java/lang/String")
  | _ => none
abbrev jSh : Type := Nat × Nat × (Nat → Nat) × (Nat → Nat) × (Nat → Nat → Int)
abbrev jFl : Type := Nat → Nat → Int
abbrev jAr : Type := Nat → Int → Int
def jnx (N : jSh) : Nat := N.1
def jsu (N : jSh) : Nat := N.2.1
def jtg (N : jSh) (a : Nat) : Nat := N.2.2.1 a
def jln (N : jSh) (a : Nat) : Nat := N.2.2.2.1 a
def jfn (N : jSh) (f a : Nat) : Int := N.2.2.2.2 f a
abbrev jR (z : Int) : Prop := -2147483648 ≤ z ∧ z ≤ 2147483647
abbrev jRL (z : Int) : Prop := -9223372036854775808 ≤ z ∧ z ≤ 9223372036854775807
def vI (z : Int) : Value := .int (Int32.ofInt z)
def vL (z : Int) : Value := .long (Int64.ofInt z)
def vR (z : Int) : Value := if z < 0 then .null else .ref z.toNat
theorem vR_nat (a : Nat) : vR (a : Int) = .ref a := by
  unfold vR
  rw [if_neg (by omega)]
  rfl
theorem vR_neg {z : Int} (h : z < 0) : vR z = .null := by
  unfold vR
  rw [if_pos h]
/-- a value by its kind: 0 int and smaller, 1 long, 2 reference -/
def jval (k : Nat) (z : Int) : Value := match k % 3 with
  | 0 => vI z
  | 1 => vL z
  | _ => vR z
theorem jval_0 {k : Nat} (h : k % 3 = 0) (z : Int) : jval k z = vI z := by unfold jval; rw [h]; rfl
theorem jval_1 {k : Nat} (h : k % 3 = 1) (z : Int) : jval k z = vL z := by unfold jval; rw [h]; rfl
theorem jval_2 {k : Nat} (h : k % 3 = 2) (z : Int) : jval k z = vR z := by unfold jval; rw [h]; rfl
theorem i32_toInt {x : Int} (h : jR x) : (Int32.ofInt x).toInt = x := Int32.toInt_ofInt_of_le (by omega) (by omega)
theorem i64_toInt {x : Int} (h : jRL x) : (Int64.ofInt x).toInt = x := Int64.toInt_ofInt_of_le (by omega) (by omega)
theorem i32_lt {x y : Int} (hx : jR x) (hy : jR y) : Int32.ofInt x < Int32.ofInt y ↔ x < y := by
  rw [Int32.lt_iff_toInt_lt, i32_toInt hx, i32_toInt hy]
theorem i32_le {x y : Int} (hx : jR x) (hy : jR y) : Int32.ofInt x ≤ Int32.ofInt y ↔ x ≤ y := by
  rw [Int32.le_iff_toInt_le, i32_toInt hx, i32_toInt hy]
theorem i32_eq {x y : Int} (hx : jR x) (hy : jR y) : Int32.ofInt x = Int32.ofInt y ↔ x = y := by
  rw [← Int32.toInt_inj, i32_toInt hx, i32_toInt hy]
theorem i64_lt {x y : Int} (hx : jRL x) (hy : jRL y) : Int64.ofInt x < Int64.ofInt y ↔ x < y := by
  rw [Int64.lt_iff_toInt_lt, i64_toInt hx, i64_toInt hy]
theorem i64_eq {x y : Int} (hx : jRL x) (hy : jRL y) : Int64.ofInt x = Int64.ofInt y ↔ x = y := by
  rw [← Int64.toInt_inj, i64_toInt hx, i64_toInt hy]
theorem i32_nat {x : Int} (h0 : 0 ≤ x) (h1 : x < 2147483648) : (Int32.ofInt x).toNatClampNeg = x.toNat := Int32.toNatClampNeg_ofInt_of_le (by omega) (by omega)
theorem i32_0 : Int32.ofInt 0 = 0 := rfl
/-! what stays the same all through a run: class numbers, slots' places, arrays' classes, the first address of ours, statics -/
abbrev jG : Type := (Nat → ClassId) × (Nat → Nat → Nat) × (Nat → ClassId) × Nat × (Nat → Nat)
def gC (G : jG) : Nat → ClassId := G.1
def gI (G : jG) : Nat → Nat → Nat := G.2.1
def gA (G : jG) : Nat → ClassId := G.2.2.1
def gB (G : jG) : Nat := G.2.2.2.1
def gS (G : jG) : Nat → Nat := G.2.2.2.2
/-- what a method may write: what is ours -/
def jA (G : jG) : Nat → Prop := fun q => gB G ≤ q
def jobj (G : jG) (c : jC) (ci a : Nat) (N : jSh) (F : jFl) (H : Heap) : Prop :=
  ∃ cell : Cell, H[a]? = some cell ∧ cell.cls = gC G ci ∧ cell.vm.isStatics = false ∧ cell.vm ≠ .unknown ∧ (gB G ≤ a → cell.vm = .none ∧ cell.monitor.owner = none ∧ cell.monitor.count = 0) ∧ ∀ (k fid : Nat) (fin : Bool), c.2.2.2[k]? = some (fid, fin) → cell.slots[gI G ci k]? = some (jval fid (if fin then jfn N fid a else F fid a))
def jarr (G : jG) (U : State) (ty : FieldType) (t a : Nat) (N : jSh) (A : jAr) (H : Heap) : Prop :=
  ∃ cell : Cell, H[a]? = some cell ∧ U.isArrayOf cell ty ∧ cell.vm ≠ .unknown ∧ jln N a ≤ cell.slots.size ∧ jln N a < 2147483648 ∧ cell.slots.size.toInt32 = Int32.ofNat (jln N a) ∧ (gB G ≤ a → cell.vm = .none ∧ cell.cls = gA G t ∧ cell.slots.size = jln N a) ∧ ∀ j : Nat, j < jln N a → cell.slots[j]? = some (jval t (A a (j : Int)))
/-- the heap is as the picture says -/
def jRep (G : jG) (U : State) (N : jSh) (F : jFl) (A : jAr) (H : Heap) : Prop :=
  jnx N = H.size ∧ (∀ (a : Nat) (c : jC), jcls (jtg N a) = some c → jobj G c (jtg N a) a N F H) ∧ ∀ (a : Nat) (ty : FieldType), jty (jtg N a) = some ty → jarr G U ty (jtg N a) a N A H
/-- the words of the tables that no list of words carries: nest mates' links, castable, declares -/
def jnw : List Cond := [Jvm.Cond.methodLinkNest "ChildSays" (19 : Nat) ({ cls := "ChildSays$Town", name := "<init>", desc := "()V" } : Jvm.MethodName) "ChildSays",
  Jvm.Cond.methodLinkNest "ChildSays" (41 : Nat) ({ cls := "ChildSays$Saying", name := "<init>", desc := "(LChildSays;)V" } : Jvm.MethodName) "ChildSays",
  Jvm.Cond.methodLinkNest "ChildSays$Saying" (17 : Nat) ({ cls := "ChildSays$Row", name := "<init>", desc := "()V" } : Jvm.MethodName) "ChildSays",
  Jvm.Cond.methodLinkNest "ChildSays$Sitting" (27 : Nat) ({ cls := "ChildSays$Saying", name := "<init>", desc := "(LChildSays;)V" } : Jvm.MethodName) "ChildSays",
  Jvm.Cond.fieldLinkNest "ChildSays$Order" (42 : Nat) "ChildSays$Sitting" "row" "[LChildSays$Law;" "ChildSays",
  Jvm.Cond.fieldLinkNest "ChildSays" (390 : Nat) "ChildSays$Sitting" "row" "[LChildSays$Law;" "ChildSays",
  Jvm.Cond.fieldLinkNest "ChildSays$Order" (38 : Nat) "ChildSays$Sitting" "many" "I" "ChildSays",
  Jvm.Cond.fieldLinkNest "ChildSays" (387 : Nat) "ChildSays$Sitting" "many" "I" "ChildSays",
  Jvm.Cond.methodLinkNest "ChildSays$Unlike" (28 : Nat) ({ cls := "ChildSays$Saying", name := "<init>", desc := "(LChildSays;)V" } : Jvm.MethodName) "ChildSays",
  Jvm.Cond.fieldLinkNest "ChildSays" (440 : Nat) "ChildSays$Unlike" "first" "[I" "ChildSays",
  Jvm.Cond.fieldLinkNest "ChildSays" (443 : Nat) "ChildSays$Unlike" "many" "[I" "ChildSays",
  Jvm.Cond.fieldLinkNest "ChildSays" (437 : Nat) "ChildSays$Unlike" "all" "I" "ChildSays",
  Jvm.Cond.methodLinkNest "ChildSays" (64 : Nat) ({ cls := "ChildSays$Round", name := "<init>", desc := "(LChildSays;)V" } : Jvm.MethodName) "ChildSays",
  Jvm.Cond.methodLinkNest "ChildSays$Round" (17 : Nat) ({ cls := "ChildSays$Row", name := "<init>", desc := "()V" } : Jvm.MethodName) "ChildSays",
  Jvm.Cond.fieldLinkNest "ChildSays" (450 : Nat) "ChildSays$Round" "told" "I" "ChildSays",
  Jvm.Cond.fieldLinkNest "ChildSays" (453 : Nat) "ChildSays$Round" "behind" "I" "ChildSays",
  Jvm.Cond.fieldLinkNest "ChildSays" (456 : Nat) "ChildSays$Round" "round" "I" "ChildSays",
  Jvm.Cond.methodLinkNest "ChildSays" (71 : Nat) ({ cls := "ChildSays$Put", name := "<init>", desc := "(LChildSays;)V" } : Jvm.MethodName) "ChildSays",
  Jvm.Cond.methodLinkNest "ChildSays$Put" (17 : Nat) ({ cls := "ChildSays$Row", name := "<init>", desc := "()V" } : Jvm.MethodName) "ChildSays",
  Jvm.Cond.fieldLinkNest "ChildSays" (470 : Nat) "ChildSays$Put" "changed" "I" "ChildSays",
  Jvm.Cond.methodLinkNest "ChildSays" (78 : Nat) ({ cls := "ChildSays$Order", name := "<init>", desc := "(LChildSays;)V" } : Jvm.MethodName) "ChildSays",
  Jvm.Cond.fieldLinkNest "ChildSays" (483 : Nat) "ChildSays$Order" "changed" "I" "ChildSays",
  Jvm.Cond.methodLinkNest "ChildSays" (85 : Nat) ({ cls := "ChildSays$Row", name := "<init>", desc := "()V" } : Jvm.MethodName) "ChildSays",
  Jvm.Cond.fieldLinkNest "ChildSays$Reader" (36 : Nat) "ChildSays" "tape" "[C" "ChildSays",
  Jvm.Cond.fieldLinkNest "ChildSays$Was" (15 : Nat) "ChildSays" "town" "LChildSays$Town;" "ChildSays",
  Jvm.Cond.fieldLinkNest "ChildSays$Unlike" (35 : Nat) "ChildSays" "town" "LChildSays$Town;" "ChildSays",
  Jvm.Cond.fieldLinkNest "ChildSays$Saying" (52 : Nat) "ChildSays" "town" "LChildSays$Town;" "ChildSays",
  Jvm.Cond.fieldLinkNest "ChildSays$Sitting" (37 : Nat) "ChildSays" "town" "LChildSays$Town;" "ChildSays",
  Jvm.Cond.fieldLinkNest "ChildSays$Order" (55 : Nat) "ChildSays" "town" "LChildSays$Town;" "ChildSays",
  Jvm.Cond.fieldLinkNest "ChildSays$Round" (25 : Nat) "ChildSays" "alone" "LChildSays$Saying;" "ChildSays",
  Jvm.Cond.castable "ChildSays$Fault" "ChildSays$Fault",
  Jvm.Cond.declares ({ cls := "java/lang/Exception", name := "<init>", desc := "()V" } : Jvm.MethodName),
  Jvm.Cond.declares ({ cls := "java/lang/Exception", name := "<init>", desc := "(Ljava/lang/String;)V" } : Jvm.MethodName),
  Jvm.Cond.declares ({ cls := "java/lang/Throwable", name := "<init>", desc := "()V" } : Jvm.MethodName),
  Jvm.Cond.declares ({ cls := "java/lang/Throwable", name := "<init>", desc := "(Ljava/lang/String;)V" } : Jvm.MethodName),
  Jvm.Cond.methodLinkNest "ChildSays$Reader" (68 : Nat) ({ cls := "ChildSays", name := "digitsOf", desc := "(Ljava/lang/String;)I" } : Jvm.MethodName) "ChildSays",
  Jvm.Cond.methodLinkNest "ChildSays$Reader" (103 : Nat) ({ cls := "ChildSays", name := "isOwn", desc := "(Ljava/lang/String;)Z" } : Jvm.MethodName) "ChildSays",
  Jvm.Cond.methodLinkNest "ChildSays$Town" (40 : Nat) ({ cls := "ChildSays", name := "named", desc := "(Ljava/util/ArrayList;Ljava/lang/String;)LChildSays$Named;" } : Jvm.MethodName) "ChildSays",
  Jvm.Cond.methodLinkNest "ChildSays$Reader" (99 : Nat) ({ cls := "ChildSays", name := "isIn", desc := "(JJJ)Z" } : Jvm.MethodName) "ChildSays",
  Jvm.Cond.methodLinkNest "ChildSays$Reader" (115 : Nat) ({ cls := "ChildSays", name := "named", desc := "(Ljava/util/ArrayList;Ljava/lang/String;)LChildSays$Named;" } : Jvm.MethodName) "ChildSays",
  Jvm.Cond.methodLinkNest "ChildSays$Law" (9 : Nat) ({ cls := "ChildSays$Row", name := "<init>", desc := "()V" } : Jvm.MethodName) "ChildSays",
  Jvm.Cond.declares ({ cls := "java/lang/Object", name := "equals", desc := "(Ljava/lang/Object;)Z" } : Jvm.MethodName),
  Jvm.Cond.methodLinkNest "ChildSays$Saying" (99 : Nat) ({ cls := "ChildSays", name := "isIn", desc := "(JJJ)Z" } : Jvm.MethodName) "ChildSays",
  Jvm.Cond.methodLinkNest "ChildSays$Was" (59 : Nat) ({ cls := "ChildSays$Row", name := "<init>", desc := "()V" } : Jvm.MethodName) "ChildSays",
  Jvm.Cond.methodLinkNest "ChildSays$Put" (54 : Nat) ({ cls := "ChildSays", name := "byMany", desc := "(LChildSays$Row;Z)I" } : Jvm.MethodName) "ChildSays",
  Jvm.Cond.methodLinkNest "ChildSays$Put" (81 : Nat) ({ cls := "ChildSays", name := "isIn", desc := "(JJJ)Z" } : Jvm.MethodName) "ChildSays",
  Jvm.Cond.methodLinkNest "ChildSays$Order" (110 : Nat) ({ cls := "ChildSays", name := "isIn", desc := "(JJJ)Z" } : Jvm.MethodName) "ChildSays",
  Jvm.Cond.declares ({ cls := "ChildSays$Are", name := "so", desc := "(LChildSays$Row;LChildSays$Row;)Z" } : Jvm.MethodName),
  Jvm.Cond.castable "[B" "java/lang/Cloneable",
  Jvm.Cond.declares ({ cls := "java/lang/CharSequence", name := "charAt", desc := "(I)C" } : Jvm.MethodName),
  Jvm.Cond.castable "java/lang/String" "java/lang/CharSequence",
  Jvm.Cond.castable "java/lang/StringBuilder" "java/lang/CharSequence",
  Jvm.Cond.castable "ChildSays$Child" "ChildSays$Named",
  Jvm.Cond.castable "ChildSays$Law" "ChildSays$Named",
  Jvm.Cond.castable "ChildSays$Street" "ChildSays$Named",
  Jvm.Cond.castable "ChildSays$Word" "ChildSays$Named",
  Jvm.Cond.castable "ChildSays$Word" "java/lang/Object",
  Jvm.Cond.castable "ChildSays$Saying" "java/lang/Object",
  Jvm.Cond.castable "ChildSays$Law" "java/lang/Object",
  Jvm.Cond.castable "ChildSays$Row" "java/lang/Object",
  Jvm.Cond.castable "java/lang/String" "java/lang/Object",
  Jvm.Cond.castable "ChildSays" "java/lang/Object",
  Jvm.Cond.castable "ChildSays$Town" "java/lang/Object",
  Jvm.Cond.castable "java/util/ArrayList" "java/lang/Object",
  Jvm.Cond.castable "ChildSays$Sitting" "java/lang/Object",
  Jvm.Cond.castable "ChildSays$Unlike" "java/lang/Object",
  Jvm.Cond.castable "ChildSays$Round" "java/lang/Object",
  Jvm.Cond.castable "ChildSays$Put" "java/lang/Object",
  Jvm.Cond.castable "ChildSays$Order" "java/lang/Object",
  Jvm.Cond.castable "java/lang/StringBuilder" "java/lang/Object",
  Jvm.Cond.castable "ChildSaysModel" "java/lang/Object",
  Jvm.Cond.castable "ChildSays$Reader" "java/lang/Object",
  Jvm.Cond.castable "ChildSays$Fault" "java/lang/Object",
  Jvm.Cond.castable "ChildSays$Street" "java/lang/Object",
  Jvm.Cond.castable "ChildSays$Child" "java/lang/Object",
  Jvm.Cond.castable "ChildSays$Was" "java/lang/Object",
  Jvm.Cond.castable "ChildSays$Line" "java/lang/Object",
  Jvm.Cond.castable "java/lang/Throwable" "java/lang/Object",
  Jvm.Cond.declares ({ cls := "java/lang/Object", name := "getClass", desc := "()Ljava/lang/Class;" } : Jvm.MethodName),
  Jvm.Cond.castable "[C" "java/lang/Object",
  Jvm.Cond.castable "[I" "java/lang/Object",
  Jvm.Cond.castable "[LChildSays$Word;" "java/lang/Object",
  Jvm.Cond.castable "[LChildSays$Saying;" "java/lang/Object",
  Jvm.Cond.castable "[LChildSays$Law;" "java/lang/Object",
  Jvm.Cond.castable "[B" "java/lang/Object",
  Jvm.Cond.castable "[Ljava/lang/Object;" "java/lang/Object",
  Jvm.Cond.castable "[Z" "java/lang/Object",
  Jvm.Cond.castable "[LChildSays$Row;" "java/lang/Object",
  Jvm.Cond.castable "[J" "java/lang/Object",
  Jvm.Cond.castable "[Ljava/lang/String;" "java/lang/Object",
  Jvm.Cond.privateMethod ({ cls := "ChildSays", name := "refused", desc := "(I)I" } : Jvm.MethodName),
  Jvm.Cond.privateMethod ({ cls := "ChildSays", name := "lays", desc := "(I)V" } : Jvm.MethodName),
  Jvm.Cond.privateMethod ({ cls := "ChildSays", name := "refuses", desc := "(I)Z" } : Jvm.MethodName),
  Jvm.Cond.privateMethod ({ cls := "ChildSays$Reader", name := "isMore", desc := "()Z" } : Jvm.MethodName),
  Jvm.Cond.privateMethod ({ cls := "ChildSays$Reader", name := "statement", desc := "()V" } : Jvm.MethodName),
  Jvm.Cond.privateMethod ({ cls := "java/lang/Throwable", name := "fillInStackTrace", desc := "(I)Ljava/lang/Throwable;" } : Jvm.MethodName),
  Jvm.Cond.privateMethod ({ cls := "ChildSays$Reader", name := "takes", desc := "(Ljava/lang/String;)Z" } : Jvm.MethodName),
  Jvm.Cond.privateMethod ({ cls := "ChildSays$Reader", name := "isWord", desc := "(Ljava/lang/String;)Z" } : Jvm.MethodName),
  Jvm.Cond.privateMethod ({ cls := "ChildSays$Reader", name := "see", desc := "()I" } : Jvm.MethodName),
  Jvm.Cond.privateMethod ({ cls := "ChildSays$Reader", name := "isLetter", desc := "(C)Z" } : Jvm.MethodName),
  Jvm.Cond.privateMethod ({ cls := "ChildSays$Reader", name := "isDigit", desc := "(C)Z" } : Jvm.MethodName),
  Jvm.Cond.privateMethod ({ cls := "ChildSays$Reader", name := "word", desc := "(I)V" } : Jvm.MethodName),
  Jvm.Cond.privateMethod ({ cls := "ChildSays$Reader", name := "space", desc := "(III)V" } : Jvm.MethodName),
  Jvm.Cond.privateMethod ({ cls := "ChildSays$Reader", name := "newName", desc := "()Ljava/lang/String;" } : Jvm.MethodName),
  Jvm.Cond.privateMethod ({ cls := "ChildSays$Reader", name := "name", desc := "()Ljava/lang/String;" } : Jvm.MethodName),
  Jvm.Cond.privateMethod ({ cls := "ChildSays$Reader", name := "wrong", desc := "()LChildSays$Fault;" } : Jvm.MethodName),
  Jvm.Cond.privateMethod ({ cls := "ChildSays$Reader", name := "asks", desc := "(Ljava/lang/String;)V" } : Jvm.MethodName),
  Jvm.Cond.privateMethod ({ cls := "ChildSays$Reader", name := "number", desc := "(II)I" } : Jvm.MethodName),
  Jvm.Cond.privateMethod ({ cls := "java/util/ArrayList", name := "add", desc := "(Ljava/lang/Object;[Ljava/lang/Object;I)V" } : Jvm.MethodName),
  Jvm.Cond.privateMethod ({ cls := "java/util/ArrayList", name := "grow", desc := "()[Ljava/lang/Object;" } : Jvm.MethodName),
  Jvm.Cond.privateMethod ({ cls := "java/util/ArrayList", name := "grow", desc := "(I)[Ljava/lang/Object;" } : Jvm.MethodName),
  Jvm.Cond.privateMethod ({ cls := "ChildSays$Reader", name := "street", desc := "(I)V" } : Jvm.MethodName),
  Jvm.Cond.privateMethod ({ cls := "ChildSays$Reader", name := "known", desc := "(Ljava/util/ArrayList;)LChildSays$Named;" } : Jvm.MethodName),
  Jvm.Cond.privateMethod ({ cls := "ChildSays$Reader", name := "child", desc := "(I)V" } : Jvm.MethodName),
  Jvm.Cond.privateMethod ({ cls := "ChildSays$Reader", name := "law", desc := "(I)V" } : Jvm.MethodName),
  Jvm.Cond.privateMethod ({ cls := "ChildSays$Reader", name := "words", desc := "(LChildSays$Row;II)I" } : Jvm.MethodName),
  Jvm.Cond.privateMethod ({ cls := "ChildSays$Reader", name := "ahead", desc := "()Ljava/lang/String;" } : Jvm.MethodName),
  Jvm.Cond.privateMethod ({ cls := "ChildSays$Reader", name := "asks", desc := "(C)V" } : Jvm.MethodName),
  Jvm.Cond.privateMethod ({ cls := "ChildSays$Reader", name := "takes", desc := "(C)Z" } : Jvm.MethodName),
  Jvm.Cond.privateMethod ({ cls := "ChildSays$Reader", name := "isSign", desc := "(C)Z" } : Jvm.MethodName),
  Jvm.Cond.privateMethod ({ cls := "ChildSays$Child", name := "nearest", desc := "(LChildSays$Word;LChildSays$Town;)LChildSays$Word;" } : Jvm.MethodName),
  Jvm.Cond.privateMethod ({ cls := "ChildSays", name := "wrong", desc := "(LChildSays$Fault;I)I" } : Jvm.MethodName),
  Jvm.Cond.privateMethod ({ cls := "ChildSays", name := "isRight", desc := "()V" } : Jvm.MethodName),
  Jvm.Cond.privateMethod ({ cls := "java/util/ArrayList", name := "fastRemove", desc := "([Ljava/lang/Object;I)V" } : Jvm.MethodName),
  Jvm.Cond.privateMethod ({ cls := "ChildSays", name := "names", desc := "(I)Ljava/util/ArrayList;" } : Jvm.MethodName),
  Jvm.Cond.privateMethod ({ cls := "ChildSays", name := "wordOf", desc := "(I)LChildSays$Word;" } : Jvm.MethodName),
  Jvm.Cond.privateMethod ({ cls := "ChildSays", name := "childOf", desc := "(I)LChildSays$Child;" } : Jvm.MethodName),
  Jvm.Cond.privateMethod ({ cls := "ChildSays", name := "stands", desc := "(LChildSays$Law;LChildSays$Child;)Z" } : Jvm.MethodName),
  Jvm.Cond.privateMethod ({ cls := "ChildSays$Saying", name := "says", desc := "(LChildSays$Child;LChildSays$Row;II)Z" } : Jvm.MethodName),
  Jvm.Cond.privateMethod ({ cls := "ChildSays", name := "lawOf", desc := "(I)LChildSays$Law;" } : Jvm.MethodName),
  Jvm.Cond.privateMethod ({ cls := "ChildSays", name := "byMany", desc := "(LChildSays$Row;Z)I" } : Jvm.MethodName),
  Jvm.Cond.privateMethod ({ cls := "ChildSays", name := "isPlace", desc := "(I)Z" } : Jvm.MethodName),
  Jvm.Cond.privateMethod ({ cls := "ChildSays", name := "standingOf", desc := "(I)LChildSays$Law;" } : Jvm.MethodName),
  Jvm.Cond.privateMethod ({ cls := "ChildSays$Sitting", name := "runs", desc := "(LChildSays$Saying;I)V" } : Jvm.MethodName),
  Jvm.Cond.privateMethod ({ cls := "ChildSays", name := "keeps", desc := "()V" } : Jvm.MethodName),
  Jvm.Cond.privateMethod ({ cls := "ChildSays", name := "becomes", desc := "(LChildSays$Law;LChildSays$Saying;LChildSays$Child;)V" } : Jvm.MethodName),
  Jvm.Cond.privateMethod ({ cls := "ChildSays", name := "allAnew", desc := "(LChildSays$Child;)V" } : Jvm.MethodName),
  Jvm.Cond.privateMethod ({ cls := "ChildSays", name := "year", desc := "()V" } : Jvm.MethodName),
  Jvm.Cond.privateMethod ({ cls := "ChildSays", name := "drawn", desc := "(I)I" } : Jvm.MethodName),
  Jvm.Cond.privateMethod ({ cls := "ChildSays$Round", name := "next", desc := "(LChildSays$Row;LChildSays$Child;LChildSays$Law;)Z" } : Jvm.MethodName),
  Jvm.Cond.privateMethod ({ cls := "ChildSays$Round", name := "lost", desc := "()LChildSays$Round;" } : Jvm.MethodName),
  Jvm.Cond.privateMethod ({ cls := "ChildSays$Round", name := "meets", desc := "(LChildSays$Child;LChildSays$Law;)LChildSays$Round;" } : Jvm.MethodName),
  Jvm.Cond.privateMethod ({ cls := "ChildSays$Put", name := "many", desc := "()I" } : Jvm.MethodName),
  Jvm.Cond.privateMethod ({ cls := "ChildSays$Put", name := "puts", desc := "(II)V" } : Jvm.MethodName),
  Jvm.Cond.privateMethod ({ cls := "ChildSays$Put", name := "isBetter", desc := "()Z" } : Jvm.MethodName),
  Jvm.Cond.privateMethod ({ cls := "ChildSays$Put", name := "swaps", desc := "(II)V" } : Jvm.MethodName),
  Jvm.Cond.privateMethod ({ cls := "ChildSays$Order", name := "search", desc := "(LChildSays$Child;II)V" } : Jvm.MethodName),
  Jvm.Cond.privateMethod ({ cls := "ChildSays$Order", name := "whole", desc := "(LChildSays$Child;)I" } : Jvm.MethodName),
  Jvm.Cond.privateMethod ({ cls := "ChildSays$Order", name := "isFirst", desc := "()V" } : Jvm.MethodName),
  Jvm.Cond.privateMethod ({ cls := "ChildSays$Order", name := "isBetter", desc := "(LChildSays$Child;)Z" } : Jvm.MethodName),
  Jvm.Cond.privateMethod ({ cls := "ChildSays", name := "twos", desc := "(ILChildSays$Are;)I" } : Jvm.MethodName),
  Jvm.Cond.privateMethod ({ cls := "ChildSays", name := "rows", desc := "(LChildSays$Child;LChildSays$Law;III)I" } : Jvm.MethodName),
  Jvm.Cond.privateMethod ({ cls := "ChildSays", name := "isSaidSo", desc := "(LChildSays$Child;LChildSays$Law;)Z" } : Jvm.MethodName),
  Jvm.Cond.privateMethod ({ cls := "java/lang/AbstractStringBuilder", name := "ensureCapacityInternal", desc := "(I)V" } : Jvm.MethodName),
  Jvm.Cond.privateMethod ({ cls := "java/lang/AbstractStringBuilder", name := "newCapacity", desc := "(I)I" } : Jvm.MethodName),
  Jvm.Cond.privateMethod ({ cls := "ChildSays", name := "writes", desc := "(I)V" } : Jvm.MethodName),
  Jvm.Cond.privateMethod ({ cls := "java/lang/AbstractStringBuilder", name := "inflate", desc := "()V" } : Jvm.MethodName),
  Jvm.Cond.unhidden "java/lang/String" "charAt" "(I)C",
  Jvm.Cond.publicMethod ({ cls := "java/lang/String", name := "charAt", desc := "(I)C" } : Jvm.MethodName),
  Jvm.Cond.unhidden "java/lang/StringBuilder" "charAt" "(I)C",
  Jvm.Cond.publicMethod ({ cls := "java/lang/StringBuilder", name := "charAt", desc := "(I)C" } : Jvm.MethodName),
  Jvm.Cond.privateMethod ({ cls := "ChildSays", name := "isTold", desc := "(Ljava/lang/String;)Z" } : Jvm.MethodName),
  Jvm.Cond.privateMethod ({ cls := "ChildSays", name := "behind", desc := "(Ljava/lang/String;II)I" } : Jvm.MethodName),
  Jvm.Cond.privateMethod ({ cls := "ChildSaysModel", name := "refuses", desc := "(I)I" } : Jvm.MethodName),
  Jvm.Cond.privateMethod ({ cls := "ChildSaysModel", name := "put", desc := "(I)V" } : Jvm.MethodName),
  Jvm.Cond.privateMethod ({ cls := "ChildSaysModel", name := "takesTape", desc := "()V" } : Jvm.MethodName),
  Jvm.Cond.privateMethod ({ cls := "ChildSaysModel", name := "ahead", desc := "()V" } : Jvm.MethodName),
  Jvm.Cond.privateMethod ({ cls := "ChildSaysModel", name := "statement", desc := "()V" } : Jvm.MethodName),
  Jvm.Cond.privateMethod ({ cls := "ChildSaysModel", name := "lex", desc := "()V" } : Jvm.MethodName),
  Jvm.Cond.privateMethod ({ cls := "ChildSaysModel", name := "blame", desc := "(II)V" } : Jvm.MethodName),
  Jvm.Cond.privateMethod ({ cls := "ChildSaysModel", name := "isWord", desc := "(J)Z" } : Jvm.MethodName),
  Jvm.Cond.privateMethod ({ cls := "ChildSaysModel", name := "wording", desc := "()V" } : Jvm.MethodName),
  Jvm.Cond.privateMethod ({ cls := "ChildSaysModel", name := "counts", desc := "(Z)Z" } : Jvm.MethodName),
  Jvm.Cond.privateMethod ({ cls := "ChildSaysModel", name := "fresh", desc := "()J" } : Jvm.MethodName),
  Jvm.Cond.privateMethod ({ cls := "ChildSaysModel", name := "isOwn", desc := "(J)Z" } : Jvm.MethodName),
  Jvm.Cond.privateMethod ({ cls := "ChildSaysModel", name := "named", desc := "(IJ)I" } : Jvm.MethodName),
  Jvm.Cond.privateMethod ({ cls := "ChildSaysModel", name := "manyOf", desc := "(II)I" } : Jvm.MethodName),
  Jvm.Cond.privateMethod ({ cls := "ChildSaysModel", name := "nameOf", desc := "(III)J" } : Jvm.MethodName),
  Jvm.Cond.privateMethod ({ cls := "ChildSaysModel", name := "must", desc := "(J)V" } : Jvm.MethodName),
  Jvm.Cond.privateMethod ({ cls := "ChildSaysModel", name := "number", desc := "(II)I" } : Jvm.MethodName),
  Jvm.Cond.privateMethod ({ cls := "ChildSaysModel", name := "streeting", desc := "()V" } : Jvm.MethodName),
  Jvm.Cond.privateMethod ({ cls := "ChildSaysModel", name := "looked", desc := "(I)I" } : Jvm.MethodName),
  Jvm.Cond.privateMethod ({ cls := "ChildSaysModel", name := "asked", desc := "(I)I" } : Jvm.MethodName),
  Jvm.Cond.privateMethod ({ cls := "ChildSaysModel", name := "childing", desc := "()V" } : Jvm.MethodName),
  Jvm.Cond.privateMethod ({ cls := "ChildSaysModel", name := "lawing", desc := "()V" } : Jvm.MethodName),
  Jvm.Cond.privateMethod ({ cls := "ChildSaysModel", name := "rowing", desc := "()V" } : Jvm.MethodName),
  Jvm.Cond.privateMethod ({ cls := "ChildSaysModel", name := "onePut", desc := "(Z)V" } : Jvm.MethodName),
  Jvm.Cond.privateMethod ({ cls := "ChildSaysModel", name := "sets", desc := "()V" } : Jvm.MethodName),
  Jvm.Cond.privateMethod ({ cls := "ChildSaysModel", name := "finishes", desc := "(I)V" } : Jvm.MethodName),
  Jvm.Cond.privateMethod ({ cls := "ChildSaysModel", name := "isSign", desc := "(I)Z" } : Jvm.MethodName),
  Jvm.Cond.privateMethod ({ cls := "ChildSaysModel", name := "must", desc := "(I)V" } : Jvm.MethodName),
  Jvm.Cond.privateMethod ({ cls := "ChildSaysModel", name := "begin", desc := "()V" } : Jvm.MethodName),
  Jvm.Cond.privateMethod ({ cls := "ChildSaysModel", name := "ring", desc := "(I)I" } : Jvm.MethodName),
  Jvm.Cond.privateMethod ({ cls := "ChildSaysModel", name := "copies", desc := "(II)V" } : Jvm.MethodName),
  Jvm.Cond.privateMethod ({ cls := "ChildSaysModel", name := "isWordOf", desc := "(I)Z" } : Jvm.MethodName),
  Jvm.Cond.privateMethod ({ cls := "ChildSaysModel", name := "likes", desc := "(II)I" } : Jvm.MethodName),
  Jvm.Cond.privateMethod ({ cls := "ChildSaysModel", name := "isChild", desc := "(I)Z" } : Jvm.MethodName),
  Jvm.Cond.privateMethod ({ cls := "ChildSaysModel", name := "saidBy", desc := "(II)I" } : Jvm.MethodName),
  Jvm.Cond.privateMethod ({ cls := "ChildSaysModel", name := "heardBy", desc := "(II)I" } : Jvm.MethodName),
  Jvm.Cond.privateMethod ({ cls := "ChildSaysModel", name := "knows", desc := "(II)Z" } : Jvm.MethodName),
  Jvm.Cond.privateMethod ({ cls := "ChildSaysModel", name := "isStanding", desc := "(I)Z" } : Jvm.MethodName),
  Jvm.Cond.privateMethod ({ cls := "ChildSaysModel", name := "isLaw", desc := "(I)Z" } : Jvm.MethodName),
  Jvm.Cond.privateMethod ({ cls := "ChildSaysModel", name := "stands", desc := "(II)Z" } : Jvm.MethodName),
  Jvm.Cond.privateMethod ({ cls := "ChildSaysModel", name := "loads", desc := "(II)V" } : Jvm.MethodName),
  Jvm.Cond.privateMethod ({ cls := "ChildSaysModel", name := "utters", desc := "(I)V" } : Jvm.MethodName),
  Jvm.Cond.privateMethod ({ cls := "ChildSaysModel", name := "costs", desc := "(II)I" } : Jvm.MethodName),
  Jvm.Cond.privateMethod ({ cls := "ChildSaysModel", name := "sitsNow", desc := "(I)Z" } : Jvm.MethodName),
  Jvm.Cond.privateMethod ({ cls := "ChildSaysModel", name := "seatsOf", desc := "(I)V" } : Jvm.MethodName),
  Jvm.Cond.privateMethod ({ cls := "ChildSaysModel", name := "sittingOf", desc := "(II)V" } : Jvm.MethodName),
  Jvm.Cond.privateMethod ({ cls := "ChildSaysModel", name := "runsInto", desc := "(I)I" } : Jvm.MethodName),
  Jvm.Cond.privateMethod ({ cls := "ChildSaysModel", name := "keeps", desc := "()V" } : Jvm.MethodName),
  Jvm.Cond.privateMethod ({ cls := "ChildSaysModel", name := "becomesSaid", desc := "(IIII)V" } : Jvm.MethodName),
  Jvm.Cond.privateMethod ({ cls := "ChildSaysModel", name := "notes", desc := "(IIII)V" } : Jvm.MethodName),
  Jvm.Cond.privateMethod ({ cls := "ChildSaysModel", name := "renews", desc := "(II)V" } : Jvm.MethodName),
  Jvm.Cond.privateMethod ({ cls := "ChildSaysModel", name := "standing", desc := "(I)I" } : Jvm.MethodName),
  Jvm.Cond.privateMethod ({ cls := "ChildSaysModel", name := "yearGoes", desc := "(I)V" } : Jvm.MethodName),
  Jvm.Cond.privateMethod ({ cls := "ChildSaysModel", name := "draw", desc := "(I)I" } : Jvm.MethodName),
  Jvm.Cond.privateMethod ({ cls := "ChildSaysModel", name := "hasWord", desc := "(II)Z" } : Jvm.MethodName),
  Jvm.Cond.privateMethod ({ cls := "ChildSaysModel", name := "standsBy", desc := "(II)Z" } : Jvm.MethodName),
  Jvm.Cond.privateMethod ({ cls := "ChildSaysModel", name := "childrenOf", desc := "(I)I" } : Jvm.MethodName),
  Jvm.Cond.privateMethod ({ cls := "ChildSaysModel", name := "recalled", desc := "(I)I" } : Jvm.MethodName),
  Jvm.Cond.privateMethod ({ cls := "ChildSaysModel", name := "isRemembered", desc := "(I)Z" } : Jvm.MethodName),
  Jvm.Cond.privateMethod ({ cls := "ChildSaysModel", name := "remembers", desc := "(I)V" } : Jvm.MethodName),
  Jvm.Cond.privateMethod ({ cls := "ChildSaysModel", name := "saysAsTold", desc := "()V" } : Jvm.MethodName),
  Jvm.Cond.privateMethod ({ cls := "ChildSaysModel", name := "tellsBack", desc := "()V" } : Jvm.MethodName),
  Jvm.Cond.privateMethod ({ cls := "ChildSaysModel", name := "firstPerm", desc := "(I)V" } : Jvm.MethodName),
  Jvm.Cond.privateMethod ({ cls := "ChildSaysModel", name := "wholeBy", desc := "(I)I" } : Jvm.MethodName),
  Jvm.Cond.privateMethod ({ cls := "ChildSaysModel", name := "nextPerm", desc := "()Z" } : Jvm.MethodName),
  Jvm.Cond.privateMethod ({ cls := "ChildSaysModel", name := "changes", desc := "(II)V" } : Jvm.MethodName),
  Jvm.Cond.privateMethod ({ cls := "ChildSaysModel", name := "exchanged", desc := "()I" } : Jvm.MethodName),
  Jvm.Cond.privateMethod ({ cls := "ChildSaysModel", name := "goodness", desc := "()I" } : Jvm.MethodName),
  Jvm.Cond.privateMethod ({ cls := "ChildSaysModel", name := "wholeOf", desc := "(I)I" } : Jvm.MethodName),
  Jvm.Cond.privateMethod ({ cls := "ChildSaysModel", name := "pairAt", desc := "(IZ)I" } : Jvm.MethodName),
  Jvm.Cond.privateMethod ({ cls := "ChildSaysModel", name := "isApart", desc := "(II)Z" } : Jvm.MethodName),
  Jvm.Cond.privateMethod ({ cls := "ChildSaysModel", name := "isAgainst", desc := "(II)Z" } : Jvm.MethodName),
  Jvm.Cond.privateMethod ({ cls := "ChildSaysModel", name := "nevers", desc := "(I)I" } : Jvm.MethodName),
  Jvm.Cond.privateMethod ({ cls := "ChildSaysModel", name := "isNever", desc := "(I)Z" } : Jvm.MethodName),
  Jvm.Cond.privateMethod ({ cls := "ChildSaysModel", name := "nextPlain", desc := "(II)I" } : Jvm.MethodName),
  Jvm.Cond.privateMethod ({ cls := "ChildSaysModel", name := "saidMeans", desc := "()I" } : Jvm.MethodName),
  Jvm.Cond.privateMethod ({ cls := "ChildSaysModel", name := "isAsNow", desc := "(II)Z" } : Jvm.MethodName),
  Jvm.Cond.privateMethod ({ cls := "ChildSaysModel", name := "writes", desc := "(I)V" } : Jvm.MethodName),
  Jvm.Cond.privateMethod ({ cls := "ChildSaysModel", name := "isImage", desc := "(I)Z" } : Jvm.MethodName),
  Jvm.Cond.privateMethod ({ cls := "ChildSaysModel", name := "lawOn", desc := "(II)I" } : Jvm.MethodName)]
def jao : List String := ["ChildSays$Word", "ChildSays$Saying", "ChildSays$Law", "java/lang/Object", "ChildSays$Row", "java/lang/String"]
/-- statics of a known value: class, name, type, value (below 100: the address of that number; from 5000 on: a reference, one less than that number tells; else an int, 1000 more) -/
def jst : List (String × String × String × Nat) := [("java/util/ArrayList", "DEFAULTCAPACITY_EMPTY_ELEMENTDATA", "[Ljava/lang/Object;", 19), ("java/lang/String", "COMPACT_STRINGS", "Z", 1001), ("java/lang/Throwable", "UNASSIGNED_STACK", "[Ljava/lang/StackTraceElement;", 5022), ("java/lang/Throwable", "SUPPRESSED_SENTINEL", "Ljava/util/List;", 5023), ("jdk/internal/util/Preconditions", "SIOOBE_FORMATTER", "Ljava/util/function/BiFunction;", 5021), ("java/lang/StringUTF16", "$assertionsDisabled", "Z", 1001), ("java/lang/StringUTF16", "HI_BYTE_SHIFT", "I", 1000), ("java/lang/StringUTF16", "LO_BYTE_SHIFT", "I", 1008), ("ChildSays", "OWN", "[Ljava/lang/String;", 0)]
/-- String constants: class, entry, text, number of its address -/
def jstr : List (String × Nat × String × Nat) := [("ChildSays$Reader", 250, "word", 1), ("java/lang/String", 7, "", 18), ("ChildSays$Reader", 139, "beats", 2), ("ChildSays$Reader", 150, "sounds", 3), ("ChildSays$Reader", 158, "worth", 4), ("ChildSays$Reader", 162, "never", 5), ("ChildSays$Reader", 254, "street", 6), ("ChildSays$Reader", 184, "as", 7), ("ChildSays$Reader", 258, "child", 8), ("ChildSays$Reader", 189, "of", 9), ("ChildSays$Reader", 196, "holds", 10), ("ChildSays$Reader", 262, "law", 11), ("ChildSays$Reader", 236, "sung", 12), ("ChildSays$Reader", 240, "says", 13), ("ChildSays$Reader", 222, "but", 14), ("ChildSays$Reader", 266, "head", 15), ("ChildSays$Reader", 270, "mend", 16), ("ChildSays$Reader", 274, "tune", 17), ("ChildSays", 552, "word", 1), ("ChildSays", 554, "beats", 2), ("ChildSays", 555, "sounds", 3), ("ChildSays", 557, "worth", 4), ("ChildSays", 558, "never", 5), ("ChildSays", 559, "street", 6), ("ChildSays", 560, "as", 7), ("ChildSays", 562, "child", 8), ("ChildSays", 563, "of", 9), ("ChildSays", 564, "holds", 10), ("ChildSays", 565, "law", 11), ("ChildSays", 566, "sung", 12), ("ChildSays", 567, "says", 13), ("ChildSays", 568, "but", 14), ("ChildSays", 569, "head", 15), ("ChildSays", 570, "mend", 16), ("ChildSays", 571, "tune", 17)]
/-- the sites of lambdas: method, place, entry, shape, number of the object's address -/
def jlm : List (MethodName × Nat × Nat × Lambda.Shape × Nat) := [(({ cls := "ChildSays", name := "apart", desc := "(I)I" } : Jvm.MethodName), (2 : Nat), (490 : Nat), ({ iface := "ChildSays$Are", name := "so", sam := ({ parameters := [(Jvm.ClassFile.FieldType.object "ChildSays$Row"), (Jvm.ClassFile.FieldType.object "ChildSays$Row")], returnType := (Option.some Jvm.ClassFile.FieldType.boolean) } : Jvm.ClassFile.MethodDescriptor), captured := [], kind := 6, implClass := "ChildSays", implName := "lambda$apart$0", implDesc := ({ parameters := [(Jvm.ClassFile.FieldType.object "ChildSays$Row"), (Jvm.ClassFile.FieldType.object "ChildSays$Row")], returnType := (Option.some Jvm.ClassFile.FieldType.boolean) } : Jvm.ClassFile.MethodDescriptor), implItf := false, inst := ({ parameters := [(Jvm.ClassFile.FieldType.object "ChildSays$Row"), (Jvm.ClassFile.FieldType.object "ChildSays$Row")], returnType := (Option.some Jvm.ClassFile.FieldType.boolean) } : Jvm.ClassFile.MethodDescriptor) } : Jvm.Lambda.Shape), 24), (({ cls := "ChildSays", name := "against", desc := "(I)I" } : Jvm.MethodName), (2 : Nat), (497 : Nat), ({ iface := "ChildSays$Are", name := "so", sam := ({ parameters := [(Jvm.ClassFile.FieldType.object "ChildSays$Row"), (Jvm.ClassFile.FieldType.object "ChildSays$Row")], returnType := (Option.some Jvm.ClassFile.FieldType.boolean) } : Jvm.ClassFile.MethodDescriptor), captured := [], kind := 6, implClass := "ChildSays", implName := "lambda$against$1", implDesc := ({ parameters := [(Jvm.ClassFile.FieldType.object "ChildSays$Row"), (Jvm.ClassFile.FieldType.object "ChildSays$Row")], returnType := (Option.some Jvm.ClassFile.FieldType.boolean) } : Jvm.ClassFile.MethodDescriptor), implItf := false, inst := ({ parameters := [(Jvm.ClassFile.FieldType.object "ChildSays$Row"), (Jvm.ClassFile.FieldType.object "ChildSays$Row")], returnType := (Option.some Jvm.ClassFile.FieldType.boolean) } : Jvm.ClassFile.MethodDescriptor) } : Jvm.Lambda.Shape), 25)]
def jnwOk : Cond → Bool
  | .fieldLinkNest .. => true
  | .methodLinkNest .. => true
  | .castable .. => true
  | .declares .. => true
  | .privateMethod .. => true
  | .publicMethod .. => true
  | .unhidden .. => true
  | _ => false
theorem jnw_all : jnw.all jnwOk = true := by decide +kernel
theorem jNw_warmP {x : MethodName} {s U : State} (hW : s.WarmedH U.vm) (hZ : va_Nw (.privateMethod x) s) : va_Nw (.privateMethod x) U := va_tabs rfl (rfl : (s.setVm U.vm).vm = U.vm) (by rw [Cond.privateMethod_setVm hW.alike]; exact hZ)
theorem jNw_warmQ {x : MethodName} {s U : State} (hW : s.WarmedH U.vm) (hZ : va_Nw (.publicMethod x) s) : va_Nw (.publicMethod x) U := va_tabs rfl (rfl : (s.setVm U.vm).vm = U.vm) (by rw [Cond.publicMethod_setVm hW.alike]; exact hZ)
theorem jNw_warmU {a b c : String} {s U : State} (hW : s.WarmedH U.vm) (hZ : va_Nw (.unhidden a b c) s) : va_Nw (.unhidden a b c) U := va_tabs rfl (rfl : (s.setVm U.vm).vm = U.vm) (by rw [Cond.unhidden_setVm hW.alike]; exact hZ)
theorem jnw_warm {w : Cond} (hw : jnwOk w = true) {s U : State} (hW : s.WarmedH U.vm) (h : va_Nw w s) : va_Nw w U := by
  cases w <;> first | exact (Bool.false_ne_true hw).elim | exact va_Nw.warmF hW h | exact va_Nw.warmM hW h | exact va_Nw.warmC hW h | exact va_Nw.warmD hW h | exact jNw_warmP hW h | exact jNw_warmQ hW h | exact jNw_warmU hW h
theorem jnw_tables {w : Cond} (hw : jnwOk w = true) : w.onTables = true := by
  cases w <;> first | exact (Bool.false_ne_true hw).elim | rfl
/-- the tables -/
def jK (G : jG) (U : State) : Prop :=
  (∀ (i : Nat) (c : jC), jcls i = some c → u_Kn U c.1 c.2.1 c.2.2.1 (gC G i) (gI G i)) ∧
  (∀ (t : Nat) (ty : FieldType), jty t = some ty → ArrOfT U (gA G t) ty ∧ va_RA U (gA G t) ty) ∧
  (∀ w ∈ jnw, va_Nw w U) ∧
  (∀ t : String, t ∈ jao → va_AO t U)
theorem jK.warm {G : jG} {s U : State} (hW : s.WarmedH U.vm) (h : jK G s) : jK G U :=
  ⟨fun i c hc => u_Kn_moved hW.alike (h.1 i c hc), fun t ty ht => ⟨arrOfT_moved hW.alike (h.2.1 t ty ht).1, (h.2.1 t ty ht).2.moved hW.alike⟩,
   fun w hw => jnw_warm (List.all_eq_true.mp jnw_all w hw) hW (h.2.2.1 w hw), fun t ht => va_AO.moved hW.alike (h.2.2.2 t ht)⟩
/-- the statics: what they hold all through; the String constants' addresses -/
def jsv (G : jG) (v : Nat) : Value := if v < 100 then .ref (gS G v) else if v < 5000 then .int (Int32.ofInt ((v : Int) - 1000)) else vR ((gS G (v - 5000) : Int) - 1)
theorem jlamAt_warm {s U : State} (hW : s.WarmedH U.vm) {x : MethodName} {pc index : Nat} {σ : Lambda.Shape} {c : ClassId} {a : Addr} (hc : ∀ cell, s.heap[a]? = some cell → U.heap[a]? = some cell) (h : s.lambdaAt? x pc index σ = some (c, some a)) : U.lambdaAt? x pc index σ = some (c, some a) := by
  obtain ⟨m, kc, cf, i0, p0, l, hm, hk, hcf, hsh, hin, hfind, hmade, hcall, hl⟩ := State.lambdaAt?_spec h
  have hcall' : U.lambdaCallable σ c = true := by
    have hA := hW.alike
    simp only [State.lambdaCallable, hA.findClass, hA.assignable, hA.superclasses, hA.declaredIn] at hcall ⊢
    exact hcall
  obtain ⟨kc', hk', he⟩ := hW.alike.2.2 _ _ hk
  have hm' : U.methodNamed? x = some m := by
    have := State.methodNamed?_setVm (s := s) hW.alike x
    rw [hm] at this
    exact this
  have hcf' : kc'.cf = some cf := by rw [he]; exact hcf
  have hin' : (m.idx, pc, index, σ) ∈ Lambda.sitesOf kc' := by rw [he]; exact hin
  have hfind' : (kc'.callSites.find? fun y => y.1 == m.idx && y.2.1 == pc) = some (i0, p0, l) := by rw [he]; exact hfind
  have hmade' := Lambda.isMade_warmer hW hmade
  obtain ⟨m2, k2, hm2, hk2, hjdk, howes⟩ := State.lambdaAt?_road h
  cases hm.symm.trans hm2
  cases hk.symm.trans hk2
  have hjdk' : jdkName kc'.name = false := by rw [he]; exact hjdk
  have howes' : (U.vm.findClass σ.iface).bind (Lambda.owesInit U.vm) = none := by
    rw [hW.alike.findClass]
    cases hfi : s.vm.findClass σ.iface with
    | none => rfl
    | some i => rw [hfi] at howes; simpa [Lambda.owesInit_alike hW.alike] using howes
  have hany : ((Lambda.sitesOf kc').any fun y => decide (y = (m.idx, pc, index, σ))) = true := by simpa using hin'
  rcases hl with ⟨a', cell, rfl, h1, hcap, hcell, rfl, hvm, hslots⟩ | ⟨rfl, h1, hcap⟩
  · cases h1
    have hc' := hc cell hcell
    simp [State.lambdaAt?, guard, hjdk', howes', hm', hk', hcf', hsh, hany, hfind', hc', hcap, hmade', hcall', hvm, hslots]
  · cases h1
def jLam (G : jG) (U : State) : Prop := ∀ q ∈ jlm, ¬ jA G (gS G q.2.2.2.2) ∧ ∃ c, U.lambdaAt? q.1 q.2.1 q.2.2.1 q.2.2.2.1 = some (c, some (gS G q.2.2.2.2))
theorem jLam.warm {G : jG} {s U : State} (hW : s.WarmedH U.vm) (hk : ∀ a : Nat, a < s.heap.size → ¬ jA G a → U.heap[a]? = s.heap[a]?) (h : jLam G s) : jLam G U := fun q hq => by
  obtain ⟨h1, c, h2⟩ := h q hq
  exact ⟨h1, c, jlamAt_warm hW (fun cell hc => (hk _ (Array.getElem?_eq_some_iff.mp hc).1 h1).trans hc) h2⟩
/-- methods of interfaces that are called -/
def jfm : List MethodName := [⟨"java/lang/CharSequence", "charAt", "(I)C"⟩, ⟨"ChildSays$Are", "so", "(LChildSays$Row;LChildSays$Row;)Z"⟩]
theorem jfm_ok : ∀ x ∈ jfm, x.cls ≠ "java/lang/invoke/MethodHandle" ∧ x.cls ≠ "java/lang/invoke/VarHandle" := by decide
def jFc (U : State) : Prop := ∀ x ∈ jfm, (Cond.declares x).before #[] U = true ∧ (Cond.interfaceMethod x.cls x.cls x.name x.desc).before #[] U = true
theorem jFc.moved {u U : State} (hvm : u.vm.Alike U.vm) (h : jFc u) : jFc U := fun x hx => by
  obtain ⟨h1, h2⟩ := h x hx
  obtain ⟨r, meth, hn, -⟩ := Cond.declares_spec h1
  have tr : ∀ {c : Cond}, c.onTables = true → c.before #[] (u.setVm U.vm) = true → c.before #[] U = true := by
    intro c hc h
    have e := Cond.onTables_vm (A := #[]) (A' := #[]) (U := u) (U' := U) U.vm c hc
    have hU : U.setVm U.vm = U := rfl
    rw [hU] at e
    rw [← e]
    exact h
  exact ⟨tr rfl (by rw [Cond.declares_setVm hvm]; exact h1), tr rfl (by rw [Cond.interfaceMethod_setVm hvm (r := r) hn (jfm_ok x hx)]; exact h2)⟩
/-- static fields as they are laid -/
def jls : List (String × String × String) := [("java/lang/Throwable", "UNASSIGNED_STACK", "[Ljava/lang/StackTraceElement;"), ("java/lang/Throwable", "SUPPRESSED_SENTINEL", "Ljava/util/List;")]
def jLs (G : jG) (U : State) : Prop := ∀ q ∈ jls, ∃ (c : ClassId) (k : Class) (i : Nat) (f : Field) (a : Nat) (cell : Cell), U.vm.findClass q.1 = some c ∧ U.fieldFound? q.1 q.2.1 q.2.2 = some (c, k, i, f) ∧ f.isStatic = true ∧ k.statics = some a ∧ U.heap[a]? = some cell ∧ cell.vm.isStatics = true ∧ cell.cls = c ∧ f.slot < cell.slots.size ∧ k.staticTypes[f.slot]? = some f.type ∧ ¬ jA G a
theorem jLs.warm {G : jG} {s U : State} (hW : s.WarmedH U.vm) (hk : ∀ a : Nat, a < s.heap.size → ¬ jA G a → U.heap[a]? = s.heap[a]?) (h : jLs G s) : jLs G U := fun q hq => by
  obtain ⟨c, k, i, f, a, cell, h1, h2, h3, h4, h5, h6, h7, h8, h9, h10⟩ := h q hq
  obtain ⟨k', hi', he⟩ := State.fieldFound?_setVm hW.alike h2
  exact ⟨c, k', i, f, a, cell, by rw [hW.alike.findClass]; exact h1, hi', h3, by rw [he]; exact h4, by rw [hk a (Array.getElem?_eq_some_iff.mp h5).1 h10]; exact h5, h6, h7, h8, by rw [he]; exact h9, h10⟩
def jS (G : jG) (U : State) : Prop :=
  (∀ q ∈ jst, va_Z q.1 q.2.1 q.2.2.1 (jsv G q.2.2.2) (jA G) U U.heap) ∧ (∀ q ∈ jstr, vk_R q.1 q.2.1 q.2.2.1 (gS G q.2.2.2) U) ∧ va_Mi "[Ljava/lang/Object;" (gS G 20) U ∧ jLam G U ∧ jFc U ∧ jLs G U
theorem jS.warm {G : jG} {s U : State} (hW : s.WarmedH U.vm) (hk : ∀ a : Nat, a < s.heap.size → ¬ jA G a → U.heap[a]? = s.heap[a]?) (h : jS G s) : jS G U :=
  ⟨fun q hq => (va_Z.moved hW.alike (h.1 q hq)).kept hk, fun q hq => vk_R.warm hW (h.2.1 q hq), va_Mi.moved hW.alike h.2.2.1, jLam.warm hW hk h.2.2.2.1, jFc.moved hW.alike h.2.2.2.2.1, jLs.warm hW hk h.2.2.2.2.2⟩
theorem jRep.moved {G : jG} {u U : State} {N : jSh} {F : jFl} {A : jAr} {H : Heap} (hvm : u.vm.Alike U.vm) (h : jRep G u N F A H) : jRep G U N F A H := by
  refine ⟨h.1, h.2.1, fun a ty ha => ?_⟩
  obtain ⟨cell, h1, h2, h3⟩ := h.2.2 a ty ha
  exact ⟨cell, h1, State.isArrayOf_alike hvm h2, h3⟩
/-- a method's start -/
def jPre (G : jG) (N : jSh) (F : jFl) (A : jAr) (U : State) : Prop := jK G U ∧ jS G U ∧ gB G ≤ U.heap.size ∧ jRep G U N F A U.heap
/-- its end -/
def jQc (G : jG) (o : Outcome) (N : jSh) (F : jFl) (A : jAr) : Array Value → State → Outcome → State → Prop := fun _ st oc t => oc = o ∧ jRep G t N F A t.heap ∧ va_F (jA G) st t
def jXc (G : jG) (o : Outcome) (N : jSh) (F : jFl) (A : jAr) : String → Addr → State → State → Prop := fun E q st t => (o = .threw q ∧ ∃ c, jcls (jtg N q) = some c ∧ E = c.1) ∧ jRep G t N F A t.heap ∧ va_F (jA G) st t
/-- a method: name, code, locals, answer's type, its table of handlers -/
abbrev jM : Type := MethodName × ByteArray × Nat × Option FieldType × List (Nat × Nat × Nat × Nat)
def jwd (k : jM) : Cond := match k.2.2.2.2 with
  | [] => .code k.1 k.2.1 k.2.2.1 k.2.2.2.1
  | hh => .codeWith k.1 k.2.1 k.2.2.1 k.2.2.2.1 hh
abbrev jws (k : jM) : List Cond := jwd k :: lw_all
abbrev jrm (d mc ms : Nat) : Room := { frames := d, cells := mc, slots := ms, locals := 64 * d }
/-- a method's run from its call: exactly this end -/
def jCX (G : jG) (l : Launch) (d : Nat) (k : jM) (As : List Value) (N : jSh) (F : jFl) (A : jAr) (o : Outcome) (N' : jSh) (F' : jFl) (A' : jAr) : Prop :=
  jnx N ≤ jnx N' ∧ jsu N ≤ jsu N' ∧ vy_Met l k.1 (jws k) (jrm d (jnx N' - jnx N) (jsu N' - jsu N)) (va_Pc As (jPre G N F A)) (jQc G o N' F' A') (jXc G o N' F' A') (jnx N' - jnx N) (jsu N' - jsu N) (jA G)
abbrev jPo : Type := Outcome → jSh → jFl → jAr → Prop
def jCall (G : jG) (l : Launch) (d : Nat) (k : jM) (As : List Value) (N : jSh) (F : jFl) (A : jAr) (post : jPo) : Prop :=
  ∃ (o : Outcome) (N' : jSh) (F' : jFl) (A' : jAr), post o N' F' A' ∧ jCX G l d k As N F A o N' F' A'
/-- where a method stands -/
def jCtx (G : jG) (k : jM) (p : Program) (s : State) (m : MethodId) (args : Array Value) (meth : Method) (c : Code) : Prop :=
  p.tables.exec = Jvm.exec ∧ c.code = k.2.1 ∧ meth.sig.returnType = k.2.2.2.1 ∧ meth.locks = false ∧ c.maxLocals = k.2.2.1 ∧ s.vm.findClass k.1.cls = some m.cls ∧ meth.name = k.1.name ∧ (∀ w ∈ lw_all, w.before args s = true) ∧ jK G s ∧ jS G s ∧ gB G ≤ s.heap.size ∧ c.exceptionTable.toList = tableOf k.2.2.2.2
/-- the locals: a list by place; .float 0 says nothing -/
def jD : Value := .float 0
def jL (ls : List Value) (n : Nat) (a : Array Slot) : Prop := ls.length = n ∧ a.size = n ∧ lv_wf a ∧ ∀ (i : Nat) (v : Value), ls[i]? = some v → v ≠ jD → a[i]? = some (.val v)
/-- from here: exactly this end -/
def jRX (G : jG) (l : Launch) (d : Nat) (k : jM) (pc : Nat) (ls st : List Value) (N : jSh) (F : jFl) (A : jAr) (o : Outcome) (N' : jSh) (F' : jFl) (A' : jAr) : Prop :=
  jnx N ≤ jnx N' ∧ jsu N ≤ jsu N' ∧ ∀ (p : Program) (e : Env) (R : Room) (s : State) (m : MethodId) (args : Array Value) (below : List Frame) (meth : Method) (c : Code) (H : Heap) (locs : List Loc) (cells slots mc ms : Nat) (a : Array Slot),
    jCtx G k p s m args meth c → cells + (jnx N' - jnx N) ≤ mc → slots + (jsu N' - jsu N) ≤ ms → mc ≤ R.cells → ms ≤ R.slots → d ≤ R.frames → 64 * d ≤ R.locals → jRep G s N F A H → va_S (jA G) s.heap H locs → jL ls k.2.2.1 a →
    W p l e R s m args below meth c H locs cells slots (vy_MQ below (jQc G o N' F' A') (jXc G o N' F' A') args s mc ms (jA G)) (F0 m pc a st)
def J (G : jG) (l : Launch) (d : Nat) (k : jM) (pc : Nat) (ls st : List Value) (N : jSh) (F : jFl) (A : jAr) (post : jPo) : Prop :=
  ∃ (o : Outcome) (N' : jSh) (F' : jFl) (A' : jAr), post o N' F' A' ∧ jRX G l d k pc ls st N F A o N' F' A'
theorem J.mono {G : jG} {l : Launch} {d : Nat} {k : jM} {pc : Nat} {ls st : List Value} {N : jSh} {F : jFl} {A : jAr} {p1 p2 : jPo} (h : J G l d k pc ls st N F A p1) (hp : ∀ o N' F' A', p1 o N' F' A' → p2 o N' F' A') : J G l d k pc ls st N F A p2 := by
  obtain ⟨o, N', F', A', h1, h2⟩ := h
  exact ⟨o, N', F', A', hp _ _ _ _ h1, h2⟩
theorem jCall.mono {G : jG} {l : Launch} {d : Nat} {k : jM} {As : List Value} {N : jSh} {F : jFl} {A : jAr} {p1 p2 : jPo} (h : jCall G l d k As N F A p1) (hp : ∀ o N' F' A', p1 o N' F' A' → p2 o N' F' A') : jCall G l d k As N F A p2 := by
  obtain ⟨o, N', F', A', h1, h2⟩ := h
  exact ⟨o, N', F', A', hp _ _ _ _ h1, h2⟩
/-- a step that leaves heap and locals -/
theorem J.go {G : jG} {l : Launch} {d : Nat} {k : jM} {pc pc2 : Nat} {ls st st2 : List Value} {N : jSh} {F : jFl} {A : jAr} {post : jPo}
    (hr : ∀ {p : Program} {e : Env} {R : Room} {s : State} {m : MethodId} {args : Array Value} {below : List Frame} {meth : Method} {c : Code} {H : Heap} {locs : List Loc} {cells slots : Nat} {Q : State → Prop} {a : Array Slot},
      jCtx G k p s m args meth c → jRep G s N F A H → va_S (jA G) s.heap H locs → jL ls k.2.2.1 a → W p l e R s m args below meth c H locs cells slots Q (F0 m pc2 a st2) → W p l e R s m args below meth c H locs cells slots Q (F0 m pc a st))
    (h : J G l d k pc2 ls st2 N F A post) : J G l d k pc ls st N F A post := by
  obtain ⟨o, N', F', A', h1, h2, h3, h4⟩ := h
  refine ⟨o, N', F', A', h1, h2, h3, ?_⟩
  intro p e R s m args below meth c H locs cells slots mc ms a X hc hs hmc hms hd hl hRep hS hL
  exact hr X hRep hS hL (h4 p e R s m args below meth c H locs cells slots mc ms a X hc hs hmc hms hd hl hRep hS hL)
/-- a step that leaves the heap -/
theorem J.goL {G : jG} {l : Launch} {d : Nat} {k : jM} {pc pc2 : Nat} {ls ls2 st st2 : List Value} {N : jSh} {F : jFl} {A : jAr} {post : jPo}
    (hr : ∀ {p : Program} {e : Env} {R : Room} {s : State} {m : MethodId} {args : Array Value} {below : List Frame} {meth : Method} {c : Code} {H : Heap} {locs : List Loc} {cells slots : Nat} {Q : State → Prop} {a : Array Slot},
      jCtx G k p s m args meth c → jL ls k.2.2.1 a → (∀ a2 : Array Slot, jL ls2 k.2.2.1 a2 → W p l e R s m args below meth c H locs cells slots Q (F0 m pc2 a2 st2)) → W p l e R s m args below meth c H locs cells slots Q (F0 m pc a st))
    (h : J G l d k pc2 ls2 st2 N F A post) : J G l d k pc ls st N F A post := by
  obtain ⟨o, N', F', A', h1, h2, h3, h4⟩ := h
  refine ⟨o, N', F', A', h1, h2, h3, ?_⟩
  intro p e R s m args below meth c H locs cells slots mc ms a X hc hs hmc hms hd hl hRep hS hL
  exact hr X hL (fun a2 hL2 => h4 p e R s m args below meth c H locs cells slots mc ms a2 X hc hs hmc hms hd hl hRep hS hL2)
/-- a step that writes -/
theorem J.goW {G : jG} {l : Launch} {d : Nat} {k : jM} {pc pc2 : Nat} {ls st st2 : List Value} {N N2 : jSh} {F F2 : jFl} {A A2 : jAr} {post : jPo} (hnx : jnx N2 = jnx N) (hsu : jsu N2 = jsu N)
    (hr : ∀ {p : Program} {e : Env} {R : Room} {s : State} {m : MethodId} {args : Array Value} {below : List Frame} {meth : Method} {c : Code} {H : Heap} {locs : List Loc} {cells slots : Nat} {Q : State → Prop} {a : Array Slot},
      jCtx G k p s m args meth c → jRep G s N F A H → va_S (jA G) s.heap H locs → jL ls k.2.2.1 a → (∀ (H2 : Heap) (locs2 : List Loc), jRep G s N2 F2 A2 H2 → va_S (jA G) s.heap H2 locs2 → W p l e R s m args below meth c H2 locs2 cells slots Q (F0 m pc2 a st2)) → W p l e R s m args below meth c H locs cells slots Q (F0 m pc a st))
    (h : J G l d k pc2 ls st2 N2 F2 A2 post) : J G l d k pc ls st N F A post := by
  obtain ⟨o, N', F', A', h1, h2, h3, h4⟩ := h
  rw [hnx] at h2 h4
  rw [hsu] at h3 h4
  refine ⟨o, N', F', A', h1, h2, h3, ?_⟩
  intro p e R s m args below meth c H locs cells slots mc ms a X hc hs hmc hms hd hl hRep hS hL
  exact hr X hRep hS hL (fun H2 locs2 hRep2 hS2 => h4 p e R s m args below meth c H2 locs2 cells slots mc ms a X hc hs hmc hms hd hl hRep2 hS2 hL)
/-- a step that makes one cell of n slots -/
theorem J.goN {G : jG} {l : Launch} {d : Nat} {k : jM} {pc pc2 n : Nat} {ls st st2 : List Value} {N N2 : jSh} {F F2 : jFl} {A A2 : jAr} {post : jPo} (hnx : jnx N2 = jnx N + 1) (hsu : jsu N2 = jsu N + n)
    (hr : ∀ {p : Program} {e : Env} {R : Room} {s : State} {m : MethodId} {args : Array Value} {below : List Frame} {meth : Method} {c : Code} {H : Heap} {locs : List Loc} {cells slots : Nat} {Q : State → Prop} {a : Array Slot},
      jCtx G k p s m args meth c → jRep G s N F A H → va_S (jA G) s.heap H locs → jL ls k.2.2.1 a → cells + 1 ≤ R.cells → slots + n ≤ R.slots → (∀ (H2 : Heap), jRep G s N2 F2 A2 H2 → va_S (jA G) s.heap H2 locs → W p l e R s m args below meth c H2 locs (cells + 1) (slots + n) Q (F0 m pc2 a st2)) → W p l e R s m args below meth c H locs cells slots Q (F0 m pc a st))
    (h : J G l d k pc2 ls st2 N2 F2 A2 post) : J G l d k pc ls st N F A post := by
  obtain ⟨o, N', F', A', h1, h2, h3, h4⟩ := h
  rw [hnx] at h2 h4
  rw [hsu] at h3 h4
  refine ⟨o, N', F', A', h1, by omega, by omega, ?_⟩
  intro p e R s m args below meth c H locs cells slots mc ms a X hc hs hmc hms hd hl hRep hS hL
  exact hr X hRep hS hL (by omega) (by omega) (fun H2 hRep2 hS2 => h4 p e R s m args below meth c H2 locs (cells + 1) (slots + n) mc ms a X (by omega) (by omega) hmc hms hd hl hRep2 hS2 hL)
