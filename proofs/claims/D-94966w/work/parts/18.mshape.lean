set_option maxRecDepth 100000
/-! the model's cells: the object at o, its arrays behind it in the order of their making -/
def mTab : List (Nat × Nat × Nat × Nat) := [(3002, 1, 1800, 102), (3044, 2, 2, 102), (3047, 3, 48, 103), (3050, 4, 48, 102), (3053, 5, 48, 102), (3056, 6, 48, 102), (3059, 7, 48, 102), (3062, 8, 48, 102), (3065, 9, 2, 102), (3068, 10, 12, 103), (3071, 11, 288, 102), (3074, 12, 2, 102), (3077, 13, 20, 103), (3080, 14, 20, 102), (3083, 15, 20, 102), (3086, 16, 480, 102), (3089, 17, 2, 102), (3092, 18, 24, 103), (3095, 19, 24, 102), (3098, 20, 24, 102), (3101, 21, 24, 102), (3104, 22, 288, 102), (3107, 23, 2, 102), (3110, 24, 2, 102), (3113, 25, 2, 102), (3119, 26, 12, 102), (3128, 27, 6, 102), (3131, 28, 22, 102), (3134, 29, 264, 102), (3137, 30, 264, 102), (3140, 31, 264, 102), (3143, 32, 264, 102), (3146, 33, 3168, 102), (3149, 34, 22, 102), (3152, 35, 8800, 102), (3164, 36, 12, 102), (3176, 37, 12, 102), (3191, 38, 12, 102), (3197, 39, 12, 102), (3200, 40, 12, 102), (3203, 41, 12, 102), (3206, 42, 144, 102), (3209, 43, 29400, 102), (3212, 44, 10, 102), (3215, 45, 10, 102), (3218, 46, 12, 102), (3221, 47, 12, 102), (3236, 48, 210, 102)]
/-- field, place, length, kind -/
def mShape (G : jG) (N : jSh) (o : Nat) : Prop := jtg N o = 10 ∧ gB G ≤ o ∧ ∀ q ∈ mTab, jfn N q.1 o = ((o + q.2.1 : Nat) : Int) ∧ jln N (o + q.2.1) = q.2.2.1 ∧ jtg N (o + q.2.1) = q.2.2.2
theorem mf_tape {G : jG} {N : jSh} {o : Nat} (h : mShape G N o) : jfn N 3002 o = ((o + 1 : Nat) : Int) := (h.2.2 _ (List.mem_of_getElem? (i := 0) rfl)).1
theorem ml_tape {G : jG} {N : jSh} {o : Nat} (h : mShape G N o) : jln N (o + 1) = 1800 := (h.2.2 _ (List.mem_of_getElem? (i := 0) rfl)).2.1
theorem mt_tape {G : jG} {N : jSh} {o : Nat} (h : mShape G N o) : jtg N (o + 1) = 102 := (h.2.2 _ (List.mem_of_getElem? (i := 0) rfl)).2.2
theorem mf_words {G : jG} {N : jSh} {o : Nat} (h : mShape G N o) : jfn N 3044 o = ((o + 2 : Nat) : Int) := (h.2.2 _ (List.mem_of_getElem? (i := 1) rfl)).1
theorem ml_words {G : jG} {N : jSh} {o : Nat} (h : mShape G N o) : jln N (o + 2) = 2 := (h.2.2 _ (List.mem_of_getElem? (i := 1) rfl)).2.1
theorem mt_words {G : jG} {N : jSh} {o : Nat} (h : mShape G N o) : jtg N (o + 2) = 102 := (h.2.2 _ (List.mem_of_getElem? (i := 1) rfl)).2.2
theorem mf_wordName {G : jG} {N : jSh} {o : Nat} (h : mShape G N o) : jfn N 3047 o = ((o + 3 : Nat) : Int) := (h.2.2 _ (List.mem_of_getElem? (i := 2) rfl)).1
theorem ml_wordName {G : jG} {N : jSh} {o : Nat} (h : mShape G N o) : jln N (o + 3) = 48 := (h.2.2 _ (List.mem_of_getElem? (i := 2) rfl)).2.1
theorem mt_wordName {G : jG} {N : jSh} {o : Nat} (h : mShape G N o) : jtg N (o + 3) = 103 := (h.2.2 _ (List.mem_of_getElem? (i := 2) rfl)).2.2
theorem mf_beats {G : jG} {N : jSh} {o : Nat} (h : mShape G N o) : jfn N 3050 o = ((o + 4 : Nat) : Int) := (h.2.2 _ (List.mem_of_getElem? (i := 3) rfl)).1
theorem ml_beats {G : jG} {N : jSh} {o : Nat} (h : mShape G N o) : jln N (o + 4) = 48 := (h.2.2 _ (List.mem_of_getElem? (i := 3) rfl)).2.1
theorem mt_beats {G : jG} {N : jSh} {o : Nat} (h : mShape G N o) : jtg N (o + 4) = 102 := (h.2.2 _ (List.mem_of_getElem? (i := 3) rfl)).2.2
theorem mf_begins {G : jG} {N : jSh} {o : Nat} (h : mShape G N o) : jfn N 3053 o = ((o + 5 : Nat) : Int) := (h.2.2 _ (List.mem_of_getElem? (i := 4) rfl)).1
theorem ml_begins {G : jG} {N : jSh} {o : Nat} (h : mShape G N o) : jln N (o + 5) = 48 := (h.2.2 _ (List.mem_of_getElem? (i := 4) rfl)).2.1
theorem mt_begins {G : jG} {N : jSh} {o : Nat} (h : mShape G N o) : jtg N (o + 5) = 102 := (h.2.2 _ (List.mem_of_getElem? (i := 4) rfl)).2.2
theorem mf_endsOn {G : jG} {N : jSh} {o : Nat} (h : mShape G N o) : jfn N 3056 o = ((o + 6 : Nat) : Int) := (h.2.2 _ (List.mem_of_getElem? (i := 5) rfl)).1
theorem ml_endsOn {G : jG} {N : jSh} {o : Nat} (h : mShape G N o) : jln N (o + 6) = 48 := (h.2.2 _ (List.mem_of_getElem? (i := 5) rfl)).2.1
theorem mt_endsOn {G : jG} {N : jSh} {o : Nat} (h : mShape G N o) : jtg N (o + 6) = 102 := (h.2.2 _ (List.mem_of_getElem? (i := 5) rfl)).2.2
theorem mf_worth {G : jG} {N : jSh} {o : Nat} (h : mShape G N o) : jfn N 3059 o = ((o + 7 : Nat) : Int) := (h.2.2 _ (List.mem_of_getElem? (i := 6) rfl)).1
theorem ml_worth {G : jG} {N : jSh} {o : Nat} (h : mShape G N o) : jln N (o + 7) = 48 := (h.2.2 _ (List.mem_of_getElem? (i := 6) rfl)).2.1
theorem mt_worth {G : jG} {N : jSh} {o : Nat} (h : mShape G N o) : jtg N (o + 7) = 102 := (h.2.2 _ (List.mem_of_getElem? (i := 6) rfl)).2.2
theorem mf_never {G : jG} {N : jSh} {o : Nat} (h : mShape G N o) : jfn N 3062 o = ((o + 8 : Nat) : Int) := (h.2.2 _ (List.mem_of_getElem? (i := 7) rfl)).1
theorem ml_never {G : jG} {N : jSh} {o : Nat} (h : mShape G N o) : jln N (o + 8) = 48 := (h.2.2 _ (List.mem_of_getElem? (i := 7) rfl)).2.1
theorem mt_never {G : jG} {N : jSh} {o : Nat} (h : mShape G N o) : jtg N (o + 8) = 102 := (h.2.2 _ (List.mem_of_getElem? (i := 7) rfl)).2.2
theorem mf_streets {G : jG} {N : jSh} {o : Nat} (h : mShape G N o) : jfn N 3065 o = ((o + 9 : Nat) : Int) := (h.2.2 _ (List.mem_of_getElem? (i := 8) rfl)).1
theorem ml_streets {G : jG} {N : jSh} {o : Nat} (h : mShape G N o) : jln N (o + 9) = 2 := (h.2.2 _ (List.mem_of_getElem? (i := 8) rfl)).2.1
theorem mt_streets {G : jG} {N : jSh} {o : Nat} (h : mShape G N o) : jtg N (o + 9) = 102 := (h.2.2 _ (List.mem_of_getElem? (i := 8) rfl)).2.2
theorem mf_streetName {G : jG} {N : jSh} {o : Nat} (h : mShape G N o) : jfn N 3068 o = ((o + 10 : Nat) : Int) := (h.2.2 _ (List.mem_of_getElem? (i := 9) rfl)).1
theorem ml_streetName {G : jG} {N : jSh} {o : Nat} (h : mShape G N o) : jln N (o + 10) = 12 := (h.2.2 _ (List.mem_of_getElem? (i := 9) rfl)).2.1
theorem mt_streetName {G : jG} {N : jSh} {o : Nat} (h : mShape G N o) : jtg N (o + 10) = 103 := (h.2.2 _ (List.mem_of_getElem? (i := 9) rfl)).2.2
theorem mf_heardAs {G : jG} {N : jSh} {o : Nat} (h : mShape G N o) : jfn N 3071 o = ((o + 11 : Nat) : Int) := (h.2.2 _ (List.mem_of_getElem? (i := 10) rfl)).1
theorem ml_heardAs {G : jG} {N : jSh} {o : Nat} (h : mShape G N o) : jln N (o + 11) = 288 := (h.2.2 _ (List.mem_of_getElem? (i := 10) rfl)).2.1
theorem mt_heardAs {G : jG} {N : jSh} {o : Nat} (h : mShape G N o) : jtg N (o + 11) = 102 := (h.2.2 _ (List.mem_of_getElem? (i := 10) rfl)).2.2
theorem mf_children {G : jG} {N : jSh} {o : Nat} (h : mShape G N o) : jfn N 3074 o = ((o + 12 : Nat) : Int) := (h.2.2 _ (List.mem_of_getElem? (i := 11) rfl)).1
theorem ml_children {G : jG} {N : jSh} {o : Nat} (h : mShape G N o) : jln N (o + 12) = 2 := (h.2.2 _ (List.mem_of_getElem? (i := 11) rfl)).2.1
theorem mt_children {G : jG} {N : jSh} {o : Nat} (h : mShape G N o) : jtg N (o + 12) = 102 := (h.2.2 _ (List.mem_of_getElem? (i := 11) rfl)).2.2
theorem mf_childName {G : jG} {N : jSh} {o : Nat} (h : mShape G N o) : jfn N 3077 o = ((o + 13 : Nat) : Int) := (h.2.2 _ (List.mem_of_getElem? (i := 12) rfl)).1
theorem ml_childName {G : jG} {N : jSh} {o : Nat} (h : mShape G N o) : jln N (o + 13) = 20 := (h.2.2 _ (List.mem_of_getElem? (i := 12) rfl)).2.1
theorem mt_childName {G : jG} {N : jSh} {o : Nat} (h : mShape G N o) : jtg N (o + 13) = 103 := (h.2.2 _ (List.mem_of_getElem? (i := 12) rfl)).2.2
theorem mf_childStreet {G : jG} {N : jSh} {o : Nat} (h : mShape G N o) : jfn N 3080 o = ((o + 14 : Nat) : Int) := (h.2.2 _ (List.mem_of_getElem? (i := 13) rfl)).1
theorem ml_childStreet {G : jG} {N : jSh} {o : Nat} (h : mShape G N o) : jln N (o + 14) = 20 := (h.2.2 _ (List.mem_of_getElem? (i := 13) rfl)).2.1
theorem mt_childStreet {G : jG} {N : jSh} {o : Nat} (h : mShape G N o) : jtg N (o + 14) = 102 := (h.2.2 _ (List.mem_of_getElem? (i := 13) rfl)).2.2
theorem mf_holds {G : jG} {N : jSh} {o : Nat} (h : mShape G N o) : jfn N 3083 o = ((o + 15 : Nat) : Int) := (h.2.2 _ (List.mem_of_getElem? (i := 14) rfl)).1
theorem ml_holds {G : jG} {N : jSh} {o : Nat} (h : mShape G N o) : jln N (o + 15) = 20 := (h.2.2 _ (List.mem_of_getElem? (i := 14) rfl)).2.1
theorem mt_holds {G : jG} {N : jSh} {o : Nat} (h : mShape G N o) : jtg N (o + 15) = 102 := (h.2.2 _ (List.mem_of_getElem? (i := 14) rfl)).2.2
theorem mf_knows {G : jG} {N : jSh} {o : Nat} (h : mShape G N o) : jfn N 3086 o = ((o + 16 : Nat) : Int) := (h.2.2 _ (List.mem_of_getElem? (i := 15) rfl)).1
theorem ml_knows {G : jG} {N : jSh} {o : Nat} (h : mShape G N o) : jln N (o + 16) = 480 := (h.2.2 _ (List.mem_of_getElem? (i := 15) rfl)).2.1
theorem mt_knows {G : jG} {N : jSh} {o : Nat} (h : mShape G N o) : jtg N (o + 16) = 102 := (h.2.2 _ (List.mem_of_getElem? (i := 15) rfl)).2.2
theorem mf_laws {G : jG} {N : jSh} {o : Nat} (h : mShape G N o) : jfn N 3089 o = ((o + 17 : Nat) : Int) := (h.2.2 _ (List.mem_of_getElem? (i := 16) rfl)).1
theorem ml_laws {G : jG} {N : jSh} {o : Nat} (h : mShape G N o) : jln N (o + 17) = 2 := (h.2.2 _ (List.mem_of_getElem? (i := 16) rfl)).2.1
theorem mt_laws {G : jG} {N : jSh} {o : Nat} (h : mShape G N o) : jtg N (o + 17) = 102 := (h.2.2 _ (List.mem_of_getElem? (i := 16) rfl)).2.2
theorem mf_lawName {G : jG} {N : jSh} {o : Nat} (h : mShape G N o) : jfn N 3092 o = ((o + 18 : Nat) : Int) := (h.2.2 _ (List.mem_of_getElem? (i := 17) rfl)).1
theorem ml_lawName {G : jG} {N : jSh} {o : Nat} (h : mShape G N o) : jln N (o + 18) = 24 := (h.2.2 _ (List.mem_of_getElem? (i := 17) rfl)).2.1
theorem mt_lawName {G : jG} {N : jSh} {o : Nat} (h : mShape G N o) : jtg N (o + 18) = 103 := (h.2.2 _ (List.mem_of_getElem? (i := 17) rfl)).2.2
theorem mf_lawSung {G : jG} {N : jSh} {o : Nat} (h : mShape G N o) : jfn N 3095 o = ((o + 19 : Nat) : Int) := (h.2.2 _ (List.mem_of_getElem? (i := 18) rfl)).1
theorem ml_lawSung {G : jG} {N : jSh} {o : Nat} (h : mShape G N o) : jln N (o + 19) = 24 := (h.2.2 _ (List.mem_of_getElem? (i := 18) rfl)).2.1
theorem mt_lawSung {G : jG} {N : jSh} {o : Nat} (h : mShape G N o) : jtg N (o + 19) = 102 := (h.2.2 _ (List.mem_of_getElem? (i := 18) rfl)).2.2
theorem mf_lawMain {G : jG} {N : jSh} {o : Nat} (h : mShape G N o) : jfn N 3098 o = ((o + 20 : Nat) : Int) := (h.2.2 _ (List.mem_of_getElem? (i := 19) rfl)).1
theorem ml_lawMain {G : jG} {N : jSh} {o : Nat} (h : mShape G N o) : jln N (o + 20) = 24 := (h.2.2 _ (List.mem_of_getElem? (i := 19) rfl)).2.1
theorem mt_lawMain {G : jG} {N : jSh} {o : Nat} (h : mShape G N o) : jtg N (o + 20) = 102 := (h.2.2 _ (List.mem_of_getElem? (i := 19) rfl)).2.2
theorem mf_lawExcept {G : jG} {N : jSh} {o : Nat} (h : mShape G N o) : jfn N 3101 o = ((o + 21 : Nat) : Int) := (h.2.2 _ (List.mem_of_getElem? (i := 20) rfl)).1
theorem ml_lawExcept {G : jG} {N : jSh} {o : Nat} (h : mShape G N o) : jln N (o + 21) = 24 := (h.2.2 _ (List.mem_of_getElem? (i := 20) rfl)).2.1
theorem mt_lawExcept {G : jG} {N : jSh} {o : Nat} (h : mShape G N o) : jtg N (o + 21) = 102 := (h.2.2 _ (List.mem_of_getElem? (i := 20) rfl)).2.2
theorem mf_lawWords {G : jG} {N : jSh} {o : Nat} (h : mShape G N o) : jfn N 3104 o = ((o + 22 : Nat) : Int) := (h.2.2 _ (List.mem_of_getElem? (i := 21) rfl)).1
theorem ml_lawWords {G : jG} {N : jSh} {o : Nat} (h : mShape G N o) : jln N (o + 22) = 288 := (h.2.2 _ (List.mem_of_getElem? (i := 21) rfl)).2.1
theorem mt_lawWords {G : jG} {N : jSh} {o : Nat} (h : mShape G N o) : jtg N (o + 22) = 102 := (h.2.2 _ (List.mem_of_getElem? (i := 21) rfl)).2.2
theorem mf_head {G : jG} {N : jSh} {o : Nat} (h : mShape G N o) : jfn N 3107 o = ((o + 23 : Nat) : Int) := (h.2.2 _ (List.mem_of_getElem? (i := 22) rfl)).1
theorem ml_head {G : jG} {N : jSh} {o : Nat} (h : mShape G N o) : jln N (o + 23) = 2 := (h.2.2 _ (List.mem_of_getElem? (i := 22) rfl)).2.1
theorem mt_head {G : jG} {N : jSh} {o : Nat} (h : mShape G N o) : jtg N (o + 23) = 102 := (h.2.2 _ (List.mem_of_getElem? (i := 22) rfl)).2.2
theorem mf_mend {G : jG} {N : jSh} {o : Nat} (h : mShape G N o) : jfn N 3110 o = ((o + 24 : Nat) : Int) := (h.2.2 _ (List.mem_of_getElem? (i := 23) rfl)).1
theorem ml_mend {G : jG} {N : jSh} {o : Nat} (h : mShape G N o) : jln N (o + 24) = 2 := (h.2.2 _ (List.mem_of_getElem? (i := 23) rfl)).2.1
theorem mt_mend {G : jG} {N : jSh} {o : Nat} (h : mShape G N o) : jtg N (o + 24) = 102 := (h.2.2 _ (List.mem_of_getElem? (i := 23) rfl)).2.2
theorem mf_tune {G : jG} {N : jSh} {o : Nat} (h : mShape G N o) : jfn N 3113 o = ((o + 25 : Nat) : Int) := (h.2.2 _ (List.mem_of_getElem? (i := 24) rfl)).1
theorem ml_tune {G : jG} {N : jSh} {o : Nat} (h : mShape G N o) : jln N (o + 25) = 2 := (h.2.2 _ (List.mem_of_getElem? (i := 24) rfl)).2.1
theorem mt_tune {G : jG} {N : jSh} {o : Nat} (h : mShape G N o) : jtg N (o + 25) = 102 := (h.2.2 _ (List.mem_of_getElem? (i := 24) rfl)).2.2
theorem mf_readRow {G : jG} {N : jSh} {o : Nat} (h : mShape G N o) : jfn N 3119 o = ((o + 26 : Nat) : Int) := (h.2.2 _ (List.mem_of_getElem? (i := 25) rfl)).1
theorem ml_readRow {G : jG} {N : jSh} {o : Nat} (h : mShape G N o) : jln N (o + 26) = 12 := (h.2.2 _ (List.mem_of_getElem? (i := 25) rfl)).2.1
theorem mt_readRow {G : jG} {N : jSh} {o : Nat} (h : mShape G N o) : jtg N (o + 26) = 102 := (h.2.2 _ (List.mem_of_getElem? (i := 25) rfl)).2.2
theorem mf_refused {G : jG} {N : jSh} {o : Nat} (h : mShape G N o) : jfn N 3128 o = ((o + 27 : Nat) : Int) := (h.2.2 _ (List.mem_of_getElem? (i := 26) rfl)).1
theorem ml_refused {G : jG} {N : jSh} {o : Nat} (h : mShape G N o) : jln N (o + 27) = 6 := (h.2.2 _ (List.mem_of_getElem? (i := 26) rfl)).2.1
theorem mt_refused {G : jG} {N : jSh} {o : Nat} (h : mShape G N o) : jtg N (o + 27) = 102 := (h.2.2 _ (List.mem_of_getElem? (i := 26) rfl)).2.2
theorem mf_year {G : jG} {N : jSh} {o : Nat} (h : mShape G N o) : jfn N 3131 o = ((o + 28 : Nat) : Int) := (h.2.2 _ (List.mem_of_getElem? (i := 27) rfl)).1
theorem ml_year {G : jG} {N : jSh} {o : Nat} (h : mShape G N o) : jln N (o + 28) = 22 := (h.2.2 _ (List.mem_of_getElem? (i := 27) rfl)).2.1
theorem mt_year {G : jG} {N : jSh} {o : Nat} (h : mShape G N o) : jtg N (o + 28) = 102 := (h.2.2 _ (List.mem_of_getElem? (i := 27) rfl)).2.2
theorem mf_orderOf {G : jG} {N : jSh} {o : Nat} (h : mShape G N o) : jfn N 3134 o = ((o + 29 : Nat) : Int) := (h.2.2 _ (List.mem_of_getElem? (i := 28) rfl)).1
theorem ml_orderOf {G : jG} {N : jSh} {o : Nat} (h : mShape G N o) : jln N (o + 29) = 264 := (h.2.2 _ (List.mem_of_getElem? (i := 28) rfl)).2.1
theorem mt_orderOf {G : jG} {N : jSh} {o : Nat} (h : mShape G N o) : jtg N (o + 29) = 102 := (h.2.2 _ (List.mem_of_getElem? (i := 28) rfl)).2.2
theorem mf_main {G : jG} {N : jSh} {o : Nat} (h : mShape G N o) : jfn N 3137 o = ((o + 30 : Nat) : Int) := (h.2.2 _ (List.mem_of_getElem? (i := 29) rfl)).1
theorem ml_main {G : jG} {N : jSh} {o : Nat} (h : mShape G N o) : jln N (o + 30) = 264 := (h.2.2 _ (List.mem_of_getElem? (i := 29) rfl)).2.1
theorem mt_main {G : jG} {N : jSh} {o : Nat} (h : mShape G N o) : jtg N (o + 30) = 102 := (h.2.2 _ (List.mem_of_getElem? (i := 29) rfl)).2.2
theorem mf_except {G : jG} {N : jSh} {o : Nat} (h : mShape G N o) : jfn N 3140 o = ((o + 31 : Nat) : Int) := (h.2.2 _ (List.mem_of_getElem? (i := 30) rfl)).1
theorem ml_except {G : jG} {N : jSh} {o : Nat} (h : mShape G N o) : jln N (o + 31) = 264 := (h.2.2 _ (List.mem_of_getElem? (i := 30) rfl)).2.1
theorem mt_except {G : jG} {N : jSh} {o : Nat} (h : mShape G N o) : jtg N (o + 31) = 102 := (h.2.2 _ (List.mem_of_getElem? (i := 30) rfl)).2.2
theorem mf_sung {G : jG} {N : jSh} {o : Nat} (h : mShape G N o) : jfn N 3143 o = ((o + 32 : Nat) : Int) := (h.2.2 _ (List.mem_of_getElem? (i := 31) rfl)).1
theorem ml_sung {G : jG} {N : jSh} {o : Nat} (h : mShape G N o) : jln N (o + 32) = 264 := (h.2.2 _ (List.mem_of_getElem? (i := 31) rfl)).2.1
theorem mt_sung {G : jG} {N : jSh} {o : Nat} (h : mShape G N o) : jtg N (o + 32) = 102 := (h.2.2 _ (List.mem_of_getElem? (i := 31) rfl)).2.2
theorem mf_rows {G : jG} {N : jSh} {o : Nat} (h : mShape G N o) : jfn N 3146 o = ((o + 33 : Nat) : Int) := (h.2.2 _ (List.mem_of_getElem? (i := 32) rfl)).1
theorem ml_rows {G : jG} {N : jSh} {o : Nat} (h : mShape G N o) : jln N (o + 33) = 3168 := (h.2.2 _ (List.mem_of_getElem? (i := 32) rfl)).2.1
theorem mt_rows {G : jG} {N : jSh} {o : Nat} (h : mShape G N o) : jtg N (o + 33) = 102 := (h.2.2 _ (List.mem_of_getElem? (i := 32) rfl)).2.2
theorem mf_bookMany {G : jG} {N : jSh} {o : Nat} (h : mShape G N o) : jfn N 3149 o = ((o + 34 : Nat) : Int) := (h.2.2 _ (List.mem_of_getElem? (i := 33) rfl)).1
theorem ml_bookMany {G : jG} {N : jSh} {o : Nat} (h : mShape G N o) : jln N (o + 34) = 22 := (h.2.2 _ (List.mem_of_getElem? (i := 33) rfl)).2.1
theorem mt_bookMany {G : jG} {N : jSh} {o : Nat} (h : mShape G N o) : jtg N (o + 34) = 102 := (h.2.2 _ (List.mem_of_getElem? (i := 33) rfl)).2.2
theorem mf_bookRow {G : jG} {N : jSh} {o : Nat} (h : mShape G N o) : jfn N 3152 o = ((o + 35 : Nat) : Int) := (h.2.2 _ (List.mem_of_getElem? (i := 34) rfl)).1
theorem ml_bookRow {G : jG} {N : jSh} {o : Nat} (h : mShape G N o) : jln N (o + 35) = 8800 := (h.2.2 _ (List.mem_of_getElem? (i := 34) rfl)).2.1
theorem mt_bookRow {G : jG} {N : jSh} {o : Nat} (h : mShape G N o) : jtg N (o + 35) = 102 := (h.2.2 _ (List.mem_of_getElem? (i := 34) rfl)).2.2
theorem mf_told {G : jG} {N : jSh} {o : Nat} (h : mShape G N o) : jfn N 3164 o = ((o + 36 : Nat) : Int) := (h.2.2 _ (List.mem_of_getElem? (i := 35) rfl)).1
theorem ml_told {G : jG} {N : jSh} {o : Nat} (h : mShape G N o) : jln N (o + 36) = 12 := (h.2.2 _ (List.mem_of_getElem? (i := 35) rfl)).2.1
theorem mt_told {G : jG} {N : jSh} {o : Nat} (h : mShape G N o) : jtg N (o + 36) = 102 := (h.2.2 _ (List.mem_of_getElem? (i := 35) rfl)).2.2
theorem mf_said {G : jG} {N : jSh} {o : Nat} (h : mShape G N o) : jfn N 3176 o = ((o + 37 : Nat) : Int) := (h.2.2 _ (List.mem_of_getElem? (i := 36) rfl)).1
theorem ml_said {G : jG} {N : jSh} {o : Nat} (h : mShape G N o) : jln N (o + 37) = 12 := (h.2.2 _ (List.mem_of_getElem? (i := 36) rfl)).2.1
theorem mt_said {G : jG} {N : jSh} {o : Nat} (h : mShape G N o) : jtg N (o + 37) = 102 := (h.2.2 _ (List.mem_of_getElem? (i := 36) rfl)).2.2
theorem mf_seat {G : jG} {N : jSh} {o : Nat} (h : mShape G N o) : jfn N 3191 o = ((o + 38 : Nat) : Int) := (h.2.2 _ (List.mem_of_getElem? (i := 37) rfl)).1
theorem ml_seat {G : jG} {N : jSh} {o : Nat} (h : mShape G N o) : jln N (o + 38) = 12 := (h.2.2 _ (List.mem_of_getElem? (i := 37) rfl)).2.1
theorem mt_seat {G : jG} {N : jSh} {o : Nat} (h : mShape G N o) : jtg N (o + 38) = 102 := (h.2.2 _ (List.mem_of_getElem? (i := 37) rfl)).2.2
theorem mf_sitKind {G : jG} {N : jSh} {o : Nat} (h : mShape G N o) : jfn N 3197 o = ((o + 39 : Nat) : Int) := (h.2.2 _ (List.mem_of_getElem? (i := 38) rfl)).1
theorem ml_sitKind {G : jG} {N : jSh} {o : Nat} (h : mShape G N o) : jln N (o + 39) = 12 := (h.2.2 _ (List.mem_of_getElem? (i := 38) rfl)).2.1
theorem mt_sitKind {G : jG} {N : jSh} {o : Nat} (h : mShape G N o) : jtg N (o + 39) = 102 := (h.2.2 _ (List.mem_of_getElem? (i := 38) rfl)).2.2
theorem mf_sitMain {G : jG} {N : jSh} {o : Nat} (h : mShape G N o) : jfn N 3200 o = ((o + 40 : Nat) : Int) := (h.2.2 _ (List.mem_of_getElem? (i := 39) rfl)).1
theorem ml_sitMain {G : jG} {N : jSh} {o : Nat} (h : mShape G N o) : jln N (o + 40) = 12 := (h.2.2 _ (List.mem_of_getElem? (i := 39) rfl)).2.1
theorem mt_sitMain {G : jG} {N : jSh} {o : Nat} (h : mShape G N o) : jtg N (o + 40) = 102 := (h.2.2 _ (List.mem_of_getElem? (i := 39) rfl)).2.2
theorem mf_sitExcept {G : jG} {N : jSh} {o : Nat} (h : mShape G N o) : jfn N 3203 o = ((o + 41 : Nat) : Int) := (h.2.2 _ (List.mem_of_getElem? (i := 40) rfl)).1
theorem ml_sitExcept {G : jG} {N : jSh} {o : Nat} (h : mShape G N o) : jln N (o + 41) = 12 := (h.2.2 _ (List.mem_of_getElem? (i := 40) rfl)).2.1
theorem mt_sitExcept {G : jG} {N : jSh} {o : Nat} (h : mShape G N o) : jtg N (o + 41) = 102 := (h.2.2 _ (List.mem_of_getElem? (i := 40) rfl)).2.2
theorem mf_sitRow {G : jG} {N : jSh} {o : Nat} (h : mShape G N o) : jfn N 3206 o = ((o + 42 : Nat) : Int) := (h.2.2 _ (List.mem_of_getElem? (i := 41) rfl)).1
theorem ml_sitRow {G : jG} {N : jSh} {o : Nat} (h : mShape G N o) : jln N (o + 42) = 144 := (h.2.2 _ (List.mem_of_getElem? (i := 41) rfl)).2.1
theorem mt_sitRow {G : jG} {N : jSh} {o : Nat} (h : mShape G N o) : jtg N (o + 42) = 102 := (h.2.2 _ (List.mem_of_getElem? (i := 41) rfl)).2.2
theorem mf_history {G : jG} {N : jSh} {o : Nat} (h : mShape G N o) : jfn N 3209 o = ((o + 43 : Nat) : Int) := (h.2.2 _ (List.mem_of_getElem? (i := 42) rfl)).1
theorem ml_history {G : jG} {N : jSh} {o : Nat} (h : mShape G N o) : jln N (o + 43) = 29400 := (h.2.2 _ (List.mem_of_getElem? (i := 42) rfl)).2.1
theorem mt_history {G : jG} {N : jSh} {o : Nat} (h : mShape G N o) : jtg N (o + 43) = 102 := (h.2.2 _ (List.mem_of_getElem? (i := 42) rfl)).2.2
theorem mf_historyBy {G : jG} {N : jSh} {o : Nat} (h : mShape G N o) : jfn N 3212 o = ((o + 44 : Nat) : Int) := (h.2.2 _ (List.mem_of_getElem? (i := 43) rfl)).1
theorem ml_historyBy {G : jG} {N : jSh} {o : Nat} (h : mShape G N o) : jln N (o + 44) = 10 := (h.2.2 _ (List.mem_of_getElem? (i := 43) rfl)).2.1
theorem mt_historyBy {G : jG} {N : jSh} {o : Nat} (h : mShape G N o) : jtg N (o + 44) = 102 := (h.2.2 _ (List.mem_of_getElem? (i := 43) rfl)).2.2
theorem mf_historyFirst {G : jG} {N : jSh} {o : Nat} (h : mShape G N o) : jfn N 3215 o = ((o + 45 : Nat) : Int) := (h.2.2 _ (List.mem_of_getElem? (i := 44) rfl)).1
theorem ml_historyFirst {G : jG} {N : jSh} {o : Nat} (h : mShape G N o) : jln N (o + 45) = 10 := (h.2.2 _ (List.mem_of_getElem? (i := 44) rfl)).2.1
theorem mt_historyFirst {G : jG} {N : jSh} {o : Nat} (h : mShape G N o) : jtg N (o + 45) = 102 := (h.2.2 _ (List.mem_of_getElem? (i := 44) rfl)).2.2
theorem mf_perm {G : jG} {N : jSh} {o : Nat} (h : mShape G N o) : jfn N 3218 o = ((o + 46 : Nat) : Int) := (h.2.2 _ (List.mem_of_getElem? (i := 45) rfl)).1
theorem ml_perm {G : jG} {N : jSh} {o : Nat} (h : mShape G N o) : jln N (o + 46) = 12 := (h.2.2 _ (List.mem_of_getElem? (i := 45) rfl)).2.1
theorem mt_perm {G : jG} {N : jSh} {o : Nat} (h : mShape G N o) : jtg N (o + 46) = 102 := (h.2.2 _ (List.mem_of_getElem? (i := 45) rfl)).2.2
theorem mf_bestPerm {G : jG} {N : jSh} {o : Nat} (h : mShape G N o) : jfn N 3221 o = ((o + 47 : Nat) : Int) := (h.2.2 _ (List.mem_of_getElem? (i := 46) rfl)).1
theorem ml_bestPerm {G : jG} {N : jSh} {o : Nat} (h : mShape G N o) : jln N (o + 47) = 12 := (h.2.2 _ (List.mem_of_getElem? (i := 46) rfl)).2.1
theorem mt_bestPerm {G : jG} {N : jSh} {o : Nat} (h : mShape G N o) : jtg N (o + 47) = 102 := (h.2.2 _ (List.mem_of_getElem? (i := 46) rfl)).2.2
theorem mf_out {G : jG} {N : jSh} {o : Nat} (h : mShape G N o) : jfn N 3236 o = ((o + 48 : Nat) : Int) := (h.2.2 _ (List.mem_of_getElem? (i := 47) rfl)).1
theorem ml_out {G : jG} {N : jSh} {o : Nat} (h : mShape G N o) : jln N (o + 48) = 210 := (h.2.2 _ (List.mem_of_getElem? (i := 47) rfl)).2.1
theorem mt_out {G : jG} {N : jSh} {o : Nat} (h : mShape G N o) : jtg N (o + 48) = 102 := (h.2.2 _ (List.mem_of_getElem? (i := 47) rfl)).2.2
