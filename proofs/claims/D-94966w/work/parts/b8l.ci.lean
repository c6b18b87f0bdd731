set_option maxRecDepth 100000
set_option linter.unusedVariables false
/-! what constructors build: cells from x on, by lists -/
abbrev cFl : Type := Nat × Nat × Nat × Int
def cVl (x : Nat) (s : Int) (q : cFl) : Int := if q.2.2.1 = 0 then q.2.2.2 else if q.2.2.1 = 1 then (x : Int) + q.2.2.2 else s
/-- T tags, fl links (field, from, to), ln lengths, Fl other fields, Al arrays all alike, Sl arrays of cells three apart -/
def cI (x : Nat) (s : Int) (N0 : jSh) (F0 : jFl) (A0 : jAr) (N : jSh) (F : jFl) (A : jAr) (T : List Nat) (fl : List (Nat × Nat × Nat)) (ln : List (Nat × Nat)) (Fl : List cFl) (Al : List (Nat × Int)) (Sl : List (Nat × Nat × Nat)) (sz : Nat) : Prop :=
  (jnx N = x + T.length ∧ jsu N = sz) ∧
  (nb N ∧ ∀ a : Nat, a < x → (jtg N a = jtg N0 a ∧ jln N a = jln N0 a ∧ ∀ f, jfn N f a = jfn N0 f a) ∧ (∀ f, F f a = F0 f a) ∧ A a = A0 a) ∧
  (∀ k : Nat, k < T.length → jtg N (x + k) = T.getD k 0 ∧ jfn N 0 (x + k) = 1) ∧
  (∀ q ∈ fl, q.2.1 < T.length ∧ jfn N q.1 (x + q.2.1) = ((x + q.2.2 : Nat) : Int)) ∧
  (∀ q ∈ ln, q.1 < T.length ∧ jln N (x + q.1) = q.2) ∧
  (∀ q ∈ Fl, q.2.1 < T.length ∧ F q.1 (x + q.2.1) = cVl x s q) ∧
  (∀ q ∈ Al, q.1 < T.length ∧ ∀ i : Int, A (x + q.1) i = q.2) ∧
  ∀ q ∈ Sl, q.1 < T.length ∧ ∀ j : Nat, j < q.2.2 → A (x + q.1) (j : Int) = ((x + q.2.1 + 3 * j : Nat) : Int)
section CI
variable {x : Nat} {s : Int} {N0 N : jSh} {F0 F : jFl} {A0 A : jAr} {T : List Nat} {fl : List (Nat × Nat × Nat)} {ln : List (Nat × Nat)} {Fl : List cFl} {Al : List (Nat × Int)} {Sl : List (Nat × Nat × Nat)} {sz : Nat}
theorem getD_app {T : List Nat} {t k : Nat} (h : k < T.length) : (T ++ [t]).getD k 0 = T.getD k 0 := by
  simp only [List.getD_eq_getElem?_getD, List.getElem?_append_left h]
theorem getD_last {T : List Nat} {t : Nat} : (T ++ [t]).getD T.length 0 = t := by
  simp [List.getD_eq_getElem?_getD]
theorem cI.cells (h : cI x s N0 F0 A0 N F A T fl ln Fl Al Sl sz) (t n sl : Nat) (ht : t ≠ 0) : (jnx (jnew N t n sl 1) = x + (T ++ [t]).length ∧ jsu (jnew N t n sl 1) = sz + sl) ∧ (nb (jnew N t n sl 1) ∧ ∀ a : Nat, a < x → (jtg (jnew N t n sl 1) a = jtg N0 a ∧ jln (jnew N t n sl 1) a = jln N0 a ∧ ∀ f, jfn (jnew N t n sl 1) f a = jfn N0 f a) ∧ (∀ f, nwF N F f a = F0 f a) ∧ A a = A0 a) ∧
    (∀ k : Nat, k < (T ++ [t]).length → jtg (jnew N t n sl 1) (x + k) = (T ++ [t]).getD k 0 ∧ jfn (jnew N t n sl 1) 0 (x + k) = 1) ∧
    (∀ q ∈ fl, q.2.1 < (T ++ [t]).length ∧ jfn (jnew N t n sl 1) q.1 (x + q.2.1) = ((x + q.2.2 : Nat) : Int)) ∧
    (∀ q ∈ ln, q.1 < (T ++ [t]).length ∧ jln (jnew N t n sl 1) (x + q.1) = q.2) ∧
    (∀ q ∈ Fl, q.2.1 < (T ++ [t]).length ∧ nwF N F q.1 (x + q.2.1) = cVl x s q) := by
  obtain ⟨⟨h1, h2⟩, ⟨h3, h4⟩, h5, h6, h7, h8, h9, h10⟩ := h
  have hl : (T ++ [t]).length = T.length + 1 := by simp
  rw [hl]
  refine ⟨⟨by rw [jnewNx, h1]; omega, by rw [jnewSu, h2]⟩, ⟨fun a ha => ?_, fun a ha => ?_⟩, fun k hk => ?_, fun q hq => ?_, fun q hq => ?_, fun q hq => ?_⟩
  · rw [jnewNx]
    by_cases w : a = jnx N
    · omega
    · rw [jnew_tgo w] at ha
      have := h3 a ha
      omega
  · have w : a ≠ jnx N := by omega
    obtain ⟨⟨g1, g2, g3⟩, g4, g5⟩ := h4 a ha
    exact ⟨⟨by rw [jnew_tgo w, g1], by rw [jnew_lno w, g2], fun f => by rw [jnew_fno w, g3]⟩, fun f => by rw [nwF_o w, g4], g5⟩
  · by_cases w : k = T.length
    · subst w
      rw [← h1, jnewTg, jnew_f0, getD_last]
      exact ⟨rfl, rfl⟩
    · have w2 : x + k ≠ jnx N := by omega
      rw [jnew_tgo w2, jnew_fno w2, getD_app (by omega)]
      exact h5 k (by omega)
  · obtain ⟨g1, g2⟩ := h6 q hq
    exact ⟨by omega, by rw [jnew_fno (by omega)]; exact g2⟩
  · obtain ⟨g1, g2⟩ := h7 q hq
    exact ⟨by omega, by rw [jnew_lno (by omega)]; exact g2⟩
  · obtain ⟨g1, g2⟩ := h8 q hq
    exact ⟨by omega, by rw [nwF_o (by omega)]; exact g2⟩
theorem cI.obj (h : cI x s N0 F0 A0 N F A T fl ln Fl Al Sl sz) (t sl : Nat) (ht : t ≠ 0) (fs : List Nat) : cI x s N0 F0 A0 (jnew N t 0 sl 1) (nwF N F) A (T ++ [t]) fl ln (Fl ++ fs.map (fun f => (f, T.length, 0, jdf f))) Al Sl (sz + sl) := by
  have c := h.cells t 0 sl ht
  obtain ⟨⟨h1, h2⟩, ⟨h3, h4⟩, h5, h6, h7, h8, h9, h10⟩ := h
  have hl : (T ++ [t]).length = T.length + 1 := by simp
  obtain ⟨c1, c2, c3, c4, c5, c6⟩ := c
  refine ⟨c1, c2, c3, c4, c5, fun q hq => ?_, fun q hq => ?_, fun q hq => ?_⟩
  · rcases List.mem_append.mp hq with w | w
    · exact c6 q w
    · obtain ⟨f, -, rfl⟩ := List.mem_map.mp w
      refine ⟨by rw [hl]; exact Nat.lt_succ_self _, ?_⟩
      show nwF N F f (x + T.length) = jdf f
      rw [← h1, nwF_s]
  · obtain ⟨g1, g2⟩ := h9 q hq
    exact ⟨by omega, g2⟩
  · obtain ⟨g1, g2⟩ := h10 q hq
    exact ⟨by omega, g2⟩
theorem cI.arr (h : cI x s N0 F0 A0 N F A T fl ln Fl Al Sl sz) (t n : Nat) (ht : t ≠ 0) : cI x s N0 F0 A0 (jnew N t n n 1) (nwF N F) (nwA N t A) (T ++ [t]) fl (ln ++ [(T.length, n)]) Fl (Al ++ [(T.length, jdf t)]) Sl (sz + n) := by
  have c := h.cells t n n ht
  obtain ⟨⟨h1, h2⟩, ⟨h3, h4⟩, h5, h6, h7, h8, h9, h10⟩ := h
  have hl : (T ++ [t]).length = T.length + 1 := by simp
  obtain ⟨c1, c2, c3, c4, c5, c6⟩ := c
  refine ⟨c1, ⟨c2.1, fun a ha => ⟨(c2.2 a ha).1, (c2.2 a ha).2.1, by rw [nwA_o (by omega)]; exact (c2.2 a ha).2.2⟩⟩, c3, c4, fun q hq => ?_, c6, fun q hq => ?_, fun q hq => ?_⟩
  · rcases List.mem_append.mp hq with w | w
    · exact c5 q w
    · cases List.mem_singleton.mp w
      exact ⟨by rw [hl]; omega, by rw [← h1]; exact jnewLn _ _ _ _ _⟩
  · rcases List.mem_append.mp hq with w | w
    · obtain ⟨g1, g2⟩ := h9 q w
      exact ⟨by omega, fun i => by rw [nwA_o (by omega)]; exact g2 i⟩
    · cases List.mem_singleton.mp w
      exact ⟨by rw [hl]; omega, fun i => by rw [← h1]; exact nwA_s _ _ _ _⟩
  · obtain ⟨g1, g2⟩ := h10 q hq
    exact ⟨by omega, fun j hj => by rw [nwA_o (by omega)]; exact g2 j hj⟩
theorem cI.arrS (h : cI x s N0 F0 A0 N F A T fl ln Fl Al Sl sz) (t n c : Nat) (ht : t ≠ 0) : cI x s N0 F0 A0 (jnew N t n n 1) (nwF N F) (nwA N t A) (T ++ [t]) fl (ln ++ [(T.length, n)]) Fl Al (Sl ++ [(T.length, c, 0)]) (sz + n) := by
  obtain ⟨c1, c2, c3, c4, c5, c6, c7, c8⟩ := h.arr t n ht
  have hl : (T ++ [t]).length = T.length + 1 := by simp
  refine ⟨c1, c2, c3, c4, c5, c6, fun q hq => c7 q (List.mem_append_left _ hq), fun q hq => ?_⟩
  rcases List.mem_append.mp hq with w | w
  · exact c8 q w
  · cases List.mem_singleton.mp w
    exact ⟨by rw [hl]; omega, fun j hj => absurd hj (Nat.not_lt_zero _)⟩
theorem cI.pf (h : cI x s N0 F0 A0 N F A T fl ln Fl Al Sl sz) {o f : Nat} {z : Int} (k j : Nat) (ho : o = x + k) (hz : z = ((x + j : Nat) : Int)) (hk : k < T.length) (hf : f ≠ 0) (hfr : ∀ q ∈ fl, q.1 = f → q.2.1 ≠ k) : cI x s N0 F0 A0 (jpF N f o z) F A T (fl ++ [(f, k, j)]) ln Fl Al Sl sz := by
  obtain ⟨⟨h1, h2⟩, ⟨h3, h4⟩, h5, h6, h7, h8, h9, h10⟩ := h
  subst ho; subst hz
  refine ⟨⟨h1, h2⟩, ⟨h3, fun a ha => ?_⟩, fun i hi => ?_, fun q hq => ?_, h7, h8, h9, h10⟩
  · obtain ⟨⟨g1, g2, g3⟩, g4, g5⟩ := h4 a ha
    exact ⟨⟨g1, g2, fun g => by rw [jpF_a (by omega)]; exact g3 g⟩, g4, g5⟩
  · exact ⟨(h5 i hi).1, by rw [jpF_f (Ne.symm hf)]; exact (h5 i hi).2⟩
  · rcases List.mem_append.mp hq with w | w
    · obtain ⟨g1, g2⟩ := h6 q w
      refine ⟨g1, ?_⟩
      by_cases e : q.1 = f
      · have := hfr q w e
        rw [jpF_a (by omega)]
        exact g2
      · rw [jpF_f e]
        exact g2
    · cases List.mem_singleton.mp w
      exact ⟨hk, jpF_s _ _ _ _⟩
theorem cI.uF (h : cI x s N0 F0 A0 N F A T fl ln Fl Al Sl sz) {o f : Nat} {z : Int} (k m : Nat) (c : Int) (ho : o = x + k) (hz : z = cVl x s (f, k, m, c)) (hk : k < T.length) (hfr : ∀ q ∈ Fl, q.1 = f → q.2.1 ≠ k) : cI x s N0 F0 A0 N (upF F f o z) A T fl ln (Fl ++ [(f, k, m, c)]) Al Sl sz := by
  obtain ⟨⟨h1, h2⟩, ⟨h3, h4⟩, h5, h6, h7, h8, h9, h10⟩ := h
  subst ho; subst hz
  refine ⟨⟨h1, h2⟩, ⟨h3, fun a ha => ?_⟩, h5, h6, h7, fun q hq => ?_, h9, h10⟩
  · obtain ⟨g1, g4, g5⟩ := h4 a ha
    exact ⟨g1, fun g => by rw [upF_a (by omega)]; exact g4 g, g5⟩
  · rcases List.mem_append.mp hq with w | w
    · obtain ⟨g1, g2⟩ := h8 q w
      refine ⟨g1, ?_⟩
      by_cases e : q.1 = f
      · have := hfr q w e
        rw [upF_a (by omega)]
        exact g2
      · rw [upF_f e]
        exact g2
    · cases List.mem_singleton.mp w
      exact ⟨hk, upF_s⟩
theorem cI.uS {c j : Nat} (k : Nat) (h : cI x s N0 F0 A0 N F A T fl ln Fl Al (Sl ++ [(k, c, j)]) sz) {o : Nat} {i z : Int} (ho : o = x + k) (hi : i = (j : Int)) (hz : z = ((x + c + 3 * j : Nat) : Int)) (hS : ∀ q ∈ Sl, q.1 ≠ k) (hA : ∀ q ∈ Al, q.1 ≠ k) : cI x s N0 F0 A0 N F (upA A o i z) T fl ln Fl Al (Sl ++ [(k, c, j + 1)]) sz := by
  obtain ⟨⟨h1, h2⟩, ⟨h3, h4⟩, h5, h6, h7, h8, h9, h10⟩ := h
  subst ho; subst hi; subst hz
  refine ⟨⟨h1, h2⟩, ⟨h3, fun a ha => ?_⟩, h5, h6, h7, h8, fun q hq => ?_, fun q hq => ?_⟩
  · obtain ⟨g1, g4, g5⟩ := h4 a ha
    exact ⟨g1, g4, by rw [upA_o (by omega)]; exact g5⟩
  · obtain ⟨g1, g2⟩ := h9 q hq
    have := hA q hq
    exact ⟨g1, fun i => by rw [upA_a (by omega)]; exact g2 i⟩
  · rcases List.mem_append.mp hq with w | w
    · obtain ⟨g1, g2⟩ := h10 q (List.mem_append_left _ w)
      have := hS q w
      exact ⟨g1, fun i hi => by rw [upA_a (by omega)]; exact g2 i hi⟩
    · cases List.mem_singleton.mp w
      obtain ⟨g1, g2⟩ := h10 (k, c, j) (List.mem_append_right _ (List.mem_singleton.mpr rfl))
      refine ⟨g1, fun i hi => ?_⟩
      by_cases e : i = j
      · rw [e]; exact upA_s
      · have hi : i < j + 1 := hi
        rw [upA_i (by omega)]
        exact g2 i (by show i < j; omega)
theorem cI.arrE (h : cI x s N0 F0 A0 N F A T fl ln Fl Al Sl sz) (t n k : Nat) (ht : t ≠ 0) (hT : T.length = k) {b : Nat} {N2 : jSh} {F2 : jFl} {A2 : jAr} (eb : b = jnx N) (eN : N2 = jnew N t n n 1) (eF : F2 = nwF N F) (eA : A2 = nwA N t A) : b = x + k ∧ cI x s N0 F0 A0 N2 F2 A2 (T ++ [t]) fl (ln ++ [(k, n)]) Fl (Al ++ [(k, jdf t)]) Sl (sz + n) := by
  subst hT
  exact ⟨eb.trans h.1.1, by rw [eN, eF, eA]; exact h.arr t n ht⟩
theorem cI.objE (h : cI x s N0 F0 A0 N F A T fl ln Fl Al Sl sz) (t sl k : Nat) (fs : List Nat) (ht : t ≠ 0) (hT : T.length = k) {b : Nat} {N2 : jSh} {F2 : jFl} (eb : b = jnx N) (eN : N2 = jnew N t 0 sl 1) (eF : F2 = nwF N F) : b = x + k ∧ cI x s N0 F0 A0 N2 F2 A (T ++ [t]) fl ln (Fl ++ fs.map (fun f => (f, k, 0, jdf f))) Al Sl (sz + sl) := by
  subst hT
  exact ⟨eb.trans h.1.1, by rw [eN, eF]; exact h.obj t sl ht fs⟩
theorem cI.pfE (h : cI x s N0 F0 A0 N F A T fl ln Fl Al Sl sz) {o f b : Nat} {N2 : jSh} (k j : Nat) (ho : o = x + k) (hb : b = x + j) (hk : k < T.length) (hf : f ≠ 0) (hfr : ∀ q ∈ fl, q.1 = f → q.2.1 ≠ k) (eN : N2 = jpF N f o (b : Int)) : cI x s N0 F0 A0 N2 F A T (fl ++ [(f, k, j)]) ln Fl Al Sl sz := by
  rw [eN]
  exact h.pf k j ho (by rw [hb]) hk hf hfr
theorem cI.uFE (h : cI x s N0 F0 A0 N F A T fl ln Fl Al Sl sz) {o f : Nat} {z : Int} {F2 : jFl} (k m : Nat) (c : Int) (ho : o = x + k) (hz : z = cVl x s (f, k, m, c)) (hk : k < T.length) (hfr : ∀ q ∈ Fl, q.1 = f → q.2.1 ≠ k) (eF : F2 = upF F f o z) : cI x s N0 F0 A0 N F2 A T fl ln (Fl ++ [(f, k, m, c)]) Al Sl sz := by
  rw [eF]
  exact h.uF k m c ho hz hk hfr
theorem cI.o1 (h : cI x s N0 F0 A0 N F A T fl ln Fl Al Sl sz) {o k : Nat} (ho : o = x + k) (hk : k < T.length) : jfn N 0 o = 1 := by
  rw [ho]
  exact (h.2.2.1 k hk).2
theorem cI.start (hn : nb N) : cI (jnx N) s N F A N F A [] [] [] [] [] [] (jsu N) :=
  ⟨⟨rfl, rfl⟩, ⟨hn, fun _ _ => ⟨⟨rfl, rfl, fun _ => rfl⟩, fun _ => rfl, rfl⟩⟩, fun _ h => absurd h (Nat.not_lt_zero _), fun _ h => absurd h List.not_mem_nil, fun _ h => absurd h List.not_mem_nil, fun _ h => absurd h List.not_mem_nil, fun _ h => absurd h List.not_mem_nil, fun _ h => absurd h List.not_mem_nil⟩
/-- X3_init: a row's words -/
theorem kX3_init {o : Nat} (k : Nat) (h : cI x s N0 F0 A0 N F A T fl ln Fl Al Sl sz) (ho : o = x + k) (hT : T.length = k + 1) (hfl : ∀ q ∈ fl, q.1 = 1202 → q.2.1 ≠ k) : wqX3_init o N F A (fun N' F' A' => cI x s N0 F0 A0 N' F' A' (T ++ [107]) (fl ++ [(1202, k, k + 1)]) (ln ++ [(k + 1, 12)]) Fl (Al ++ [(k + 1, -1)]) Sl (sz + 12)) := by
  unfold wqX3_init
  intro b N2 F3 A4 eb eN eF eA
  have c := h.arr 107 12 (by decide)
  rw [← eN, ← eF, ← eA, hT] at c
  have hb : b = x + (k + 1) := by rw [eb, h.1.1, hT]
  refine ⟨by rw [ho]; exact (c.2.2.1 k (by simp; omega)).2, fun N12 e12 => ?_⟩
  rw [e12]
  exact c.pf k (k + 1) ho (by rw [hb]) (by simp; omega) (by decide) hfl
/-- X2_init: a saying and its row -/
theorem kX2_init {o p : Nat} {a1 : Int} (k : Nat) (h : cI x s N0 F0 A0 N F A T fl ln Fl Al Sl sz) (ho : o = x + k) (ha : a1 = ((x + p : Nat) : Int)) (hT : T.length = k + 1) (hfl : ∀ q ∈ fl, q.2.1 < k) : wqX2_init o a1 N F A (fun N' F' A' => cI x s N0 F0 A0 N' F' A' (T ++ [4] ++ [107]) (fl ++ [(914, k, p)] ++ [(1202, k + 1, k + 2)] ++ [(902, k, k + 1)]) (ln ++ [(k + 2, 12)]) Fl (Al ++ [(k + 2, -1)]) Sl (sz + 3 + 12)) := by
  unfold wqX2_init
  refine ⟨by rw [ho]; exact (h.2.2.1 k (by omega)).2, fun N3 e3 b5 N6 F7 eb eN eF => ?_⟩
  have c := h.pf k p ho ha (by omega) (f := 914) (by decide) (fun q hq _ => by have := hfl q hq; omega)
  rw [← e3] at c
  have c2 := c.obj 4 3 (by decide) []
  rw [← eN, ← eF] at c2
  have hb : b5 = x + (k + 1) := by rw [eb, c.1.1, hT]
  rw [List.map_nil, List.append_nil] at c2
  refine ⟨_, kX3_init (k + 1) c2 hb (by simp; omega) (fun q hq e => ?_), fun N17 F15 A16 hp N25 e25 => ?_⟩
  · rcases List.mem_append.mp hq with w | w
    · have := hfl q w
      omega
    · cases List.mem_singleton.mp w
      cases e
  · rw [e25]
    exact hp.pf k (k + 1) ho (by rw [hb]) (by simp; omega) (by decide) (fun q hq e => by
      rcases List.mem_append.mp hq with w | w
      · rcases List.mem_append.mp w with w | w
        · have := hfl q w
          omega
        · cases List.mem_singleton.mp w
          cases e
      · cases List.mem_singleton.mp w
        cases e)
end CI
