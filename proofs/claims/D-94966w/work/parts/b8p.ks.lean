set_option maxRecDepth 100000
set_option linter.unusedVariables false
/-! both sides as their constructors leave them -/
def sB0 : sBk := (0, fun _ _ => 0)
def sU0 : sUn := (0, fun _ => (sL0, sB0))
def sQ0 : sMi := fun k _ => if k = 4 then -1 else if k = 5 then 1 else 0
theorem sWok_0 : sWok sW0 := by
  refine ⟨by decide, by decide, by decide, by decide, by decide, by decide, by decide, fun w a b => ?_, fun s w a b => ?_, fun c a b => ?_, fun c w a b => ?_⟩
  all_goals (have b' : _ < (0 : Int) := b; omega)
theorem sLok_0 : sLok sW0 sL0 := by
  refine ⟨by decide, fun p a b => ?_, fun p q a b => ?_, fun l a b => ?_, fun l k a b => ?_⟩
  all_goals (have b' : _ < (0 : Int) := b; omega)
theorem jli_0 {N : jSh} {F : jFl} {A : jAr} {S : Nat → Nat} {l : Nat} (e : Int → Int) (h19 : s19 S N) (h1 : jtg N l = 20 ∧ jfn N 0 l = 1) (h2 : F 6003 l = 0) (h3 : F 6002 l = (S 19 : Int)) : jli N F A l 0 e :=
  ⟨h1, h2, by decide, S 19, h3, h19.1, by omega, fun k a b => by omega, ⟨Or.inr h19.2, by rw [h19.2]; decide, fun k a b => by rw [h19.2] at b; omega⟩, fun k a b => by omega⟩
theorem kXst {S : Nat → Nat} {x sz : Nat} {u0 : Int} {N0 N : jSh} {F0 F : jFl} {A0 A : jAr} (h : cI x (S 19 : Int) N0 F0 A0 N F A kT kfl kln kFl kAl kSl sz) (hx : x = jnx N0) (hn0 : nb N0) (h20 : ∀ a, jtg N0 a ≠ 20) (h104 : ∀ b, jtg N0 b = 104 → b = S 19) (h19 : s19 S N0) (hown : own S N0 A0 u0) : xst S 0 0 N F A x sW0 sL0 sB0 sU0 sQ0 := by
  obtain ⟨⟨c1, c2⟩, ⟨hn, hold⟩, hT, hfl, hln, hFl, hAl, hSl⟩ := h
  have hTl : kT.length = 142 := by decide +kernel
  rw [hTl] at c1 hT
  have nx : nex N0 N := ⟨by omega, fun a ha => (hold a (by omega)).1⟩
  have s19n : s19 S N := h19.ex hn0 nx
  have s19x : S 19 < jnx N0 := hn0 (S 19) (by rw [h19.1]; decide)
  have at20 : ∀ l : Nat, jtg N l = 20 → ∃ k : Nat, (4 ≤ k ∧ k ≤ 10) ∧ l = x + k := by
    intro l hl
    by_cases w : l < x
    · exact absurd ((hold l w).1.1 ▸ hl) (h20 l)
    · have lx := hn l (by rw [hl]; decide)
      have q := (hT (l - x) (by omega)).1
      rw [show x + (l - x) = l from by omega, hl] at q
      have d : ∀ k : Fin 142, 20 = kT.getD k.val 0 → 4 ≤ k.val ∧ k.val ≤ 10 := by decide +kernel
      exact ⟨l - x, d ⟨l - x, by omega⟩ q, by omega⟩
  have li : ∀ k : Nat, 4 ≤ k → k ≤ 10 → (jtg N (x + k) = 20 ∧ jfn N 0 (x + k) = 1) ∧ F 6003 (x + k) = 0 ∧ F 6002 (x + k) = (S 19 : Int) ∧ F 6900 (x + k) = 0 := by
    intro k h1 h2
    have d : ∀ k : Fin 11, 4 ≤ k.val → kT.getD k.val 0 = 20 ∧ (6003, k.val, 0, 0) ∈ kFl ∧ (6002, k.val, 2, 0) ∈ kFl ∧ (6900, k.val, 0, 0) ∈ kFl := by decide +kernel
    obtain ⟨d1, d2, d3, d4⟩ := d ⟨k, by omega⟩ h1
    exact ⟨⟨(hT k (by omega)).1.trans d1, (hT k (by omega)).2⟩, (hFl _ d2).2, (hFl _ d3).2, (hFl _ d4).2⟩
  have fv : ∀ q : cFl, q ∈ kFl → F q.1 (x + q.2.1) = cVl x (S 19 : Int) q := fun q hq => (hFl q hq).2
  have hlay : lay N x := by
    refine ⟨fun k hk => ?_, fun q hq => ?_, fun q hq => ?_⟩
    · have d : ∀ k : Fin 141, kT.getD k.val 0 = tagT.getD k.val 0 := by decide +kernel
      exact ⟨(hT k (by omega)).1.trans (d ⟨k, hk⟩), (hT k (by omega)).2⟩
    · have d : ∀ q ∈ fldT, q ∈ kfl := by decide +kernel
      exact (hfl q (d q hq)).2
    · have d : ∀ q ∈ lenT, q ∈ kln := by decide +kernel
      exact (hln q (d q hq)).2
  have hsa : sarr A x := ⟨fun k hk => (hSl (15, 17, 12) (by decide +kernel)).2 k hk, fun k hk => (hSl (99, 101, 12) (by decide +kernel)).2 k hk, fun k hk => (hSl (54, 57, 10) (by decide +kernel)).2 k hk⟩
  have hgi : gi S 0 N F := by
    refine ⟨hn, fun b hb _ => ?_, fun l hl => ?_, fun l l' hl hl' _ _ _ => ?_, by decide⟩
    · by_cases w : b < x
      · exact h104 b ((hold b w).1.1 ▸ hb)
      · have lx := hn b (by rw [hb]; decide)
        have q := (hT (b - x) (by omega)).1
        rw [show x + (b - x) = b from by omega, hb] at q
        have d : ∀ k : Fin 142, 104 ≠ kT.getD k.val 0 := by decide +kernel
        exact absurd q (d ⟨b - x, by omega⟩)
    · obtain ⟨k, hk, rfl⟩ := at20 l hl
      obtain ⟨-, -, g2, g3⟩ := li k hk.1 hk.2
      rw [g2, g3]
      exact ⟨by omega, by decide, by decide⟩
    · obtain ⟨k, hk, rfl⟩ := at20 l hl
      obtain ⟨-, -, g2, -⟩ := li k hk.1 hk.2
      rw [g2]
      exact s19n.2
  have j0 : ∀ (e : Int → Int) (k : Nat), 4 ≤ k → k ≤ 10 → jli N F A (x + k) 0 e := fun e k h1 h2 => jli_0 e s19n (li k h1 h2).1 (li k h1 h2).2.1 (li k h1 h2).2.2.1
  have z : Int → Int := fun _ => 0
  have hctx : ctx N F A x (x + 3) sW0 sL0 z z z z := by
    refine ⟨⟨(hT 0 (by decide)).1.trans (by decide +kernel), (hT 0 (by decide)).2, (fv (311, 0, 1, 3) (by decide +kernel)).trans (by show (x : Int) + 3 = _; omega)⟩, ⟨sWok_0, sLok_0⟩, ⟨(hT 3 (by decide)).1.trans (by decide +kernel), (hT 3 (by decide)).2, (hfl (617, 3, 4) (by decide +kernel)).2, (hfl (620, 3, 5) (by decide +kernel)).2, (hfl (623, 3, 6) (by decide +kernel)).2, (hfl (626, 3, 7) (by decide +kernel)).2, (hfl (629, 3, 8) (by decide +kernel)).2, (hfl (632, 3, 9) (by decide +kernel)).2⟩, ⟨fv (603, 3, 0, 12) (by decide +kernel), fv (606, 3, 0, 2) (by decide +kernel), fv (609, 3, 0, 0) (by decide +kernel), fv (612, 3, 0, 0) (by decide +kernel)⟩, ⟨j0 _ 4 (by decide) (by decide), j0 _ 5 (by decide) (by decide), j0 _ 6 (by decide) (by decide), j0 _ 7 (by decide) (by decide), j0 _ 8 (by decide) (by decide)⟩, fun i a b => ?_, fun i a b => ?_, fun i a b => ?_, fun i a b => ?_⟩
    all_goals (have b' : i < (0 : Int) := b; omega)
  have f140 := fv (7202, 140, 1, 141) (by decide +kernel)
  have f140' : F 7202 (x + 140) = ((x + 141 : Nat) : Int) := f140.trans (by show (x : Int) + 141 = _; omega)
  refine ⟨x + 3, z, z, z, z, ⟨⟨hgi, hlay, hsa⟩, hctx, ⟨z, j0 _ 9 (by decide) (by decide), fun k a b => ?_⟩, ⟨by decide, z, j0 _ 10 (by decide) (by decide), fun i a b => ?_⟩⟩, rfl, s19n, ⟨⟨fv (303, 0, 0, 0) (by decide +kernel), by decide, by decide⟩, fun i a b => ?_, fun r a b => ⟨(hAl (2, 0) (by decide +kernel)).2 r, Int.le_refl 0, Int.le_refl 0⟩, ⟨fv (312, 0, 0, 0) (by decide +kernel), fv (315, 0, 0, -1) (by decide +kernel)⟩, ⟨fv (319, 0, 0, 1) (by decide +kernel), by decide, by decide⟩, fv (330, 0, 0, 0) (by decide +kernel)⟩, ⟨fun i a b => ?_, fun i a b => ?_, fun i a b => ?_, fun i a b => ?_⟩, ?_, ⟨x + 141, ⟨f140', fv (7203, 140, 0, 0) (by decide +kernel), fv (7209, 140, 0, 0) (by decide +kernel)⟩, ⟨(hT 141 (by decide)).1.trans (by decide +kernel), (hT 141 (by decide)).2, ?_, ?_⟩, ⟨by decide, by show (0 : Int) ≤ _; omega⟩, fun k a b => ?_, fun k a b => ?_⟩⟩
  · have b' : k < (0 : Int) := b; omega
  · have b' : i < (0 : Int) := b; omega
  · have b' : i < (0 : Int) := b; omega
  · have b' : i < (0 : Int) := b; omega
  · have b' : i < (0 : Int) := b; omega
  · have b' : i < (0 : Int) := b; omega
  · have b' : i < (0 : Int) := b; omega
  · refine hown.kv hn0 nx (fun a ha => ?_) (Or.inr ?_)
    · have := hn0 a (by omega)
      exact (hold a (by omega)).2.2
    · rw [f140']; omega
  · have q : jln N (x + 141) = 16 := (hln (141, 16) (by decide +kernel)).2
    rw [q]; decide
  · have q : jln N (x + 141) = 16 := (hln (141, 16) (by decide +kernel)).2
    rw [q]; decide
  · have b' : k < (0 : Int) := b; omega
  · have q : A (x + 141) k = 0 := (hAl (141, 0) (by decide +kernel)).2 k
    rw [q]; decide
theorem kMst {s : Int} {o sz : Nat} {N0 N : jSh} {F0 F : jFl} {A0 A A1 : jAr} (h : cI o s N0 F0 A0 N F A1 oT ofl oln oFl oAl [] sz) (hA : A = upA (upA A1 (o + 23) 0 12) (o + 24) 0 2) : mst 0 o F A sW0 sL0 sB0 sU0 sQ0 ∧ mSh N o := by
  obtain ⟨⟨c1, c2⟩, ⟨hn, hold⟩, hT, hfl, hln, hFl, hAl, hSl⟩ := h
  have hTl : oT.length = 49 := by decide +kernel
  rw [hTl] at c1 hT
  have fv : ∀ q : cFl, q ∈ oFl → F q.1 (o + q.2.1) = cVl o s q := fun q hq => (hFl q hq).2
  have av : ∀ (k : Nat) (i : Int), k ≠ 23 → k ≠ 24 → (k, (0 : Int)) ∈ oAl → A (o + k) i = 0 := fun k i h1 h2 hk => by
    rw [hA, upA_a (by omega), upA_a (by omega)]
    exact (hAl (k, 0) hk).2 i
  have a23 : A (o + 23) 0 = 12 := by rw [hA, upA_a (by omega), upA_s]
  have a24 : A (o + 24) 0 = 2 := by rw [hA, upA_s]
  have f39 : F 3039 o = 0 := fv (3039, 0, 0, 0) (by decide +kernel)
  have hmW : mrW o F A sW0 := by
    unfold mrW mBk
    rw [f39]
    refine ⟨by decide, ⟨av 2 0 (by decide) (by decide) (by decide +kernel), av 9 0 (by decide) (by decide) (by decide +kernel), av 12 0 (by decide) (by decide) (by decide +kernel), av 17 0 (by decide) (by decide) (by decide +kernel)⟩, ⟨a23, a24, av 25 0 (by decide) (by decide) (by decide +kernel)⟩, fun w a b => ?_, fun w a b => ?_, fun w a b => ?_, fun w a b => ?_⟩
    all_goals (have b' : w < (0 : Int) := b; omega)
  have hmL : mrL o A 0 0 sL0 := by
    refine ⟨av 28 0 (by decide) (by decide) (by decide +kernel), fun w a b => ?_, fun w a b => ?_⟩
    all_goals omega
  refine ⟨⟨⟨⟨⟨sWok_0, sLok_0⟩, hmW, hmL, fv (3186, 0, 0, -1) (by decide +kernel), by decide⟩, rfl⟩, ⟨av 34 0 (by decide) (by decide) (by decide +kernel), by decide, fun k j a b => ?_⟩, ⟨by decide, fv (3156, 0, 0, 0) (by decide +kernel), ?_, fun i a b => ?_⟩, ⟨⟨fv (3003, 0, 0, 0) (by decide +kernel), by decide, by decide⟩, fun i a b => ?_, fun r a b => ⟨av 27 r (by decide) (by decide) (by decide +kernel), Int.le_refl 0, Int.le_refl 0⟩, ⟨fv (3030, 0, 0, 0) (by decide +kernel), fv (3033, 0, 0, -1) (by decide +kernel)⟩, ⟨fv (3160, 0, 0, 1) (by decide +kernel), by decide, by decide⟩, ⟨fv (3237, 0, 0, 0) (by decide +kernel), by decide, by decide⟩, fun k a b => ?_⟩⟩, ⟨(hT 0 (by decide)).1.trans (by decide +kernel), (hT 0 (by decide)).2, fun q hq => ?_⟩⟩
  · have b' : k < (0 : Int) := b; omega
  · have q : F 3153 o = 0 := fv (3153, 0, 0, 0) (by decide +kernel)
    rw [q]; decide
  · have b' : i < (0 : Int) := b; omega
  · have b' : i < (0 : Int) := b; omega
  · have b' : k < (0 : Int) := b; omega
  · have d : ∀ q ∈ mTab, (q.1, 0, q.2.1) ∈ ofl ∧ (q.2.1, q.2.2.1) ∈ oln ∧ q.2.1 < 49 ∧ oT.getD q.2.1 0 = q.2.2.2 := by decide +kernel
    obtain ⟨d1, d2, d3, d4⟩ := d q hq
    exact ⟨(hfl _ d1).2, (hln _ d2).2, (hT _ d3).1.trans d4⟩
