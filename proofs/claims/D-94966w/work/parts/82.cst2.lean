set_option maxRecDepth 100000
set_option linter.unusedVariables false
/-! the whole state through single acts -/
theorem gi.mono {S : Nat → Nat} {M M' : Int} {N : jSh} {F : jFl} (g : gi S M N F) (h : M ≤ M') (h2 : M' ≤ 1000000000) : gi S M' N F := ⟨g.1, g.2.1, fun l hl => by have := g.2.2.1 l hl; omega, g.2.2.2.1, by have := g.2.2.2.2; omega⟩
theorem gi.of {S : Nat → Nat} {M : Int} {N : jSh} {F F' : jFl} (g : gi S M N F) (h : ∀ l : Nat, jtg N l = 20 → F' 6002 l = F 6002 l ∧ F' 6900 l = F 6900 l) : gi S M N F' :=
  ⟨g.1, g.2.1, fun l hl => by rw [(h l hl).1, (h l hl).2]; exact g.2.2.1 l hl, fun l l' hl hl' hne w w0 => by
    rw [(h l hl).1, (h l' hl').1] at w
    rw [(h l hl).1] at w0 ⊢
    exact g.2.2.2.1 l l' hl hl' hne w w0, g.2.2.2.2⟩
/-- cells are made, nothing below is written -/
def gr (N : jSh) (F : jFl) (A : jAr) (N' : jSh) (F' : jFl) (A' : jAr) : Prop := nex N N' ∧ (∀ a : Nat, a < jnx N → ∀ f, F' f a = F f a) ∧ ∀ a : Nat, a < jnx N → A' a = A a
theorem gr.kp {N : jSh} {F : jFl} {A : jAr} {N' : jSh} {F' : jFl} {A' : jAr} (h : gr N F A N' F' A') (o : Nat) : kp N F A o N' F' A' := ⟨h.1, fun a ha _ f => h.2.1 a ha f, fun a ha _ => h.2.2 a ha⟩
theorem gr.trans {N : jSh} {F : jFl} {A : jAr} {N' N'' : jSh} {F' F'' : jFl} {A' A'' : jAr} (h : gr N F A N' F' A') (h2 : gr N' F' A' N'' F'' A'') : gr N F A N'' F'' A'' := ⟨h.1.trans h2.1, fun a ha f => (h2.2.1 a (Nat.lt_of_lt_of_le ha h.1.1) f).trans (h.2.1 a ha f), fun a ha => (h2.2.2 a (Nat.lt_of_lt_of_le ha h.1.1)).trans (h.2.2 a ha)⟩
section
variable {S : Nat → Nat} {M M' : Int} {N N' : jSh} {F F' : jFl} {A A' : jAr} {x t : Nat} {W L : sTb} {B B' : sBk} {U U' : sUn} {wA sA cA lA : Int → Int}
theorem cst.hx (h : cst S M N F A x t W L B U wA sA cA lA) : x + 141 ≤ jnx N := by
  have := h.1.1.1 (x + 140) (by rw [(h.1.2.1.1 140 (by decide)).1]; decide)
  omega
theorem cst.t10 (h : cst S M N F A x t W L B U wA sA cA lA) : t + 6 ≠ x + 10 := fun w => by
  have e := (h.1.2.1.1 4 (by decide)).1
  rw [show x + 4 = t by omega, h.2.1.tt] at e
  exact absurd e (by decide)
theorem cst.w6 (h : cst S M N F A x t W L B U wA sA cA lA) : ∀ w : Nat, jtg N w = 18 → w + 4 ≠ t + 6 := fun w hw e => by
  have q := h.2.1.lS.1.1
  rw [show t + 2 = w by omega, hw] at q
  omega
theorem cst.w10 (h : cst S M N F A x t W L B U wA sA cA lA) : ∀ w : Nat, jtg N w = 18 → w + 4 ≠ x + 10 := fun w hw e => by
  have q := (h.1.2.1.1 6 (by decide)).1
  rw [show x + 6 = w by omega, hw] at q
  exact absurd q (by decide)
theorem cst.t5 (h : cst S M N F A x t W L B U wA sA cA lA) : x + 10 < t + 1 ∨ t + 5 < x + 10 := by
  by_cases w : t + 1 ≤ x + 10 ∧ x + 10 ≤ t + 5
  · have e := (h.1.2.1.1 (t - x) (by omega)).1
    have q : jtg N (x + (t - x)) = 2 := by rw [show x + (t - x) = t by omega]; exact h.2.1.tt
    rw [q] at e
    have : t - x = 5 ∨ t - x = 6 ∨ t - x = 7 ∨ t - x = 8 ∨ t - x = 9 := by omega
    rcases this with w | w | w | w | w <;> rw [w] at e <;> exact absurd e (by decide)
  · omega
theorem cst.gr (h : cst S M N F A x t W L B U wA sA cA lA) (k : gr N F A N' F' A') (g' : gi S M' N' F') : cst S M' N' F' A' x t W L B U wA sA cA lA := by
  have g := h.1.1
  have hx := h.hx
  obtain ⟨e, hb, -⟩ := id h.2.2.1
  obtain ⟨-, e2, ha, -⟩ := id h.2.2.2
  refine ⟨⟨g', h.1.2.1.ex g.1 k.1 hx, ?_⟩, (k.kp (t + 6)).ctx g hb.isL h.2.1 (by omega), (k.kp (x + 10)).bk g ha.isL h.2.2.1 h.t10, (k.kp (t + 6)).acs g hb.isL h.2.2.2 (fun w => h.t10 w.symm) h.w6⟩
  unfold sarr
  rw [k.2.2 (x + 15) (by omega), k.2.2 (x + 99) (by omega), k.2.2 (x + 54) (by omega)]
  exact h.1.2.2
theorem cst.book (h : cst S M N F A x t W L B U wA sA cA lA) (k : kp N F A (t + 6) N' F' A') (g' : gi S M' N' F') (hB : bkIs N' F' A' (t + 6) B') : cst S M' N' F' A' x t W L B' U wA sA cA lA := by
  have g := h.1.1
  have hx := h.hx
  obtain ⟨e, hb, -⟩ := id h.2.2.1
  have hl := hb.isL
  have na : ∀ i : Nat, i < 141 → tagT.getD i 0 ≠ 104 → A' (x + i) = A (x + i) := fun i hi ht => k.2.2 (x + i) (by omega) (fun w => by
    have e := (h.1.2.1.1 i hi).1
    rw [w, hl.2.2] at e
    exact ht e.symm)
  refine ⟨⟨g', h.1.2.1.ex g.1 k.1 hx, ?_⟩, k.ctx g hl h.2.1 (by omega), hB, k.acs g hl h.2.2.2 (fun w => h.t10 w.symm) h.w6⟩
  unfold sarr
  rw [na 15 (by decide) (by decide), na 99 (by decide) (by decide), na 54 (by decide) (by decide)]
  exact h.1.2.2
theorem cst.acts (h : cst S M N F A x t W L B U wA sA cA lA) (k : kp N F A (x + 10) N' F' A') (g' : gi S M' N' F') (hU : acs N' F' A' x W wA lA U') : cst S M' N' F' A' x t W L B U' wA sA cA lA := by
  have g := h.1.1
  have hx := h.hx
  obtain ⟨-, e, hb, -⟩ := id h.2.2.2
  have hl := hb.isL
  have na : ∀ i : Nat, i < 141 → tagT.getD i 0 ≠ 104 → A' (x + i) = A (x + i) := fun i hi ht => k.2.2 (x + i) (by omega) (fun w => by
    have e := (h.1.2.1.1 i hi).1
    rw [w, hl.2.2] at e
    exact ht e.symm)
  refine ⟨⟨g', h.1.2.1.ex g.1 k.1 hx, ?_⟩, k.ctx g hl h.2.1 h.t5, k.bk g hl h.2.2.1 h.t10, hU⟩
  unfold sarr
  rw [na 15 (by decide) (by decide), na 99 (by decide) (by decide), na 54 (by decide) (by decide)]
  exact h.1.2.2
theorem cst.scr {lo hi : Nat} (h : cst S M N F A x t W L B U wA sA cA lA) (h1 : x + 11 ≤ lo) (h2 : hi ≤ x + 141) (hf : fr lo hi F A F' A') (hs : sarr A' x) : cst S M N F' A' x t W L B U wA sA cA lA := by
  have sc := h.1.2.1.scr.mono h1 h2
  exact ⟨⟨h.1.1.of (fun l hl => by have q := hf l (sc.out (by omega)); exact ⟨q.1 _, q.1 _⟩), h.1.2.1, hs⟩, h.2.1.fr sc hf, h.2.2.1.fr sc hf, h.2.2.2.fr sc h2 hf⟩
theorem cst.law {b : Nat} {l : Int} {R : sRow} (h : cst S M N F A x t W L B U wA sA cA lA) (hl : 0 ≤ l ∧ l < W 3 0 0) (hb : lA l = (b : Int)) (hf : fr (b + 3) (b + 5) F A F' A') (hR : rowIs N F' A' wA (b + 3) R) (hk : sRok (W 0 0 0) R) (h1 : sRo1 R) : cst S M N F' A' x t W (sLset L l R) B U wA sA cA lA := by
  obtain ⟨b2, e1, e2, e3, e4⟩ := h.2.1.lw hl
  have eb : b2 = b := by omega
  subst eb
  have tb := e2.1
  have t1 := e2.2.2.2.2.1
  have t2 := e2.2.2.2.2.2.2.2.1
  have out : b2 + 4 < x + 11 ∨ x + 141 ≤ b2 := h.1.2.1.scr.out3 (by omega)
  have outx : b2 < x ∨ x + 141 ≤ b2 := by
    by_cases w : x ≤ b2 ∧ b2 < x + 141
    · have e := (h.1.2.1.1 (b2 - x) (by omega)).1
      rw [show x + (b2 - x) = b2 by omega, tb] at e
      exact absurd e.symm (lay_scr (b2 - x) (by omega)).2.2.2.1
    · omega
  refine ⟨⟨h.1.1.of (fun l hl => ?_), h.1.2.1, ?_⟩, ctx_row h.2.1 hl hb hf hR hk h1, h.2.2.1.row t1 t2 hf, h.2.2.2.row tb t1 t2 hf⟩
  · have q := hf l (by
      by_cases w : l = b2 + 3
      · rw [w, t1] at hl; omega
      · by_cases w2 : l = b2 + 3 + 1
        · rw [w2, t2] at hl; omega
        · omega)
    exact ⟨q.1 _, q.1 _⟩
  · unfold sarr
    rw [(hf (x + 15) (by omega)).2, (hf (x + 99) (by omega)).2, (hf (x + 54) (by omega)).2]
    exact h.1.2.2
end
/-- cells of other kinds, and all scratch, stay -/
def kq (x : Nat) (N : jSh) (F : jFl) (A : jAr) (F' : jFl) (A' : jAr) : Prop := ∀ a : Nat, ((jtg N a ≠ 0 ∧ jtg N a ≠ 2 ∧ jtg N a ≠ 4 ∧ jtg N a ≠ 17 ∧ jtg N a ≠ 20 ∧ jtg N a ≠ 104 ∧ jtg N a ≠ 107) ∨ (x + 11 ≤ a ∧ a < x + 141)) → (∀ f, F' f a = F f a) ∧ A' a = A a
theorem kq.refl (x : Nat) (N : jSh) (F : jFl) (A : jAr) : kq x N F A F A := fun _ _ => ⟨fun _ => rfl, rfl⟩
theorem kq.trans {x : Nat} {N N' : jSh} {F F' F'' : jFl} {A A' A'' : jAr} (h : kq x N F A F' A') (h2 : kq x N' F' A' F'' A'') (hn : nb N) (e : nex N N') : kq x N F A F'' A'' := fun a ha => by
  have q := h a ha
  have q2 := h2 a (by
    rcases ha with w | w
    · rw [(e.2 a (hn a w.1)).1]; exact Or.inl w
    · exact Or.inr w)
  exact ⟨fun f => (q2.1 f).trans (q.1 f), q2.2.trans q.2⟩
theorem gr.kq {x : Nat} {N : jSh} {F : jFl} {A : jAr} {N' : jSh} {F' : jFl} {A' : jAr} (h : gr N F A N' F' A') (hn : nb N) (hx : x + 141 ≤ jnx N) : kq x N F A F' A' := fun a ha => by
  have : a < jnx N := by
    rcases ha with w | w
    · exact hn a w.1
    · omega
  exact ⟨h.2.1 a this, h.2.2 a this⟩
theorem kp.kq {S : Nat → Nat} {M : Int} {x o : Nat} {N : jSh} {F : jFl} {A : jAr} {N' : jSh} {F' : jFl} {A' : jAr} (h : kp N F A o N' F' A') (g : gi S M N F) (ho : isL N F o) (hy : lay N x) (hx : x + 141 ≤ jnx N) : kq x N F A F' A' := fun a ha => by
  have sc := hy.scr
  rcases ha with w | w
  · exact ⟨h.2.1 a (g.1 a w.1) (fun q => by rw [q, ho.1] at w; omega), h.2.2 a (g.1 a w.1) (fun q => by rw [q, ho.2.2] at w; omega)⟩
  · have q := sc.1 a w.1 w.2
    exact ⟨h.2.1 a (by omega) (fun q2 => by rw [q2, ho.1] at q; omega), h.2.2 a (by omega) (fun q2 => by rw [q2, ho.2.2] at q; omega)⟩
theorem sBecome_1 {c l k : Int} {R : sRow} {L : sTb} {B B' : sBk} : (sBecome c l k R (L, B)).1 = (sBecome c l k R (L, B')).1 := by
  unfold sBecome
  by_cases q : sAlike (sRw L l) R
  · rw [cif_pos q, cif_pos q]
  · rw [cif_neg q, cif_neg q]
/-- the book, in years that are thought of only, is left -/
def dB (d : Int) (B' B : sBk) : sBk := if d = 0 then B' else B
/-- what was written down, and rows that are no law's, stay -/
def kx (x : Nat) (W : sTb) (wA lA : Int → Int) (N : jSh) (F : jFl) (A : jAr) (N' : jSh) (F' : jFl) (A' : jAr) : Prop := (∀ w L B, wasIs N F A x W wA lA w L B → wasIs N' F' A' x W wA lA w L B) ∧ ∀ r R, x + 141 ≤ r → (∀ l : Int, 0 ≤ l → l < W 3 0 0 → lA l + 3 ≠ (r : Int)) → rowIs N F A wA r R → rowIs N' F' A' wA r R
theorem kx.refl (x : Nat) (W : sTb) (wA lA : Int → Int) (N : jSh) (F : jFl) (A : jAr) : kx x W wA lA N F A N F A := ⟨fun _ _ _ h => h, fun _ _ _ _ h => h⟩
theorem kx.trans {x : Nat} {W : sTb} {wA lA : Int → Int} {N N' N'' : jSh} {F F' F'' : jFl} {A A' A'' : jAr} (h : kx x W wA lA N F A N' F' A') (h2 : kx x W wA lA N' F' A' N'' F'' A'') (hn : nb N) (e : nex N N') : kx x W wA lA N F A N'' F'' A'' := by
  exact ⟨fun w L B q => h2.1 w L B (h.1 w L B q), fun r R hr hb q => h2.2 r R hr hb (h.2 r R hr hb q)⟩
theorem kp.kx {S : Nat → Nat} {M : Int} {x o : Nat} {W : sTb} {wA lA : Int → Int} {N N' : jSh} {F F' : jFl} {A A' : jAr} (k : kp N F A o N' F' A') (g : gi S M N F) (ho : isL N F o) (hw : ∀ w : Nat, jtg N w = 18 → w + 4 ≠ o) : kx x W wA lA N F A N' F' A' := ⟨fun w L B h => k.was g ho h (hw w h.1.1.2.1), fun r R _ _ h => k.row g ho h⟩
theorem gr.kx {S : Nat → Nat} {M : Int} {x o : Nat} {W : sTb} {wA lA : Int → Int} {N N' : jSh} {F F' : jFl} {A A' : jAr} (k : gr N F A N' F' A') (g : gi S M N F) (ho : isL N F o) (hw : ∀ w : Nat, jtg N w = 18 → w + 4 ≠ o) : kx x W wA lA N F A N' F' A' := (k.kp o).kx g ho hw
theorem fr.kx {x lo hi : Nat} {W : sTb} {wA lA : Int → Int} {N : jSh} {F F' : jFl} {A A' : jAr} (hf : fr lo hi F A F' A') (hs : scr N lo hi) (hhi : hi ≤ x + 141) : kx x W wA lA N F A N F' A' := ⟨fun w L B h => h.fr hs hhi hf, fun r R hr _ h => h.fr hf (by omega) (by omega)⟩
theorem law_kx {x b : Nat} {l : Int} {W : sTb} {wA lA : Int → Int} {N : jSh} {F F' : jFl} {A A' : jAr} (hl : 0 ≤ l ∧ l < W 3 0 0) (hb : lA l = (b : Int)) (tb : jtg N b = 17) (t1 : jtg N (b + 3) = 4) (t2 : jtg N (b + 3 + 1) = 107) (hf : fr (b + 3) (b + 5) F A F' A') : kx x W wA lA N F A N F' A' := by
  refine ⟨fun w L B h => h.row tb t1 t2 hf, fun r R hr hq h => ?_⟩
  have n1 := hq l hl.1 hl.2
  have n2 : r ≠ b + 4 := fun w => by have := h.1.1; rw [w, t2] at this; omega
  have n3 : r ≠ b + 2 := fun w => by have := h.1.2.2.2.1; rw [show r + 1 = b + 3 by omega, t1] at this; omega
  exact h.fr hf (by omega) (by omega)
theorem wasIs.ofF {N : jSh} {F F' : jFl} {A : jAr} {x w : Nat} {W L : sTb} {wA lA : Int → Int} {B : sBk} (h : wasIs N F A x W wA lA w L B) (hf : ∀ a : Nat, jtg N a = 4 ∨ jtg N a = 20 → ∀ f, F' f a = F f a) : wasIs N F' A x W wA lA w L B := by
  obtain ⟨h1, h2, h3, e, ⟨q1, q2, q3, b, q4, q5⟩, h5⟩ := h
  refine ⟨h1, h2, fun k hk => ?_, e, ⟨q1, by rw [hf _ (Or.inr q1.1)]; exact q2, q3, b, by rw [hf _ (Or.inr q1.1)]; exact q4, q5⟩, h5⟩
  obtain ⟨g1, g2, g3⟩ := h3 k hk
  exact ⟨g1, g2.of (hf _ (Or.inl g2.1.1) _) (hf _ (Or.inl g2.1.1) _) rfl, g3⟩
theorem kx_F {x : Nat} {W : sTb} {wA lA : Int → Int} {N : jSh} {F F' : jFl} {A : jAr} (hf : ∀ a : Nat, jtg N a = 4 ∨ jtg N a = 20 → ∀ f, F' f a = F f a) : kx x W wA lA N F A N F' A := ⟨fun w L B h => h.ofF hf, fun r R _ _ h => h.of (hf _ (Or.inl h.1.1) _) (hf _ (Or.inl h.1.1) _) rfl⟩
