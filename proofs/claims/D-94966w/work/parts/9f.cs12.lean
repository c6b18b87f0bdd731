set_option maxRecDepth 100000
set_option linter.unusedVariables false
/-! the component between calls: names, constants, octets; tell; printed by gen/prove.py out of spec/9f.cs12.spec -/
/-- the model's cells stay -/
def kz (x : Nat) (N : jSh) (F : jFl) (A : jAr) (F' : jFl) (A' : jAr) : Prop := ∀ a : Nat, (x + 142 ≤ a ∨ a < x) → (jtg N a = 10 ∨ jtg N a = 102 ∨ jtg N a = 103) → (∀ f, F' f a = F f a) ∧ A' a = A a
theorem kz.refl (x : Nat) (N : jSh) (F : jFl) (A : jAr) : kz x N F A F A := fun _ _ _ => ⟨fun _ => rfl, rfl⟩
theorem kz.trans {x : Nat} {N N' : jSh} {F F' F'' : jFl} {A A' A'' : jAr} (h : kz x N F A F' A') (h2 : kz x N' F' A' F'' A'') (hn : nb N) (e : nex N N') : kz x N F A F'' A'' := fun a ha hb => by
  have q := h a ha hb
  have q2 := h2 a ha (by rw [(e.2 a (hn a (by omega))).1]; exact hb)
  exact ⟨fun f => (q2.1 f).trans (q.1 f), q2.2.trans q.2⟩
theorem kq.kz {x : Nat} {N : jSh} {F F' : jFl} {A A' : jAr} (h : kq x N F A F' A') : kz x N F A F' A' := fun a ha hb => h a (Or.inl (by omega))
theorem fr.kz {x lo hi : Nat} {N : jSh} {F F' : jFl} {A A' : jAr} (h : fr lo hi F A F' A') (hh : hi ≤ x + 142) (hl : x ≤ lo := by omega) : kz x N F A F' A' := fun a ha hb => h a (by omega)
/-- bytes, texts in rows, the octets' own cell stay -/
def kw (x : Nat) (N : jSh) (F : jFl) (A : jAr) (F' : jFl) (A' : jAr) : Prop := ∀ a : Nat, (jtg N a = 108 ∨ jtg N a = 119 ∨ a = x + 140) → (∀ f, F' f a = F f a) ∧ A' a = A a
theorem kw.refl (x : Nat) (N : jSh) (F : jFl) (A : jAr) : kw x N F A F A := fun _ _ => ⟨fun _ => rfl, rfl⟩
theorem kw.trans {x : Nat} {N N' : jSh} {F F' F'' : jFl} {A A' A'' : jAr} (h : kw x N F A F' A') (h2 : kw x N' F' A' F'' A'') (hn : nb N) (e : nex N N') : kw x N F A F'' A'' := fun a hb => by
  have q := h a hb
  have q2 := h2 a (by
    rcases hb with w | w | w
    · rw [(e.2 a (hn a (by omega))).1]; exact Or.inl w
    · rw [(e.2 a (hn a (by omega))).1]; exact Or.inr (Or.inl w)
    · exact Or.inr (Or.inr w))
  exact ⟨fun f => (q2.1 f).trans (q.1 f), q2.2.trans q.2⟩
theorem kq.kw {x : Nat} {N : jSh} {F F' : jFl} {A A' : jAr} (h : kq x N F A F' A') : kw x N F A F' A' := fun a hb => h a (by omega)
theorem lay_108 : ∀ k : Nat, k < 141 → tagT.getD k 0 ≠ 108 ∧ tagT.getD k 0 ≠ 119 := by decide
theorem lay.n108 {N : jSh} {x a : Nat} (h : lay N x) (ht : jtg N a = 108 ∨ jtg N a = 119) : a < x ∨ x + 141 ≤ a := by
  by_cases w : x ≤ a ∧ a < x + 141
  · have e := (h.1 (a - x) (by omega)).1
    rw [show x + (a - x) = a by omega] at e
    have q := lay_108 (a - x) (by omega)
    omega
  · omega
theorem fr.kw {x lo hi : Nat} {N : jSh} {F F' : jFl} {A A' : jAr} (h : fr lo hi F A F' A') (hy : lay N x) (hl : x ≤ lo) (hh : hi ≤ x + 140) : kw x N F A F' A' := fun a hb => h a (by
  rcases hb with w | w | w
  · have := hy.n108 (Or.inl w); omega
  · have := hy.n108 (Or.inr w); omega
  · omega)
theorem ky.kw {x : Nat} {N : jSh} {F F' : jFl} {A A' : jAr} (h : ky x N F A F' A') (hy : lay N x) : kw x N F A F' A' := fun a hb => by
  have tx : jtg N x = 1 := (hy.1 0 (by decide)).1
  have t140 : jtg N (x + 140) = 21 := (hy.1 140 (by decide)).1
  have q := h a (by
    rcases hb with w | w | w
    · omega
    · omega
    · rw [w, t140]; decide) (by
    rcases hb with w | w | w
    · have := hy.n108 (Or.inl w); omega
    · have := hy.n108 (Or.inr w); omega
    · omega)
  exact ⟨fun f => q.1 f (Or.inr (fun w => by rw [w, tx] at hb; omega)), q.2⟩
/-- letters as a number -/
def sCode (g : Int → Int) (n : Nat) : Int := it (fun k s => 256 * s + g k) 0 n
/-- a text of one to six letters; its bytes lie elsewhere than in u -/
def strIs (N : jSh) (A : jAr) (u s code : Int) : Prop := ∃ b v n : Nat, s = (b : Int) ∧ (jtg N b = 22 ∧ jfn N 6602 b = (v : Int) ∧ jfn N 6603 b = 0) ∧ (jtg N v = 108 ∧ jln N v = n ∧ (v : Int) ≠ u) ∧ (1 ≤ n ∧ n ≤ 6) ∧ code = sCode (A v) n ∧ ∀ i : Int, 0 ≤ i → i < n → 97 ≤ A v i ∧ A v i ≤ 122
/-- bytes but those of u stay -/
def kv (u : Int) (N : jSh) (A : jAr) (A' : jAr) : Prop := ∀ a : Nat, ((jtg N a = 108 ∧ (a : Int) ≠ u) ∨ jtg N a = 119) → A' a = A a
theorem kw.kv {x : Nat} {N : jSh} {F F' : jFl} {A A' : jAr} (k : kw x N F A F' A') (u : Int) : kv u N A A' := fun a ha => (k a (by
  rcases ha with w | w
  · exact Or.inl w.1
  · exact Or.inr (Or.inl w))).2
/-- another u: a new cell -/
theorem strIs.kv {N N' : jSh} {A A' : jAr} {u u' s code : Int} (h : strIs N A u s code) (hn : nb N) (e : nex N N') (k : kv u N A A') (hu : u' = u ∨ (jnx N : Int) ≤ u') : strIs N' A' u' s code := by
  obtain ⟨b, v, n, h1, ⟨h2, h3, h4⟩, ⟨h5, h6, h65⟩, h7, h8, h9⟩ := h
  have hv := hn v (by omega)
  have ev := k v (Or.inl ⟨h5, h65⟩)
  refine ⟨b, v, n, h1, ⟨e.tg hn h2 (by decide), by rw [e.fn hn h2 (by decide), h3], by rw [e.fn hn h2 (by decide), h4]⟩, ⟨e.tg hn h5 (by decide), by rw [e.ln hn h5 (by decide), h6], by omega⟩, h7, ?_, ?_⟩
  · rw [ev]; exact h8
  · rw [ev]; exact h9
def nm1 (N : jSh) (A : jAr) (u : Int) (t : Nat) (a code : Int) : Prop := ∃ b : Nat, a = (b : Int) ∧ jtg N b = t ∧ strIs N A u (jfn N 3902 b) code
theorem nm1.kv {t : Nat} {N N' : jSh} {A A' : jAr} {u u' a code : Int} (h : nm1 N A u t a code) (ht : t ≠ 0) (hn : nb N) (e : nex N N') (k : kv u N A A') (hu : u' = u ∨ (jnx N : Int) ≤ u') : nm1 N' A' u' t a code := by
  obtain ⟨b, h1, h2, h3⟩ := h
  exact ⟨b, h1, e.tg hn h2 ht, by rw [e.fn hn h2 ht]; exact h3.kv hn e k hu⟩
/-- all names -/
def nms (N : jSh) (A : jAr) (u : Int) (W : sTb) (wA sA cA lA : Int → Int) : Prop := (∀ w : Int, 0 ≤ w → w < W 0 0 0 → nm1 N A u 14 (wA w) (W 10 w 0)) ∧ (∀ s : Int, 0 ≤ s → s < W 1 0 0 → nm1 N A u 15 (sA s) (W 16 s 0)) ∧ (∀ c : Int, 0 ≤ c → c < W 2 0 0 → nm1 N A u 16 (cA c) (W 18 c 0)) ∧ ∀ l : Int, 0 ≤ l → l < W 3 0 0 → nm1 N A u 17 (lA l) (W 22 l 0)
theorem nms.kv {N N' : jSh} {A A' : jAr} {u u' : Int} {W : sTb} {wA sA cA lA : Int → Int} (h : nms N A u W wA sA cA lA) (hn : nb N) (e : nex N N') (k : kv u N A A') (hu : u' = u ∨ (jnx N : Int) ≤ u') : nms N' A' u' W wA sA cA lA :=
  ⟨fun w w0 w1 => (h.1 w w0 w1).kv (by decide) hn e k hu, fun w w0 w1 => (h.2.1 w w0 w1).kv (by decide) hn e k hu, fun w w0 w1 => (h.2.2.1 w w0 w1).kv (by decide) hn e k hu, fun w w0 w1 => (h.2.2.2 w w0 w1).kv (by decide) hn e k hu⟩
/-- the language's own words: word beats sounds worth never street as child of holds law sung says but head mend tune -/
def ownT : List Int := [2003792484, 422607680627, 126922548733043, 512970880104, 474148660594, 126943972648308, 24947, 426953501796, 28518, 448545973363, 7102839, 1937075815, 1935767923, 6452596, 1751474532, 1835363940, 1953853029]
def own (S : Nat → Nat) (N : jSh) (A : jAr) (u : Int) : Prop := (jtg N (S 0) = 119 ∧ jln N (S 0) = 17) ∧ (∀ k : Nat, k < 17 → A (S 0) k = (S (k + 1) : Int) ∧ strIs N A u (S (k + 1)) (ownT.getD k 0)) ∧ ∃ v : Nat, jtg N (S 18) = 22 ∧ jfn N 6602 (S 18) = (v : Int) ∧ jfn N 6603 (S 18) = 0 ∧ jtg N v = 108 ∧ jln N v = 0
theorem own.kv {S : Nat → Nat} {N N' : jSh} {A A' : jAr} {u u' : Int} (h : own S N A u) (hn : nb N) (e : nex N N') (k : kv u N A A') (hu : u' = u ∨ (jnx N : Int) ≤ u') : own S N' A' u' := by
  obtain ⟨⟨h1, h2⟩, h3, v, h4, h5, h6, h7, h8⟩ := h
  refine ⟨⟨e.tg hn h1 (by decide), by rw [e.ln hn h1 (by decide), h2]⟩, fun i hi => ⟨?_, (h3 i hi).2.kv hn e k hu⟩, v, e.tg hn h4 (by decide), by rw [e.fn hn h4 (by decide), h5], by rw [e.fn hn h4 (by decide), h6], e.tg hn h7 (by decide), by rw [e.ln hn h7 (by decide), h8]⟩
  rw [k (S 0) (Or.inr h1)]; exact (h3 i hi).1
/-- the octets of the last image -/
def octs (x : Nat) (N : jSh) (F : jFl) (A : jAr) (Q : sMi) : Prop := ∃ v : Nat, (F 7202 (x + 140) = (v : Int) ∧ F 7203 (x + 140) = 0 ∧ F 7209 (x + 140) = Q 6 0) ∧ (jtg N v = 108 ∧ jfn N 0 v = 1 ∧ 16 ≤ jln N v ∧ jln N v ≤ 1000) ∧ (0 ≤ Q 6 0 ∧ Q 6 0 ≤ (jln N v : Int)) ∧ (∀ k : Int, 0 ≤ k → k < Q 6 0 → ((0 ≤ Q 7 k ∧ Q 7 k ≤ 255) ∧ A v k = (if Q 7 k < 128 then Q 7 k else Q 7 k - 256))) ∧ ∀ k : Int, 0 ≤ k → k < (jln N v : Int) → -128 ≤ A v k ∧ A v k ≤ 127
theorem octs.kw {x : Nat} {N N' : jSh} {F F' : jFl} {A A' : jAr} {Q : sMi} (h : octs x N F A Q) (hn : nb N) (e : nex N N') (k : kw x N F A F' A') : octs x N' F' A' Q := by
  obtain ⟨v, ⟨h1, h2, h3⟩, ⟨h4, h5, h6, h7⟩, h8, h9⟩ := h
  have q := (k (x + 140) (Or.inr (Or.inr rfl))).1
  refine ⟨v, ⟨by rw [q]; exact h1, by rw [q]; exact h2, by rw [q]; exact h3⟩, ⟨e.tg hn h4 (by decide), by rw [e.fn hn h4 (by decide)]; exact h5, by rw [e.ln hn h4 (by decide)]; exact h6, by rw [e.ln hn h4 (by decide)]; exact h7⟩, by rw [e.ln hn h4 (by decide)]; exact h8, ?_⟩
  rw [(k v (Or.inl h4)).2, e.ln hn h4 (by decide)]; exact h9
def xtr (S : Nat → Nat) (x : Nat) (N : jSh) (F : jFl) (A : jAr) (W : sTb) (Q : sMi) (wA sA cA lA : Int → Int) : Prop := nms N A (F 7202 (x + 140)) W wA sA cA lA ∧ own S N A (F 7202 (x + 140)) ∧ octs x N F A Q
theorem xtr.kw {S : Nat → Nat} {x : Nat} {N N' : jSh} {F F' : jFl} {A A' : jAr} {W : sTb} {Q : sMi} {wA sA cA lA : Int → Int} (h : xtr S x N F A W Q wA sA cA lA) (hn : nb N) (e : nex N N') (k : kw x N F A F' A') : xtr S x N' F' A' W Q wA sA cA lA := ⟨h.1.kv hn e (k.kv _) (Or.inl ((k (x + 140) (Or.inr (Or.inr rfl))).1 _)), h.2.1.kv hn e (k.kv _) (Or.inl ((k (x + 140) (Or.inr (Or.inr rfl))).1 _)), h.2.2.kw hn e k⟩
theorem xtr.q {S : Nat → Nat} {x : Nat} {N : jSh} {F : jFl} {A : jAr} {W : sTb} {Q Q' : sMi} {wA sA cA lA : Int → Int} (h : xtr S x N F A W Q wA sA cA lA) (h6 : Q' 6 = Q 6) (h7 : Q' 7 = Q 7) : xtr S x N F A W Q' wA sA cA lA := by
  unfold xtr octs at *
  rw [h6, h7]
  exact h
theorem qRef_6 {Q : sMi} {r : Int} {k : Nat} (h : k ≠ 2) : qRef Q r k = Q k := by
  funext i
  exact if_neg (fun w => h w.1)
theorem cst.mono {S : Nat → Nat} {M M' : Int} {N : jSh} {F : jFl} {A : jAr} {x t : Nat} {W L : sTb} {B : sBk} {U : sUn} {wA sA cA lA : Int → Int} (h : cst S M N F A x t W L B U wA sA cA lA) (h1 : M ≤ M') (h2 : M' ≤ 1000000000) : cst S M' N F A x t W L B U wA sA cA lA := ⟨⟨h.1.1.mono h1 h2, h.1.2⟩, h.2⟩
/-- the component's whole state between calls -/
def xst (S : Nat → Nat) (M R : Int) (N : jSh) (F : jFl) (A : jAr) (x : Nat) (W L : sTb) (B : sBk) (U : sUn) (Q : sMi) : Prop := ∃ t wA sA cA lA, cst S M N F A x t W L B U wA sA cA lA ∧ L 9 0 0 = 0 ∧ s19 S N ∧ cMi R x F A Q ∧ xtr S x N F A W Q wA sA cA lA
theorem cMi.kq {R : Int} {x : Nat} {N : jSh} {F F' : jFl} {A A' : jAr} {Q : sMi} (h : cMi R x F A Q) (hy : lay N x) (k : kq x N F A F' A') : cMi R x F' A' Q :=
  have t0 : jtg N x = 1 := (hy.1 0 (by decide)).1
  have t1 : jtg N (x + 1) = 111 := (hy.1 1 (by decide)).1
  have t2 : jtg N (x + 2) = 102 := (hy.1 2 (by decide)).1
  h.of (fun f _ => (k x (Or.inl (by omega))).1 f) (k _ (Or.inl (by omega))).2 (k _ (Or.inl (by omega))).2
/-- what a call gives back: the state, at most so many cells and slots more, the model's cells as they were -/
def xrs (x : Nat) (N : jSh) (F : jFl) (A : jAr) (N' : jSh) (F' : jFl) (A' : jAr) : Prop := nex N N' ∧ kz x N F A F' A' ∧ jnx N' ≤ jnx N + 18000 ∧ jsu N' ≤ jsu N + 80000
/-- a refusal -/
theorem xst.ref {S : Nat → Nat} {M R : Int} {N : jSh} {F F' : jFl} {A A' : jAr} {x : Nat} {W L : sTb} {B : sBk} {U : sUn} {Q : sMi} {r : Int} (h : xst S M R N F A x W L B U Q) (hM : M ≤ 900000000) (q1 : cMi (R + 1) x F' A' (qRef Q r)) (q2 : F' = F) (q3 : ∀ b, b ≠ x + 2 → A' b = A b) : xst S (M + 1000000) (R + 1) N F' A' x W L B U (qRef Q r) ∧ xrs x N F A N F' A' := by
  subst q2
  obtain ⟨t, wA, sA, cA, lA, c0, h9, h19, hQ, hX⟩ := h
  have hy := c0.1.2.1
  refine ⟨⟨t, wA, sA, cA, lA, (c0.mono (by omega) (by omega)).ar (fun b hb1 hb2 => q3 b (fun w => hb2 (by rw [w]; exact (hy.1 2 (by decide)).1))), h9, h19, q1, (hX.kw c0.1.1.1 (nex.refl _) (fun a hb => ⟨fun _ => rfl, q3 a (fun w => ?_)⟩)).q (qRef_6 (by decide)) (qRef_6 (by decide))⟩, nex.refl _, fun a ha _ => ⟨fun _ => rfl, q3 a (by omega)⟩, by omega, by omega⟩
  have t2 : jtg N (x + 2) = 102 := (hy.1 2 (by decide)).1
  rw [w, t2] at hb
  omega
theorem sX0_tell {S : Nat → Nat} {o : Nat} {a1 : Int} {a2 : Int} {N : jSh} {F : jFl} {A : jAr} {S : Nat → Nat} {M R : Int} {W L : sTb} {B : sBk} {U : sUn} {Q : sMi} (h : xst S M R N F A o W L B U Q) (hM : M ≤ 700000000) (hR : R < 1000000000) : wqX0_tell S o a1 a2 N F A (fun z N' F' A' => (if (0 ≤ a2 ∧ a2 < W 2 0 0) ∧ (0 ≤ a1 ∧ a1 < W 3 0 0) ∧ 0 < L 2 a1 0 then z = sKind W a2 (sRw L a1) (sHolds W L a2 a1) ∧ xst S (M + 1000000) (R + 1) N' F' A' o W (sTell W L B a1 a2).1 (sTell W L B a1 a2).2 (sKeep U (L, B)) Q else z = -1 ∧ xst S (M + 1000000) (R + 1) N' F' A' o W L B U (qRef Q 2)) ∧ xrs o N F A N' F' A') := by
  unfold wqX0_tell
  have h0 := h
  obtain ⟨t, wA, sA, cA, lA, c0, h9, h19, hQ, hX⟩ := h
  have hx := c0.2.1
  have hy := c0.1.2.1
  have hcc : ∀ a : Int, 0 ≤ a ∧ a < W 2 0 0 → 0 ≤ cA a := fun a h => by obtain ⟨b, u1, -⟩ := hx.ch h; omega
  have hll : ∀ a : Int, 0 ≤ a ∧ a < W 3 0 0 → 0 ≤ lA a := fun a h => by obtain ⟨b, u1, -⟩ := hx.lw h; omega
  refine ⟨_, sX0_childOf hx, ?_⟩ -- call wqX0_childOf o a2 N F A P1
  intro z3 p1
  refine ⟨_, sX0_standingOf hx, ?_⟩ -- call wqX0_standingOf o a1 N F A P8
  intro z10 p8
  refine ⟨fun hc => ?_, fun hc => ?_⟩ -- c1
  · -- case (z3 < 0)
    refine ⟨_, sX0_refused hy hQ hR (by decide), ?_⟩ -- call wqX0_refused o 2 N F A P16
    intro z18 F19 A20 p16
    -- l1: Q z18 N F19 A20
    have g := h0.ref (by omega) p16.2.1 p16.2.2.1 p16.2.2.2
    rw [if_neg (by grind)]
    exact ⟨⟨p16.1, g.1⟩, g.2⟩
  · -- case (¬ (z3 < 0))
    refine ⟨fun hc => ?_, fun hc => ?_⟩ -- c2
    · -- case (¬ z10 < 0)
      have h1 : 0 ≤ a2 ∧ a2 < W 2 0 0 := by grind
      have h2 : 0 ≤ a1 ∧ a1 < W 3 0 0 ∧ 0 < L 2 a1 0 := by grind
      have h3 : 0 ≤ a1 ∧ a1 < W 3 0 0 := by omega
      rw [if_pos h1] at p1
      rw [if_pos h2] at p8
      refine ⟨_, sX0_keeps c0 h19 h9 (by omega), ?_⟩ -- call wqX0_keeps S o N F A P26
      intro N31 F29 A30 p26
      obtain ⟨c1, e1, k1, r1, r2⟩ := p26
      have hx1 := c1.2.1
      have hy1 := c1.1.2.1
      refine ⟨_, by exact hy1.p326, ?_⟩ -- d37: jfn N31 326 o = (b37 : Int)
      refine ⟨by exact hy1.alone.1, ?_⟩ -- s1: jtg N31 b37 = 3
      refine ⟨_, sX2_of hx1 hy1.alone (hy1.scr.mono (by omega) (by omega)) p1 h1 p8 h3, ?_⟩ -- call wqX2_of b37 z3 z10 N31 F29 A30 P40
      intro z42 F43 A44 p40
      obtain ⟨q1, q2, q3⟩ := p40
      have c2 := c1.scr (by omega) (by omega) q3 (sarr_of c1.1.2.2 (q3 _ (by omega)).2 (q3 _ (by omega)).2 (q3 _ (by omega)).2)
      have mQ := (hQ.kq hy k1).fr (by omega) q3
      refine ⟨_, sX0_becomes (s := o + 11) (d := 0) c2 (by omega) hy1.alone q2 ⟨by omega, by omega⟩ (sSayR_ok hx.2.1.1 h1 (sRw_ok hx.2.1.2 h3)) (sSayR_o1 (sRw_o1 hx.2.1.2 h3)) h3 h1 p8 q1 p1 mQ.2.2.2.2.2, ?_⟩ -- call wqX0_becomes S o z10 z42 z3 N31 F43 A44 P49
      intro N54 F52 A53 p49
      obtain ⟨c3, e3, k3, r3, -⟩ := p49
      rw [show ∀ B' : sBk, dB 0 B' B = B' from fun _ => rfl] at c3
      refine ⟨_, by exact c3.1.2.1.p326, ?_⟩ -- d60: jfn N54 326 o = (b60 : Int)
      refine ⟨by exact c3.1.2.1.alone.1, ?_⟩ -- s2: jtg N54 b60 = 3
      -- l2: Q (F52 903 b60) N54 F52 A53
      dsimp only
      rw [if_pos ⟨h1, h3, h2.2.2⟩]
      obtain ⟨y1, y2, y3⟩ := r3
      refine ⟨⟨by rw [(k3 (o + 11) (Or.inr (by omega))).1]; exact q2.1, t, wA, sA, cA, lA, c3.mono (by omega) (by omega), by unfold sTell; rw [sBecome_9]; exact h9, (h19.ex c0.1.1.1 e1).ex c1.1.1.1 e3, (mQ.kq hy1 k3).mono (by omega), (hX.kw c0.1.1.1 e1 (k1.kw.trans (fr.kw q3 hy1 (by omega) (by omega)) c0.1.1.1 e1)).kw c1.1.1.1 e3 k3.kw⟩, e1.trans e3, (k1.kz.trans (fr.kz q3 (by omega)) c0.1.1.1 e1).trans k3.kz c0.1.1.1 e1, by omega, by omega⟩
    · -- case (z10 < 0)
      refine ⟨_, sX0_refused hy hQ hR (by decide), ?_⟩ -- call wqX0_refused o 2 N F A P63
      intro z65 F66 A67 p63
      -- l3: Q z65 N F66 A67
      have g := h0.ref (by omega) p63.2.1 p63.2.2.1 p63.2.2.2
      rw [if_neg (by grind)]
      exact ⟨⟨p63.1, g.1⟩, g.2⟩

