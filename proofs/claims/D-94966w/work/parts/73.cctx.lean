set_option maxRecDepth 100000
set_option linter.unusedVariables false
/-! the component's town in the heap -/
def jli (N : jSh) (F : jFl) (A : jAr) (l : Nat) (n : Int) (e : Int → Int) : Prop := (jtg N l = 20 ∧ jfn N 0 l = 1) ∧ F 6003 l = n ∧ (0 ≤ n ∧ n ≤ 100) ∧ ∃ b : Nat, F 6002 l = (b : Int) ∧ jtg N b = 104 ∧ n ≤ (jln N b : Int) ∧ (∀ k : Int, 0 ≤ k → k < n → A b k = e k) ∧ ((jfn N 0 b = 1 ∨ jln N b = 0) ∧ jln N b ≤ 160 ∧ ∀ k : Int, n ≤ k → k < (jln N b : Int) → A b k = -1) ∧ ∀ k : Int, 0 ≤ k → k < n → jast N "java/lang/Object" (e k)
def lawOk (N : jSh) (l : Int) (b : Nat) : Prop := jtg N b = 17 ∧ jfn N 0 b = 1 ∧ jfn N 3903 b = l ∧ jfn N 5102 b = ((b + 3 : Nat) : Int) ∧ rowOk N (b + 3)
def lws (N : jSh) (F : jFl) (A : jAr) (W L : sTb) (wA lA : Int → Int) : Prop := ∀ l : Int, 0 ≤ l → l < W 3 0 0 → ∃ b : Nat, lA l = (b : Int) ∧ lawOk N l b ∧ F 5103 b = L 4 l 0 ∧ rowIs N F A wA (b + 3) (sRw L l)
def twn (N : jSh) (F : jFl) (A : jAr) (t : Nat) (W L : sTb) (wA sA cA lA : Int → Int) : Prop :=
  (jtg N t = 2 ∧ jfn N 0 t = 1 ∧ jfn N 617 t = ((t + 1 : Nat) : Int) ∧ jfn N 620 t = ((t + 2 : Nat) : Int) ∧ jfn N 623 t = ((t + 3 : Nat) : Int) ∧ jfn N 626 t = ((t + 4 : Nat) : Int) ∧ jfn N 629 t = ((t + 5 : Nat) : Int) ∧ jfn N 632 t = ((t + 6 : Nat) : Int)) ∧
  (F 603 t = W 4 0 0 ∧ F 606 t = W 5 0 0 ∧ F 609 t = W 6 0 0 ∧ F 612 t = L 0 0 0) ∧
  (jli N F A (t + 1) (W 0 0 0) wA ∧ jli N F A (t + 2) (W 1 0 0) sA ∧ jli N F A (t + 3) (W 2 0 0) cA ∧ jli N F A (t + 4) (W 3 0 0) lA ∧ jli N F A (t + 5) (W 3 0 0) (fun p => lA (L 1 p 0))) ∧
  wds N F W wA ∧ (∀ s : Int, 0 ≤ s → s < W 1 0 0 → ∃ b : Nat, sA s = (b : Int) ∧ stIs N A W wA s b) ∧ (∀ c : Int, 0 ≤ c → c < W 2 0 0 → ∃ b : Nat, cA c = (b : Int) ∧ chIs N F A W wA sA c b) ∧ lws N F A W L wA lA
/-- the town that stands, seen from x -/
def ctx (N : jSh) (F : jFl) (A : jAr) (x t : Nat) (W L : sTb) (wA sA cA lA : Int → Int) : Prop := (jtg N x = 1 ∧ jfn N 0 x = 1 ∧ F 311 x = (t : Int)) ∧ (sWok W ∧ sLok W L) ∧ twn N F A t W L wA sA cA lA
/-- cells of scratch lie there -/
def scr (N : jSh) (lo hi : Nat) : Prop := (∀ a : Nat, lo ≤ a → a < hi → jtg N a ≠ 1 ∧ jtg N a ≠ 2 ∧ jtg N a ≠ 20 ∧ jtg N a ≠ 104 ∧ jtg N a ≠ 18 ∧ jtg N a ≠ 19) ∧ ∀ a : Nat, lo ≤ a + 4 → a < hi → jtg N a ≠ 14 ∧ jtg N a ≠ 15 ∧ jtg N a ≠ 16 ∧ jtg N a ≠ 17
theorem scr.mono {N : jSh} {lo hi lo2 hi2 : Nat} (h : scr N lo hi) (h1 : lo ≤ lo2) (h2 : hi2 ≤ hi) : scr N lo2 hi2 := ⟨fun a a0 a1 => h.1 a (by omega) (by omega), fun a a0 a1 => h.2 a (by omega) (by omega)⟩
section
variable {N : jSh} {lo hi : Nat} {F F' : jFl} {A A' : jAr} {W L : sTb} {wA sA cA lA : Int → Int}
theorem scr.out (h : scr N lo hi) {a : Nat} (ht : jtg N a = 1 ∨ jtg N a = 2 ∨ jtg N a = 20 ∨ jtg N a = 104 ∨ jtg N a = 18 ∨ jtg N a = 19) : a < lo ∨ hi ≤ a := by
  by_cases q : lo ≤ a ∧ a < hi
  · have := h.1 a q.1 q.2; omega
  · omega
theorem scr.out3 (h : scr N lo hi) {a : Nat} (ht : jtg N a = 14 ∨ jtg N a = 15 ∨ jtg N a = 16 ∨ jtg N a = 17) : a + 4 < lo ∨ hi ≤ a := by
  by_cases q : lo ≤ a + 4 ∧ a < hi
  · have := h.2 a q.1 q.2; omega
  · omega
theorem wds.fr (h : wds N F W wA) (hs : scr N lo hi) (hf : fr lo hi F A F' A') : wds N F' W wA := h.of (fun f b _ hb => (hf b (by have := hs.out3 (Or.inl hb); omega)).1 f)
theorem stIs.fr {s : Int} {b : Nat} (h : stIs N A W wA s b) (hs : scr N lo hi) (hf : fr lo hi F A F' A') : stIs N A' W wA s b := by
  refine ⟨h.1, ?_⟩
  rw [(hf (b + 3) (by have := hs.out3 (Or.inr (Or.inl h.1.1)); omega)).2]
  exact h.2
theorem chIs.fr {c : Int} {b : Nat} (h : chIs N F A W wA sA c b) (hs : scr N lo hi) (hf : fr lo hi F A F' A') : chIs N F' A' W wA sA c b := by
  have q := hs.out3 (Or.inr (Or.inr (Or.inl h.1.1)))
  exact h.of (fun f _ => (hf b (by omega)).1 f) (hf (b + 3) (by omega)).2 (hf (b + 4) (by omega)).2
theorem lws.fr (h : lws N F A W L wA lA) (hs : scr N lo hi) (hf : fr lo hi F A F' A') : lws N F' A' W L wA lA := fun l l0 l1 => by
  obtain ⟨b, e1, e2, e3, e4⟩ := h l l0 l1
  have q := hs.out3 (Or.inr (Or.inr (Or.inr e2.1)))
  exact ⟨b, e1, e2, by rw [(hf b (by omega)).1, e3], e4.of ((hf (b + 3) (by omega)).1 _) ((hf (b + 3) (by omega)).1 _) (hf (b + 3 + 1) (by omega)).2⟩
theorem jli.fr {l : Nat} {n : Int} {e : Int → Int} (h : jli N F A l n e) (hs : scr N lo hi) (hf : fr lo hi F A F' A') : jli N F' A' l n e := by
  obtain ⟨e1, e2, e3, b, e4, e5, e6, e7, e8⟩ := h
  have q := hs.out (Or.inr (Or.inr (Or.inl e1.1)))
  have q2 := hs.out (Or.inr (Or.inr (Or.inr (Or.inl e5))))
  exact ⟨e1, by rw [(hf l q).1, e2], e3, b, by rw [(hf l q).1, e4], e5, e6, by rw [(hf b q2).2]; exact ⟨e7, e8⟩⟩
theorem twn.fr {t : Nat} (h : twn N F A t W L wA sA cA lA) (hs : scr N lo hi) (hf : fr lo hi F A F' A') : twn N F' A' t W L wA sA cA lA := by
  obtain ⟨h1, h2, ⟨l1, l2, l3, l4, l5⟩, h4, h5, h6, h7⟩ := h
  have q := hf t (hs.out (Or.inr (Or.inl h1.1)))
  refine ⟨h1, by rw [q.1, q.1, q.1, q.1]; exact h2, ⟨l1.fr hs hf, l2.fr hs hf, l3.fr hs hf, l4.fr hs hf, l5.fr hs hf⟩, h4.fr hs hf, fun s s0 s1 => ?_, fun c c0 c1 => ?_, h7.fr hs hf⟩
  · obtain ⟨b, e1, e2⟩ := h5 s s0 s1
    exact ⟨b, e1, e2.fr hs hf⟩
  · obtain ⟨b, e1, e2⟩ := h6 c c0 c1
    exact ⟨b, e1, e2.fr hs hf⟩
theorem ctx.fr {x t : Nat} (h : ctx N F A x t W L wA sA cA lA) (hs : scr N lo hi) (hf : fr lo hi F A F' A') : ctx N F' A' x t W L wA sA cA lA :=
  ⟨⟨h.1.1, h.1.2.1, by rw [(hf x (hs.out (Or.inl h.1.1))).1]; exact h.1.2.2⟩, h.2.1, h.2.2.fr hs hf⟩
end
section
variable {N : jSh} {F : jFl} {A : jAr} {x t : Nat} {W L : sTb} {wA sA cA lA : Int → Int}
theorem ctx.oW (h : ctx N F A x t W L wA sA cA lA) : sWok W := h.2.1.1
theorem ctx.oL (h : ctx N F A x t W L wA sA cA lA) : sLok W L := h.2.1.2
theorem ctx.tx (h : ctx N F A x t W L wA sA cA lA) : jtg N x = 1 := h.1.1
theorem ctx.ft (h : ctx N F A x t W L wA sA cA lA) : F 311 x = (t : Int) := h.1.2.2
theorem ctx.tt (h : ctx N F A x t W L wA sA cA lA) : jtg N t = 2 := h.2.2.1.1
theorem ctx.f4 (h : ctx N F A x t W L wA sA cA lA) : F 603 t = W 4 0 0 := h.2.2.2.1.1
theorem ctx.f5 (h : ctx N F A x t W L wA sA cA lA) : F 606 t = W 5 0 0 := h.2.2.2.1.2.1
theorem ctx.f6 (h : ctx N F A x t W L wA sA cA lA) : F 609 t = W 6 0 0 := h.2.2.2.1.2.2.1
theorem ctx.fy (h : ctx N F A x t W L wA sA cA lA) : F 612 t = L 0 0 0 := h.2.2.2.1.2.2.2
theorem ctx.nW (h : ctx N F A x t W L wA sA cA lA) : jfn N 617 t = ((t + 1 : Nat) : Int) := h.2.2.1.2.2.1
theorem ctx.nS (h : ctx N F A x t W L wA sA cA lA) : jfn N 620 t = ((t + 2 : Nat) : Int) := h.2.2.1.2.2.2.1
theorem ctx.nC (h : ctx N F A x t W L wA sA cA lA) : jfn N 623 t = ((t + 3 : Nat) : Int) := h.2.2.1.2.2.2.2.1
theorem ctx.nL (h : ctx N F A x t W L wA sA cA lA) : jfn N 626 t = ((t + 4 : Nat) : Int) := h.2.2.1.2.2.2.2.2.1
theorem ctx.nO (h : ctx N F A x t W L wA sA cA lA) : jfn N 629 t = ((t + 5 : Nat) : Int) := h.2.2.1.2.2.2.2.2.2.1
theorem ctx.nB (h : ctx N F A x t W L wA sA cA lA) : jfn N 632 t = ((t + 6 : Nat) : Int) := h.2.2.1.2.2.2.2.2.2.2
theorem ctx.lW (h : ctx N F A x t W L wA sA cA lA) : jli N F A (t + 1) (W 0 0 0) wA := h.2.2.2.2.1.1
theorem ctx.lS (h : ctx N F A x t W L wA sA cA lA) : jli N F A (t + 2) (W 1 0 0) sA := h.2.2.2.2.1.2.1
theorem ctx.lC (h : ctx N F A x t W L wA sA cA lA) : jli N F A (t + 3) (W 2 0 0) cA := h.2.2.2.2.1.2.2.1
theorem ctx.lL (h : ctx N F A x t W L wA sA cA lA) : jli N F A (t + 4) (W 3 0 0) lA := h.2.2.2.2.1.2.2.2.1
theorem ctx.lO (h : ctx N F A x t W L wA sA cA lA) : jli N F A (t + 5) (W 3 0 0) (fun p => lA (L 1 p 0)) := h.2.2.2.2.1.2.2.2.2
theorem ctx.wd (h : ctx N F A x t W L wA sA cA lA) : wds N F W wA := h.2.2.2.2.2.1
theorem ctx.st (h : ctx N F A x t W L wA sA cA lA) {s : Int} (hs : 0 ≤ s ∧ s < W 1 0 0) : ∃ b : Nat, sA s = (b : Int) ∧ stIs N A W wA s b := h.2.2.2.2.2.2.1 s hs.1 hs.2
theorem ctx.ch (h : ctx N F A x t W L wA sA cA lA) {c : Int} (hc : 0 ≤ c ∧ c < W 2 0 0) : ∃ b : Nat, cA c = (b : Int) ∧ chIs N F A W wA sA c b := h.2.2.2.2.2.2.2.1 c hc.1 hc.2
theorem ctx.lw (h : ctx N F A x t W L wA sA cA lA) {l : Int} (hl : 0 ≤ l ∧ l < W 3 0 0) : ∃ b : Nat, lA l = (b : Int) ∧ lawOk N l b ∧ F 5103 b = L 4 l 0 ∧ rowIs N F A wA (b + 3) (sRw L l) := h.2.2.2.2.2.2.2.2 l hl.1 hl.2
end
theorem jast_at {N : jSh} {C : String} {b t : Nat} {z : Int} {cl : jC} (h : z = (b : Int)) (ht : jtg N b = t) (hc : jcls t = some cl) (hC : C = cl.1) : jast N C z := Or.inr ⟨b, cl, h, (by rw [ht]; exact hc), Or.inl hC⟩
theorem jcst_at {N : jSh} {C : String} {b t : Nat} {z : Int} {cl : jC} (h : z = (b : Int)) (ht : jtg N b = t) (hc : jcls t = some cl) (hC : C = cl.1) : jcst N C z := Or.inr ⟨b, cl, h, (by rw [ht]; exact hc), Or.inl hC⟩
theorem jcst_law {N : jSh} {b : Nat} {z : Int} (h : z = (b : Int)) (ht : jtg N b = 17) : jcst N "ChildSays$Law" z := jcst_at h ht rfl rfl
theorem jast_law {N : jSh} {b : Nat} {z : Int} (h : z = (b : Int)) (ht : jtg N b = 17) : jast N "ChildSays$Law" z := jast_at h ht rfl rfl
theorem jcst_child {N : jSh} {b : Nat} {z : Int} (h : z = (b : Int)) (ht : jtg N b = 16) : jcst N "ChildSays$Child" z := jcst_at h ht rfl rfl
theorem jcst_word {N : jSh} {b : Nat} {z : Int} (h : z = (b : Int)) (ht : jtg N b = 14) : jcst N "ChildSays$Word" z := jcst_at h ht rfl rfl
/-! the scratch of x: cells from x + 11 to x + 140, by their kinds -/
def tagT : List Nat := [1, 111, 102, 2, 20, 20, 20, 20, 20, 20, 20, 3, 4, 107, 5, 110, 113] ++ ((List.replicate 12 [3, 4, 107]).flatten ++ ([6, 110, 102, 102] ++ ((List.replicate 10 [3, 4, 107]).flatten ++ ([7, 4, 107, 4, 107, 8, 4, 107, 102, 102, 9, 5, 110, 113] ++ ((List.replicate 12 [3, 4, 107]).flatten ++ [113, 4, 107, 21])))))
def sayF (k : Nat) : List (Nat × Nat × Nat) := [(902, k, k + 1), (914, k, 0), (1202, k + 1, k + 2)]
/-- fields that stay: field, its object, what it says, from x on -/
def fldT : List (Nat × Nat × Nat) := [(302, 0, 1), (308, 0, 2), (323, 0, 10), (326, 0, 11), (329, 0, 14), (335, 0, 53), (338, 0, 87), (341, 0, 92), (344, 0, 97), (347, 0, 138), (350, 0, 140),
  (1502, 14, 15), (1505, 14, 16), (1511, 14, 0), (1802, 53, 54), (1805, 53, 55), (1808, 53, 56), (1814, 53, 0), (2102, 87, 88), (2105, 87, 90), (2117, 87, 0), (1202, 88, 89), (1202, 90, 91), (2402, 92, 93), (2405, 92, 95), (2408, 92, 96), (2420, 92, 0), (1202, 93, 94), (2702, 97, 98), (2705, 97, 137), (2714, 97, 0), (1502, 98, 99), (1505, 98, 100), (1511, 98, 0), (1202, 138, 139)] ++
  (sayF 11 ++ ((List.range 12).flatMap (fun k => sayF (17 + 3 * k)) ++ ((List.range 10).flatMap (fun k => sayF (57 + 3 * k)) ++ (List.range 12).flatMap (fun k => sayF (101 + 3 * k)))))
def lenT : List (Nat × Nat) := [(1, 1600), (2, 6), (13, 12), (15, 12), (16, 12), (54, 10), (55, 10), (56, 10), (89, 12), (91, 12), (94, 12), (95, 8), (96, 8), (99, 12), (100, 12), (137, 12), (139, 12)] ++
  ((List.range 12).map (fun k => (19 + 3 * k, 12)) ++ ((List.range 10).map (fun k => (59 + 3 * k, 12)) ++ (List.range 12).map (fun k => (103 + 3 * k, 12))))
def lay (N : jSh) (x : Nat) : Prop := (∀ k : Nat, k < 141 → jtg N (x + k) = tagT.getD k 0 ∧ jfn N 0 (x + k) = 1) ∧ (∀ q ∈ fldT, jfn N q.1 (x + q.2.1) = ((x + q.2.2 : Nat) : Int)) ∧ ∀ q ∈ lenT, jln N (x + q.1) = q.2
theorem lay.row {N : jSh} {x : Nat} (h : lay N x) {k : Nat} (hk : k + 1 < 141) (h1 : tagT.getD k 0 = 4) (h2 : tagT.getD (k + 1) 0 = 107) (h3 : (1202, k, k + 1) ∈ fldT) (h4 : (k + 1, 12) ∈ lenT) : rowOk N (x + k) :=
  ⟨(h.1 k (by omega)).1.trans h1, (h.1 k (by omega)).2, h.2.1 _ h3, (h.1 (k + 1) hk).1.trans h2, (h.1 (k + 1) hk).2, h.2.2 _ h4⟩
theorem lay.say {N : jSh} {x : Nat} (h : lay N x) {k : Nat} (hk : k + 2 < 141) (h0 : tagT.getD k 0 = 3) (h1 : tagT.getD (k + 1) 0 = 4) (h2 : tagT.getD (k + 2) 0 = 107) (h3 : (902, k, k + 1) ∈ fldT) (h4 : (914, k, 0) ∈ fldT) (h5 : (1202, k + 1, k + 2) ∈ fldT) (h6 : (k + 2, 12) ∈ lenT) : sayOk N x (x + k) :=
  ⟨(h.1 k (by omega)).1.trans h0, (h.1 k (by omega)).2, h.2.1 _ h3, h.row (k := k + 1) (by omega) h1 h2 h5 h6, h.2.1 _ h4⟩
theorem lay.alone {N : jSh} {x : Nat} (h : lay N x) : sayOk N x (x + 11) := h.say (k := 11) (by decide) (by decide) (by decide) (by decide) (by decide) (by decide) (by decide) (by decide)
theorem lay.p302 {N : jSh} {x : Nat} (h : lay N x) : jfn N 302 x = ((x + 1 : Nat) : Int) := h.2.1 (302, 0, 1) (by decide)
theorem lay.p308 {N : jSh} {x : Nat} (h : lay N x) : jfn N 308 x = ((x + 2 : Nat) : Int) := h.2.1 (308, 0, 2) (by decide)
theorem lay.p323 {N : jSh} {x : Nat} (h : lay N x) : jfn N 323 x = ((x + 10 : Nat) : Int) := h.2.1 (323, 0, 10) (by decide)
theorem lay.p326 {N : jSh} {x : Nat} (h : lay N x) : jfn N 326 x = ((x + 11 : Nat) : Int) := h.2.1 (326, 0, 11) (by decide)
theorem lay.p329 {N : jSh} {x : Nat} (h : lay N x) : jfn N 329 x = ((x + 14 : Nat) : Int) := h.2.1 (329, 0, 14) (by decide)
theorem lay.p335 {N : jSh} {x : Nat} (h : lay N x) : jfn N 335 x = ((x + 53 : Nat) : Int) := h.2.1 (335, 0, 53) (by decide)
theorem lay.p338 {N : jSh} {x : Nat} (h : lay N x) : jfn N 338 x = ((x + 87 : Nat) : Int) := h.2.1 (338, 0, 87) (by decide)
theorem lay.p341 {N : jSh} {x : Nat} (h : lay N x) : jfn N 341 x = ((x + 92 : Nat) : Int) := h.2.1 (341, 0, 92) (by decide)
theorem lay.p344 {N : jSh} {x : Nat} (h : lay N x) : jfn N 344 x = ((x + 97 : Nat) : Int) := h.2.1 (344, 0, 97) (by decide)
theorem lay.p347 {N : jSh} {x : Nat} (h : lay N x) : jfn N 347 x = ((x + 138 : Nat) : Int) := h.2.1 (347, 0, 138) (by decide)
theorem lay.p350 {N : jSh} {x : Nat} (h : lay N x) : jfn N 350 x = ((x + 140 : Nat) : Int) := h.2.1 (350, 0, 140) (by decide)
theorem lay_scr : ∀ k : Nat, k < 141 → tagT.getD k 0 ≠ 14 ∧ tagT.getD k 0 ≠ 15 ∧ tagT.getD k 0 ≠ 16 ∧ tagT.getD k 0 ≠ 17 ∧ tagT.getD k 0 ≠ 104 ∧ tagT.getD k 0 ≠ 18 ∧ tagT.getD k 0 ≠ 19 ∧ (11 ≤ k → tagT.getD k 0 ≠ 1 ∧ tagT.getD k 0 ≠ 2 ∧ tagT.getD k 0 ≠ 20) := by decide
theorem lay.scr {N : jSh} {x : Nat} (h : lay N x) : scr N (x + 11) (x + 141) := by
  constructor
  · intro a a0 a1
    have e := (h.1 (a - x) (by omega)).1
    rw [show x + (a - x) = a by omega] at e
    have q := lay_scr (a - x) (by omega)
    rw [e]
    have q2 := q.2.2.2.2.2.2.2 (by omega)
    omega
  · intro a a0 a1
    have e := (h.1 (a - x) (by omega)).1
    rw [show x + (a - x) = a by omega] at e
    have q := lay_scr (a - x) (by omega)
    rw [e]
    omega
/-- a sitting at s -/
def sitOk (N : jSh) (A : jAr) (x s : Nat) : Prop := (jtg N s = 5 ∧ jfn N 0 s = 1 ∧ jfn N 1502 s = ((s + 1 : Nat) : Int) ∧ jtg N (s + 1) = 110 ∧ jln N (s + 1) = 12) ∧ (jfn N 1505 s = ((s + 2 : Nat) : Int) ∧ jtg N (s + 2) = 113 ∧ jfn N 0 (s + 2) = 1 ∧ jln N (s + 2) = 12) ∧ jfn N 1511 s = (x : Int) ∧ ∀ k : Nat, k < 12 → A (s + 1) k = ((s + 3 + 3 * k : Nat) : Int) ∧ sayOk N x (s + 3 + 3 * k)
theorem saySa : ∀ k : Nat, k < 12 → 19 + 3 * k < 141 ∧ tagT.getD (17 + 3 * k) 0 = 3 ∧ tagT.getD (17 + 3 * k + 1) 0 = 4 ∧ tagT.getD (17 + 3 * k + 2) 0 = 107 := by decide
theorem saySb : ∀ k : Nat, k < 12 → (902, 17 + 3 * k, 17 + 3 * k + 1) ∈ fldT ∧ (914, 17 + 3 * k, 0) ∈ fldT := by decide
theorem saySc : ∀ k : Nat, k < 12 → (1202, 17 + 3 * k + 1, 17 + 3 * k + 2) ∈ fldT ∧ (17 + 3 * k + 2, 12) ∈ lenT := by decide
theorem sayS {N : jSh} {x : Nat} (h : lay N x) {k : Nat} (hk : k < 12) : sayOk N x (x + (17 + 3 * k)) := by
  obtain ⟨q1, q2, q3, q4⟩ := saySa k hk
  obtain ⟨q5, q6⟩ := saySb k hk
  obtain ⟨q7, q8⟩ := saySc k hk
  exact h.say (k := 17 + 3 * k) (by omega) q2 q3 q4 q5 q6 q7 q8
theorem sayOa : ∀ k : Nat, k < 12 → 103 + 3 * k < 141 ∧ tagT.getD (101 + 3 * k) 0 = 3 ∧ tagT.getD (101 + 3 * k + 1) 0 = 4 ∧ tagT.getD (101 + 3 * k + 2) 0 = 107 := by decide
theorem sayOb : ∀ k : Nat, k < 12 → (902, 101 + 3 * k, 101 + 3 * k + 1) ∈ fldT ∧ (914, 101 + 3 * k, 0) ∈ fldT := by decide
theorem sayOc : ∀ k : Nat, k < 12 → (1202, 101 + 3 * k + 1, 101 + 3 * k + 2) ∈ fldT ∧ (101 + 3 * k + 2, 12) ∈ lenT := by decide
theorem sayO {N : jSh} {x : Nat} (h : lay N x) {k : Nat} (hk : k < 12) : sayOk N x (x + (101 + 3 * k)) := by
  obtain ⟨q1, q2, q3, q4⟩ := sayOa k hk
  obtain ⟨q5, q6⟩ := sayOb k hk
  obtain ⟨q7, q8⟩ := sayOc k hk
  exact h.say (k := 101 + 3 * k) (by omega) q2 q3 q4 q5 q6 q7 q8
theorem sayUa : ∀ k : Nat, k < 10 → 59 + 3 * k < 141 ∧ tagT.getD (57 + 3 * k) 0 = 3 ∧ tagT.getD (57 + 3 * k + 1) 0 = 4 ∧ tagT.getD (57 + 3 * k + 2) 0 = 107 := by decide
theorem sayUb : ∀ k : Nat, k < 10 → (902, 57 + 3 * k, 57 + 3 * k + 1) ∈ fldT ∧ (914, 57 + 3 * k, 0) ∈ fldT := by decide
theorem sayUc : ∀ k : Nat, k < 10 → (1202, 57 + 3 * k + 1, 57 + 3 * k + 2) ∈ fldT ∧ (57 + 3 * k + 2, 12) ∈ lenT := by decide
theorem sayU {N : jSh} {x : Nat} (h : lay N x) {k : Nat} (hk : k < 10) : sayOk N x (x + (57 + 3 * k)) := by
  obtain ⟨q1, q2, q3, q4⟩ := sayUa k hk
  obtain ⟨q5, q6⟩ := sayUb k hk
  obtain ⟨q7, q8⟩ := sayUc k hk
  exact h.say (k := 57 + 3 * k) (by omega) q2 q3 q4 q5 q6 q7 q8
theorem lay.sit {N : jSh} {x : Nat} {A : jAr} (h : lay N x) (hA : ∀ k : Nat, k < 12 → A (x + 15) k = ((x + 17 + 3 * k : Nat) : Int)) : sitOk N A x (x + 14) := by
  refine ⟨⟨(h.1 14 (by decide)).1, (h.1 14 (by decide)).2, h.2.1 (1502, 14, 15) (by decide), (h.1 15 (by decide)).1, h.2.2 (15, 12) (by decide)⟩, ⟨h.2.1 (1505, 14, 16) (by decide), (h.1 16 (by decide)).1, (h.1 16 (by decide)).2, h.2.2 (16, 12) (by decide)⟩, h.2.1 (1511, 14, 0) (by decide), fun k hk => ⟨?_, ?_⟩⟩
  · have := hA k hk
    exact this
  · have e := sayS h hk
    rw [show x + 14 + 3 + 3 * k = x + (17 + 3 * k) by omega]
    exact e
theorem lay.sit2 {N : jSh} {x : Nat} {A : jAr} (h : lay N x) (hA : ∀ k : Nat, k < 12 → A (x + 99) k = ((x + 101 + 3 * k : Nat) : Int)) : sitOk N A x (x + 98) := by
  refine ⟨⟨(h.1 98 (by decide)).1, (h.1 98 (by decide)).2, h.2.1 (1502, 98, 99) (by decide), (h.1 99 (by decide)).1, h.2.2 (99, 12) (by decide)⟩, ⟨h.2.1 (1505, 98, 100) (by decide), (h.1 100 (by decide)).1, (h.1 100 (by decide)).2, h.2.2 (100, 12) (by decide)⟩, h.2.1 (1511, 98, 0) (by decide), fun k hk => ⟨?_, ?_⟩⟩
  · have := hA k hk
    exact this
  · have e := sayO h hk
    rw [show x + 98 + 3 + 3 * k = x + (101 + 3 * k) by omega]
    exact e
