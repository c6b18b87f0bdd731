set_option maxRecDepth 100000
set_option linter.unusedVariables false
/-! ways to put a law: plain words, the component's best, mended; printed by gen/prove.py out of spec/9t.put.spec -/
theorem sX_sX {P : Int → Int} {a b : Int} (h : a ≠ b) : sX (sX P a b) a b = P := by
  funext j
  unfold sX
  by_cases w : j = b
  · rw [w, upI_s, upI_n h, upI_s]
  · rw [upI_n w]
    by_cases w2 : j = a
    · rw [w2, upI_s, upI_s]
    · rw [upI_n w2, upI_n w, upI_n w2]
theorem sExA_le {G : (Int → Int) → Int} {P : Int → Int} {n most m : Int} (hm : most ≤ m) (hG : ∀ P, G P ≤ m) : (sExA G P n most).1 ≤ m := by
  unfold sExA
  refine it_inv (f := sExR G P n) (a := (most, (-1 : Int), (-1 : Int))) (n := n.toNat) (fun _ st => st.1 ≤ m) hm (fun k k0 k1 s hs => ?_)
  unfold sExR
  refine it_inv (f := sExI G P k) (a := s) (n := n.toNat) (fun _ st => st.1 ≤ m) hs (fun q q0 q1 s hs => ?_)
  unfold sExI
  split
  · exact hG _
  · exact hs
theorem sMd_le {G : (Int → Int) → Int} {P0 : Int → Int} {n m : Int} (hG : ∀ P, G P ≤ m) (k : Nat) : (sMd G P0 n k).2 ≤ m := by
  induction k with
  | zero => exact hG _
  | succ k ih => exact sExA_le ih hG
theorem sByR_congr {W : sTb} {R R' : sRow} {s : Int} (h : sAlike R R') (p1 : 0 ≤ R.1) (p2 : 0 ≤ R.2.1) : sByR W R s = sByR W R' s := by
  unfold sByR
  exact it_congr (fun k _ _ st => by rw [(say_congr (W := W) (c := k) h.1 h.2.1 h.2.2 p1 p2).1])
theorem sByR_range {W : sTb} {R : sRow} {s : Int} (hW : 0 ≤ W 2 0 0) : 0 ≤ sByR W R s ∧ sByR W R s ≤ W 2 0 0 := by
  unfold sByR
  have e := it_inv (f := fun c n => if sKind W c R (W 20 c 0 + (if s = 0 then 0 else W 6 0 0)) = 0 then n + 1 else n) (a := (0 : Int)) (n := (W 2 0 0).toNat) (fun k n => 0 ≤ n ∧ n ≤ k) (by omega) (fun k k0 k1 n hn => by split <;> omega)
  omega
def sPtR (R : sRow) (P : Int → Int) : sRow := (R.1, R.2.1, fun j => if j < R.1 then R.2.2 (P j) else R.2.2 j)
noncomputable def sGd (W L : sTb) (l : Int) (P : Int → Int) : Int := sByR W (sPtR (sRw L l) P) (L 4 l 0)
theorem sGd_congr {W L : sTb} {l : Int} {P P' : Int → Int} (hk : sRok (W 0 0 0) (sRw L l)) (h : ∀ j : Int, 0 ≤ j → j < (sRw L l).1 → P j = P' j) : sGd W L l P = sGd W L l P' := by
  refine sByR_congr ⟨rfl, rfl, fun j j0 j1 => ?_⟩ hk.1.1 hk.2.1.1
  show (if j < (sRw L l).1 then (sRw L l).2.2 (P j) else (sRw L l).2.2 j) = (if j < (sRw L l).1 then (sRw L l).2.2 (P' j) else (sRw L l).2.2 j)
  by_cases w : j < (sRw L l).1
  · rw [if_pos w, if_pos w, h j j0 w]
  · rw [if_neg w, if_neg w]
abbrev lsF (p : List Nat) : Int → Int := fun j => (p.getD j.toNat 0 : Int)
theorem lsF_app {p : List Nat} {v : Nat} {j : Int} (h0 : 0 ≤ j) (h : j < p.length + 1) : lsF (p ++ [v]) j = upI (lsF p) p.length (v : Int) j := by
  by_cases w : j = p.length
  · rw [w, upI_s]
    simp [lsF]
  · rw [upI_n w]
    have : j.toNat < p.length := by omega
    simp [lsF, List.getD_eq_getElem?_getD, List.getElem?_append_left this]
def prF (m k : Nat) (p : List Nat) (v : Nat) : List (List Nat) := (List.range v).flatMap (fun f => if f ∈ p then [] else prA (List.range m) k (p ++ [f]))
theorem prF_all (m k : Nat) (p : List Nat) : prA (List.range m) (k + 1) p = prF m k p m := rfl
theorem prF_succ (m k : Nat) (p : List Nat) (v : Nat) : prF m k p (v + 1) = prF m k p v ++ (if v ∈ p then [] else prA (List.range m) k (p ++ [v])) := by
  unfold prF
  rw [List.range_succ, List.flatMap_append]
  simp
theorem sBst_ge {g : List Nat → Int} (ps : List (List Nat)) : ∀ st : Int × List Nat, st.1 ≤ (sBst g ps st).1 := by
  induction ps with
  | nil => intro st; exact Int.le_refl _
  | cons p ps ih =>
    intro st
    have e : sBst g (p :: ps) st = sBst g ps (sUpd g st p) := rfl
    rw [e]
    refine Int.le_trans ?_ (ih _)
    unfold sUpd
    split
    · dsimp only; omega
    · exact Int.le_refl _
noncomputable def sGdL (W L : sTb) (l : Int) (p : List Nat) : Int := sGd W L l (lsF p)
noncomputable def sBestS (W L : sTb) (l : Int) : Int × List Nat := sBst (sGdL W L l) (prA (List.range (L 2 l 0).toNat) (L 2 l 0).toNat []) (-1, [])
noncomputable def rBest (W L : sTb) (l k : Int) : Int := if (0 ≤ l ∧ l < W 3 0 0 ∧ 0 < L 2 l 0) ∧ L 2 l 0 ≤ 6 then (if k = -1 then (sBestS W L l).1 else if 0 ≤ k ∧ k < L 2 l 0 then lsF (sBestS W L l).2 k else -1) else -1
theorem sBestS_pos {W L : sTb} {l : Int} (hW : sWok W) (h1 : 0 < L 2 l 0) (h6 : L 2 l 0 ≤ 6) : (sBestS W L l).1 ≠ -1 := by
  have e := (chn6 (L 2 l 0).toNat (by omega)).2.2
  unfold sBestS
  rw [e]
  have e2 : sBst (sGdL W L l) (List.range (L 2 l 0).toNat :: (prA (List.range (L 2 l 0).toNat) (L 2 l 0).toNat []).tail) (-1, []) = sBst (sGdL W L l) (prA (List.range (L 2 l 0).toNat) (L 2 l 0).toNat []).tail (sUpd (sGdL W L l) (-1, []) (List.range (L 2 l 0).toNat)) := rfl
  rw [e2]
  have g := sBst_ge (g := sGdL W L l) (prA (List.range (L 2 l 0).toNat) (L 2 l 0).toNat []).tail (sUpd (sGdL W L l) (-1, []) (List.range (L 2 l 0).toNat))
  have hp : 0 ≤ sGdL W L l (List.range (L 2 l 0).toNat) := (sByR_range hW.2.2.1.1).1
  have : 0 ≤ (sUpd (sGdL W L l) (-1, []) (List.range (L 2 l 0).toNat)).1 := by
    unfold sUpd
    rw [if_pos (by dsimp only; omega)]
    exact hp
  omega
theorem jor_0 {y : Int} (h : 0 ≤ y) : jor 0 y = y := by
  unfold jor
  rw [show (0 : Int).toNat = 0 from rfl, Nat.zero_or]
  omega
/-- the scratch of a put -/
def frP (x : Nat) (F : jFl) (A : jAr) (F' : jFl) (A' : jAr) : Prop := ∀ a : Nat, (a < x + 11 ∨ (x + 14 ≤ a ∧ a < x + 92) ∨ x + 97 ≤ a) → (∀ f, F' f a = F f a) ∧ A' a = A a
theorem frP.refl (x : Nat) (F : jFl) (A : jAr) : frP x F A F A := fun _ _ => ⟨fun _ => rfl, rfl⟩
theorem frP.trans {x : Nat} {F F' F'' : jFl} {A A' A'' : jAr} (h : frP x F A F' A') (h2 : frP x F' A' F'' A'') : frP x F A F'' A'' := fun a ha => ⟨fun f => ((h2 a ha).1 f).trans ((h a ha).1 f), (h2 a ha).2.trans (h a ha).2⟩
theorem frP.fr {x : Nat} {F F' : jFl} {A A' : jAr} (h : frP x F A F' A') : fr (x + 11) (x + 97) F A F' A' := fun a ha => h a (by omega)
theorem fr.P {x lo hi : Nat} {F F' : jFl} {A A' : jAr} (h : fr lo hi F A F' A') (h1 : (x + 92 ≤ lo ∧ hi ≤ x + 97) ∨ (x + 11 ≤ lo ∧ hi ≤ x + 14)) : frP x F A F' A' := fun a ha => h a (by omega)
theorem frP.upF {x f : Nat} {F F' : jFl} {A A' : jAr} {z : Int} (h : frP x F A F' A') : frP x F A (upF F' f (x + 92) z) A' := fun a ha => ⟨fun g => by rw [upF_a (by omega)]; exact (h a ha).1 g, (h a ha).2⟩
theorem frP.arr {x : Nat} {F F' : jFl} {A A' A'' : jAr} (h : frP x F A F' A') (h2 : ∀ b, b ≠ x + 94 → b ≠ x + 95 → b ≠ x + 96 → A'' b = A' b) : frP x F A F' A'' := fun a ha => ⟨(h a ha).1, by rw [h2 a (by omega) (by omega) (by omega)]; exact (h a ha).2⟩
theorem lay.put {N : jSh} {x : Nat} (h : lay N x) : rowOk N (x + 93) := h.row (k := 93) (by decide) (by decide) (by decide) (by decide) (by decide)
/-- the first k places, the row that is put so -/
def ptR (nw : Int) (N : jSh) (F : jFl) (A : jAr) (x : Nat) (wA : Int → Int) (R : sRow) (k : Int) (P : Int → Int) : Prop := ∃ R' : sRow, rowIs N F A wA (x + 93) R' ∧ sRok nw R' ∧ (R'.1 = R.1 ∧ R'.2.1 = R.2.1) ∧ (∀ j : Int, 0 ≤ j → j < k → R'.2.2 j = R.2.2 (P j)) ∧ (∀ j : Int, R.1 ≤ j → j < R.1 + R.2.1 → R'.2.2 j = R.2.2 j) ∧ ∀ j : Int, 0 ≤ j → j < k → A (x + 95) j = P j ∧ 0 ≤ P j ∧ P j < R.1
theorem ptR.to {nw : Int} {N : jSh} {F : jFl} {A : jAr} {x : Nat} {wA : Int → Int} {R : sRow} {k k' : Int} {P P' : Int → Int} (h : ptR nw N F A x wA R k P) (hk : k' ≤ k) (e : ∀ j : Int, 0 ≤ j → j < k' → P j = P' j) : ptR nw N F A x wA R k' P' := by
  obtain ⟨R', h1, h2, h3, h4, h5, h6⟩ := h
  exact ⟨R', h1, h2, h3, fun j j0 j1 => by rw [← e j j0 j1]; exact h4 j j0 (by omega), h5, fun j j0 j1 => by rw [← e j j0 j1]; exact h6 j j0 (by omega)⟩
theorem ptR.of {nw : Int} {N : jSh} {F F' : jFl} {A A' : jAr} {x : Nat} {wA : Int → Int} {R : sRow} {k : Int} {P : Int → Int} (h : ptR nw N F A x wA R k P) (e1 : F' 1203 (x + 93) = F 1203 (x + 93)) (e2 : F' 1206 (x + 93) = F 1206 (x + 93)) (e3 : A' (x + 94) = A (x + 94)) (e4 : A' (x + 95) = A (x + 95)) : ptR nw N F' A' x wA R k P := by
  obtain ⟨R', h1, h2, h3, h4, h5, h6⟩ := h
  exact ⟨R', h1.of e1 e2 e3, h2, h3, h4, h5, by rw [e4]; exact h6⟩
theorem ptR.fr {nw : Int} {N : jSh} {F F' : jFl} {A A' : jAr} {x lo hi : Nat} {wA : Int → Int} {R : sRow} {k : Int} {P : Int → Int} (h : ptR nw N F A x wA R k P) (hf : fr lo hi F A F' A') (hh : hi ≤ x + 93 ∨ x + 96 ≤ lo) : ptR nw N F' A' x wA R k P := h.of ((hf _ (by omega)).1 _) ((hf _ (by omega)).1 _) (hf _ (by omega)).2 (hf _ (by omega)).2
theorem sX7_puts {o : Nat} {a1 : Int} {a2 : Int} {N : jSh} {F : jFl} {A : jAr} {W L : sTb} {x t : Nat} {wA sA cA lA : Int → Int} {l k k' : Int} {P : Int → Int} (hx : ctx N F A x t W L wA sA cA lA) (hy : lay N x) (ho : o = x + 92) (h11 : F 2411 o = lA l) (hl : 0 ≤ l ∧ l < W 3 0 0) (hp : ptR (W 0 0 0) N F A x wA (sRw L l) k P) (h1 : 0 ≤ a1 ∧ a1 < (sRw L l).1) (h2 : 0 ≤ a2 ∧ a2 < (sRw L l).1) (hk' : (a1 < k ∧ k' = k) ∨ (a1 = k ∧ k' = k + 1)) : wqX7_puts o a1 a2 N F A (fun F' A' => F' = F ∧ ptR (W 0 0 0) N F A' x wA (sRw L l) k' (upI P a1 a2) ∧ ∀ b, b ≠ x + 94 → b ≠ x + 95 → A' b = A b) := by
  unfold wqX7_puts
  subst ho
  obtain ⟨bl, l1, l2, l3, l4⟩ := hx.lw hl
  have out : bl + 4 < x + 11 ∨ x + 141 ≤ bl := hy.scr.out3 (by have := l2.1; omega)
  have hRk := sRw_ok hx.oL hl
  obtain ⟨R', q1, q2, q3, q4, q5, q6⟩ := hp
  have l95 := hy.2.2 (95, 8) (by decide)
  have l94 := hy.2.2 (94, 12) (by decide)
  dsimp only at l94 l95
  have m8 := hRk.1
  have nn := hRk.2.1
  refine ⟨_, by exact (show jfn N 2405 (x + 92) = ((x + 95 : Nat) : Int) from hy.2.1 (2405, 92, 95) (by decide)), ?_⟩ -- d1: jfn N 2405 o = (b1 : Int)
  refine ⟨by exact (hy.1 95 (by decide)).1, ?_⟩ -- s1: jtg N b1 = 102
  refine ⟨by exact (hy.1 95 (by decide)).2, ?_⟩ -- s2: jfn N 0 b1 = 1
  refine ⟨by rw [l95]; omega, ?_⟩ -- s3: ((0 : Int) ≤ a1 ∧ (a1 : Int) < (jln N b1 : Int))
  intro A6 e6
  refine ⟨_, by exact (show jfn N 2402 (x + 92) = ((x + 93 : Nat) : Int) from hy.2.1 (2402, 92, 93) (by decide)), ?_⟩ -- d8: jfn N 2402 o = (b8 : Int)
  refine ⟨by exact hy.put.1, ?_⟩ -- s4: jtg N b8 = 4
  refine ⟨_, by exact h11.trans l1, ?_⟩ -- d11: F 2411 o = (b11 : Int)
  refine ⟨by exact l2.1, ?_⟩ -- s5: jtg N b11 = 17
  refine ⟨_, by exact l2.2.2.2.1, ?_⟩ -- d14: jfn N 5102 b11 = (b14 : Int)
  refine ⟨by exact l2.2.2.2.2.1, ?_⟩ -- s6: jtg N b14 = 4
  refine ⟨_, by exact l4.1.2.2.1, ?_⟩ -- d17: jfn N 1202 b14 = (b17 : Int)
  refine ⟨by exact l4.1.2.2.2.1, ?_⟩ -- s7: jtg N b17 = 107
  refine ⟨by rw [l4.1.2.2.2.2.2]; omega, ?_⟩ -- s8: ((0 : Int) ≤ a2 ∧ (a2 : Int) < (jln N b17 : Int))
  refine ⟨_, by exact hy.put.2.2.1, ?_⟩ -- d21: jfn N 1202 b8 = (b21 : Int)
  refine ⟨by exact hy.put.2.2.2.1, ?_⟩ -- s9: jtg N b21 = 107
  refine ⟨by exact hy.put.2.2.2.2.1, ?_⟩ -- s10: jfn N 0 b21 = 1
  refine ⟨by rw [hy.put.2.2.2.2.2]; omega, ?_⟩ -- s11: ((0 : Int) ≤ a1 ∧ (a1 : Int) < (jln N b21 : Int))
  have ew : A6 (bl + 3 + 1) a2 = wA ((sRw L l).2.2 a2) := by
    rw [e6, upA_o (by omega)]
    exact l4.2.2.2 a2 h2.1 (by omega)
  have wr := hRk.2.2 a2 h2.1 (by omega)
  refine ⟨by rw [ew]; exact hx.wd.ast wr, ?_⟩ -- s12: jast N "ChildSays$Word" (A6 b17 a2)
  intro A26 e26
  -- l1: Q F A26
  refine ⟨rfl, ⟨(R'.1, R'.2.1, upI R'.2.2 a1 ((sRw L l).2.2 a2)), ⟨q1.1, q1.2.1, q1.2.2.1, fun j j0 j1 => ?_⟩, ⟨q2.1, q2.2.1, fun j j0 j1 => ?_⟩, q3, fun j j0 j1 => ?_, fun j j0 j1 => ?_, fun j j0 j1 => ?_⟩, fun b hb1 hb2 => by rw [e26, upA_o hb1, e6, upA_o hb2]⟩
  · rw [e26]
    by_cases w : j = a1
    · rw [w, upA_s, ew]
      show _ = wA (upI R'.2.2 a1 _ a1)
      rw [upI_s]
    · rw [upA_i w, e6, upA_o (by omega)]
      show _ = wA (upI R'.2.2 a1 _ j)
      rw [upI_n w]; exact q1.2.2.2 j j0 j1
  · show 0 ≤ upI R'.2.2 a1 _ j ∧ upI R'.2.2 a1 _ j < _
    by_cases w : j = a1
    · rw [w, upI_s]; exact wr
    · rw [upI_n w]; exact q2.2.2 j j0 j1
  · show upI R'.2.2 a1 _ j = _
    by_cases w : j = a1
    · rw [w, upI_s, upI_s]
    · rw [upI_n w, upI_n w]; exact q4 j j0 (by omega)
  · show upI R'.2.2 a1 _ j = _
    rw [upI_n (by omega)]; exact q5 j j0 j1
  · rw [e26, upA_o (by omega), e6]
    by_cases w : j = a1
    · rw [w, upA_s, upI_s]; exact ⟨rfl, h2⟩
    · rw [upA_i w, upI_n w]; exact q6 j j0 (by omega)

theorem sX7_many {o : Nat} {N : jSh} {F : jFl} {A : jAr} {W L : sTb} {x t : Nat} {wA sA cA lA : Int → Int} {l : Int} {P : Int → Int} (hx : ctx N F A x t W L wA sA cA lA) (hy : lay N x) (ho : o = x + 92) (h11 : F 2411 o = lA l) (hl : 0 ≤ l ∧ l < W 3 0 0) (hst : 0 < L 2 l 0) (hp : ptR (W 0 0 0) N F A x wA (sRw L l) (sRw L l).1 P) : wqX7_many o N F A (fun z F' A' => z = sGd W L l P ∧ (0 ≤ z ∧ z ≤ W 2 0 0) ∧ fr (x + 11) (x + 14) F A F' A') := by
  unfold wqX7_many
  subst ho
  obtain ⟨bl, l1, l2, l3, l4⟩ := hx.lw hl
  have k4 := (hx.oL.2.2.2.1 l hl.1 hl.2).2.2.2
  obtain ⟨R', q1, q2, q3, q4, q5, q6⟩ := hp
  refine ⟨_, by exact h11.trans l1, ?_⟩ -- d1: F 2411 o = (b1 : Int)
  refine ⟨by exact l2.1, ?_⟩ -- s1: jtg N b1 = 17
  refine ⟨_, by exact (show jfn N 2420 (x + 92) = ((x : Nat) : Int) from hy.2.1 (2420, 92, 0) (by decide)), ?_⟩ -- d4: jfn N 2420 o = (b4 : Int)
  refine ⟨by exact hx.tx, ?_⟩ -- s2: jtg N b4 = 1
  refine ⟨by rw [l3]; exact k4, ?_⟩ -- s3: (F 5103 b1 = 0 ∨ F 5103 b1 = 1)
  refine ⟨_, sX0_byMany hx hy ((show jfn N 2402 (x + 92) = ((x + 93 : Nat) : Int) from hy.2.1 (2402, 92, 93) (by decide))) q1 q2 (by omega), ?_⟩ -- call wqX0_byMany b4 (jfn N 2402 o) (F 5103 b1) N F A P8
  intro z10 F11 A12 p8
  -- l1: Q z10 F11 A12
  obtain ⟨y1, y2, y3⟩ := p8
  have e1 : (sRw L l).1 = L 2 l 0 := rfl
  rw [if_pos (by rw [q3.1, e1]; exact hst), l3] at y1
  refine ⟨y1.trans (sByR_congr ⟨q3.1, q3.2, fun j j0 j1 => ?_⟩ q2.1.1 q2.2.1.1), y2, y3⟩
  show _ = (if j < (sRw L l).1 then (sRw L l).2.2 (P j) else (sRw L l).2.2 j)
  by_cases w : j < (sRw L l).1
  · rw [if_pos w]; exact q4 j j0 w
  · rw [if_neg w]; exact q5 j (by omega) (by rw [← q3.1, ← q3.2]; exact j1)

theorem sX7_of {o : Nat} {a1 : Int} {N : jSh} {F : jFl} {A : jAr} {W L : sTb} {x t : Nat} {wA sA cA lA : Int → Int} {l : Int} (hx : ctx N F A x t W L wA sA cA lA) (hy : lay N x) (ho : o = x + 92) (ha1 : a1 = lA l) (hl : 0 ≤ l ∧ l < W 3 0 0) : wqX7_of o a1 N F A (fun z F' A' => z = (o : Int) ∧ (F' 2411 o = lA l ∧ F' 2412 o = -1 ∧ F' 2415 o = 0) ∧ ptR (W 0 0 0) N F' A' x wA (sRw L l) (sRw L l).1 (fun j => j) ∧ frP x F A F' A') := by
  unfold wqX7_of
  subst ho
  obtain ⟨bl, l1, l2, l3, l4⟩ := hx.lw hl
  have out : bl + 4 < x + 11 ∨ x + 141 ≤ bl := hy.scr.out3 (by have := l2.1; omega)
  have hRk := sRw_ok hx.oL hl
  have l95 := hy.2.2 (95, 8) (by decide)
  dsimp only at l95
  have m8 := hRk.1
  have sc := hy.scr.mono (lo2 := x + 11) (hi2 := x + 97) (by omega) (by omega)
  refine ⟨by exact (hy.1 92 (by decide)).2, ?_⟩ -- s1: jfn N 0 o = 1
  intro F3 e3
  intro F5 e5
  intro F7 e7
  have f7 : frP x F A F7 A := by rw [e7, e5, e3]; exact (frP.refl _ _ _).upF.upF.upF
  refine ⟨_, by exact ha1.trans l1, ?_⟩ -- d8: a1 = (b8 : Int)
  refine ⟨by exact l2.1, ?_⟩ -- s2: jtg N b8 = 17
  refine ⟨_, by exact (show jfn N 2402 (x + 92) = ((x + 93 : Nat) : Int) from hy.2.1 (2402, 92, 93) (by decide)), ?_⟩ -- d11: jfn N 2402 o = (b11 : Int)
  refine ⟨by exact hy.put.1, ?_⟩ -- s3: jtg N b11 = 4
  refine ⟨_, sX3_like (b := bl + 3) (W := W) l2.2.2.2.1 hy.put (l4.fr f7.fr (by omega) (by omega)) hRk (hx.fr sc f7.fr).wd (by omega) (by omega) (by omega), ?_⟩ -- call wqX3_like b11 (jfn N 5102 b8) N F7 A P14
  intro z16 F17 A18 p14
  obtain ⟨q1, q2, q3⟩ := p14
  have fa : frP x F A F17 A18 := f7.trans (q3.P (by omega))
  have g11 : F17 2411 (x + 92) = lA l ∧ F17 2412 (x + 92) = -1 ∧ F17 2415 (x + 92) = 0 := by
    rw [(q3 _ (by omega)).1, (q3 _ (by omega)).1, (q3 _ (by omega)).1, e7, e5, e3]
    exact ⟨by rw [upF_f (by decide), upF_f (by decide), upF_s]; exact ha1, by rw [upF_f (by decide), upF_s], by rw [upF_s]⟩
  refine ⟨fun (v23 : Int) (A24 : jAr) => (0 ≤ v23 ∧ v23 ≤ (sRw L l).1) ∧ (∀ j : Int, 0 ≤ j → j < v23 → A24 (x + 95) j = j) ∧ ∀ b, b ≠ x + 95 → A24 b = A18 b, fun v23 A24 => ((sRw L l).1 - v23).toNat, ?_, ?_⟩ -- loop I27 I27 0 A18
  ·
    -- l1: I27 0 A18
    exact ⟨by omega, fun j j0 j1 => by omega, fun _ _ => rfl⟩
  intro v23 A24 i27
  obtain ⟨i1, i2, i3⟩ := i27
  have lr : rowIs N F17 A24 wA (bl + 3) (sRw L l) := (l4.fr fa.fr (by omega) (by omega)).of rfl rfl (i3 _ (by omega))
  refine ⟨_, by exact l2.2.2.2.1, ?_⟩ -- d29: jfn N 5102 b8 = (b29 : Int)
  refine ⟨by exact l2.2.2.2.2.1, ?_⟩ -- s4: jtg N b29 = 4
  rw [lr.2.1]
  refine ⟨fun hc => ?_, fun hc => ?_⟩ -- c1
  · -- case ((F17 1203 b29) ≤ v23)
    -- l2: Q (o : Int) F17 A24
    refine ⟨rfl, g11, ⟨sRw L l, q2.of rfl rfl (i3 _ (by omega)), hRk, ⟨rfl, rfl⟩, fun j _ _ => rfl, fun j _ _ => rfl, fun j j0 j1 => ⟨i2 j j0 (by omega), j0, j1⟩⟩, fa.arr (fun b _ hb _ => i3 b hb)⟩
  · -- case (¬ ((F17 1203 b29) ≤ v23))
    refine ⟨_, by exact (show jfn N 2405 (x + 92) = ((x + 95 : Nat) : Int) from hy.2.1 (2405, 92, 95) (by decide)), ?_⟩ -- d33: jfn N 2405 o = (b33 : Int)
    refine ⟨by exact (hy.1 95 (by decide)).1, ?_⟩ -- s5: jtg N b33 = 102
    refine ⟨by exact (hy.1 95 (by decide)).2, ?_⟩ -- s6: jfn N 0 b33 = 1
    refine ⟨by rw [l95]; omega, ?_⟩ -- s7: ((0 : Int) ≤ v23 ∧ (v23 : Int) < (jln N b33 : Int))
    intro A38 e38
    refine ⟨by omega, ?_⟩ -- s8: jR (v23 + 1)
    refine ⟨?_, ?_⟩ -- l3: I27 (v23 + 1) A38
    · refine ⟨by omega, fun j j0 j1 => ?_, fun b hb => by rw [e38, upA_o hb]; exact i3 b hb⟩
      by_cases w : j = v23
      · rw [w, e38, upA_s]
      · rw [e38, upA_i w]; exact i2 j j0 (by omega)
    · dsimp only; omega

/-- the best so far -/
def pFs (F : jFl) (A : jAr) (x : Nat) (m : Int) (st : Int × List Nat) : Prop := F 2412 (x + 92) = st.1 ∧ -1 ≤ st.1 ∧ (st.1 ≠ -1 → ∀ j : Int, 0 ≤ j → j < m → A (x + 96) j = lsF st.2 j)
theorem pFs.of {F F' : jFl} {A A' : jAr} {x : Nat} {m : Int} {st : Int × List Nat} (h : pFs F A x m st) (h1 : F' 2412 (x + 92) = F 2412 (x + 92)) (h2 : A' (x + 96) = A (x + 96)) : pFs F' A' x m st := ⟨by rw [h1]; exact h.1, h.2.1, by rw [h2]; exact h.2.2⟩
set_option maxHeartbeats 1000000 in
theorem sX7_search : ∀ (n : Nat) {o : Nat} {a1 : Int} {a2 : Int} {N : jSh} {F : jFl} {A : jAr} {W L : sTb} {x t : Nat} {wA sA cA lA : Int → Int} {l : Int} {p : List Nat} {st : Int × List Nat} (hx : ctx N F A x t W L wA sA cA lA) (hy : lay N x) (ho : o = x + 92) (h11 : F 2411 o = lA l) (hl : 0 ≤ l ∧ l < W 3 0 0) (hst : 0 < L 2 l 0) (hn : (n : Int) + a1 = (sRw L l).1 + 1) (hpl : (p.length : Int) = a1) (hak : a1 ≤ (sRw L l).1) (hp : ptR (W 0 0 0) N F A x wA (sRw L l) a1 (lsF p)) (hm : (0 ≤ a2 ∧ a2 < 2 ^ 8) ∧ ∀ w : Int, 0 ≤ w → w < 8 → ((a2 / 2 ^ w.toNat) % 2 = 1 ↔ w.toNat ∈ p)) (hs : pFs F A x (sRw L l).1 st), wqX7_search n o a1 a2 N F A (fun z F' A' => z = (o : Int) ∧ F' 2411 o = lA l ∧ ptR (W 0 0 0) N F' A' x wA (sRw L l) a1 (lsF p) ∧ pFs F' A' x (sRw L l).1 (sBst (sGdL W L l) (prA (List.range (sRw L l).1.toNat) ((sRw L l).1 - a1).toNat p) st) ∧ frP x F A F' A') := by
  intro n
  induction n with
  | zero =>
    intro o a1 a2 N F A W L x t wA sA cA lA l p st hx hy ho h11 hl hst hn hpl hak hp hm hs
    omega
  | succ n ih =>
    intro o a1 a2 N F A W L x t wA sA cA lA l p st hx hy ho h11 hl hst hn hpl hak hp hm hs
    unfold wqX7_search
    subst ho
    have hRk := sRw_ok hx.oL hl
    have m8 := hRk.1
    have sc := hy.scr.mono (lo2 := x + 11) (hi2 := x + 97) (by omega) (by omega)
    have ek : ∀ {F A}, ptR (W 0 0 0) N F A x wA (sRw L l) a1 (lsF p) → F 1203 (x + 93) = (sRw L l).1 := fun {F A} q => by
      obtain ⟨R', q1, q2, q3, -⟩ := q
      rw [q1.2.1]; exact q3.1
    have l95 := hy.2.2 (95, 8) (by decide)
    have l96 := hy.2.2 (96, 8) (by decide)
    dsimp only at l95 l96
    refine ⟨_, by exact (show jfn N 2402 (x + 92) = ((x + 93 : Nat) : Int) from hy.2.1 (2402, 92, 93) (by decide)), ?_⟩ -- d1: jfn N 2402 o = (b1 : Int)
    refine ⟨by exact hy.put.1, ?_⟩ -- s1: jtg N b1 = 4
    rw [ek hp]
    refine ⟨fun hc => ?_, fun hc => ?_⟩ -- c1
    · -- case (¬ a1 = (F 1203 b1))
      obtain ⟨n', hn'⟩ : ∃ n' : Nat, ((sRw L l).1 - a1).toNat = n' + 1 := ⟨((sRw L l).1 - a1).toNat - 1, by omega⟩
      rw [hn', prF_all]
      refine ⟨fun (v5 : Int) (F6 : jFl) (A7 : jAr) => (0 ≤ v5 ∧ v5 ≤ (sRw L l).1) ∧ F6 2411 (x + 92) = lA l ∧ ptR (W 0 0 0) N F6 A7 x wA (sRw L l) a1 (lsF p) ∧ pFs F6 A7 x (sRw L l).1 (sBst (sGdL W L l) (prF (sRw L l).1.toNat n' p v5.toNat) st) ∧ frP x F A F6 A7, fun v5 F6 A7 => ((sRw L l).1 - v5).toNat, ?_, ?_⟩ -- loop I10 I10 0 F A
      ·
        -- l1: I10 0 F A
        exact ⟨by omega, h11, hp, hs, frP.refl _ _ _⟩
      intro v5 F6 A7 i10
      obtain ⟨i1, i2, i3, i4, i5⟩ := i10
      rw [ek i3]
      have hx1 := hx.fr sc i5.fr
      refine ⟨fun hc => ?_, fun hc => ?_⟩ -- c2
      · -- case ((F6 1203 b1) ≤ v5)
        -- l2: Q (o : Int) F6 A7
        have e : v5 = (sRw L l).1 := by omega
        rw [e] at i4
        exact ⟨rfl, i2, i3, i4, i5⟩
      · -- case (¬ ((F6 1203 b1) ≤ v5))
        refine ⟨by omega, ?_⟩ -- s2: ((0 : Int) ≤ v5 ∧ (v5 : Int) < 32)
        have hbit := hm.2 v5 i1.1 (by omega)
        have es := prF_succ (sRw L l).1.toNat n' p v5.toNat
        rw [show v5.toNat + 1 = (v5 + 1).toNat by omega] at es
        refine ⟨fun hc => ?_, fun hc => ?_⟩ -- c3
        · -- case (¬ ((a2 / 2 ^ v5.toNat) % 2) = 1)
          refine ⟨_, sX7_puts (k' := a1 + 1) hx1 hy rfl i2 hl i3 (by omega) (by omega) (Or.inr ⟨rfl, rfl⟩), ?_⟩ -- call wqX7_puts o a1 v5 N F6 A7 P15
          intro F18 A19 p15
          obtain ⟨q1, q2, q3⟩ := p15
          subst q1
          have hx2 := hx.fr sc (i5.arr (fun b hb1 hb2 _ => q3 b hb1 hb2)).fr
          have hvn : ¬ v5.toNat ∈ p := fun w => hc (hbit.mpr w)
          refine ⟨by omega, ?_⟩ -- s3: ((0 : Int) ≤ v5 ∧ (v5 : Int) < 32)
          refine ⟨by (have e1 := jor_lt (a := 0) (v := v5) (b := 8) (by decide) (by omega)); rw [show jor 0 (1 * 2 ^ v5.toNat) = (1 * 2 ^ v5.toNat) from jor_0 (by exact Int.mul_nonneg (by decide) (Int.pow_nonneg (by decide)))] at e1; omega, ?_⟩ -- s4: (((0 : Int) ≤ a2 ∧ (a2 : Int) ≤ 2147483647) ∧ ((0 : Int) ≤ 1 * 2 ^ v5.toNat ∧ (1 * 2 ^ v5.toNat : Int) ≤ 2147483647))
          refine ⟨by omega, ?_⟩ -- s5: jR (a1 + 1)
          refine ⟨by have e1 := jor_lt (a := a2) (v := v5) (b := 8) hm.1 (by omega); omega, ?_⟩ -- s6: jR (jor a2 (1 * 2 ^ v5.toNat))
          refine ⟨_, ih (p := p ++ [v5.toNat]) (st := sBst (sGdL W L l) (prF (sRw L l).1.toNat n' p v5.toNat) st) (l := l) hx2 hy rfl i2 hl hst (by omega) (by rw [List.length_append]; simp; omega) (by omega) (q2.to (Int.le_refl _) (fun j j0 j1 => by rw [lsF_app j0 (by omega), hpl, show ((v5.toNat : Nat) : Int) = v5 by omega])) ⟨jor_lt hm.1 (by omega), fun w w0 w1 => by
            rw [jor_bit hm.1.1 i1.1 w0, hm.2 w w0 w1, List.mem_append, List.mem_singleton]
            constructor
            · rintro (q | q)
              · exact Or.inl q
              · exact Or.inr (by omega)
            · rintro (q | q)
              · exact Or.inl q
              · exact Or.inr (by omega)⟩ (i4.of rfl (q3 _ (by omega) (by omega))), ?_⟩ -- call wqX7_search n o (a1 + 1) (jor a2 (1 * 2 ^ v5.toNat)) N F18 A19 P28
          intro z30 F31 A32 p28
          obtain ⟨r1, r2, r3, r4, r5⟩ := p28
          refine ⟨by omega, ?_⟩ -- s7: jR (v5 + 1)
          refine ⟨?_, ?_⟩ -- l3: I10 (v5 + 1) F31 A32
          · refine ⟨by omega, r2, r3.to (by omega) (fun j j0 j1 => by rw [lsF_app j0 (by omega), upI_n (by omega)]), ?_, (i5.arr (fun b hb1 hb2 _ => q3 b hb1 hb2)).trans r5⟩
            rw [es, if_neg hvn, sBst_app]
            rw [show ((sRw L l).1 - (a1 + 1)).toNat = n' by omega] at r4
            exact r4
          · dsimp only; omega
        · -- case (((a2 / 2 ^ v5.toNat) % 2) = 1)
          refine ⟨by omega, ?_⟩ -- s8: jR (v5 + 1)
          refine ⟨?_, ?_⟩ -- l4: I10 (v5 + 1) F6 A7
          · refine ⟨by omega, i2, i3, ?_, i5⟩
            rw [es, if_pos (hbit.mp hc), List.append_nil]
            exact i4
          · dsimp only; omega
    · -- case (a1 = (F 1203 b1))
      have ea : ((sRw L l).1 - a1).toNat = 0 := by omega
      rw [ea]
      refine ⟨_, sX7_many (P := lsF p) hx hy rfl h11 hl hst (hp.to (by omega) (fun _ _ _ => rfl)), ?_⟩ -- call wqX7_many o N F A P39
      intro z41 F42 A43 p39
      obtain ⟨q1, q2, q3⟩ := p39
      have f12 : F42 2412 (x + 92) = st.1 := by rw [(q3 _ (by omega)).1]; exact hs.1
      have f11 : F42 2411 (x + 92) = lA l := by rw [(q3 _ (by omega)).1]; exact h11
      have hp2 := hp.fr q3 (by omega)
      have hs2 : pFs F42 A43 x (sRw L l).1 st := hs.of ((q3 _ (by omega)).1 _) (q3 _ (by omega)).2
      have eG : sGdL W L l p = z41 := q1.symm
      have eB : sBst (sGdL W L l) (prA (List.range (sRw L l).1.toNat) 0 p) st = (if st.1 < z41 then (z41, p) else st) := by
        show sUpd (sGdL W L l) st p = _
        unfold sUpd
        rw [eG]
      rw [eB]
      refine ⟨fun hc => ?_, fun hc => ?_⟩ -- c4
      · -- case ((F42 2412 o) < z41)
        refine ⟨by exact (hy.1 92 (by decide)).2, ?_⟩ -- s9: jfn N 0 o = 1
        intro F51 e51
        refine ⟨fun (v52 : Int) (A53 : jAr) => (0 ≤ v52 ∧ v52 ≤ a1) ∧ (∀ j : Int, 0 ≤ j → j < v52 → A53 (x + 96) j = lsF p j) ∧ ∀ b, b ≠ x + 96 → A53 b = A43 b, fun v52 A53 => (a1 - v52).toNat, ?_, ?_⟩ -- loop I56 I56 0 A43
        ·
          -- l5: I56 0 A43
          exact ⟨by omega, fun j j0 j1 => by omega, fun _ _ => rfl⟩
        intro v52 A53 i56
        obtain ⟨i1, i2, i3⟩ := i56
        refine ⟨fun hc => ?_, fun hc => ?_⟩ -- c5
        · -- case (a1 ≤ v52)
          -- l6: Q (o : Int) F51 A53
          rw [if_pos (by omega)]
          refine ⟨rfl, by rw [e51, upF_f (by decide)]; exact f11, hp2.of (by rw [e51, upF_f (by decide)]) (by rw [e51, upF_f (by decide)]) (i3 _ (by omega)) (i3 _ (by omega)), ⟨by rw [e51, upF_s], by dsimp only; omega, fun _ j j0 j1 => i2 j j0 (by omega)⟩, ?_⟩
          rw [e51]
          exact ((q3.P (by omega)).upF).arr (fun b _ _ hb => i3 b hb)
        · -- case (¬ (a1 ≤ v52))
          refine ⟨_, by exact (show jfn N 2405 (x + 92) = ((x + 95 : Nat) : Int) from hy.2.1 (2405, 92, 95) (by decide)), ?_⟩ -- d59: jfn N 2405 o = (b59 : Int)
          refine ⟨by exact (hy.1 95 (by decide)).1, ?_⟩ -- s10: jtg N b59 = 102
          refine ⟨by rw [l95]; omega, ?_⟩ -- s11: ((0 : Int) ≤ v52 ∧ (v52 : Int) < (jln N b59 : Int))
          refine ⟨_, by exact (show jfn N 2408 (x + 92) = ((x + 96 : Nat) : Int) from hy.2.1 (2408, 92, 96) (by decide)), ?_⟩ -- d63: jfn N 2408 o = (b63 : Int)
          refine ⟨by exact (hy.1 96 (by decide)).1, ?_⟩ -- s12: jtg N b63 = 102
          refine ⟨by exact (hy.1 96 (by decide)).2, ?_⟩ -- s13: jfn N 0 b63 = 1
          refine ⟨by rw [l96]; omega, ?_⟩ -- s14: ((0 : Int) ≤ v52 ∧ (v52 : Int) < (jln N b63 : Int))
          intro A68 e68
          refine ⟨by omega, ?_⟩ -- s15: jR (v52 + 1)
          refine ⟨?_, ?_⟩ -- l7: I56 (v52 + 1) A68
          · refine ⟨by omega, fun j j0 j1 => ?_, fun b hb => by rw [e68, upA_o hb]; exact i3 b hb⟩
            by_cases w : j = v52
            · rw [w, e68, upA_s, i3 _ (by omega)]
              obtain ⟨R', -, -, -, -, -, h6⟩ := hp2
              exact (h6 v52 i1.1 (by omega)).1
            · rw [e68, upA_i w]; exact i2 j j0 (by omega)
          · dsimp only; omega
      · -- case (¬ ((F42 2412 o) < z41))
        -- l8: Q (o : Int) F42 A43
        rw [if_neg (by omega)]
        exact ⟨rfl, f11, hp2, hs2, q3.P (by omega)⟩

theorem sX7_tells {o : Nat} {a1 : Int} {N : jSh} {F : jFl} {A : jAr} {x : Nat} {m : Int} (hy : lay N x) (ho : o = x + 92) (h3 : F 1203 (x + 93) = m) (hm : 0 ≤ m ∧ m ≤ 8) : wqX7_tells o a1 N F A (fun z => z = (if a1 = -1 then F 2412 o else if 0 ≤ a1 ∧ a1 < m then A (x + 96) a1 else -1)) := by
  unfold wqX7_tells
  subst ho
  have l96 := hy.2.2 (96, 8) (by decide)
  dsimp only at l96
  refine ⟨fun hc => ?_, fun hc => ?_⟩ -- c1
  · -- case (¬ a1 = (-1))
    refine ⟨_, by exact (show jfn N 2402 (x + 92) = ((x + 93 : Nat) : Int) from hy.2.1 (2402, 92, 93) (by decide)), ?_⟩ -- d2: jfn N 2402 o = (b2 : Int)
    refine ⟨by exact hy.put.1, ?_⟩ -- s1: jtg N b2 = 4
    refine ⟨by rw [h3]; omega, ?_⟩ -- s2: jR ((F 1203 b2) - 1)
    refine ⟨_, sX0_isIn, ?_⟩ -- call wqX0_isIn a1 0 ((F 1203 b2) - 1) N F A P6
    intro z8 p6
    refine ⟨fun hc => ?_, fun hc => ?_⟩ -- c2
    · -- case (z8 = 0)
      -- l1: Q (-1)
      rw [h3] at p6; rw [if_neg (by assumption), if_neg (by grind)]
    · -- case (¬ (z8 = 0))
      refine ⟨_, by exact (show jfn N 2408 (x + 92) = ((x + 96 : Nat) : Int) from hy.2.1 (2408, 92, 96) (by decide)), ?_⟩ -- d14: jfn N 2408 o = (b14 : Int)
      refine ⟨by exact (hy.1 96 (by decide)).1, ?_⟩ -- s3: jtg N b14 = 102
      rw [h3] at p6
      refine ⟨by rw [l96]; grind, ?_⟩ -- s4: ((0 : Int) ≤ a1 ∧ (a1 : Int) < (jln N b14 : Int))
      -- l2: Q (A b14 a1)
      rw [if_neg (by assumption), if_pos (by grind)]
  · -- case (a1 = (-1))
    -- l3: Q (F 2412 o)
    rw [if_pos hc]

theorem sX0_best {o : Nat} {a1 : Int} {a2 : Int} {N : jSh} {F : jFl} {A : jAr} {W L : sTb} {t : Nat} {wA sA cA lA : Int → Int} (hx : ctx N F A o t W L wA sA cA lA) (hy : lay N o) : wqX0_best o a1 a2 N F A (fun z F' A' => z = rBest W L a1 a2 ∧ frP o F A F' A') := by
  unfold wqX0_best
  have hll : ∀ a : Int, 0 ≤ a ∧ a < W 3 0 0 → 0 ≤ lA a := fun a h => by obtain ⟨b, u1, -⟩ := hx.lw h; omega
  refine ⟨_, sX0_standingOf hx, ?_⟩ -- call wqX0_standingOf o a1 N F A P1
  intro z3 p1
  refine ⟨fun hc => ?_, fun hc => ?_⟩ -- c1
  · -- case (z3 < 0)
    -- l1: Q (-1) F A
    exact ⟨by unfold rBest; rw [if_neg (by grind)], frP.refl _ _ _⟩
  · -- case (¬ (z3 < 0))
    have h1 : 0 ≤ a1 ∧ a1 < W 3 0 0 ∧ 0 < L 2 a1 0 := by grind
    have hl : 0 ≤ a1 ∧ a1 < W 3 0 0 := by omega
    rw [if_pos h1] at p1
    obtain ⟨bl, l1, l2, l3, l4⟩ := hx.lw hl
    have hRk := sRw_ok hx.oL hl
    have e1 : (sRw L a1).1 = L 2 a1 0 := rfl
    refine ⟨_, by exact p1.trans l1, ?_⟩ -- d9: z3 = (b9 : Int)
    refine ⟨by exact l2.1, ?_⟩ -- s1: jtg N b9 = 17
    refine ⟨_, by exact l2.2.2.2.1, ?_⟩ -- d12: jfn N 5102 b9 = (b12 : Int)
    refine ⟨by exact l2.2.2.2.2.1, ?_⟩ -- s2: jtg N b12 = 4
    rw [l4.2.1]
    refine ⟨fun hc => ?_, fun hc => ?_⟩ -- c2
    · -- case ((F 1203 b12) ≤ 6)
      refine ⟨_, by exact hy.p341, ?_⟩ -- d16: jfn N 341 o = (b16 : Int)
      refine ⟨by exact (hy.1 92 (by decide)).1, ?_⟩ -- s3: jtg N b16 = 8
      refine ⟨_, sX7_of hx hy rfl p1 hl, ?_⟩ -- call wqX7_of b16 z3 N F A P19
      intro z21 F22 A23 p19
      obtain ⟨q1, ⟨q2, q3, q4⟩, q5, q6⟩ := p19
      refine ⟨_, by exact q1, ?_⟩ -- d28: z21 = (b28 : Int)
      refine ⟨by exact (hy.1 92 (by decide)).1, ?_⟩ -- s4: jtg N b28 = 8
      have hx1 := hx.fr (hy.scr.mono (by omega) (by omega)) q6.fr
      refine ⟨_, (show (sRw L a1).1.toNat + 1 ≤ 60 by omega), ?_⟩ -- d34: fu34 ≤ 60
      refine ⟨_, sX7_search ((sRw L a1).1.toNat + 1) (p := []) (st := (-1, [])) (l := a1) hx1 hy rfl q2 hl h1.2.2 (by omega) rfl (by omega) (q5.to (by omega) (fun j j0 j1 => by omega)) ⟨by decide, fun w w0 w1 => ⟨fun q => by rw [Int.zero_ediv] at q; exact absurd q (by decide), fun q => absurd q (by simp)⟩⟩ ⟨q3, by decide, fun q => absurd rfl q⟩, ?_⟩ -- call wqX7_search fu34 b28 0 0 N F22 A23 P31
      intro z33 F35 A36 p31
      obtain ⟨r1, r2, r3, r4, r5⟩ := p31
      have er : sBst (sGdL W L a1) (prA (List.range (sRw L a1).1.toNat) ((sRw L a1).1 - 0).toNat []) (-1, []) = sBestS W L a1 := by
        rw [Int.sub_zero]; rfl
      rw [er] at r4
      have hs0 := sBestS_pos hx.oW h1.2.2 (by rw [e1] at hc; exact hc)
      refine ⟨_, by exact r1, ?_⟩ -- d41: z33 = (b41 : Int)
      refine ⟨by exact (hy.1 92 (by decide)).1, ?_⟩ -- s5: jtg N b41 = 8
      refine ⟨_, sX7_tells (m := (sRw L a1).1) hy rfl (by obtain ⟨R', y1, y2, y3, -⟩ := r3; rw [y1.2.1]; exact y3.1) hRk.1, ?_⟩ -- call wqX7_tells b41 a2 N F35 A36 P44
      intro z46 p44
      -- l2: Q z46 F35 A36
      refine ⟨?_, q6.trans r5⟩
      unfold rBest
      rw [if_pos ⟨h1, by rw [e1] at hc; exact hc⟩, p44, r4.1]
      by_cases w : a2 = -1
      · rw [if_pos w, if_pos w]
      · rw [if_neg w, if_neg w]
        by_cases w2 : 0 ≤ a2 ∧ a2 < L 2 a1 0
        · rw [if_pos w2, if_pos (by rw [e1]; exact w2)]
          exact r4.2.2 hs0 a2 w2.1 (by rw [e1]; exact w2.2)
        · rw [if_neg w2, if_neg (by rw [e1]; exact w2)]
    · -- case (¬ ((F 1203 b12) ≤ 6))
      -- l3: Q (-1) F A
      exact ⟨by unfold rBest; rw [if_neg (fun w => hc (by rw [e1]; exact w.2))], frP.refl _ _ _⟩

