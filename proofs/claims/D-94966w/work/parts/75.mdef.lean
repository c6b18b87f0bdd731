set_option maxRecDepth 100000
set_option linter.unusedVariables false
/-! the model's layers -/
noncomputable def sUtt (W L : sTb) (c l held : Int) : Int × sRow := if W 4 0 0 ≤ held then (3, (0, 0, fun _ => 0)) else (sKind W c (sRw L l) (sHolds W L c l), sSayR W c (sRw L l) (sHolds W L c l))
theorem sSitF_eq {W L : sTb} {c i : Int} {seat : Int → Int} {st : sSit} : sSitF W L c seat i st = (if (sUtt W L c (seat i) st.1).1 = 3 then (st.1, upI st.2.1 (seat i) 3, upI st.2.2 (seat i) (sUtt W L c (seat i) st.1).2)
    else if sRun st seat (sUtt W L c (seat i) st.1).2 i = -1 then (st.1 + 1, upI st.2.1 (seat i) (sUtt W L c (seat i) st.1).1, upI st.2.2 (seat i) (sUtt W L c (seat i) st.1).2)
    else (st.1 + 1, upI st.2.1 (seat i) 4, upI st.2.2 (seat i) (st.2.2 (seat (sRun st seat (sUtt W L c (seat i) st.1).2 i))))) := by
  unfold sSitF sUtt
  by_cases q : W 4 0 0 ≤ st.1
  · rw [if_pos q, if_pos q, if_pos rfl]
  · rw [if_neg q, if_neg q]
    rfl
def mrB (o : Nat) (A : jAr) (v : Int) (B : sBk) : Prop := A (o + 34) v = B.1 ∧ (0 ≤ B.1 ∧ B.1 ≤ 100) ∧ ∀ k j : Int, 0 ≤ k → k < B.1 → 0 ≤ j → j < 4 → A (o + 35) (400 * v + 4 * k + j) = B.2 k j
/-- the other layers stay -/
def mlf (o : Nat) (v : Int) (A A' : jAr) : Prop := (∀ i : Int, i ≠ v → A' (o + 28) i = A (o + 28) i ∧ A' (o + 34) i = A (o + 34) i) ∧ (∀ i : Int, (i < 12 * v ∨ 12 * v + 12 ≤ i) → A' (o + 29) i = A (o + 29) i ∧ A' (o + 30) i = A (o + 30) i ∧ A' (o + 31) i = A (o + 31) i ∧ A' (o + 32) i = A (o + 32) i) ∧ (∀ i : Int, (i < 144 * v ∨ 144 * v + 144 ≤ i) → A' (o + 33) i = A (o + 33) i) ∧ ∀ i : Int, (i < 400 * v ∨ 400 * v + 400 ≤ i) → A' (o + 35) i = A (o + 35) i
theorem mlf.refl (o : Nat) (v : Int) (A : jAr) : mlf o v A A := ⟨fun _ _ => ⟨rfl, rfl⟩, fun _ _ => ⟨rfl, rfl, rfl, rfl⟩, fun _ _ => rfl, fun _ _ => rfl⟩
theorem mlf.trans {o : Nat} {v : Int} {A A' A'' : jAr} (h : mlf o v A A') (h2 : mlf o v A' A'') : mlf o v A A'' :=
  ⟨fun i q => ⟨((h2.1 i q).1).trans (h.1 i q).1, ((h2.1 i q).2).trans (h.1 i q).2⟩,
   fun i q => ⟨((h2.2.1 i q).1).trans (h.2.1 i q).1, ((h2.2.1 i q).2.1).trans (h.2.1 i q).2.1, ((h2.2.1 i q).2.2.1).trans (h.2.1 i q).2.2.1, ((h2.2.1 i q).2.2.2).trans (h.2.1 i q).2.2.2⟩,
   fun i q => (h2.2.2.1 i q).trans (h.2.2.1 i q), fun i q => (h2.2.2.2 i q).trans (h.2.2.2 i q)⟩
theorem mlf.eq {o : Nat} {v : Int} {A A' : jAr} (h : ∀ k : Nat, 28 ≤ k → k ≤ 35 → A' (o + k) = A (o + k)) : mlf o v A A' := by
  unfold mlf
  rw [h 28 (by omega) (by omega), h 29 (by omega) (by omega), h 30 (by omega) (by omega), h 31 (by omega) (by omega), h 32 (by omega) (by omega), h 33 (by omega) (by omega), h 34 (by omega) (by omega), h 35 (by omega) (by omega)]
  exact mlf.refl o v A
theorem mrL.other {o : Nat} {v w nl : Int} {A A' : jAr} {L : sTb} (h : mrL o A w nl L) (hf : mlf o v A A') (hn : nl ≤ 12) (hw : w ≠ v) (hR : ∀ l : Int, 0 ≤ l → l < nl → L 2 l 0 + L 3 l 0 ≤ 12) : mrL o A' w nl L := by
  obtain ⟨h1, h2, h3⟩ := h
  refine ⟨by rw [(hf.1 w hw).1, h1], fun p p0 p1 => by rw [(hf.2.1 _ (by omega)).1, h2 p p0 p1], fun l l0 l1 => ?_⟩
  obtain ⟨g1, g2, g3, g4⟩ := h3 l l0 l1
  have gl := hR l l0 l1
  exact ⟨by rw [(hf.2.1 _ (by omega)).2.1, g1], by rw [(hf.2.1 _ (by omega)).2.2.1, g2], by rw [(hf.2.1 _ (by omega)).2.2.2, g3], fun k k0 k1 => by rw [hf.2.2.1 _ (by omega), g4 k k0 k1]⟩
theorem mrB.other {o : Nat} {v w : Int} {A A' : jAr} {B : sBk} (h : mrB o A w B) (hf : mlf o v A A') (hw : w ≠ v) : mrB o A' w B := by
  obtain ⟨h1, h2, h3⟩ := h
  exact ⟨by rw [(hf.1 w hw).2, h1], h2, fun k j k0 k1 j0 j1 => by rw [hf.2.2.2 _ (by omega), h3 k j k0 k1 j0 j1]⟩
theorem mrB.of {o : Nat} {v : Int} {A A' : jAr} {B : sBk} (h : mrB o A v B) (h1 : A' (o + 34) = A (o + 34)) (h2 : A' (o + 35) = A (o + 35)) : mrB o A' v B := by
  unfold mrB at *
  rw [h1, h2]
  exact h
/-- the model's scratch may be other -/
def mfr (o : Nat) (F : jFl) (A : jAr) (F' : jFl) (A' : jAr) : Prop := (∀ f b, (b = o → (f < 3165 ∨ 3183 < f) ∧ f ≠ 3192 ∧ (f < 3222 ∨ 3231 < f)) → F' f b = F f b) ∧ ∀ b, (b < o + 36 ∨ o + 47 < b) → A' b = A b
theorem mfr.refl (o : Nat) (F : jFl) (A : jAr) : mfr o F A F A := ⟨fun _ _ _ => rfl, fun _ _ => rfl⟩
theorem mfr.trans {o : Nat} {F F' F'' : jFl} {A A' A'' : jAr} (h : mfr o F A F' A') (h2 : mfr o F' A' F'' A'') : mfr o F A F'' A'' := ⟨fun f b q => (h2.1 f b q).trans (h.1 f b q), fun b q => (h2.2 b q).trans (h.2 b q)⟩
/-- the town in force, layer v -/
def mct (o : Nat) (F : jFl) (A : jAr) (v : Int) (W L : sTb) : Prop := (sWok W ∧ sLok W L) ∧ mrW o F A W ∧ mrL o A v (W 3 0 0) L ∧ F 3186 o = -1 ∧ (0 ≤ v ∧ v < 22)
theorem mct.fr {o : Nat} {F F' : jFl} {A A' : jAr} {v : Int} {W L : sTb} (h : mct o F A v W L) (hf : mfr o F A F' A') : mct o F' A' v W L :=
  ⟨h.1, h.2.1.of (hf.1 _ _ (fun _ => by decide)) (fun k _ _ => hf.2 _ (by omega)), h.2.2.1.of (fun k _ _ => hf.2 _ (by omega)), by rw [hf.1 _ _ (fun _ => by decide)]; exact h.2.2.2.1, h.2.2.2.2⟩
/-- no main part, no except -/
def sRo1 (R : sRow) : Prop := R.1 = 0 → R.2.1 = 0
theorem sSayR_o1 {W : sTb} {c : Int} {R : sRow} {left : Int} (h : sRo1 R) : sRo1 (sSayR W c R left) := by
  intro e
  have e : sMain W c R left = 0 := e
  show sBut W c R left = 0
  unfold sMain at e
  unfold sBut
  by_cases q : sLost W c R left
  · rw [cif_pos q]
  · rw [cif_neg q] at e ⊢
    by_cases q : sCut W c R left
    · rw [cif_pos q]
    · rw [cif_neg q]; exact h e
theorem sRw_o1 {W L : sTb} {l : Int} (hk : sLok W L) (h : 0 ≤ l ∧ l < W 3 0 0) : sRo1 (sRw L l) := (hk.2.2.2.1 l h.1 h.2).2.2.1
theorem sSits_o1 {W L : sTb} {c : Int} {seat : Int → Int} {n : Nat} (hk : sLok W L) (hs : ∀ i : Int, 0 ≤ i → i < n → 0 ≤ seat i ∧ seat i < W 3 0 0) (l : Int) : sRo1 ((sSits W L c seat n).2.2 l) := by
  revert l
  unfold sSits
  refine it_inv (f := sSitF W L c seat) (a := ((0 : Int), (fun _ => (0 : Int)), (fun _ => (((0 : Int), (0 : Int), (fun _ => (0 : Int))) : sRow)))) (fun k st => ∀ l : Int, sRo1 (st.2.2 l)) (fun l _ => rfl) (fun k k0 k1 st hst => ?_)
  have gs := hs k k0 k1
  have gu := sSayR_o1 (W := W) (c := c) (left := sHolds W L c (seat k)) (sRw_o1 hk gs)
  have up : ∀ (R : sRow), sRo1 R → ∀ l : Int, sRo1 (upI st.2.2 (seat k) R l) := by
    intro R hR l
    unfold upI
    by_cases q : l = seat k
    · rw [if_pos q]; exact hR
    · rw [if_neg q]; exact hst l
  unfold sSitF
  by_cases q : W 4 0 0 ≤ st.1
  · rw [if_pos q]; exact up _ (fun _ => rfl)
  · rw [if_neg q]
    unfold sSitK
    by_cases q1 : sKind W c (sRw L (seat k)) (sHolds W L c (seat k)) = 3
    · rw [if_pos q1]; exact up _ gu
    · rw [if_neg q1]
      by_cases q2 : sRun st seat (sSayR W c (sRw L (seat k)) (sHolds W L c (seat k))) k = -1
      · rw [if_pos q2]; exact up _ gu
      · rw [if_neg q2]; exact up _ (hst _)
theorem sSeats_inj {W L : sTb} (hk : sLok W L) (h9 : L 9 0 0 = 0) {n : Int} (hn : 0 ≤ n ∧ n ≤ W 3 0 0) : ∀ i j : Int, 0 ≤ i → i < (sSeats L n).1 → 0 ≤ j → j < (sSeats L n).1 → (sSeats L n).2 i = (sSeats L n).2 j → i = j := by
  have e := it_inv (f := sSeatF L) (a := ((0 : Int), (fun _ => (0 : Int)))) (n := n.toNat) (fun k st => (∀ i : Int, 0 ≤ i → i < st.1 → ∃ p : Int, 0 ≤ p ∧ p < k ∧ st.2 i = L 1 p 0) ∧ ∀ i j : Int, 0 ≤ i → i < st.1 → 0 ≤ j → j < st.1 → st.2 i = st.2 j → i = j) ⟨fun i i0 i1 => by dsimp only at i1; omega, fun i j i0 i1 => by dsimp only at i1; omega⟩ (fun k k0 k1 st hst => by
    obtain ⟨g1, g2⟩ := hst
    unfold sSeatF
    by_cases q : 0 < L 2 (L 1 k 0) 0
    · rw [if_pos q]
      have ne : ∀ i : Int, 0 ≤ i → i < st.1 → st.2 i ≠ L 1 k 0 := fun i i0 i1 w => by
        obtain ⟨p, p0, p1, p2⟩ := g1 i i0 i1
        have := hk.2.2.1 p k p0 (by omega) k0 (by omega) h9 (by rw [← p2]; exact w)
        omega
      refine ⟨fun i i0 i1 => ?_, fun i j i0 i1 j0 j1 w => ?_⟩
      · dsimp only at i1 ⊢
        by_cases q2 : i = st.1
        · exact ⟨k, k0, by omega, by rw [q2, upI_s]⟩
        · obtain ⟨p, p0, p1, p2⟩ := g1 i i0 (by omega)
          exact ⟨p, p0, by omega, by rw [upI_n q2]; exact p2⟩
      · dsimp only at i1 j1 w
        by_cases q2 : i = st.1
        · by_cases q3 : j = st.1
          · omega
          · rw [q2, upI_s, upI_n q3] at w
            exact absurd w.symm (ne j j0 (by omega))
        · by_cases q3 : j = st.1
          · rw [q3, upI_s, upI_n q2] at w
            exact absurd w (ne i i0 (by omega))
          · rw [upI_n q2, upI_n q3] at w
            exact g2 i j i0 (by omega) j0 (by omega) w
    · rw [if_neg q]
      exact ⟨fun i i0 i1 => by obtain ⟨p, p0, p1, p2⟩ := g1 i i0 i1; exact ⟨p, p0, by omega, p2⟩, g2⟩)
  exact e.2
theorem sLset_k {L : sTb} {l i j : Int} {R : sRow} {k : Nat} (h2 : k ≠ 2) (h3 : k ≠ 3) (h5 : k ≠ 5) : sLset L l R k i j = L k i j := by
  unfold sLset
  rw [if_neg (fun w => h2 w.2), if_neg (fun w => h3 w.2), if_neg (fun w => h5 w.2)]
theorem sBecome_ok {W : sTb} {c l kind : Int} {R : sRow} {p : sTb × sBk} (hk : sLok W p.1) (hl : 0 ≤ l ∧ l < W 3 0 0) (hR : sRok (W 0 0 0) R) (h1 : sRo1 R) (hB : 0 ≤ p.2.1 ∧ p.2.1 ≤ 100) : sLok W (sBecome c l kind R p).1 ∧ (0 ≤ (sBecome c l kind R p).2.1 ∧ (sBecome c l kind R p).2.1 ≤ 100) := by
  unfold sBecome
  by_cases q : sAlike (sRw p.1 l) R
  · rw [cif_pos q]; exact ⟨hk, hB⟩
  · rw [cif_neg q]
    obtain ⟨k1, k2, k3, k4, k5⟩ := hk
    dsimp only
    refine ⟨⟨by rw [sLset_k (by decide) (by decide) (by decide)]; exact k1, fun a a0 a1 => by rw [sLset_k (by decide) (by decide) (by decide)]; exact k2 a a0 a1, fun a b a0 a1 b0 b1 => by rw [sLset_k (by decide) (by decide) (by decide), sLset_k (by decide) (by decide) (by decide), sLset_k (by decide) (by decide) (by decide)]; exact k3 a b a0 a1 b0 b1, fun m m0 m1 => ?_, fun m k m0 m1 kk0 kk1 => ?_⟩, ?_⟩
    · have g := k4 m m0 m1
      simp only [sLset]
      by_cases w : m = l
      · simp [w]
        rw [w] at g
        exact ⟨hR.1, hR.2.1, h1, g.2.2.2⟩
      · simp [w]; exact g
    · simp only [sLset] at kk1 ⊢
      by_cases w : m = l
      · simp [w] at kk1 ⊢
        exact hR.2.2 k kk0 kk1
      · simp [w] at kk1 ⊢
        exact k5 m k m0 m1 kk0 kk1
    · simp only [sPush]
      by_cases w : p.2.1 = 100
      · rw [if_pos w]; dsimp only; omega
      · rw [if_neg w]; dsimp only; omega
/-- the order is whole -/
theorem sBecome_9 {c l kind : Int} {R : sRow} {p : sTb × sBk} : (sBecome c l kind R p).1 9 0 0 = p.1 9 0 0 := by
  unfold sBecome
  by_cases q : sAlike (sRw p.1 l) R
  · rw [cif_pos q]
  · rw [cif_neg q]; exact sLset_k (by decide) (by decide) (by decide)
theorem sRenew_9 {W L : sTb} {c : Int} {B : sBk} : (sRenew W L c B).1 9 0 0 = L 9 0 0 := by
  unfold sRenew
  exact it_inv (fun _ (p : sTb × sBk) => p.1 9 0 0 = L 9 0 0) rfl (fun k _ _ s hs => by unfold sRenewF; rw [sBecome_9]; exact hs)
theorem sYear_9 {W L : sTb} {B : sBk} {s : Int} : (sYear W (L, B, s)).1 9 0 0 = L 9 0 0 := by
  unfold sYear
  split
  · show (sRenew W (sYear1 L) _ B).1 9 0 0 = _
    rw [sRenew_9]; rfl
  · rfl
