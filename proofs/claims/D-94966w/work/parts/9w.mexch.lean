set_option maxRecDepth 100000
set_option linter.unusedVariables false
/-! the model: exchanges, orders of laws; printed by gen/prove.py out of spec/9w.mexch.spec -/
theorem sX_agree {P P' : Int → Int} {n a b : Int} (h : ∀ j : Int, 0 ≤ j → j < n → P j = P' j) (ha : 0 ≤ a ∧ a < n) (hb : 0 ≤ b ∧ b < n) : ∀ j : Int, 0 ≤ j → j < n → sX P a b j = sX P' a b j := fun j j0 j1 => by
  unfold sX
  rw [h a ha.1 ha.2, h b hb.1 hb.2]
  by_cases w : j = b
  · rw [w, upI_s, upI_s]
  · rw [upI_n w, upI_n w]
    by_cases w2 : j = a
    · rw [w2, upI_s, upI_s]
    · rw [upI_n w2, upI_n w2]; exact h j j0 j1
theorem sExA_eq {G : (Int → Int) → Int} {P : Int → Int} {n most : Int} (h : (sExA G P n most).2.1 = -1) : (sExA G P n most).1 = most := by
  have e : (sExA G P n most).2.1 = -1 → (sExA G P n most).1 = most := by
    unfold sExA
    refine it_inv (f := sExR G P n) (a := (most, (-1 : Int), (-1 : Int))) (n := n.toNat) (fun _ st => st.2.1 = -1 → st.1 = most) (fun _ => rfl) (fun k k0 k1 s hs => ?_)
    unfold sExR
    refine it_inv (f := sExI G P k) (a := s) (n := n.toNat) (fun _ st => st.2.1 = -1 → st.1 = most) hs (fun q q0 q1 s hs => ?_)
    unfold sExI
    split
    · intro w; dsimp only at w; omega
    · exact hs
  exact e h
theorem sFirst_congr {p q : Int → Prop} {n : Nat} (h : ∀ j : Int, 0 ≤ j → j < n → (p j ↔ q j)) : sFirst p n = sFirst q n := by
  unfold sFirst
  exact it_congr (fun k k0 k1 s => by
    by_cases w : s = -1 ∧ p k
    · rw [cif_pos w, cif_pos ⟨w.1, (h k k0 k1).mp w.2⟩]
    · rw [cif_neg w, cif_neg (fun u => w ⟨u.1, (h k k0 k1).mpr u.2⟩)])
theorem sSits_congr {W L : sTb} {c : Int} {seat seat' : Int → Int} {n : Nat} (h : ∀ j : Int, 0 ≤ j → j < n → seat j = seat' j) : sSits W L c seat n = sSits W L c seat' n := by
  unfold sSits
  refine it_congr (fun k k0 k1 st => ?_)
  have hk := h k k0 k1
  have hr : ∀ u, sRun st seat u k = sRun st seat' u k := fun u => by
    unfold sRun
    exact sFirst_congr (fun j j0 j1 => by
      unfold sRunP
      rw [h j j0 (by omega)])
  have hr2 : ∀ u, sRun st seat' u k ≠ -1 → seat (sRun st seat' u k) = seat' (sRun st seat' u k) := fun u hu => by
    have : sRun st seat' u k = -1 ∨ (0 ≤ sRun st seat' u k ∧ sRun st seat' u k < k.toNat) := by
      unfold sRun sFirst
      exact it_inv (fun k r => r = -1 ∨ (0 ≤ r ∧ r < k)) (Or.inl rfl) (fun k h0 h1 s hs => by
        by_cases q : s = -1 ∧ sRunP st seat' u k
        · rw [cif_pos q]; omega
        · rw [cif_neg q]; omega)
    exact h _ (by omega) (by omega)
  unfold sSitF sSitK
  rw [hk, hr]
  by_cases w : sRun st seat' (sSayR W c (sRw L (seat' k)) (sHolds W L c (seat' k))) k = -1
  · rw [if_pos w, if_pos w]
  · rw [if_neg w, if_neg w, hr2 _ w]
/-- how many of a sitting are said whole -/
noncomputable def sWh (W L : sTb) (c : Int) (n : Int) (seat : Int → Int) : Int := it (fun i s => if (sSits W L c seat n.toNat).2.1 (seat i) = 0 then s + 1 else s) 0 n.toNat
theorem sWh_congr {W L : sTb} {c n : Int} {seat seat' : Int → Int} (h : ∀ j : Int, 0 ≤ j → j < n → seat j = seat' j) : sWh W L c n seat = sWh W L c n seat' := by
  unfold sWh
  rw [sSits_congr (n := n.toNat) (fun j j0 j1 => h j j0 (by omega))]
  exact it_congr (fun k k0 k1 s => by rw [h k k0 (by omega)])
theorem sWh_range {W L : sTb} {c n : Int} {seat : Int → Int} (hn : 0 ≤ n) : 0 ≤ sWh W L c n seat ∧ sWh W L c n seat ≤ n := by
  unfold sWh
  have e := it_inv (f := fun i s => if (sSits W L c seat n.toNat).2.1 (seat i) = 0 then s + 1 else s) (a := (0 : Int)) (n := n.toNat) (fun k n => 0 ≤ n ∧ n ≤ k) (by omega) (fun k k0 k1 n hn => by split <;> omega)
  omega
theorem nodup_sub : ∀ l m : List Nat, l.Nodup → (∀ x, x ∈ l → x ∈ m) → l.length ≤ m.length := by
  intro l
  induction l with
  | nil => intro m _ _; exact Nat.zero_le _
  | cons a l ih =>
    intro m hn h
    obtain ⟨h1, h2⟩ := List.nodup_cons.mp hn
    have ha := h a List.mem_cons_self
    have e := ih (m.erase a) h2 (fun x hx => by
      have hxa : x ≠ a := fun q => h1 (q ▸ hx)
      exact (List.mem_erase_of_ne hxa).mpr (h x (List.mem_cons_of_mem _ hx)))
    have e2 := List.length_erase_of_mem ha
    have e3 := List.length_pos_of_mem ha
    simp only [List.length_cons]
    omega
/-- the laws that stand -/
def sStL (L : sTb) (n : Nat) : List Nat := (List.range n).filter (fun l => decide (0 < L 2 (l : Int) 0))
theorem sStL_succ (L : sTb) (n : Nat) : sStL L (n + 1) = sStL L n ++ (if 0 < L 2 (n : Int) 0 then [n] else []) := by
  unfold sStL
  rw [List.range_succ, List.filter_append]
  by_cases w : 0 < L 2 (n : Int) 0
  · rw [if_pos w]; simp [w]
  · rw [if_neg w]; simp [w]
theorem sStL_mem {L : sTb} {n x : Nat} : x ∈ sStL L n ↔ x < n ∧ 0 < L 2 (x : Int) 0 := by
  unfold sStL
  rw [List.mem_filter, List.mem_range, decide_eq_true_iff]
theorem sStL_nodup (L : sTb) (n : Nat) : (sStL L n).Nodup := List.Pairwise.filter _ List.nodup_range
theorem sStL_len (L : sTb) (n : Nat) : ((sStL L n).length : Int) = sStand L n := by
  induction n with
  | zero => rfl
  | succ n ih =>
    rw [sStL_succ, List.length_append]
    have e : sStand L ((n + 1 : Nat) : Int) = (if 0 < L 2 (n : Int) 0 then sStand L n + 1 else sStand L n) := by
      unfold sStand
      rw [Int.toNat_natCast, Int.toNat_natCast]
      rfl
    rw [e]
    by_cases w : 0 < L 2 (n : Int) 0
    · rw [if_pos w, if_pos w]
      simp only [List.length_cons, List.length_nil]
      omega
    · rw [if_neg w, if_neg w]
      simp only [List.length_nil]
      omega
theorem sStL_inc {L : sTb} {n : Nat} {i j : Nat} (hij : i < j) (hj : j < (sStL L n).length) : (sStL L n).getD i 0 < (sStL L n).getD j 0 := by
  have hp : (sStL L n).Pairwise (· < ·) := List.Pairwise.filter _ List.pairwise_lt_range
  have := List.pairwise_iff_getElem.mp hp i j (by omega) hj hij
  rw [List.getD_eq_getElem?_getD, List.getD_eq_getElem?_getD, List.getElem?_eq_getElem (by omega), List.getElem?_eq_getElem hj]
  exact this
theorem sX_inj {P : Int → Int} {n p q : Int} (hin : ∀ i j : Int, 0 ≤ i → i < n → 0 ≤ j → j < n → P i = P j → i = j) (hp : 0 ≤ p ∧ p < n) (hq : 0 ≤ q ∧ q < n) : ∀ i j : Int, 0 ≤ i → i < n → 0 ≤ j → j < n → sX P p q i = sX P p q j → i = j := fun i j i0 i1 j0 j1 e => by
  have v : ∀ j, sX P p q j = P (if j = q then p else if j = p then q else j) := fun j => by
    unfold sX upI
    split
    · rfl
    · split <;> rfl
  rw [v, v] at e
  have := hin _ _ (by split; omega; split <;> omega) (by split; omega; split <;> omega) (by split; omega; split <;> omega) (by split; omega; split <;> omega) e
  split at this <;> split at this <;> (try split at this) <;> (try split at this) <;> omega
theorem sSeats_card {W L : sTb} (hW : sWok W) (hk : sLok W L) (h9 : L 9 0 0 = 0) : (sSeats L (W 3 0 0)).1 = sStand L (W 3 0 0) := by
  have w3 := hW.2.2.2.1
  have ok := sSeats_ok hW hk (n := W 3 0 0) (by omega)
  have inj := sSeats_inj hk h9 (n := W 3 0 0) (by omega)
  have e0 := sStL_len L (W 3 0 0).toNat
  rw [show (((W 3 0 0).toNat : Nat) : Int) = W 3 0 0 by omega] at e0
  rw [← e0]
  have hmem : ∀ x : Nat, x ∈ (List.range (sSeats L (W 3 0 0)).1.toNat).map (fun i : Nat => ((sSeats L (W 3 0 0)).2 (i : Int)).toNat) ↔ x ∈ sStL L (W 3 0 0).toNat := fun x => by
    rw [List.mem_map, sStL_mem]
    constructor
    · rintro ⟨i, i1, i2⟩
      have := List.mem_range.mp i1
      obtain ⟨a, b⟩ := ok.2 (i : Int) (by omega) (by omega)
      rw [← i2, show (((((sSeats L (W 3 0 0)).2 (i : Int)).toNat : Nat)) : Int) = (sSeats L (W 3 0 0)).2 (i : Int) by omega]
      exact ⟨by omega, b⟩
    · rintro ⟨x1, x2⟩
      obtain ⟨p, p0, p1⟩ := sOrd_onto hk h9 (l := (x : Int)) (by omega)
      obtain ⟨i, i0, i1⟩ := sSeats_all (L := L) (n := W 3 0 0) (by omega) p0 (by rw [p1]; exact x2)
      exact ⟨i.toNat, List.mem_range.mpr (by omega), by rw [show ((i.toNat : Nat) : Int) = i by omega, i1, p1]; rfl⟩
  have nd : ((List.range (sSeats L (W 3 0 0)).1.toNat).map (fun i : Nat => ((sSeats L (W 3 0 0)).2 (i : Int)).toNat)).Nodup := by
    refine List.pairwise_map.mpr ?_
    refine List.Pairwise.imp_of_mem ?_ (List.pairwise_lt_range (n := (sSeats L (W 3 0 0)).1.toNat))
    intro a b ha hb hab e
    have a1 := List.mem_range.mp ha
    have b1 := List.mem_range.mp hb
    have oa := ok.2 (a : Int) (by omega) (by omega)
    have ob := ok.2 (b : Int) (by omega) (by omega)
    have := inj (a : Int) (b : Int) (by omega) (by omega) (by omega) (by omega) (by omega)
    omega
  have l1 := nodup_sub _ _ nd (fun x hx => (hmem x).mp hx)
  have l2 := nodup_sub _ _ (sStL_nodup L (W 3 0 0).toNat) (fun x hx => (hmem x).mpr hx)
  rw [List.length_map, List.length_range] at l1 l2
  omega
theorem sX9_wholeOf {o : Nat} {a1 : Int} {F : jFl} {A : jAr} {W L : sTb} {n : Int} {seat : Int → Int} (hc0 : mct o F A 0 W L) (h2 : 0 ≤ a1 ∧ a1 < W 2 0 0) (hn : F 3222 o = n ∧ 0 ≤ n ∧ n ≤ 12) (hse : ∀ i : Int, 0 ≤ i → i < n → (0 ≤ seat i ∧ seat i < W 3 0 0) ∧ A (o + 46) i = seat i) (hin : ∀ i j : Int, 0 ≤ i → i < n → 0 ≤ j → j < n → seat i = seat j → i = j) : wpX9_wholeOf o a1 F A (fun z F' A' => z = sWh W L a1 n seat ∧ (0 ≤ z ∧ z ≤ n) ∧ (∀ f b, (b = o → (f < 3165 ∨ 3183 < f) ∧ f ≠ 3192) → F' f b = F f b) ∧ ∀ b, (b < o + 36 ∨ o + 42 < b) → A' b = A b) := by
  unfold wpX9_wholeOf
  have w3 := hc0.1.1.2.2.2.1
  intro F1 e1
  have f22 : F1 3222 o = n := by rw [e1, upF_f (by decide)]; exact hn.1
  have fm : mfr o F A F1 A := ⟨fun f b hb => by rw [e1]; exact if_neg (fun w => by have := hb w.2; omega), fun _ _ => rfl⟩
  refine ⟨fun (v3 : Int) (A4 : jAr) => (0 ≤ v3 ∧ v3 ≤ n) ∧ (∀ i : Int, 0 ≤ i → i < v3 → A4 (o + 38) i = seat i) ∧ ∀ b, b ≠ o + 38 → A4 b = A b, fun v3 A4 => (n - v3).toNat, ?_, ?_⟩ -- loop I6 I6 0 A
  ·
    -- l1: I6 0 A
    exact ⟨by omega, fun i i0 i1 => by omega, fun _ _ => rfl⟩
  intro v3 A4 i6
  obtain ⟨i1, i2, i3⟩ := i6
  rw [f22]
  refine ⟨fun hc => ?_, fun hc => ?_⟩ -- c1
  · -- case ((F1 3222 o) ≤ v3)
    refine ⟨_, sX9_sittingOf (n := n) (seat := seat) (hc0.fr (fm.trans ⟨fun _ _ _ => rfl, fun b hb => i3 b (by omega)⟩)) h2 ⟨by rw [e1, upF_s, hn.1], hn.2⟩ (fun i i0 i1' => ⟨(hse i i0 i1').1, i2 i i0 (by omega)⟩) hin, ?_⟩ -- call wpX9_sittingOf o 0 a1 F1 A4 P9
    intro F12 A13 p9
    obtain ⟨q1, q2, q3⟩ := p9
    have g22 : F12 3222 o = n := by rw [q2 _ _ (fun _ => by decide)]; exact f22
    refine ⟨fun (v17 : Int) (v18 : Int) => (0 ≤ v18 ∧ v18 ≤ n) ∧ v17 = it (fun i s => if (sSits W L a1 seat n.toNat).2.1 (seat i) = 0 then s + 1 else s) 0 v18.toNat ∧ 0 ≤ v17 ∧ v17 ≤ v18, fun v17 v18 => (n - v18).toNat, ?_, ?_⟩ -- loop I19 I19 0 0
    ·
      -- l2: I19 0 0
      exact ⟨by omega, rfl, by omega⟩
    intro v17 v18 i19
    obtain ⟨j1, j2, j3⟩ := i19
    rw [g22]
    refine ⟨fun hc => ?_, fun hc => ?_⟩ -- c2
    · -- case ((F12 3222 o) ≤ v18)
      -- l3: Q v17 F12 A13
      refine ⟨by rw [j2, show v18 = n by omega]; rfl, by omega, fun f b hb => ?_, fun b hb => by rw [q3 b (by omega), i3 b (by omega)]⟩
      rw [q2 f b (fun w => (hb w).1), e1]
      exact if_neg (fun w => by have := hb w.2; omega)
    · -- case ¬ ((F12 3222 o) ≤ v18)
      have hs := hse v18 j1.1 (by omega)
      have e46 : A13 (o + 46) v18 = seat v18 := by rw [q3 _ (by omega), i3 _ (by omega)]; exact hs.2
      refine ⟨by omega, ?_⟩ -- s1: (0 ≤ v18 ∧ v18 < 12)
      refine ⟨by rw [e46]; omega, ?_⟩ -- s2: (0 ≤ A13 (o + 46) v18 ∧ A13 (o + 46) v18 < 12)
      intro z25 e25
      have ez : z25 = (if (sSits W L a1 seat n.toNat).2.1 (seat v18) = 0 then 1 else 0) := by rw [e25, e46, (q1 v18 j1.1 (by omega)).1]; by_cases w : (sSits W L a1 seat n.toNat).2.1 (seat v18) = 0 <;> simp [w]
      refine ⟨by (rw [ez]; split <;> omega), ?_⟩ -- s3: jR (v17 + z25)
      intro v28 e28
      refine ⟨by omega, ?_⟩ -- s4: jR (v18 + 1)
      refine ⟨?_, ?_⟩ -- l4: I19 v28 (v18 + 1)
      · refine ⟨by omega, ?_, by rw [e28, ez]; split <;> omega⟩
        rw [it_succ _ _ j1.1, ← j2, e28, ez]
        by_cases w : (sSits W L a1 seat n.toNat).2.1 (seat v18) = 0 <;> simp [w]
      · dsimp only; omega
  · -- case ¬ ((F1 3222 o) ≤ v3)
    refine ⟨by omega, ?_⟩ -- s5: (0 ≤ v3 ∧ v3 < 12)
    refine ⟨by omega, ?_⟩ -- s6: (0 ≤ v3 ∧ v3 < 12)
    intro A32 e32
    refine ⟨by omega, ?_⟩ -- s7: jR (v3 + 1)
    refine ⟨?_, ?_⟩ -- l5: I6 (v3 + 1) A32
    · refine ⟨by omega, fun i i0 i1' => ?_, fun b hb => by rw [e32, upA_o hb]; exact i3 b hb⟩
      by_cases w : i = v3
      · rw [w, e32, upA_s, i3 _ (by omega)]; exact (hse v3 i1.1 (by omega)).2
      · rw [e32, upA_i w]; exact i2 i i0 (by omega)
    · dsimp only; omega

/-- what is asked of an order -/
noncomputable def gG (W L : sTb) (a k n : Int) (P : Int → Int) : Int := if a = 0 then sGd W L k P else sWh W L k n P
def gOk (W L : sTb) (a k n : Int) (P : Int → Int) : Prop := if a = 0 then (0 ≤ k ∧ k < W 3 0 0) ∧ n = (sRw L k).1 ∧ ∀ j : Int, 0 ≤ j → j < n → 0 ≤ P j ∧ P j < n else (0 ≤ k ∧ k < W 2 0 0) ∧ (0 ≤ n ∧ n ≤ 12) ∧ (∀ j : Int, 0 ≤ j → j < n → 0 ≤ P j ∧ P j < W 3 0 0) ∧ ∀ i j : Int, 0 ≤ i → i < n → 0 ≤ j → j < n → P i = P j → i = j
theorem gOk.n {W L : sTb} {a k n : Int} {P : Int → Int} (h : gOk W L a k n P) (hk : sLok W L) : 0 ≤ n ∧ n ≤ 12 := by
  unfold gOk at h
  split at h
  · have := (sRw_ok hk h.1).1
    omega
  · exact h.2.1
theorem gOk.ex {W L : sTb} {a k n p q : Int} {P : Int → Int} (h : gOk W L a k n P) (hp : 0 ≤ p ∧ p < n) (hq : 0 ≤ q ∧ q < n) : gOk W L a k n (sX P p q) := by
  unfold gOk at *
  have v : ∀ j, sX P p q j = P (if j = q then p else if j = p then q else j) := fun j => by
    unfold sX upI
    split
    · rfl
    · split <;> rfl
  split
  · rename_i w
    rw [if_pos w] at h
    refine ⟨h.1, h.2.1, fun j j0 j1 => ?_⟩
    rw [v]
    exact h.2.2 _ (by split; omega; split <;> omega) (by split; omega; split <;> omega)
  · rename_i w
    rw [if_neg w] at h
    refine ⟨h.1, h.2.1, fun j j0 j1 => ?_, fun i j i0 i1 j0 j1 e => ?_⟩
    · rw [v]
      exact h.2.2.1 _ (by split; omega; split <;> omega) (by split; omega; split <;> omega)
    · rw [v, v] at e
      have := h.2.2.2 _ _ (by split; omega; split <;> omega) (by split; omega; split <;> omega) (by split; omega; split <;> omega) (by split; omega; split <;> omega) e
      split at this <;> split at this <;> (try split at this) <;> (try split at this) <;> omega
theorem gOk.to {W L : sTb} {a k n : Int} {P P' : Int → Int} (h : gOk W L a k n P) (e : ∀ j : Int, 0 ≤ j → j < n → P j = P' j) : gOk W L a k n P' := by
  unfold gOk at *
  split
  · rename_i w
    rw [if_pos w] at h
    exact ⟨h.1, h.2.1, fun j j0 j1 => by rw [← e j j0 j1]; exact h.2.2 j j0 j1⟩
  · rename_i w
    rw [if_neg w] at h
    exact ⟨h.1, h.2.1, fun j j0 j1 => by rw [← e j j0 j1]; exact h.2.2.1 j j0 j1, fun i j i0 i1 j0 j1 q => h.2.2.2 i j i0 i1 j0 j1 (by rw [e i i0 i1, e j j0 j1]; exact q)⟩
theorem gG_congr {W L : sTb} {a k n : Int} {P P' : Int → Int} (hk : sLok W L) (h : gOk W L a k n P) (e : ∀ j : Int, 0 ≤ j → j < n → P j = P' j) : gG W L a k n P = gG W L a k n P' := by
  unfold gOk at h
  unfold gG
  split
  · rename_i w
    rw [if_pos w] at h
    exact sGd_congr (sRw_ok hk h.1) (fun j j0 j1 => e j j0 (by omega))
  · exact sWh_congr e
theorem sWh_le12 {W L : sTb} {c n : Int} {seat : Int → Int} (hn : n ≤ 12) : 0 ≤ sWh W L c n seat ∧ sWh W L c n seat ≤ 12 := by
  by_cases w : 0 ≤ n
  · have := sWh_range (W := W) (L := L) (c := c) (seat := seat) w
    omega
  · have e : sWh W L c n seat = 0 := by
      unfold sWh
      rw [show n.toNat = 0 by omega]
      rfl
    omega
theorem gG_range {W L : sTb} {a k n : Int} (hW : sWok W) (hn : n ≤ 12) (P : Int → Int) : 0 ≤ gG W L a k n P ∧ gG W L a k n P ≤ 12 := by
  unfold gG
  split
  · have := sGd_range (L := L) (l := k) hW P
    omega
  · exact sWh_le12 hn
theorem sX9_goodness {o : Nat} {F : jFl} {A : jAr} {W L : sTb} {a k n : Int} {P : Int → Int} (h : mct o F A 0 W L) (hg : gOk W L a k n P) (ha : F 3225 o = a) (hk : F 3228 o = k) (hn : F 3222 o = n) (hP : ∀ j : Int, 0 ≤ j → j < n → A (o + 46) j = P j) : wpX9_goodness o F A (fun z F' A' => z = gG W L a k n P ∧ mfr o F A F' A' ∧ (∀ f, 3222 ≤ f → F' f o = F f o) ∧ A' (o + 46) = A (o + 46)) := by
  unfold wpX9_goodness
  have hn12 := hg.n h.1.2
  unfold gOk at hg
  unfold gG
  rw [ha, hk]
  refine ⟨fun hc => ?_, fun hc => ?_⟩ -- c1
  · -- case (¬ (F 3225 o) = 0)
    rw [if_neg (by omega)] at hg
    refine ⟨_, sX9_wholeOf (n := n) (seat := P) h hg.1 ⟨hn, hn12⟩ (fun i i0 i1 => ⟨hg.2.2.1 i i0 i1, hP i i0 i1⟩) hg.2.2.2, ?_⟩ -- call wpX9_wholeOf o (F 3228 o) F A P2
    intro z4 F5 A6 p2
    -- l1: Q z4 F5 A6
    obtain ⟨q1, q2, q3, q4⟩ := p2
    rw [if_neg (by omega)]
    exact ⟨q1, ⟨fun f b hb => q3 f b (fun w => by have := hb w; omega), fun b hb => q4 b (by omega)⟩, fun f hf => q3 f o (fun _ => by omega), q4 _ (by omega)⟩
  · -- case ¬ (¬ (F 3225 o) = 0)
    rw [if_pos (by omega)] at hg
    refine ⟨_, sX9_wholeBy (P := P) h hg.1 (by rw [hn]; exact hg.2.1) (fun j j0 j1 => ⟨hP j j0 (by rw [hg.2.1]; exact j1), by have := hg.2.2 j j0 (by omega); have := hg.2.1; omega⟩), ?_⟩ -- call wpX9_wholeBy o (F 3228 o) F A P10
    intro z12 F13 A14 p10
    -- l2: Q z12 F13 A14
    obtain ⟨q1, q2, q3, q4⟩ := p10
    rw [if_pos (by omega)]
    exact ⟨q1, ⟨fun f b hb => q3 f b (fun w => by have := hb w; omega), fun b hb => q4 b (by omega) (by omega)⟩, fun f hf => q3 f o (fun _ => by omega), q4 _ (by omega) (by omega)⟩

set_option maxHeartbeats 2000000 in
theorem sX9_exchanged {o : Nat} {F : jFl} {A : jAr} {W L : sTb} {a k n : Int} {P0 : Int → Int} (h : mct o F A 0 W L) (hg : gOk W L a k n P0) (ha : F 3225 o = a) (hk : F 3228 o = k) (hn : F 3222 o = n) (hP : ∀ j : Int, 0 ≤ j → j < n → A (o + 46) j = P0 j) : wpX9_exchanged o F A (fun z F' A' => (∃ c : Nat, sMdE (gG W L a k n) P0 n c ∧ z = (sMd (gG W L a k n) P0 n c).2 ∧ F' 3231 o = (c : Int) ∧ ∀ j : Int, 0 ≤ j → j < n → A' (o + 46) j = (sMd (gG W L a k n) P0 n c).1 j) ∧ mfr o F A F' A') := by
  unfold wpX9_exchanged
  have hn12 := hg.n h.1.2
  have gr := gG_range (W := W) (L := L) (a := a) (k := k) h.1.1 hn12.2
  have gc : ∀ {P P'}, gOk W L a k n P → (∀ j : Int, 0 ≤ j → j < n → P j = P' j) → gG W L a k n P = gG W L a k n P' := fun {P P'} u v => gG_congr h.1.2 u v
  generalize hG : gG W L a k n = G at *
  intro F1 e1
  have m1 : mfr o F A F1 A := ⟨fun f b hb => by rw [e1]; exact if_neg (fun w => by have := hb w.2; omega), fun _ _ => rfl⟩
  refine ⟨_, sX9_goodness (P := P0) (h.fr m1) hg (by rw [e1, upF_f (by decide)]; exact ha) (by rw [e1, upF_f (by decide)]; exact hk) (by rw [e1, upF_f (by decide)]; exact hn) hP, ?_⟩ -- call wpX9_goodness o F1 A P3
  intro z5 F6 A7 p3
  obtain ⟨q1, q2, q3, q4⟩ := p3
  rw [hG] at q1
  refine ⟨fun (v11 : Int) (v12 : Int) (F13 : jFl) (A14 : jAr) => ∃ c : Nat, (∀ j, j < c → ¬ sMdF G P0 n j) ∧ v11 = (sMd G P0 n c).2 ∧ (∀ j : Int, 0 ≤ j → j < n → A14 (o + 46) j = (sMd G P0 n c).1 j) ∧ gOk W L a k n (sMd G P0 n c).1 ∧ (F13 3231 o = (c : Int) ∧ F13 3225 o = a ∧ F13 3228 o = k ∧ F13 3222 o = n) ∧ mfr o F A F13 A14 ∧ (v12 = 1 ∨ (v12 = 0 ∧ sMdF G P0 n c)), fun v11 v12 F13 A14 => (v12 * (30 - F13 3231 o)).toNat, ?_, ?_⟩ -- loop I16 I16 z5 1 F6 A7
  ·
    -- l1: I16 z5 1 F6 A7
    refine ⟨0, fun j hj => by omega, q1, fun j j0 j1 => by rw [q4]; exact hP j j0 j1, hg, ⟨by rw [q3 _ (by decide), e1, upF_s]; rfl, by rw [q3 _ (by decide), e1, upF_f (by decide)]; exact ha, by rw [q3 _ (by decide), e1, upF_f (by decide)]; exact hk, by rw [q3 _ (by decide), e1, upF_f (by decide)]; exact hn⟩, m1.trans q2, Or.inl rfl⟩
  intro v11 v12 F13 A14 i16
  obtain ⟨c, i1, i2, i3, i4, ⟨i5, i6, i7, i8⟩, i9, i10⟩ := i16
  have hcu := sMd_up (G := G) (P0 := P0) (n := n) (k := c) hn12.1 (gr _).1 i1
  have hcl := sMd_le (G := G) (P0 := P0) (n := n) (m := 12) (fun P => (gr P).2) c
  refine ⟨fun hc => ?_, fun hc => ?_⟩ -- c1
  · -- case (v12 = 0)
    -- l2: Q v11 F13 A14
    have hF : sMdF G P0 n c := by
      rcases i10 with q | q
      · omega
      · exact q.2
    exact ⟨⟨c, ⟨hF, i1⟩, i2, i5, i3⟩, i9⟩
  · -- case ¬ (v12 = 0)
    generalize hPc : (sMd G P0 n c).1 = P at *
    refine ⟨fun (v19 : Int) (v20 : Int) (v21 : Int) (v22 : Int) (F23 : jFl) (A24 : jAr) => (0 ≤ v22 ∧ v22 ≤ n) ∧ it (sExR G P n) (v11, -1, -1) v22.toNat = (v21, v19, v20) ∧ (∀ j : Int, 0 ≤ j → j < n → A24 (o + 46) j = P j) ∧ (F23 3231 o = (c : Int) ∧ F23 3225 o = a ∧ F23 3228 o = k ∧ F23 3222 o = n) ∧ mfr o F A F23 A24, fun v19 v20 v21 v22 F23 A24 => (n - v22).toNat, ?_, ?_⟩ -- loop I26 I26 (-1) (-1) v11 0 F13 A14
    ·
      -- l3: I26 (-1) (-1) v11 0 F13 A14
      exact ⟨by omega, rfl, i3, ⟨i5, i6, i7, i8⟩, i9⟩
    intro v19 v20 v21 v22 F23 A24 i26
    obtain ⟨j1, j2, j3, ⟨j4, j5, j6, j7⟩, j8⟩ := i26
    rw [j7]
    refine ⟨fun hc => ?_, fun hc => ?_⟩ -- c2
    · -- case ((F23 3222 o) ≤ v22)
      intro z30 e30
      have ev : v22 = n := by omega
      have eA : sExA G P n v11 = (v21, v19, v20) := by
        unfold sExA
        rw [← ev] at j2 ⊢
        exact j2
      have okA := sExA_ok (G := G) (P := P) (n := n) (most := v11) (v := n) (by omega)
      have eA2 : it (sExR G P n) (v11, -1, -1) n.toNat = (v21, v19, v20) := eA
      rw [eA2] at okA
      dsimp only at okA
      have hF : sMdF G P0 n c ↔ v19 = -1 := by
        unfold sMdF
        rw [hPc, ← i2, eA]
      have ez : z30 = (if v19 = -1 then 0 else 1) := e30
      refine ⟨fun (F33 : jFl) (A34 : jAr) => (∀ j : Int, 0 ≤ j → j < n → A34 (o + 46) j = (if v19 = -1 then P j else sX P v19 v20 j)) ∧ F33 = F23 ∧ ∀ b, b ≠ o + 46 → A34 b = A24 b, ?_, ?_⟩ -- join K36
      · intro F33 A34 k36
        obtain ⟨k1, k2, k3⟩ := k36
        subst k2
        intro z40 e40
        have ez2 : z40 = (if v19 = -1 then 0 else 1) := by rw [e40, ez]; by_cases w : v19 = -1 <;> simp [w]
        refine ⟨by (rw [j4, ez2]; split <;> omega), ?_⟩ -- s1: jR ((F33 3231 o) + z40)
        intro F43 e43
        refine ⟨?_, ?_⟩ -- l4: I16 v21 z30 F43 A34
        · have m2 : mfr o F A F43 A34 := j8.trans ⟨fun f b hb => by rw [e43]; exact if_neg (fun w => by have := hb w.2; omega), fun b hb => k3 b (by omega)⟩
          have fo : F43 3225 o = a ∧ F43 3228 o = k ∧ F43 3222 o = n := by rw [e43, upF_f (by decide), upF_f (by decide), upF_f (by decide)]; exact ⟨j5, j6, j7⟩
          by_cases w : v19 = -1
          · rw [if_pos w] at ez ez2
            have sE := sExA_eq (G := G) (P := P) (n := n) (most := v11) (by rw [eA]; exact w)
            rw [eA] at sE
            have sE : v21 = v11 := sE
            refine ⟨c, i1, by rw [sE, i2], fun j j0 j1' => ?_, by rw [hPc]; exact i4, ⟨by rw [e43, upF_s, j4, ez2]; omega, fo⟩, m2, Or.inr ⟨ez, hF.mpr w⟩⟩
            rw [k1 j j0 j1', if_pos w, hPc]
          · rw [if_neg w] at ez ez2
            have okB : 0 ≤ v19 ∧ v19 < v20 ∧ v20 < n := by omega
            have e1' : (sMd G P0 n (c + 1)).1 = sX P v19 v20 := by
              show sX (sMd G P0 n c).1 _ _ = _
              rw [hPc, ← i2, eA]
            have e2' : (sMd G P0 n (c + 1)).2 = v21 := by
              show (sExA G (sMd G P0 n c).1 n (sMd G P0 n c).2).1 = _
              rw [hPc, ← i2, eA]
            refine ⟨c + 1, fun j hj => ?_, e2'.symm, fun j j0 j1' => by rw [k1 j j0 j1', if_neg w, e1'], by rw [e1']; exact i4.ex (by omega) (by omega), ⟨by rw [e43, upF_s, j4, ez2]; omega, fo⟩, m2, Or.inl ez⟩
            by_cases wj : j = c
            · rw [wj]; exact fun q => w (hF.mp q)
            · exact i1 j (by omega)
        · dsimp only
          have hv12 : v12 = 1 := by
            rcases i10 with q | q
            · exact q
            · omega
          by_cases w : v19 = -1
          · rw [if_pos w] at ez ez2
            rw [hv12, e43, upF_s, j4, ez2, ez, i5]
            omega
          · rw [if_neg w] at ez ez2
            rw [hv12, e43, upF_s, j4, ez2, ez, i5]
            omega
      refine ⟨fun hc => ?_, fun hc => ?_⟩ -- c3
      · -- case (z30 = 0)
        -- l5: K36 F23 A24
        have w : v19 = -1 := by
          by_cases w : v19 = -1
          · exact w
          · rw [if_neg w] at ez; omega
        exact ⟨fun j j0 j1' => by rw [if_pos w]; exact j3 j j0 j1', rfl, fun _ _ => rfl⟩
      · -- case ¬ (z30 = 0)
        have w : ¬ v19 = -1 := fun w => by rw [if_pos w] at ez; exact hc ez
        refine ⟨_, sX9_changes (by omega) (by omega), ?_⟩ -- call wpX9_changes o v19 v20 F23 A24 P45
        intro F48 A49 p45
        -- l6: K36 F48 A49
        obtain ⟨u1, u2, u3⟩ := p45
        refine ⟨fun j j0 j1' => ?_, u1, u3⟩
        rw [if_neg w, u2]
        exact sX_agree j3 (by omega) (by omega) j j0 j1'
    · -- case ¬ ((F23 3222 o) ≤ v22)
      refine ⟨by omega, ?_⟩ -- s2: jR (v22 + 1)
      intro v54 e54
      refine ⟨fun (v55 : Int) (v56 : Int) (v57 : Int) (v58 : Int) (F59 : jFl) (A60 : jAr) => (v22 + 1 ≤ v58 ∧ v58 ≤ n) ∧ it (sExI G P v22) (v21, v19, v20) v58.toNat = (v57, v55, v56) ∧ (∀ j : Int, 0 ≤ j → j < n → A60 (o + 46) j = P j) ∧ (F59 3231 o = (c : Int) ∧ F59 3225 o = a ∧ F59 3228 o = k ∧ F59 3222 o = n) ∧ mfr o F A F59 A60, fun v55 v56 v57 v58 F59 A60 => (n - v58).toNat, ?_, ?_⟩ -- loop I62 I62 v19 v20 v21 v54 F23 A24
      ·
        -- l7: I62 v19 v20 v21 v54 F23 A24
        refine ⟨by omega, ?_, j3, ⟨j4, j5, j6, j7⟩, j8⟩
        rw [e54]
        exact sExI_skip j1.1
      intro v55 v56 v57 v58 F59 A60 i62
      obtain ⟨g1, g2, g3, ⟨g4, g5, g6, g7⟩, g8⟩ := i62
      rw [g7]
      refine ⟨fun hc => ?_, fun hc => ?_⟩ -- c4
      · -- case ((F59 3222 o) ≤ v58)
        refine ⟨by omega, ?_⟩ -- s3: jR (v22 + 1)
        refine ⟨?_, ?_⟩ -- l8: I26 v55 v56 v57 (v22 + 1) F59 A60
        · refine ⟨by omega, ?_, g3, ⟨g4, g5, g6, g7⟩, g8⟩
          rw [it_succ _ _ j1.1, j2]
          show it (sExI G P v22) (v21, v19, v20) n.toNat = _
          rw [show n = v58 by omega]
          exact g2
        · dsimp only; omega
      · -- case ¬ ((F59 3222 o) ≤ v58)
        refine ⟨_, sX9_changes (by omega) (by omega), ?_⟩ -- call wpX9_changes o v22 v58 F59 A60 P66
        intro F69 A70 p66
        obtain ⟨u1, u2, u3⟩ := p66
        subst u1
        have hx2 : ∀ j : Int, 0 ≤ j → j < n → A70 (o + 46) j = sX P v22 v58 j := fun j j0 j1' => by
          rw [u2]
          exact sX_agree g3 (by omega) (by omega) j j0 j1'
        have m3 : mfr o F A F69 A70 := g8.trans ⟨fun _ _ _ => rfl, fun b hb => u3 b (by omega)⟩
        refine ⟨_, sX9_goodness (P := sX P v22 v58) (h.fr m3) (i4.ex (by omega) (by omega)) g5 g6 g7 hx2, ?_⟩ -- call wpX9_goodness o F69 A70 P74
        intro z76 F77 A78 p74
        obtain ⟨y1, y2, y3, y4⟩ := p74
        rw [hG] at y1
        refine ⟨_, sX9_changes (by omega) (by omega), ?_⟩ -- call wpX9_changes o v22 v58 F77 A78 P82
        intro F85 A86 p82
        obtain ⟨x1, x2, x3⟩ := p82
        subst x1
        have hx3 : ∀ j : Int, 0 ≤ j → j < n → A86 (o + 46) j = P j := fun j j0 j1' => by
          rw [x2, y4, u2, sX_sX (by omega)]
          exact g3 j j0 j1'
        have m4 : mfr o F A F85 A86 := (m3.trans y2).trans ⟨fun _ _ _ => rfl, fun b hb => x3 b (by omega)⟩
        have ff : F85 3231 o = (c : Int) ∧ F85 3225 o = a ∧ F85 3228 o = k ∧ F85 3222 o = n := by
          rw [y3 _ (by decide), y3 _ (by decide), y3 _ (by decide), y3 _ (by decide)]
          exact ⟨g4, g5, g6, g7⟩
        have eI := it_succ (sExI G P v22) (v21, v19, v20) (show 0 ≤ v58 by omega)
        rw [g2] at eI
        have eS : sExI G P v22 v58 (v57, v55, v56) = (if v22 < v58 ∧ v57 < z76 then (z76, v22, v58) else (v57, v55, v56)) := by
          unfold sExI
          rw [y1]
        refine ⟨fun hc => ?_, fun hc => ?_⟩ -- c5
        · -- case (v57 < z76)
          refine ⟨by omega, ?_⟩ -- s4: jR (v58 + 1)
          refine ⟨?_, ?_⟩ -- l9: I62 v22 v58 z76 (v58 + 1) F85 A86
          · refine ⟨by omega, ?_, hx3, ff, m4⟩
            rw [eI, eS, if_pos ⟨by omega, by omega⟩]
          · dsimp only; omega
        · -- case ¬ (v57 < z76)
          refine ⟨by omega, ?_⟩ -- s5: jR (v58 + 1)
          refine ⟨?_, ?_⟩ -- l10: I62 v55 v56 v57 (v58 + 1) F85 A86
          · refine ⟨by omega, ?_, hx3, ff, m4⟩
            rw [eI, eS, if_neg (fun w => by omega)]
          · dsimp only; omega

/-- exchanges come to an end -/
theorem sMdE_ex {G : (Int → Int) → Int} {P0 : Int → Int} {n m : Int} (hn : 0 ≤ n) (hG : ∀ P, 0 ≤ G P ∧ G P ≤ m) : ∃ c, sMdE G P0 n c := by
  have ex : ∃ c, sMdF G P0 n c := by
    apply Classical.byContradiction
    intro h
    have hu := sMd_up (G := G) (P0 := P0) (n := n) (k := m.toNat + 1) hn (hG _).1 (fun j _ q => h ⟨j, q⟩)
    have hl := sMd_le (G := G) (P0 := P0) (n := n) (m := m) (fun P => (hG P).2) (m.toNat + 1)
    omega
  obtain ⟨c, c1, c2⟩ := least0 ex
  exact ⟨c, c1, c2⟩
set_option maxHeartbeats 2000000 in
theorem sX9_mended {o : Nat} {a1 : Int} {a2 : Int} {F : jFl} {A : jAr} {W L : sTb} (h : mct o F A 0 W L) : wpX9_mended o a1 a2 F A (fun z F' A' => rMended W L a1 a2 z ∧ mfr o F A F' A') := by
  unfold wpX9_mended
  have h0 := h
  obtain ⟨⟨hk, hLk⟩, hW, hL, hh, hv⟩ := h
  have w2 := hk.2.2.1
  have w3 := hk.2.2.2.1
  refine ⟨_, sX9_isStanding hW hk hL, ?_⟩ -- call wpX9_isStanding o a1 F A P1
  intro z3 p1
  refine ⟨fun hc => ?_, fun hc => ?_⟩ -- c1
  · -- case (z3 = 0)
    -- l1: Q (-1) F A
    exact ⟨by unfold rMended; rw [if_neg (by grind)], mfr.refl _ _ _⟩
  · -- case ¬ (z3 = 0)
    have h1 : 0 ≤ a1 ∧ a1 < W 3 0 0 ∧ 0 < L 2 a1 0 := by grind
    have hl : 0 ≤ a1 ∧ a1 < W 3 0 0 := by omega
    have g30 : A (o + 30) a1 = L 2 a1 0 := by
      have := (hL.2.2 a1 hl.1 hl.2).1
      rw [show 12 * 0 + a1 = a1 by omega] at this
      exact this
    have hRk := sRw_ok hLk hl
    have eR1 : (sRw L a1).1 = L 2 a1 0 := rfl
    have eG : gG W L 0 a1 (L 2 a1 0) = sGd W L a1 := by funext P; exact if_pos rfl
    rw [g30]
    refine ⟨fun hc => ?_, fun hc => ?_⟩ -- c2
    · -- case (a2 = (-1))
      refine ⟨by omega, ?_⟩ -- s1: (0 ≤ a1 ∧ a1 < 264)
      refine ⟨_, sX9_firstPerm (by have := hRk.1; omega), ?_⟩ -- call wpX9_firstPerm o (A (o + 30) a1) F A P9
      intro F12 A13 p9
      obtain ⟨q1, q2, q3⟩ := p9
      intro F17 e17
      intro F19 e19
      have m1 : mfr o F A F19 A13 := ⟨fun f b hb => by rw [e19, e17, q1, show ∀ (G : jFl) (g : Nat) y, 3222 ≤ g → g ≤ 3231 → upF G g o y f b = G f b from fun G g y _ _ => if_neg (fun w => by have := hb w.2; omega), show ∀ (G : jFl) (g : Nat) y, 3222 ≤ g → g ≤ 3231 → upF G g o y f b = G f b from fun G g y _ _ => if_neg (fun w => by have := hb w.2; omega), show ∀ (G : jFl) (g : Nat) y, 3222 ≤ g → g ≤ 3231 → upF G g o y f b = G f b from fun G g y _ _ => if_neg (fun w => by have := hb w.2; omega)] <;> decide, fun b hb => q3 b (by omega)⟩
      refine ⟨_, sX9_exchanged (a := 0) (k := a1) (n := L 2 a1 0) (P0 := fun j => j) (h0.fr m1) (by unfold gOk; rw [if_pos rfl]; exact ⟨hl, rfl, fun j j0 j1 => ⟨j0, j1⟩⟩) (by rw [e19, upF_f (by decide), e17, upF_s]) (by rw [e19, upF_s]) (by rw [e19, upF_f (by decide), e17, upF_f (by decide), q1, upF_s]) (fun j j0 j1 => q2 j j0 j1), ?_⟩ -- call wpX9_exchanged o F19 A13 P21
      intro z23 F24 A25 p21
      obtain ⟨⟨c, y1, y2, y3, y4⟩, y5⟩ := p21
      rw [eG] at y1 y2 y4
      have eR : ∀ z, z = (if a2 = 20 then (c : Int) else if a2 = -1 then (sMd (sGd W L a1) (fun j => j) (L 2 a1 0) c).2 else if 0 ≤ a2 ∧ a2 < L 2 a1 0 then (sMd (sGd W L a1) (fun j => j) (L 2 a1 0) c).1 a2 else -1) → rMended W L a1 a2 z := fun z q => by
        unfold rMended
        rw [if_pos h1]
        exact ⟨c, y1, q⟩
      refine ⟨fun hc => ?_, fun hc => ?_⟩ -- c3
      · -- case (¬ a2 = (-1))
        refine ⟨fun hc => ?_, fun hc => ?_⟩ -- c4
        · -- case (¬ a2 = 20)
          refine ⟨by omega, ?_⟩ -- s2: (0 ≤ a2 ∧ a2 < 12)
          -- l2: Q (A25 (o + 46) a2) F24 A25
          refine ⟨eR _ ?_, m1.trans y5⟩
          omega
        · -- case ¬ (¬ a2 = 20)
          -- l3: Q (F24 3231 o) F24 A25
          refine ⟨eR _ ?_, m1.trans y5⟩
          rw [if_pos (by omega)]; exact y3
      · -- case ¬ (¬ a2 = (-1))
        -- l4: Q z23 F24 A25
        refine ⟨eR _ ?_, m1.trans y5⟩
        rw [if_neg (by omega), if_pos (by omega)]; exact y2
    · -- case ¬ (a2 = (-1))
      refine ⟨fun hc => ?_, fun hc => ?_⟩ -- c5
      · -- case (a2 = 20)
        refine ⟨by omega, ?_⟩ -- s3: (0 ≤ a1 ∧ a1 < 264)
        refine ⟨_, sX9_firstPerm (by have := hRk.1; omega), ?_⟩ -- call wpX9_firstPerm o (A (o + 30) a1) F A P34
        intro F37 A38 p34
        obtain ⟨q1, q2, q3⟩ := p34
        intro F42 e42
        intro F44 e44
        have m1 : mfr o F A F44 A38 := ⟨fun f b hb => by rw [e44, e42, q1, show ∀ (G : jFl) (g : Nat) y, 3222 ≤ g → g ≤ 3231 → upF G g o y f b = G f b from fun G g y _ _ => if_neg (fun w => by have := hb w.2; omega), show ∀ (G : jFl) (g : Nat) y, 3222 ≤ g → g ≤ 3231 → upF G g o y f b = G f b from fun G g y _ _ => if_neg (fun w => by have := hb w.2; omega), show ∀ (G : jFl) (g : Nat) y, 3222 ≤ g → g ≤ 3231 → upF G g o y f b = G f b from fun G g y _ _ => if_neg (fun w => by have := hb w.2; omega)] <;> decide, fun b hb => q3 b (by omega)⟩
        refine ⟨_, sX9_exchanged (a := 0) (k := a1) (n := L 2 a1 0) (P0 := fun j => j) (h0.fr m1) (by unfold gOk; rw [if_pos rfl]; exact ⟨hl, rfl, fun j j0 j1 => ⟨j0, j1⟩⟩) (by rw [e44, upF_f (by decide), e42, upF_s]) (by rw [e44, upF_s]) (by rw [e44, upF_f (by decide), e42, upF_f (by decide), q1, upF_s]) (fun j j0 j1 => q2 j j0 j1), ?_⟩ -- call wpX9_exchanged o F44 A38 P46
        intro z48 F49 A50 p46
        obtain ⟨⟨c, y1, y2, y3, y4⟩, y5⟩ := p46
        rw [eG] at y1 y2 y4
        have eR : ∀ z, z = (if a2 = 20 then (c : Int) else if a2 = -1 then (sMd (sGd W L a1) (fun j => j) (L 2 a1 0) c).2 else if 0 ≤ a2 ∧ a2 < L 2 a1 0 then (sMd (sGd W L a1) (fun j => j) (L 2 a1 0) c).1 a2 else -1) → rMended W L a1 a2 z := fun z q => by
          unfold rMended
          rw [if_pos h1]
          exact ⟨c, y1, q⟩
        refine ⟨fun hc => ?_, fun hc => ?_⟩ -- c6
        · -- case (¬ a2 = (-1))
          refine ⟨fun hc => ?_, fun hc => ?_⟩ -- c7
          · -- case (¬ a2 = 20)
            refine ⟨by omega, ?_⟩ -- s4: (0 ≤ a2 ∧ a2 < 12)
            -- l5: Q (A50 (o + 46) a2) F49 A50
            refine ⟨eR _ ?_, m1.trans y5⟩
            omega
          · -- case ¬ (¬ a2 = 20)
            -- l6: Q (F49 3231 o) F49 A50
            refine ⟨eR _ ?_, m1.trans y5⟩
            rw [if_pos (by omega)]; exact y3
        · -- case ¬ (¬ a2 = (-1))
          -- l7: Q z48 F49 A50
          refine ⟨eR _ ?_, m1.trans y5⟩
          rw [if_neg (by omega), if_pos (by omega)]; exact y2
      · -- case ¬ (a2 = 20)
        refine ⟨by omega, ?_⟩ -- s5: (0 ≤ a1 ∧ a1 < 264)
        refine ⟨by have := hRk.1; omega, ?_⟩ -- s6: jR ((A (o + 30) a1) - 1)
        refine ⟨_, sX9_is, ?_⟩ -- call wpX9_is o a2 0 ((A (o + 30) a1) - 1) F A P59
        intro z61 p59
        refine ⟨fun hc => ?_, fun hc => ?_⟩ -- c8
        · -- case (¬ z61 = 0)
          refine ⟨by omega, ?_⟩ -- s7: (0 ≤ a1 ∧ a1 < 264)
          refine ⟨_, sX9_firstPerm (by have := hRk.1; omega), ?_⟩ -- call wpX9_firstPerm o (A (o + 30) a1) F A P66
          intro F69 A70 p66
          obtain ⟨q1, q2, q3⟩ := p66
          intro F74 e74
          intro F76 e76
          have m1 : mfr o F A F76 A70 := ⟨fun f b hb => by rw [e76, e74, q1, show ∀ (G : jFl) (g : Nat) y, 3222 ≤ g → g ≤ 3231 → upF G g o y f b = G f b from fun G g y _ _ => if_neg (fun w => by have := hb w.2; omega), show ∀ (G : jFl) (g : Nat) y, 3222 ≤ g → g ≤ 3231 → upF G g o y f b = G f b from fun G g y _ _ => if_neg (fun w => by have := hb w.2; omega), show ∀ (G : jFl) (g : Nat) y, 3222 ≤ g → g ≤ 3231 → upF G g o y f b = G f b from fun G g y _ _ => if_neg (fun w => by have := hb w.2; omega)] <;> decide, fun b hb => q3 b (by omega)⟩
          refine ⟨_, sX9_exchanged (a := 0) (k := a1) (n := L 2 a1 0) (P0 := fun j => j) (h0.fr m1) (by unfold gOk; rw [if_pos rfl]; exact ⟨hl, rfl, fun j j0 j1 => ⟨j0, j1⟩⟩) (by rw [e76, upF_f (by decide), e74, upF_s]) (by rw [e76, upF_s]) (by rw [e76, upF_f (by decide), e74, upF_f (by decide), q1, upF_s]) (fun j j0 j1 => q2 j j0 j1), ?_⟩ -- call wpX9_exchanged o F76 A70 P78
          intro z80 F81 A82 p78
          obtain ⟨⟨c, y1, y2, y3, y4⟩, y5⟩ := p78
          rw [eG] at y1 y2 y4
          have eR : ∀ z, z = (if a2 = 20 then (c : Int) else if a2 = -1 then (sMd (sGd W L a1) (fun j => j) (L 2 a1 0) c).2 else if 0 ≤ a2 ∧ a2 < L 2 a1 0 then (sMd (sGd W L a1) (fun j => j) (L 2 a1 0) c).1 a2 else -1) → rMended W L a1 a2 z := fun z q => by
            unfold rMended
            rw [if_pos h1]
            exact ⟨c, y1, q⟩
          refine ⟨fun hc => ?_, fun hc => ?_⟩ -- c9
          · -- case (¬ a2 = (-1))
            refine ⟨fun hc => ?_, fun hc => ?_⟩ -- c10
            · -- case (¬ a2 = 20)
              refine ⟨?_, ?_⟩ -- s8: (0 ≤ a2 ∧ a2 < 12)
              · have hr : 0 ≤ a2 ∧ a2 < L 2 a1 0 := by grind
                have := hRk.1; omega
              -- l8: Q (A82 (o + 46) a2) F81 A82
              refine ⟨eR _ ?_, m1.trans y5⟩
              have hr : 0 ≤ a2 ∧ a2 < L 2 a1 0 := by grind
              rw [if_neg (by omega), if_neg (by omega), if_pos hr]; exact y4 a2 hr.1 hr.2
            · -- case ¬ (¬ a2 = 20)
              -- l9: Q (F81 3231 o) F81 A82
              refine ⟨eR _ ?_, m1.trans y5⟩
              rw [if_pos (by omega)]; exact y3
          · -- case ¬ (¬ a2 = (-1))
            -- l10: Q z80 F81 A82
            refine ⟨eR _ ?_, m1.trans y5⟩
            rw [if_neg (by omega), if_pos (by omega)]; exact y2
        · -- case ¬ (¬ z61 = 0)
          -- l11: Q (-1) F A
          refine ⟨?_, mfr.refl _ _ _⟩
          unfold rMended
          rw [if_pos h1]
          obtain ⟨c, hc1⟩ := sMdE_ex (G := sGd W L a1) (P0 := fun j => j) (n := L 2 a1 0) (m := 10) (by omega) (fun P => sGd_range hk P)
          exact ⟨c, hc1, by rw [if_neg (by omega), if_neg (by omega), if_neg (by grind)]⟩

