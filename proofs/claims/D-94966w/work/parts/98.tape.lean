set_option maxRecDepth 100000
set_option linter.unusedVariables false
/-! the tape, the seed -/
def qLen (Q : sMi) (n : Int) : sMi := fun k i => if k = 0 then n else Q k i
def qSeed (Q : sMi) (s : Int) : sMi := fun k i => if k = 5 then s else Q k i
def qPut1 (Q : sMi) (b : Int) : sMi := fun k i => if k = 0 then Q 0 0 + 1 else if k = 1 ∧ i = Q 0 0 then b else Q k i
def qPutN (Q : sMi) (a : Int) (j : Nat) : sMi := it (fun k P => qPut1 P (a / 2 ^ (24 - 8 * k).toNat % 256)) Q j
theorem qPutN_len {Q : sMi} {a : Int} (j : Nat) : qPutN Q a j 0 0 = Q 0 0 + j := by
  unfold qPutN
  exact it_inv (f := fun k (P : sMi) => qPut1 P (a / 2 ^ (24 - 8 * k).toNat % 256)) (fun k (P : sMi) => P 0 0 = Q 0 0 + k) (by omega) (fun k k0 k1 P hP => by show P 0 0 + 1 = _; omega)
theorem qPutN_succ {Q : sMi} {a : Int} (j : Nat) : qPutN Q a (j + 1) = qPut1 (qPutN Q a j) (a / 2 ^ (24 - 8 * (j : Int)).toNat % 256) := rfl
def qPut (Q : sMi) (a : Int) : sMi := qPutN Q a 4
theorem qPut_len {Q : sMi} {a : Int} : qPut Q a 0 0 = Q 0 0 + 4 := qPutN_len 4
def qFeed (Q : sMi) (a b c d e : Int) : sMi := qPut (qPut (qPut (qPut (qPut Q a) b) c) d) e
theorem qFeed_len {Q : sMi} {a b c d e : Int} : qFeed Q a b c d e 0 0 = Q 0 0 + 20 := by
  unfold qFeed
  rw [qPut_len, qPut_len, qPut_len, qPut_len, qPut_len]
  omega
theorem mMi.put1 {R : Int} {o : Nat} {F : jFl} {A : jAr} {Q : sMi} (h : mMi R o F A Q) (hn : Q 0 0 < 1600) {b : Int} (hb : 0 ≤ b ∧ b ≤ 255) : mMi R o (upF F 3003 o (F 3003 o + 1)) (upA A (o + 1) (F 3003 o) b) (qPut1 Q b) := by
  obtain ⟨g1, g2, g3, g4, g5, g6, g7⟩ := h
  have e0 : qPut1 Q b 0 0 = Q 0 0 + 1 := rfl
  have e1 : ∀ i, qPut1 Q b 1 i = if i = Q 0 0 then b else Q 1 i := fun i => by simp [qPut1]
  have e2 : ∀ k i, 2 ≤ k → qPut1 Q b k i = Q k i := fun k i hk => by
    unfold qPut1
    rw [if_neg (by omega), if_neg (by omega)]
  unfold mMi
  rw [e0, upF_s, upF_f (by decide), upF_f (by decide), upF_f (by decide), upF_f (by decide), e2 3 0 (by decide), e2 4 0 (by decide), e2 5 0 (by decide), e2 6 0 (by decide), upA_o (b := o + 27) (by omega), upA_o (b := o + 48) (by omega)]
  refine ⟨by omega, fun i i0 i1 => ?_, fun r r0 r1 => by rw [e2 2 r (by decide)]; exact g3 r r0 r1, g4, g5, g6, fun k k0 k1 => by rw [e2 7 k (by decide)]; exact g7 k k0 k1⟩
  rw [e1]
  by_cases w : i = Q 0 0
  · rw [if_pos w, w, ← g1.1, upA_s]; exact ⟨rfl, hb⟩
  · rw [if_neg w, upA_i (by omega)]; exact g2 i i0 (by omega)
theorem cMi.put1 {R : Int} {x : Nat} {F : jFl} {A : jAr} {Q : sMi} (h : cMi R x F A Q) (hn : Q 0 0 < 1600) {b : Int} (hb : 0 ≤ b ∧ b ≤ 255) : cMi R x (upF F 303 x (F 303 x + 1)) (upA A (x + 1) (F 303 x) b) (qPut1 Q b) := by
  obtain ⟨g1, g2, g3, g4, g5, g6⟩ := h
  have e0 : qPut1 Q b 0 0 = Q 0 0 + 1 := rfl
  have e1 : ∀ i, qPut1 Q b 1 i = if i = Q 0 0 then b else Q 1 i := fun i => by simp [qPut1]
  have e2 : ∀ k i, 2 ≤ k → qPut1 Q b k i = Q k i := fun k i hk => by
    unfold qPut1
    rw [if_neg (by omega), if_neg (by omega)]
  unfold cMi
  rw [e0, upF_s, upF_f (by decide), upF_f (by decide), upF_f (by decide), upF_f (by decide), e2 3 0 (by decide), e2 4 0 (by decide), e2 5 0 (by decide), upA_o (b := x + 2) (by omega)]
  refine ⟨by omega, fun i i0 i1 => ?_, fun r r0 r1 => by rw [e2 2 r (by decide)]; exact g3 r r0 r1, g4, g5, g6⟩
  rw [e1]
  by_cases w : i = Q 0 0
  · rw [if_pos w, w, ← g1.1, upA_s]; exact ⟨rfl, hb⟩
  · rw [if_neg w, upA_i (by omega)]; exact g2 i i0 (by omega)
theorem mMi.len {R : Int} {o : Nat} {F : jFl} {A : jAr} {Q : sMi} (h : mMi R o F A Q) {n : Int} (hn : 0 ≤ n ∧ n ≤ Q 0 0) : mMi R o (upF F 3003 o n) A (qLen Q n) := by
  obtain ⟨g1, g2, g3, g4, g5, g6, g7⟩ := h
  have e0 : qLen Q n 0 0 = n := rfl
  unfold mMi
  rw [e0, upF_s, upF_f (by decide), upF_f (by decide), upF_f (by decide), upF_f (by decide)]
  exact ⟨by omega, fun i i0 i1 => g2 i i0 (by omega), g3, g4, g5, g6, g7⟩
theorem cMi.len {R : Int} {x : Nat} {F : jFl} {A : jAr} {Q : sMi} (h : cMi R x F A Q) {n : Int} (hn : 0 ≤ n ∧ n ≤ Q 0 0) : cMi R x (upF F 303 x n) A (qLen Q n) := by
  obtain ⟨g1, g2, g3, g4, g5, g6⟩ := h
  have e0 : qLen Q n 0 0 = n := rfl
  unfold cMi
  rw [e0, upF_s, upF_f (by decide), upF_f (by decide), upF_f (by decide), upF_f (by decide)]
  exact ⟨by omega, fun i i0 i1 => g2 i i0 (by omega), g3, g4, g5, g6⟩
theorem mMi.seed {R : Int} {o : Nat} {F : jFl} {A : jAr} {Q : sMi} (h : mMi R o F A Q) {s : Int} (hs : 0 ≤ s ∧ s < 2147483648) : mMi R o (upF F 3160 o s) A (qSeed Q s) := by
  obtain ⟨g1, g2, g3, g4, g5, g6, g7⟩ := h
  have e0 : qSeed Q s 5 0 = s := rfl
  unfold mMi
  rw [e0, upF_s, upF_f (by decide), upF_f (by decide), upF_f (by decide), upF_f (by decide)]
  exact ⟨g1, g2, g3, g4, ⟨rfl, hs⟩, g6, g7⟩
theorem cMi.seed {R : Int} {x : Nat} {F : jFl} {A : jAr} {Q : sMi} (h : cMi R x F A Q) {s : Int} (hs : 0 ≤ s ∧ s < 2147483648) : cMi R x (upF F 319 x s) A (qSeed Q s) := by
  obtain ⟨g1, g2, g3, g4, g5, g6⟩ := h
  have e0 : qSeed Q s 5 0 = s := rfl
  unfold cMi
  rw [e0, upF_s, upF_f (by decide), upF_f (by decide), upF_f (by decide), upF_f (by decide)]
  exact ⟨g1, g2, g3, g4, ⟨rfl, hs⟩, g6⟩
/-- only the model's misc is another -/
theorem mst.mi {R R' : Int} {o : Nat} {F F' : jFl} {A A' : jAr} {W L : sTb} {B : sBk} {U : sUn} {Q Q' : sMi} (h : mst R o F A W L B U Q) (hF : ∀ f, f = 3039 ∨ f = 3186 ∨ f = 3153 ∨ f = 3156 → F' f o = F f o) (hA : ∀ k : Nat, 2 ≤ k → k ≤ 35 → k ≠ 27 → A' (o + k) = A (o + k)) (hM : mMi R' o F' A' Q') : mst R' o F' A' W L B U Q' := by
  obtain ⟨⟨⟨hk, hW, hL, hh, hv⟩, h9⟩, hB, hU, _⟩ := h
  exact ⟨⟨⟨hk, hW.of (hF _ (by decide)) (fun k k0 k1 => hA k (by omega) (by omega) (by omega)), hL.of (fun k k0 k1 => hA k (by omega) (by omega) (by omega)), by rw [hF _ (by decide)]; exact hh, hv⟩, h9⟩, hB.of (hA 34 (by decide) (by decide) (by decide)) (hA 35 (by decide) (by decide) (by decide)), hU.fr hk.1 (hF _ (by decide)) (hF _ (by decide)) (fun k k0 k1 => hA k (by omega) (by omega) (by omega)), hM⟩
