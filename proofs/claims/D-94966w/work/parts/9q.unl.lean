set_option maxRecDepth 100000
set_option linter.unusedVariables false
/-! unlike sayings: plain words, the component's becomes; printed by gen/prove.py out of spec/9q.unl.spec -/
abbrev sUnT : Type := Int × (Int → Int) × (Int → Int) × (Int → sRow)
noncomputable def sUnR (W L : sTb) (l c : Int) : sRow := sSayR W c (sRw L l) (sHolds W L c l)
noncomputable def sUnI (W L : sTb) (l c : Int) (st : sUnT) : Int := sFirst (fun j => sAlike (st.2.2.2 j) (sUnR W L l c)) st.1.toNat
noncomputable def sUnF (W L : sTb) (l : Int) : Int → sUnT → sUnT := fun c st => if sUnI W L l c st = -1 then (st.1 + 1, upI st.2.1 st.1 c, upI st.2.2.1 st.1 1, upI st.2.2.2 st.1 (sUnR W L l c)) else (st.1, st.2.1, upI st.2.2.1 (sUnI W L l c st) (st.2.2.1 (sUnI W L l c st) + 1), st.2.2.2)
noncomputable def sUnl (W L : sTb) (l n : Int) : sUnT := it (sUnF W L l) (0, fun _ => 0, fun _ => 0, fun _ => (0, 0, fun _ => 0)) n.toNat
theorem sUnl_succ {W L : sTb} {l n : Int} (h : 0 ≤ n) : sUnl W L l (n + 1) = sUnF W L l n (sUnl W L l n) := it_succ _ _ h
theorem sFirst_range {p : Int → Prop} {n : Nat} : sFirst p n = -1 ∨ (0 ≤ sFirst p n ∧ sFirst p n < n) := by
  unfold sFirst
  exact it_inv (fun k r => r = -1 ∨ (0 ≤ r ∧ r < k)) (Or.inl rfl) (fun k h0 h1 s hs => by
    by_cases q : s = -1 ∧ p k
    · rw [cif_pos q]; omega
    · rw [cif_neg q]; omega)
theorem sUnR_ok {W L : sTb} {l c : Int} (hW : sWok W) (hk : sLok W L) (hl : 0 ≤ l ∧ l < W 3 0 0) (hc : 0 ≤ c ∧ c < W 2 0 0) : sRok (W 0 0 0) (sUnR W L l c) := sSayR_ok hW hc (sRw_ok hk hl)
theorem sUnl_ok {W L : sTb} {l n : Int} (hW : sWok W) (hk : sLok W L) (hl : 0 ≤ l ∧ l < W 3 0 0) (hn : 0 ≤ n ∧ n ≤ W 2 0 0) : (0 ≤ (sUnl W L l n).1 ∧ (sUnl W L l n).1 ≤ n) ∧ ∀ j : Int, 0 ≤ j → j < (sUnl W L l n).1 → (0 ≤ (sUnl W L l n).2.2.1 j ∧ (sUnl W L l n).2.2.1 j ≤ n) ∧ (0 ≤ (sUnl W L l n).2.1 j ∧ (sUnl W L l n).2.1 j ≤ 10) ∧ sRok (W 0 0 0) ((sUnl W L l n).2.2.2 j) := by
  have w2 := hW.2.2.1
  have e := it_inv (f := sUnF W L l) (a := ((0 : Int), (fun _ => (0 : Int)), (fun _ => (0 : Int)), (fun _ => (((0 : Int), (0 : Int), (fun _ => (0 : Int))) : sRow)))) (n := n.toNat) (fun k st => (0 ≤ st.1 ∧ st.1 ≤ k) ∧ ∀ j : Int, 0 ≤ j → j < st.1 → (0 ≤ st.2.2.1 j ∧ st.2.2.1 j ≤ k) ∧ (0 ≤ st.2.1 j ∧ st.2.1 j ≤ 10) ∧ sRok (W 0 0 0) (st.2.2.2 j)) ⟨by dsimp only; omega, fun j j0 j1 => by dsimp only at j1; omega⟩ (fun k k0 k1 st hst => by
    obtain ⟨g1, g2⟩ := hst
    unfold sUnF
    by_cases q : sUnI W L l k st = -1
    · rw [if_pos q]
      refine ⟨by dsimp only; omega, fun j j0 j1 => ?_⟩
      dsimp only at j1 ⊢
      by_cases w : j = st.1
      · rw [w, upI_s, upI_s, upI_s]
        exact ⟨by omega, by omega, sUnR_ok hW hk hl ⟨k0, by omega⟩⟩
      · rw [upI_n w, upI_n w, upI_n w]
        have := g2 j j0 (by omega)
        exact ⟨by omega, this.2⟩
    · rw [if_neg q]
      refine ⟨by dsimp only; omega, fun j j0 j1 => ?_⟩
      dsimp only at j1 ⊢
      have := g2 j j0 j1
      by_cases w : j = sUnI W L l k st
      · rw [← w, upI_s]; exact ⟨by omega, this.2⟩
      · rw [upI_n w]; exact ⟨by omega, this.2⟩)
  rw [show ((n.toNat : Nat) : Int) = n by omega] at e
  exact e
noncomputable def rBecomes (W L : sTb) (l k first : Int) : Int := if (0 ≤ l ∧ l < W 3 0 0 ∧ 0 < L 2 l 0) ∧ 0 < W 2 0 0 then (if k = -1 then (sUnl W L l (W 2 0 0)).1 else if 0 ≤ k ∧ k < (sUnl W L l (W 2 0 0)).1 then (if first = 0 then (sUnl W L l (W 2 0 0)).2.2.1 k else (sUnl W L l (W 2 0 0)).2.1 k) else -1) else -1
set_option maxHeartbeats 1000000 in
theorem sX5_of {o : Nat} {a1 : Int} {N : jSh} {F : jFl} {A : jAr} {W L : sTb} {x t : Nat} {wA sA cA lA : Int → Int} {l : Int} (hx : ctx N F A x t W L wA sA cA lA) (hy : lay N x) (hs : ∀ k : Nat, k < 10 → A (x + 54) k = ((x + 57 + 3 * k : Nat) : Int)) (ho : o = x + 53) (ha1 : a1 = lA l) (hl : 0 ≤ l ∧ l < W 3 0 0) : wqX5_of o a1 N F A (fun z F' A' => z = (o : Int) ∧ (F' 1809 o = (sUnl W L l (W 2 0 0)).1 ∧ ∀ j : Int, 0 ≤ j → j < (sUnl W L l (W 2 0 0)).1 → A' (x + 55) j = (sUnl W L l (W 2 0 0)).2.1 j ∧ A' (x + 56) j = (sUnl W L l (W 2 0 0)).2.2.1 j) ∧ A' (x + 54) = A (x + 54) ∧ fr (x + 53) (x + 87) F A F' A') := by
  unfold wqX5_of
  subst ho
  have hWk := hx.oW
  have hLk := hx.oL
  have w2 := hWk.2.2.1
  have sc := hy.scr.mono (lo2 := x + 53) (hi2 := x + 87) (by omega) (by omega)
  have l54 := hy.2.2 (54, 10) (by decide)
  have l55 := hy.2.2 (55, 10) (by decide)
  have l56 := hy.2.2 (56, 10) (by decide)
  dsimp only at l54 l55 l56
  have t54 : jtg N (x + 54) = 110 := (hy.1 54 (by decide)).1
  have t55 : jtg N (x + 55) = 102 := (hy.1 55 (by decide)).1
  have t56 : jtg N (x + 56) = 102 := (hy.1 56 (by decide)).1
  have p02 : jfn N 1802 (x + 53) = ((x + 54 : Nat) : Int) := hy.2.1 (1802, 53, 54) (by decide)
  have p05 : jfn N 1805 (x + 53) = ((x + 55 : Nat) : Int) := hy.2.1 (1805, 53, 55) (by decide)
  have p08 : jfn N 1808 (x + 53) = ((x + 56 : Nat) : Int) := hy.2.1 (1808, 53, 56) (by decide)
  have p14 : jfn N 1814 (x + 53) = ((x : Nat) : Int) := hy.2.1 (1814, 53, 0) (by decide)
  refine ⟨by exact (hy.1 53 (by decide)).2, ?_⟩ -- s1: jfn N 0 o = 1
  intro F3 e3
  refine ⟨fun (v4 : Int) (F5 : jFl) (A6 : jAr) => (0 ≤ v4 ∧ v4 ≤ W 2 0 0) ∧ (F5 1809 (x + 53) = (sUnl W L l v4).1 ∧ ∀ j : Int, 0 ≤ j → j < (sUnl W L l v4).1 → A6 (x + 55) j = (sUnl W L l v4).2.1 j ∧ A6 (x + 56) j = (sUnl W L l v4).2.2.1 j ∧ rowIs N F5 A6 wA (x + 58 + 3 * j.toNat) ((sUnl W L l v4).2.2.2 j)) ∧ A6 (x + 54) = A (x + 54) ∧ fr (x + 53) (x + 87) F A F5 A6, fun v4 F5 A6 => (W 2 0 0 - v4).toNat, ?_, ?_⟩ -- loop I9 I9 0 F3 A
  ·
    -- l1: I9 0 F3 A
    refine ⟨by omega, ⟨by rw [e3, upF_s]; rfl, fun j j0 j1 => ?_⟩, rfl, by rw [e3]; exact (fr.refl _ _ _ _).upF (by omega)⟩
    have : j < 0 := j1
    omega
  intro v4 F5 A6 i9
  obtain ⟨i1, ⟨i2, i3⟩, i4, i5⟩ := i9
  have hx1 := hx.fr sc i5
  obtain ⟨ok1, ok2⟩ := sUnl_ok (l := l) hWk hLk hl i1
  have es := sUnl_succ (W := W) (L := L) (l := l) i1.1
  generalize hU : sUnl W L l v4 = U at *
  have hs1 : ∀ k : Nat, k < 10 → A6 (x + 54) k = ((x + 57 + 3 * k : Nat) : Int) := by rw [i4]; exact hs
  refine ⟨_, by exact p14, ?_⟩ -- d11: jfn N 1814 o = (b11 : Int)
  refine ⟨by exact hx.tx, ?_⟩ -- s2: jtg N b11 = 1
  refine ⟨_, by exact hx1.ft, ?_⟩ -- d14: F5 311 b11 = (b14 : Int)
  refine ⟨by exact hx.tt, ?_⟩ -- s3: jtg N b14 = 2
  refine ⟨_, by exact hx.nC, ?_⟩ -- d17: jfn N 623 b14 = (b17 : Int)
  refine ⟨by exact hx1.lC.1.1, ?_⟩ -- s4: jtg N b17 = 20
  refine ⟨_, sJ2_size hx1.lC, ?_⟩ -- call wqJ2_size b17 N F5 A6 P20
  intro z22 p20
  refine ⟨fun hc => ?_, fun hc => ?_⟩ -- c1
  · -- case (z22 ≤ v4)
    -- l2: Q (o : Int) F5 A6
    have e : v4 = W 2 0 0 := by omega
    rw [e] at hU
    rw [hU]
    exact ⟨rfl, ⟨i2, fun j j0 j1 => ⟨(i3 j j0 j1).1, (i3 j j0 j1).2.1⟩⟩, i4, i5⟩
  · -- case (¬ (z22 ≤ v4))
    have hv : 0 ≤ v4 ∧ v4 < W 2 0 0 := by omega
    obtain ⟨n0, hn0⟩ : ∃ n0 : Nat, U.1 = (n0 : Int) := ⟨U.1.toNat, by omega⟩
    obtain ⟨ch, ch1, ch2⟩ := hx1.ch hv
    refine ⟨_, by exact p02, ?_⟩ -- d28: jfn N 1802 o = (b28 : Int)
    refine ⟨by exact t54, ?_⟩ -- s5: jtg N b28 = 110
    refine ⟨by rw [i2, l54]; omega, ?_⟩ -- s6: ((0 : Int) ≤ F5 1809 o ∧ (F5 1809 o : Int) < (jln N b28 : Int))
    refine ⟨_, sJ2_get hx1.lC hv, ?_⟩ -- call wqJ2_get b17 v4 N F5 A6 P32
    intro z34 p32
    refine ⟨by exact jcst_child (p32.trans ch1) ch2.1.1, ?_⟩ -- s7: jcst N "ChildSays$Child" z34
    refine ⟨_, by rw [i2, hn0]; exact hs1 n0 (by omega), ?_⟩ -- d40: A6 b28 (F5 1809 o) = (b40 : Int)
    refine ⟨by (have e := (hy.1 (57 + 3 * n0) (by omega)).1; rw [Nat.add_assoc, e]; exact (sayUa n0 (by omega)).2.1), ?_⟩ -- s8: jtg N b40 = 3
    refine ⟨_, sX2_of (c := v4) (l := l) hx1 (by rw [Nat.add_assoc]; exact sayU hy (k := n0) (by omega)) (sc.mono (by omega) (by omega)) p32 hv ha1 hl, ?_⟩ -- call wqX2_of b40 z34 a1 N F5 A6 P43
    intro z45 F46 A47 p43
    obtain ⟨q1, q2, q3⟩ := p43
    have q2 : rowIs N F46 A47 wA (x + 57 + 3 * n0 + 1) (sUnR W L l v4) := q2.2
    have hx2 := hx1.fr (sc.mono (by omega) (by omega)) q3
    have f9 : F46 1809 (x + 53) = (n0 : Int) := by rw [(q3 (x + 53) (by omega)).1, i2, hn0]
    have i42 : A47 (x + 54) = A (x + 54) := by rw [(q3 (x + 54) (by omega)).2, i4]
    have hs2 : ∀ k : Nat, k < 10 → A47 (x + 54) k = ((x + 57 + 3 * k : Nat) : Int) := by rw [i42]; exact hs
    have i32 : ∀ j : Int, 0 ≤ j → j < U.1 → rowIs N F46 A47 wA (x + 58 + 3 * j.toNat) (U.2.2.2 j) := fun j j0 j1 => (i3 j j0 j1).2.2.fr q3 (by omega) (by omega)
    have i33 : ∀ j : Int, 0 ≤ j → j < U.1 → A47 (x + 55) j = U.2.1 j ∧ A47 (x + 56) j = U.2.2.1 j := fun j j0 j1 => by
      rw [(q3 (x + 55) (by omega)).2, (q3 (x + 56) (by omega)).2]
      exact ⟨(i3 j j0 j1).1, (i3 j j0 j1).2.1⟩
    have ruk := sUnR_ok (c := v4) hWk hLk hl hv
    have hwd := hx2.wd
    refine ⟨fun (v52 : Int) => (0 ≤ v52 ∧ v52 ≤ U.1) ∧ ∀ j : Int, 0 ≤ j → j < v52 → ¬ sAlike (U.2.2.2 j) (sUnR W L l v4), fun v52 => (U.1 - v52).toNat, ?_, ?_⟩ -- loop I54 I54 0
    ·
      -- l3: I54 0
      exact ⟨by omega, fun j j0 j1 => by omega⟩
    intro v52 i54
    obtain ⟨⟨u0, u1⟩, u2⟩ := i54
    obtain ⟨m0, hm0⟩ : ∃ m0 : Nat, v52 = (m0 : Int) := ⟨v52.toNat, by omega⟩
    have hrm : rowIs N F46 A47 wA (x + 58 + 3 * m0) (if m0 = n0 then sUnR W L l v4 else U.2.2.2 v52) := by
      by_cases w : m0 = n0
      · rw [if_pos w, w, show x + 58 + 3 * n0 = x + 57 + 3 * n0 + 1 by omega]; exact q2
      · rw [if_neg w]
        have := i32 v52 u0 (by omega)
        rw [show v52.toNat = m0 by omega] at this
        exact this
    have hrk : sRok (W 0 0 0) (if m0 = n0 then sUnR W L l v4 else U.2.2.2 v52) := by
      by_cases w : m0 = n0
      · rw [if_pos w]; exact ruk
      · rw [if_neg w]; exact (ok2 v52 u0 (by omega)).2.2
    refine ⟨by rw [l54]; omega, ?_⟩ -- s9: ((0 : Int) ≤ v52 ∧ (v52 : Int) < (jln N b28 : Int))
    refine ⟨_, by rw [hm0]; exact hs2 m0 (by omega), ?_⟩ -- d57: A47 b28 v52 = (b57 : Int)
    refine ⟨by (have e := (hy.1 (57 + 3 * m0) (by omega)).1; rw [Nat.add_assoc, e]; exact (sayUa m0 (by omega)).2.1), ?_⟩ -- s10: jtg N b57 = 3
    refine ⟨by rw [l54, f9]; omega, ?_⟩ -- s11: ((0 : Int) ≤ F46 1809 o ∧ (F46 1809 o : Int) < (jln N b28 : Int))
    refine ⟨_, by rw [f9]; exact hs2 n0 (by omega), ?_⟩ -- d61: A47 b28 (F46 1809 o) = (b61 : Int)
    refine ⟨by (have e := (hy.1 (57 + 3 * n0) (by omega)).1; rw [Nat.add_assoc, e]; exact (sayUa n0 (by omega)).2.1), ?_⟩ -- s12: jtg N b61 = 3
    have sm := sayU hy (k := m0) (by omega)
    have sn := sayU hy (k := n0) (by omega)
    rw [← Nat.add_assoc] at sm sn
    refine ⟨_, by exact sm.2.2.1, ?_⟩ -- d64: jfn N 902 b57 = (b64 : Int)
    refine ⟨by rw [show x + 57 + 3 * m0 + 1 = x + 58 + 3 * m0 by omega]; exact hrm.1.1, ?_⟩ -- s13: jtg N b64 = 4
    refine ⟨_, sX3_isLike sn.2.2.1 (by rw [show x + 57 + 3 * m0 + 1 = x + 58 + 3 * m0 by omega]; exact hrm) hrk q2 ruk hwd, ?_⟩ -- call wqX3_isLike b64 (jfn N 902 b61) N F46 A47 P67
    intro z69 p67
    have hse : ¬ z69 = 0 → sUnI W L l v4 U = (if m0 = n0 then -1 else v52) := fun hz => by
      unfold sUnI
      by_cases w : m0 = n0
      · rw [if_pos w]
        exact sFirst_none (fun j j0 j1 => u2 j j0 (by omega))
      · rw [if_neg w]
        rw [if_neg w] at p67
        refine sFirst_some u0 (by omega) ?_ u2
        by_cases a : sAlike (U.2.2.2 v52) (sUnR W L l v4)
        · exact a
        · rw [cif_neg a] at p67; exact absurd p67 hz
    refine ⟨fun hc => ?_, fun hc => ?_⟩ -- c2
    · -- case (¬ z69 = 0)
      refine ⟨fun (F76 : jFl) (A77 : jAr) => F76 1809 (x + 53) = (if m0 = n0 then U.1 + 1 else U.1) ∧ (∀ j : Int, 0 ≤ j → j < U.1 → A77 (x + 55) j = U.2.1 j ∧ A77 (x + 56) j = U.2.2.1 j) ∧ (m0 = n0 → A77 (x + 55) v52 = v4 ∧ A77 (x + 56) v52 = 0) ∧ (∀ b, b ≠ x + 55 → b ≠ x + 56 → A77 b = A47 b) ∧ ∀ f b, ¬ (f = 1809 ∧ b = x + 53) → F76 f b = F46 f b, ?_, ?_⟩ -- join K80
      · intro F76 A77 k80
        obtain ⟨k1, k2, k3, k4, k5⟩ := k80
        refine ⟨_, by exact p08, ?_⟩ -- d83: jfn N 1808 o = (b83 : Int)
        refine ⟨by exact t56, ?_⟩ -- s14: jtg N b83 = 102
        refine ⟨by rw [l56]; omega, ?_⟩ -- s15: ((0 : Int) ≤ v52 ∧ (v52 : Int) < (jln N b83 : Int))
        refine ⟨by exact (hy.1 56 (by decide)).2, ?_⟩ -- s16: jfn N 0 b83 = 1
        refine ⟨by rw [l56]; omega, ?_⟩ -- s17: ((0 : Int) ≤ v52 ∧ (v52 : Int) < (jln N b83 : Int))
        have rg : 0 ≤ A77 (x + 56) v52 ∧ A77 (x + 56) v52 ≤ 10 := by
          by_cases w : m0 = n0
          · rw [(k3 w).2]; omega
          · have := (ok2 v52 u0 (by omega)).1
            rw [(k2 v52 u0 (by omega)).2]; omega
        refine ⟨by omega, ?_⟩ -- s18: jR ((A77 b83 v52) + 1)
        intro A89 e89
        refine ⟨by omega, ?_⟩ -- s19: jR (v4 + 1)
        refine ⟨?_, ?_⟩ -- l4: I9 (v4 + 1) F76 A89
        · refine ⟨by omega, ?_, by rw [e89, upA_o (by omega), k4 _ (by omega) (by omega), i42], ?_⟩
          · rw [es]
            unfold sUnF
            rw [hse hc]
            by_cases w : m0 = n0
            · rw [if_pos w, if_pos rfl]
              rw [if_pos w] at k1
              refine ⟨k1, fun j j0 j1 => ?_⟩
              dsimp only at j1 ⊢
              have hv52 : v52 = U.1 := by omega
              by_cases wj : j = U.1
              · rw [wj, upI_s, upI_s, upI_s]
                obtain ⟨y1, y2⟩ := k3 w
                rw [hv52] at y1 y2 e89
                rw [e89, upA_o (by omega), upA_s, y1, y2]
                refine ⟨rfl, rfl, ?_⟩
                rw [show x + 58 + 3 * U.1.toNat = x + 57 + 3 * n0 + 1 by omega]
                exact q2.of (k5 _ _ (by omega)) (k5 _ _ (by omega)) (by rw [upA_o (by omega), k4 _ (by omega) (by omega)])
              · rw [upI_n wj, upI_n wj, upI_n wj]
                obtain ⟨y1, y2⟩ := k2 j j0 (by omega)
                rw [e89, upA_o (by omega), upA_i (by omega), y1, y2]
                exact ⟨rfl, rfl, (i32 j j0 (by omega)).of (k5 _ _ (by omega)) (k5 _ _ (by omega)) (by rw [upA_o (by omega), k4 _ (by omega) (by omega)])⟩
            · rw [if_neg w, if_neg (by omega)]
              rw [if_neg w] at k1
              refine ⟨k1, fun j j0 j1 => ?_⟩
              dsimp only at j1 ⊢
              obtain ⟨y1, y2⟩ := k2 j j0 j1
              have yr := (i32 j j0 j1).of (F' := F76) (A' := A89) (k5 _ _ (by omega)) (k5 _ _ (by omega)) (by rw [e89, upA_o (by omega), k4 _ (by omega) (by omega)])
              by_cases wj : j = v52
              · rw [wj] at y1 y2 yr ⊢
                rw [upI_s]
                refine ⟨by rw [e89, upA_o (by omega), y1], by rw [e89, upA_s, y2], yr⟩
              · rw [upI_n wj]
                exact ⟨by rw [e89, upA_o (by omega), y1], by rw [e89, upA_i wj, y2], yr⟩
          · refine (i5.trans (q3.mono (lo2 := x + 53) (hi2 := x + 87) (by omega) (by omega))).trans (fun a ha => ⟨fun f => k5 f a (by omega), by rw [e89, upA_o (by omega), k4 a (by omega) (by omega)]⟩)
        · dsimp only; omega
      refine ⟨fun hc => ?_, fun hc => ?_⟩ -- c3
      · -- case (¬ v52 = (F46 1809 o))
        -- l5: K80 F46 A47
        have w : ¬ m0 = n0 := by rw [f9, hm0] at hc; omega
        rw [if_neg w]
        exact ⟨by rw [f9, hn0], i33, fun q => absurd q w, fun _ _ _ => rfl, fun _ _ _ => rfl⟩
      · -- case (v52 = (F46 1809 o))
        refine ⟨_, by exact p05, ?_⟩ -- d93: jfn N 1805 o = (b93 : Int)
        refine ⟨by exact t55, ?_⟩ -- s20: jtg N b93 = 102
        refine ⟨by exact (hy.1 55 (by decide)).2, ?_⟩ -- s21: jfn N 0 b93 = 1
        refine ⟨by rw [l55, f9]; omega, ?_⟩ -- s22: ((0 : Int) ≤ F46 1809 o ∧ (F46 1809 o : Int) < (jln N b93 : Int))
        intro A98 e98
        refine ⟨_, by exact p08, ?_⟩ -- d100: jfn N 1808 o = (b100 : Int)
        refine ⟨by exact t56, ?_⟩ -- s23: jtg N b100 = 102
        refine ⟨by exact (hy.1 56 (by decide)).2, ?_⟩ -- s24: jfn N 0 b100 = 1
        refine ⟨by rw [l56, f9]; omega, ?_⟩ -- s25: ((0 : Int) ≤ F46 1809 o ∧ (F46 1809 o : Int) < (jln N b100 : Int))
        intro A105 e105
        refine ⟨by rw [f9]; omega, ?_⟩ -- s26: jR ((F46 1809 o) + 1)
        intro F109 e109
        -- l6: K80 F109 A105
        have w : m0 = n0 := by rw [f9, hm0] at hc; omega
        rw [if_pos w]
        rw [f9] at e98 e105 e109
        refine ⟨by rw [e109, upF_s, hn0], fun j j0 j1 => ?_, fun _ => ?_, fun b hb1 hb2 => by rw [e105, upA_o hb2, e98, upA_o hb1], fun f b hfb => by rw [e109]; exact if_neg hfb⟩
        · rw [e105, upA_o (by omega), upA_i (by omega), e98, upA_i (by omega), upA_o (by omega)]
          exact i33 j j0 j1
        · rw [hm0, w, e105, upA_o (by omega), upA_s, e98, upA_s]
          exact ⟨rfl, rfl⟩
    · -- case (z69 = 0)
      have wne : ¬ m0 = n0 := fun w => by
        rw [if_pos w, cif_pos sAlike.rfl'] at p67
        omega
      refine ⟨by omega, ?_⟩ -- s27: jR (v52 + 1)
      refine ⟨?_, ?_⟩ -- l7: I54 (v52 + 1)
      · refine ⟨by omega, fun j j0 j1 => ?_⟩
        by_cases wj : j = v52
        · have w : ¬ m0 = n0 := fun w => by
            rw [if_pos w] at p67
            rw [cif_pos sAlike.rfl'] at p67
            omega
          rw [if_neg w] at p67
          intro a
          rw [wj] at a
          rw [cif_pos a] at p67
          omega
        · exact u2 j j0 (by omega)
      · dsimp only; omega

theorem sX0_becomes_2 {o : Nat} {a1 : Int} {a2 : Int} {a3 : Int} {N : jSh} {F : jFl} {A : jAr} {W L : sTb} {t : Nat} {wA sA cA lA : Int → Int} (hx : ctx N F A o t W L wA sA cA lA) (hy : lay N o) (hs : sarr A o) : wqX0_becomes_2 o a1 a2 a3 N F A (fun z F' A' => z = rBecomes W L a1 a2 a3 ∧ sarr A' o ∧ fr (o + 53) (o + 87) F A F' A') := by
  unfold wqX0_becomes_2
  have hll : ∀ a : Int, 0 ≤ a ∧ a < W 3 0 0 → 0 ≤ lA a := fun a h => by obtain ⟨b, u1, -⟩ := hx.lw h; omega
  have w2 := hx.oW.2.2.1
  refine ⟨_, sX0_standingOf hx, ?_⟩ -- call wqX0_standingOf o a1 N F A P1
  intro z3 p1
  refine ⟨fun hc => ?_, fun hc => ?_⟩ -- c1
  · -- case (z3 < 0)
    -- l1: Q (-1) F A
    exact ⟨by unfold rBecomes; rw [if_neg (by grind)], hs, fr.refl _ _ _ _⟩
  · -- case (¬ (z3 < 0))
    have h1 : 0 ≤ a1 ∧ a1 < W 3 0 0 ∧ 0 < L 2 a1 0 := by grind
    rw [if_pos h1] at p1
    refine ⟨_, by exact hx.ft, ?_⟩ -- d9: F 311 o = (b9 : Int)
    refine ⟨by exact hx.tt, ?_⟩ -- s1: jtg N b9 = 2
    refine ⟨_, by exact hx.nC, ?_⟩ -- d12: jfn N 623 b9 = (b12 : Int)
    refine ⟨by exact hx.lC.1.1, ?_⟩ -- s2: jtg N b12 = 20
    refine ⟨_, sJ2_isEmpty hx.lC, ?_⟩ -- call wqJ2_isEmpty b12 N F A P15
    intro z17 p15
    refine ⟨fun hc => ?_, fun hc => ?_⟩ -- c2
    · -- case (z17 = 0)
      refine ⟨_, by exact hy.p335, ?_⟩ -- d23: jfn N 335 o = (b23 : Int)
      refine ⟨by exact (hy.1 53 (by decide)).1, ?_⟩ -- s3: jtg N b23 = 6
      refine ⟨_, sX5_of hx hy hs.2.2 rfl p1 ⟨h1.1, h1.2.1⟩, ?_⟩ -- call wqX5_of b23 z3 N F A P26
      intro z28 F29 A30 p26
      obtain ⟨q1, ⟨q2, q3⟩, q4, q5⟩ := p26
      have hn : 0 < W 2 0 0 := by
        by_cases w : W 2 0 0 = 0
        · rw [if_pos w] at p15; omega
        · omega
      obtain ⟨⟨ok0, ok1⟩, ok2⟩ := sUnl_ok (l := a1) hx.oW hx.oL ⟨h1.1, h1.2.1⟩ (n := W 2 0 0) (by omega)
      have hs' : sarr A30 o := sarr_of hs (q5 _ (by omega)).2 (q5 _ (by omega)).2 q4
      have r0 : rBecomes W L a1 a2 a3 = (if a2 = -1 then (sUnl W L a1 (W 2 0 0)).1 else if 0 ≤ a2 ∧ a2 < (sUnl W L a1 (W 2 0 0)).1 then (if a3 = 0 then (sUnl W L a1 (W 2 0 0)).2.2.1 a2 else (sUnl W L a1 (W 2 0 0)).2.1 a2) else -1) := if_pos ⟨h1, hn⟩
      refine ⟨fun hc => ?_, fun hc => ?_⟩ -- c3
      · -- case (¬ a2 = (-1))
        refine ⟨by rw [q2]; omega, ?_⟩ -- s4: jR ((F29 1809 b23) - 1)
        refine ⟨_, sX0_isIn, ?_⟩ -- call wqX0_isIn a2 0 ((F29 1809 b23) - 1) N F29 A30 P37
        intro z39 p37
        refine ⟨fun hc => ?_, fun hc => ?_⟩ -- c4
        · -- case (¬ z39 = 0)
          refine ⟨fun hc => ?_, fun hc => ?_⟩ -- c5
          · -- case (a3 = 0)
            refine ⟨_, by exact hy.2.1 (1808, 53, 56) (by decide), ?_⟩ -- d46: jfn N 1808 b23 = (b46 : Int)
            refine ⟨by exact (hy.1 56 (by decide)).1, ?_⟩ -- s5: jtg N b46 = 102
            have hr : 0 ≤ a2 ∧ a2 < (sUnl W L a1 (W 2 0 0)).1 := by rw [q2] at p37; grind
            refine ⟨by (have e := hy.2.2 (56, 10) (by decide)); dsimp only at e; rw [e]; omega, ?_⟩ -- s6: ((0 : Int) ≤ a2 ∧ (a2 : Int) < (jln N b46 : Int))
            -- l2: Q (A30 b46 a2) F29 A30
            refine ⟨?_, hs', q5⟩
            rw [r0, if_neg (by omega), if_pos hr, if_pos (by assumption)]
            exact (q3 a2 hr.1 hr.2).2
          · -- case (¬ (a3 = 0))
            refine ⟨_, by exact hy.2.1 (1805, 53, 55) (by decide), ?_⟩ -- d50: jfn N 1805 b23 = (b50 : Int)
            refine ⟨by exact (hy.1 55 (by decide)).1, ?_⟩ -- s7: jtg N b50 = 102
            have hr : 0 ≤ a2 ∧ a2 < (sUnl W L a1 (W 2 0 0)).1 := by rw [q2] at p37; grind
            refine ⟨by (have e := hy.2.2 (55, 10) (by decide)); dsimp only at e; rw [e]; omega, ?_⟩ -- s8: ((0 : Int) ≤ a2 ∧ (a2 : Int) < (jln N b50 : Int))
            -- l3: Q (A30 b50 a2) F29 A30
            refine ⟨?_, hs', q5⟩
            rw [r0, if_neg (by omega), if_pos hr, if_neg (by assumption)]
            exact (q3 a2 hr.1 hr.2).1
        · -- case (z39 = 0)
          -- l4: Q (-1) F29 A30
          refine ⟨?_, hs', q5⟩
          rw [r0, if_neg (by omega), if_neg (by rw [q2] at p37; grind)]
      · -- case (a2 = (-1))
        -- l5: Q (F29 1809 b23) F29 A30
        refine ⟨?_, hs', q5⟩
        rw [r0, if_pos (by omega), q2]
    · -- case (¬ (z17 = 0))
      -- l6: Q (-1) F A
      refine ⟨?_, hs, fr.refl _ _ _ _⟩
      unfold rBecomes
      rw [if_neg (fun w => by rw [if_neg (by omega)] at p15; omega)]

