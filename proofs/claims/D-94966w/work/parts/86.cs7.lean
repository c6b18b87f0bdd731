set_option maxRecDepth 100000
set_option linter.unusedVariables false
/-! acts are kept; printed by gen/prove.py out of spec/86.cs7.spec -/
def sKeep (U : sUn) (p : sTb × sBk) : sUn := if U.1 = 20 then (20, upI (fun i => U.2 (i + 1)) 19 p) else (U.1 + 1, upI U.2 U.1 p)
theorem jcob_18 : Cond.castable RX17 "java/lang/Object" ∈ jnw := List.elem_iff.mp (by decide +kernel)
theorem jast_was {N : jSh} {b : Nat} {z : Int} (h : z = (b : Int)) (ht : jtg N b = 18) : jast N "java/lang/Object" z := jast_obj h ht rfl jcob_18
set_option maxHeartbeats 2000000 in
theorem sX0_keeps {S : Nat → Nat} {o : Nat} {N : jSh} {F : jFl} {A : jAr} {M : Int} {t : Nat} {W L : sTb} {B : sBk} {U : sUn} {wA sA cA lA : Int → Int} (h : cst S M N F A o t W L B U wA sA cA lA) (hs19 : s19 S N) (h9 : L 9 0 0 = 0) (hM : M ≤ 800000000) : wqX0_keeps S o N F A (fun N' F' A' => cst S (M + 102) N' F' A' o t W L B (sKeep U (L, B)) wA sA cA lA ∧ nex N N' ∧ kq o N F A F' A' ∧ jnx N' ≤ jnx N + 400 ∧ jsu N' ≤ jsu N + 1700) := by
  unfold wqX0_keeps
  have hy := h.1.2.1
  have hx := h.hx
  obtain ⟨hU, ue, ul, uw⟩ := id h.2.2.2
  refine ⟨_, by exact hy.p323, ?_⟩ -- d1: jfn N 323 o = (b1 : Int)
  refine ⟨by exact ul.1.1, ?_⟩ -- s1: jtg N b1 = 20
  refine ⟨_, sJ2_size ul, ?_⟩ -- call wqJ2_size b1 N F A P4
  intro z6 p4
  refine ⟨fun (F12 : jFl) (A13 : jAr) => ∃ U1 : sUn, cst S (M + 1) N F12 A13 o t W L B U1 wA sA cA lA ∧ U1.1 ≤ 19 ∧ sKeep U (L, B) = (U1.1 + 1, upI U1.2 U1.1 (L, B)) ∧ kq o N F A F12 A13, ?_, ?_⟩ -- join K16
  · intro F12 A13 k16
    obtain ⟨U1, k1, k2, k3, k4⟩ := k16
    intro b19 N20 F21 e19 e20 e21
    refine ⟨_, sX17_init k1 hs19 h9 (by omega) rfl e19 e20 e21, ?_⟩ -- call wqX17_init S b19 (o : Int) N20 F21 A13 P26
    intro N31 F29 A30 p26
    obtain ⟨q1, q2, q3, q4, q5, q6⟩ := p26
    have hc2 := k1.gr q2 q3
    obtain ⟨hU2, ue2, ul2, uw2⟩ := id hc2.2.2.2
    refine ⟨_, sJ2_add ul2 q3 (by omega) (by omega) (jast_was rfl q4), ?_⟩ -- call wqJ2_add S b1 (b19 : Int) N31 F29 A30 P37
    intro z39 N42 F40 A41 p37
    obtain ⟨r1, r2⟩ := p37
    have hA : acs N42 F40 A41 o W wA lA (sKeep U (L, B)) := by
      rw [k3]
      refine ⟨by dsimp only; omega, _, r1, fun i i0 i1 => ?_⟩
      dsimp only at i1 ⊢
      by_cases w : i = U1.1
      · rw [w, upI_s, upI_s]
        exact ⟨b19, rfl, r2.kp.was q3 ul2.isL q1 (hc2.w10 _ q1.1.1.2.1)⟩
      · rw [upI_n w, upI_n w]
        obtain ⟨z, z1, z2⟩ := uw2 i i0 (by omega)
        exact ⟨z, z1, r2.kp.was q3 ul2.isL z2 (hc2.w10 _ z2.1.1.2.1)⟩
    -- l1: Q N42 F40 A41
    refine ⟨by rw [show M + 102 = M + 1 + 100 + 1 by omega]; exact hc2.acts r2.kp r2.1 hA, q2.1.trans r2.2.1, (k4.trans (q2.kq k1.1.1.1 k1.hx) h.1.1.1 (nex.refl _)).trans (r2.kp.kq q3 ul2.isL hc2.1.2.1 hc2.hx) h.1.1.1 q2.1, ?_, ?_⟩
    · obtain ⟨-, -, -, -, -, x1, x2, x3, -⟩ := r2; omega
    · obtain ⟨-, -, -, -, -, x1, x2, x3, -⟩ := r2; omega
  refine ⟨fun hc => ?_, fun hc => ?_⟩ -- c1
  · -- case (¬ z6 = 20)
    -- l2: K16 F A
    refine ⟨U, ⟨⟨h.1.1.mono (by omega) (by omega), h.1.2⟩, h.2⟩, by omega, ?_, kq.refl _ _ _ _⟩
    unfold sKeep; rw [if_neg (by omega)]
  · -- case (z6 = 20)
    refine ⟨_, sJ2_remove ul h.1.1 (by omega) (by omega), ?_⟩ -- call wqJ2_remove b1 0 N F A P47
    intro z49 F50 A51 p47
    obtain ⟨r0, r1, r2, r3, r4⟩ := p47
    have hkp : kp N F A (o + 10) N F50 A51 := ⟨nex.refl _, fun a _ hao f => by rw [r3, upF_a hao, upF_a hao], fun a _ hao => r4 a hao⟩
    have e19 : U.1 - 1 = 19 := by omega
    rw [e19] at r1
    -- l3: K16 F50 A51
    refine ⟨(19, fun i => U.2 (i + 1)), h.acts hkp r2 ⟨by dsimp only; omega, _, r1, fun i i0 i1 => ?_⟩, by dsimp only; omega, ?_, hkp.kq h.1.1 ul.isL hy hx⟩
    · dsimp only at i1 ⊢
      rw [if_neg (by omega)]
      obtain ⟨z, z1, z2⟩ := uw (i + 1) (by omega) (by omega)
      exact ⟨z, z1, hkp.was h.1.1 ul.isL z2 (h.w10 _ z2.1.1.2.1)⟩
    · unfold sKeep; rw [if_pos (by omega)]; rfl

