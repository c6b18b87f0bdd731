set_option maxRecDepth 100000
set_option linter.unusedVariables false
/-! what is kept for an undoing: the first cells -/
def s19 (S : Nat → Nat) (N : jSh) : Prop := jtg N (S 19) = 104 ∧ jln N (S 19) = 0
theorem s19.ex {S : Nat → Nat} {N N' : jSh} (h : s19 S N) (hn : nb N) (e : nex N N') : s19 S N' := ⟨e.tg hn h.1 (by decide), by rw [e.ln hn h.1 (by decide)]; exact h.2⟩
theorem nw_arr {N N1 N2 : jSh} {t n sl o f : Nat} (e1 : N1 = jnew N t n sl 1) (e2 : N2 = jpF N1 f o (jnx N : Int)) (ho : o < jnx N) (hf : f ≠ 0 := by decide) : jnx N2 = jnx N + 1 ∧ jsu N2 = jsu N + sl ∧ (∀ a, a < jnx N → jtg N2 a = jtg N a ∧ jln N2 a = jln N a ∧ ∀ g, (g ≠ f ∨ a ≠ o) → jfn N2 g a = jfn N g a) ∧ jfn N2 f o = (jnx N : Int) ∧ jtg N2 (jnx N) = t ∧ jln N2 (jnx N) = n ∧ jfn N2 0 (jnx N) = 1 := by
  subst e1 e2
  refine ⟨rfl, rfl, fun a ha => ⟨by rw [jpF_tg, jnew_tgo (by omega)], by rw [jpF_ln, jnew_lno (by omega)], fun g hg => ?_⟩, jpF_s _ _ _ _, by rw [jpF_tg, jnewTg], by rw [jpF_ln, jnewLn], by rw [jpF_a (by omega), jnew_f0]⟩
  by_cases q : a = o
  · rw [jpF_f (by omega), jnew_fno (by omega)]
  · rw [jpF_a q, jnew_fno (by omega)]
/-- cells and one empty list more -/
theorem gi_add {S : Nat → Nat} {M : Int} {N0 N' : jSh} {F0 F' : jFl} {o4 : Nat} (g : gi S M N0 F0) (hs : s19 S N0) (ex : nex N0 N') (hn : nb N') (h20 : ∀ a, jtg N' a = 20 → a = o4 ∨ a < jnx N0) (h104 : ∀ a, jtg N' a = 104 → a < jnx N0) (hF : ∀ a, a < jnx N0 → ∀ f, F' f a = F0 f a) (e2 : F' 6002 o4 = (S 19 : Int)) (e9 : F' 6900 o4 = 0) : gi S M N' F' := by
  have s1 : S 19 < jnx N0 := g.1 _ (by rw [hs.1]; decide)
  have sl : jln N' (S 19) = 0 := by rw [(ex.2 _ s1).2.1]; exact hs.2
  have hx := ex.1
  refine ⟨hn, fun b hb hl => ?_, fun l hl => ?_, fun l l' hl hl' hne w w0 => ?_, g.2.2.2.2⟩
  · have lt := h104 b hb
    exact g.2.1 b (by rw [← (ex.2 b lt).1]; exact hb) (by rw [← (ex.2 b lt).2.1]; exact hl)
  · rcases h20 l hl with q | q
    · rw [q, e2, e9]; have := g.2.2.2.2; omega
    · rw [hF l q, hF l q]; have := g.2.2.1 l (by rw [← (ex.2 l q).1]; exact hl); omega
  · rcases h20 l hl with q | q
    · rw [q, e2]; exact sl
    · rcases h20 l' hl' with q' | q'
      · rw [w, q', e2]; exact sl
      · have hl0 : jtg N0 l = 20 := by rw [← (ex.2 l q).1]; exact hl
        rw [hF l q, hF l' q'] at w
        rw [hF l q] at w0 ⊢
        have := (g.2.2.1 l hl0).1
        rw [(ex.2 _ (by omega)).2.1]
        exact g.2.2.2.1 l l' hl0 (by rw [← (ex.2 l' q').1]; exact hl') hne w w0
theorem was_shape {o x : Nat} {y nl : Int} {N35 N38 N48 N51 N61 N64 N74 N77 N95 : jSh} (x35 : jnx N35 = o + 1) (hx : x + 141 ≤ o) (hn : ∀ a, o < a → jtg N35 a = 0)
    (f35 : jtg N35 o = 18 ∧ jfn N35 5420 o = (x : Int) ∧ jfn N35 5400 o = y ∧ jfn N35 5403 o = nl) (e38 : N38 = jnew N35 116 12 12 1) (e48 : N48 = jpF N38 5408 o (jnx N35 : Int)) (e51 : N51 = jnew N48 113 12 12 1) (e61 : N61 = jpF N51 5411 o (jnx N48 : Int)) (e64 : N64 = jnew N61 105 12 12 1) (e74 : N74 = jpF N64 5414 o (jnx N61 : Int)) (e77 : N77 = jnew N74 20 0 3 1) (e95 : N95 = jpF N77 5417 o (jnx N74 : Int)) :
    (jnx N48 = o + 2 ∧ jnx N61 = o + 3 ∧ jnx N74 = o + 4 ∧ jnx N95 = o + 5) ∧ jsu N95 = jsu N35 + 39 ∧ wasOk N95 x nl y o ∧ (jtg N95 (o + 4) = 20 ∧ jfn N95 0 (o + 4) = 1 ∧ jfn N95 0 (o + 1) = 1 ∧ jfn N95 0 (o + 2) = 1 ∧ jfn N95 0 (o + 3) = 1) ∧ (∀ a, a < o → jtg N95 a = jtg N35 a ∧ jln N95 a = jln N35 a ∧ ∀ f, jfn N95 f a = jfn N35 f a) ∧ ∀ a, o + 5 ≤ a → jtg N95 a = 0 := by
  obtain ⟨a1x, a1s, a1k, a1f, a1t, a1l, a10⟩ := nw_arr e38 e48 (by omega)
  rw [x35] at a1x a1k a1f a1t a1l a10
  obtain ⟨b1x, b1s, b1k, b1f, b1t, b1l, b10⟩ := nw_arr e51 e61 (by omega)
  rw [a1x] at b1x b1k b1f b1t b1l b10
  obtain ⟨c1x, c1s, c1k, c1f, c1t, c1l, c10⟩ := nw_arr e64 e74 (by omega)
  rw [b1x] at c1x c1k c1f c1t c1l c10
  obtain ⟨d1x, d1s, d1k, d1f, d1t, d1l, d10⟩ := nw_arr e77 e95 (by omega)
  rw [c1x] at d1x d1k d1f d1t d1l d10
  have l0 : o < o + 1 := by omega
  have l1 : o < o + 1 + 1 := by omega
  have l2 : o < o + 1 + 1 + 1 := by omega
  have l3 : o < o + 1 + 1 + 1 + 1 := by omega
  refine ⟨⟨a1x, b1x, c1x, d1x⟩, by rw [d1s, c1s, b1s, a1s], ⟨⟨hx, ?_, ?_, ?_, ?_⟩, ⟨?_, ?_, ?_⟩, ⟨?_, ?_, ?_⟩, ⟨?_, ?_, ?_⟩, d1f⟩, ⟨d1t, d10, ?_, ?_, ?_⟩, fun a ha => ⟨?_, ?_, fun f => ?_⟩, fun a ha => ?_⟩
  · rw [(d1k o l3).1, (c1k o l2).1, (b1k o l1).1, (a1k o l0).1]; exact f35.1
  · rw [(d1k o l3).2.2 _ (Or.inl (by decide)), (c1k o l2).2.2 _ (Or.inl (by decide)), (b1k o l1).2.2 _ (Or.inl (by decide)), (a1k o l0).2.2 _ (Or.inl (by decide))]; exact f35.2.1
  · rw [(d1k o l3).2.2 _ (Or.inl (by decide)), (c1k o l2).2.2 _ (Or.inl (by decide)), (b1k o l1).2.2 _ (Or.inl (by decide)), (a1k o l0).2.2 _ (Or.inl (by decide))]; exact f35.2.2.1
  · rw [(d1k o l3).2.2 _ (Or.inl (by decide)), (c1k o l2).2.2 _ (Or.inl (by decide)), (b1k o l1).2.2 _ (Or.inl (by decide)), (a1k o l0).2.2 _ (Or.inl (by decide))]; exact f35.2.2.2
  · rw [(d1k o l3).2.2 _ (Or.inl (by decide)), (c1k o l2).2.2 _ (Or.inl (by decide)), (b1k o l1).2.2 _ (Or.inl (by decide))]; exact a1f
  · rw [(d1k (o + 1) (by omega)).1, (c1k (o + 1) (by omega)).1, (b1k (o + 1) (by omega)).1]; exact a1t
  · rw [(d1k (o + 1) (by omega)).2.1, (c1k (o + 1) (by omega)).2.1, (b1k (o + 1) (by omega)).2.1]; exact a1l
  · rw [(d1k o l3).2.2 _ (Or.inl (by decide)), (c1k o l2).2.2 _ (Or.inl (by decide))]; exact b1f
  · rw [(d1k (o + 2) (by omega)).1, (c1k (o + 2) (by omega)).1]; exact b1t
  · rw [(d1k (o + 2) (by omega)).2.1, (c1k (o + 2) (by omega)).2.1]; exact b1l
  · rw [(d1k o l3).2.2 _ (Or.inl (by decide))]; exact c1f
  · rw [(d1k (o + 3) (by omega)).1]; exact c1t
  · rw [(d1k (o + 3) (by omega)).2.1]; exact c1l
  · rw [(d1k (o + 1) (by omega)).2.2 _ (Or.inl (by decide)), (c1k (o + 1) (by omega)).2.2 _ (Or.inl (by decide)), (b1k (o + 1) (by omega)).2.2 _ (Or.inl (by decide))]; exact a10
  · rw [(d1k (o + 2) (by omega)).2.2 _ (Or.inl (by decide)), (c1k (o + 2) (by omega)).2.2 _ (Or.inl (by decide))]; exact b10
  · rw [(d1k (o + 3) (by omega)).2.2 _ (Or.inl (by decide))]; exact c10
  · rw [(d1k a (by omega)).1, (c1k a (by omega)).1, (b1k a (by omega)).1, (a1k a (by omega)).1]
  · rw [(d1k a (by omega)).2.1, (c1k a (by omega)).2.1, (b1k a (by omega)).2.1, (a1k a (by omega)).2.1]
  · have na : a ≠ o := by omega
    rw [(d1k a (by omega)).2.2 _ (Or.inr na), (c1k a (by omega)).2.2 _ (Or.inr na), (b1k a (by omega)).2.2 _ (Or.inr na), (a1k a (by omega)).2.2 _ (Or.inr na)]
  · rw [e95, jpF_tg, e77, jnew_tgo (by omega), e74, jpF_tg, e64, jnew_tgo (by omega), e61, jpF_tg, e51, jnew_tgo (by omega), e48, jpF_tg, e38, jnew_tgo (by omega)]
    exact hn a (by omega)
theorem was_start {S : Nat → Nat} {M : Int} {x t o : Nat} {a1 : Int} {N0 N N3 N14 N35 N38 N48 N51 N61 N64 N74 N77 N95 : jSh} {F0 F F39 F52 F65 F78 F86 : jFl} {A A40 A53 A66 : jAr} {W L : sTb} {B : sBk} {U : sUn} {wA sA cA lA : Int → Int} {b37 b50 b63 b76 : Nat} (h : cst S M N0 F0 A x t W L B U wA sA cA lA) (hs19 : s19 S N0) (ha1 : a1 = (x : Int)) (ho : o = jnx N0) (hN : N = jnew N0 18 0 7 1) (hF : F = nwF N0 F0)
    (e3 : N3 = jpF N 5420 o a1) (e14 : N14 = jpF N3 5400 o (L 0 0 0)) (e35 : N35 = jpF N14 5403 o (W 3 0 0)) (e37 : b37 = jnx N35) (e38 : N38 = jnew N35 116 12 12 1) (e39 : F39 = nwF N35 F) (e40 : A40 = nwA N35 116 A) (e48 : N48 = jpF N38 5408 o (b37 : Int)) (e50 : b50 = jnx N48) (e51 : N51 = jnew N48 113 12 12 1) (e52 : F52 = nwF N48 F39) (e53 : A53 = nwA N48 113 A40) (e61 : N61 = jpF N51 5411 o (b50 : Int)) (e63 : b63 = jnx N61) (e64 : N64 = jnew N61 105 12 12 1) (e65 : F65 = nwF N61 F52) (e66 : A66 = nwA N61 105 A53) (e74 : N74 = jpF N64 5414 o (b63 : Int)) (e76 : b76 = jnx N74) (e77 : N77 = jnew N74 20 0 3 1) (e78 : F78 = nwF N74 F65) (p1 : F86 = upF (upF F78 6900 b76 0) 6002 b76 (S 19 : Int)) (e95 : N95 = jpF N77 5417 o (b76 : Int)) :
    jnx N95 = o + 5 ∧ jsu N95 = jsu N0 + 46 ∧ gr N0 F0 A N95 F86 A66 ∧ gi S M N95 F86 ∧ wasOk N95 x (W 3 0 0) (L 0 0 0) o ∧ ((jtg N95 (o + 4) = 20 ∧ jfn N95 0 (o + 4) = 1 ∧ F86 6002 (o + 4) = (S 19 : Int) ∧ F86 6003 (o + 4) = 0) ∧ jfn N95 0 (o + 1) = 1 ∧ jfn N95 0 (o + 2) = 1 ∧ jfn N95 0 (o + 3) = 1) := by
  have g := h.1.1
  have hx := h.hx
  subst e37 e50 e63 e76
  have nx : jnx N = o + 1 := by rw [hN, jnewNx, ho]
  have x35 : jnx N35 = o + 1 := by rw [e35, jpF_nx, e14, jpF_nx, e3, jpF_nx, nx]
  have t35 : ∀ a, jtg N35 a = if a = o then 18 else jtg N0 a := fun a => by rw [e35, jpF_tg, e14, jpF_tg, e3, jpF_tg, hN, jnew_tg, ho]
  have k35 : ∀ a, a < o → jtg N35 a = jtg N0 a ∧ jln N35 a = jln N0 a ∧ ∀ f, jfn N35 f a = jfn N0 f a := fun a ha => ⟨by rw [t35, if_neg (by omega)], by rw [e35, jpF_ln, e14, jpF_ln, e3, jpF_ln, hN, jnew_lno (by omega)], fun f => by rw [e35, jpF_a (by omega), e14, jpF_a (by omega), e3, jpF_a (by omega), hN, jnew_fno (by omega)]⟩
  have z0 : ∀ a, o ≤ a → jtg N0 a = 0 := fun a ha => by
    by_cases q : jtg N0 a = 0
    · exact q
    · have := g.1 a q; omega
  obtain ⟨⟨a1, a2, a3, a4⟩, a5, a6, ⟨a7, a8, a9, a10, a11⟩, a12, a13⟩ := was_shape (x := x) (y := L 0 0 0) (nl := W 3 0 0) x35 (by omega) (fun a ha => by rw [t35, if_neg (by omega)]; exact z0 a (by omega)) ⟨by rw [t35, if_pos rfl], by rw [e35, jpF_f (by decide), e14, jpF_f (by decide), e3, jpF_s, ha1], by rw [e35, jpF_f (by decide), e14, jpF_s], by rw [e35, jpF_s]⟩ e38 e48 e51 e61 e64 e74 e77 e95
  have s35 : jsu N35 = jsu N0 + 7 := by rw [e35, jpF_su, e14, jpF_su, e3, jpF_su, hN, jnewSu]
  have E2 : F86 6002 (o + 4) = (S 19 : Int) := by rw [p1, a3, upF_s]
  have E9 : F86 6900 (o + 4) = 0 := by rw [p1, a3, upF_f (by decide), upF_s]
  have E3 : F86 6003 (o + 4) = 0 := by rw [p1, a3, upF_f (by decide), upF_f (by decide), e78, ← a3, nwF_s]; rfl
  have FF : ∀ a, a < o → ∀ f, F86 f a = F0 f a := fun a ha f => by
    rw [p1, upF_a (by omega), upF_a (by omega), e78, nwF_o (by omega), e65, nwF_o (by omega), e52, nwF_o (by omega), e39, nwF_o (by omega), hF, nwF_o (by omega)]
  have AA : ∀ a, a < o → A66 a = A a := fun a ha => by rw [e66, nwA_o (by omega), e53, nwA_o (by omega), e40, nwA_o (by omega)]
  clear e3 e14 e35 e38 e39 e40 e48 e51 e52 e53 e61 e64 e65 e66 e74 e77 e78 p1 e95
  have low : ∀ a, a < o → jtg N95 a = jtg N0 a ∧ jln N95 a = jln N0 a ∧ ∀ f, jfn N95 f a = jfn N0 f a := fun a ha => by
    obtain ⟨q1, q2, q3⟩ := a12 a ha
    obtain ⟨r1, r2, r3⟩ := k35 a ha
    exact ⟨q1.trans r1, q2.trans r2, fun f => (q3 f).trans (r3 f)⟩
  have nexN : nex N0 N95 := ⟨by omega, fun a ha => low a (by omega)⟩
  have mid : ∀ a, jtg N95 a ≠ 0 → a < o ∨ a = o ∨ a = o + 1 ∨ a = o + 2 ∨ a = o + 3 ∨ a = o + 4 := fun a ha => by
    by_cases q : o + 5 ≤ a
    · exact absurd (a13 a q) ha
    · omega
  refine ⟨a4, by omega, ⟨nexN, fun a ha => FF a (by omega), fun a ha => AA a (by omega)⟩, gi_add g hs19 nexN (fun a ha => by have := mid a ha; omega) (fun a ha => ?_) (fun a ha => ?_) (fun a ha => FF a (by omega)) E2 E9, a6, ⟨a7, a8, E2, E3⟩, a9, a10, a11⟩
  · rcases mid a (by rw [ha]; decide) with q | q | q | q | q | q
    · exact Or.inr (by omega)
    · rw [q, a6.1.2.1] at ha; omega
    · rw [q, a6.2.1.2.1] at ha; omega
    · rw [q, a6.2.2.1.2.1] at ha; omega
    · rw [q, a6.2.2.2.1.2.1] at ha; omega
    · exact Or.inl q
  · rcases mid a (by rw [ha]; decide) with q | q | q | q | q | q
    · omega
    · rw [q, a6.1.2.1] at ha; omega
    · rw [q, a6.2.1.2.1] at ha; omega
    · rw [q, a6.2.2.1.2.1] at ha; omega
    · rw [q, a6.2.2.2.1.2.1] at ha; omega
    · rw [q, a7] at ha; omega
