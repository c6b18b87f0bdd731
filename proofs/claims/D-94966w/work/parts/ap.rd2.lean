set_option maxRecDepth 100000
set_option linter.unusedVariables false
/-! the component's reader: what stands ahead, rows; printed by gen/prove.py out of spec/ap.rd2.spec -/
/-- where the letters that stand at a place end -/
noncomputable def apE (q : Int → Int) (n a : Int) : Int := if tkKd q n a = 1 then tkEnd q n a else a
theorem apE_scn {q : Int → Int} {n a : Int} (h : a ≤ n) : apE q n a = scn (fun i => isLt (q i)) n a := by
  unfold apE
  rcases tk_cases q n a h with w | w | w | w
  · rw [if_neg (by omega), scn_end (by omega)]
  · rw [if_pos w.2.2.1, tkEnd_let w.1 w.2.1]
  · rw [if_neg (by omega), scn_no w.1 (fun x => not_both (c := q a) x w.2.1)]
  · rw [if_neg (by omega), scn_no w.1 w.2.1.1]
theorem apE_range {q : Int → Int} {n a : Int} (h : a ≤ n) : a ≤ apE q n a ∧ apE q n a ≤ n := by
  rw [apE_scn h]
  exact (scn_all (P := fun i => isLt (q i)) h).1
set_option maxHeartbeats 1000000 in
theorem sX10_ahead {S : Nat → Nat} {o : Nat} {N : jSh} {F : jFl} {A : jAr} {u : Int} {x h : Nat} {n p : Int} {q : Int → Int} (hO : rdO S u N A o x h n q) (hU : rU F o q n p) : wqX10_ahead S o N F A (fun z N' F' A' => (∃ b v : Nat, z = (b : Int) ∧ txt N' A' b v (fun i => q (tkAt q n p + i)) (apE q n (tkAt q n p) - tkAt q n p).toNat) ∧ F' 3312 o = tkAt q n p ∧ rU F' o q n p ∧ rfr S o N F A N' F' A' ∧ (jnx N' : Int) ≤ jnx N + 2 ∧ (jsu N' : Int) ≤ jsu N + 4 + (apE q n (tkAt q n p) - tkAt q n p)) := by
  unfold wqX10_ahead
  obtain ⟨⟨o1, o2, o3, o4, o5⟩, ⟨hnb, how, hy⟩, hn, hq⟩ := id hO
  obtain ⟨u1, u2, u3, u4, u5⟩ := id hU
  have ta := tkAt_all (q := q) u3.2
  have hox := hnb o (by rw [o1]; decide)
  have tx0 : jtg N x = 1 := (hy.1 0 (by decide)).1
  have t1 : jtg N (x + 1) = 111 := (hy.1 1 (by decide)).1
  have l1600 : jln N (x + 1) = 1600 := hy.2.2 (1, 1600) (by decide)
  have hx0 := hnb x (by rw [tx0]; decide)
  have hx1 := hnb (x + 1) (by rw [t1]; decide)
  rw [o3]
  intro v1 e1
  refine ⟨fun (v2 : Int) => (p ≤ v2 ∧ v2 ≤ n) ∧ tkAt q n v2 = tkAt q n p, fun v2 => (n - v2).toNat, ?_, ?_⟩ -- loop I4 I4 v1
  ·
    -- l1: I4 v1
    exact ⟨by omega, by rw [e1, u2]⟩
  intro v2 i4
  obtain ⟨i1, i2⟩ := i4
  refine ⟨tkAt q n p = v2, ?_, ?_⟩ -- join K8
  · intro k8
    rw [k8]
    rw [k8] at ta
    have ap := apE_range (q := q) (n := n) (a := v2) i1.2
    refine ⟨fun (v11 : Int) => (v2 ≤ v11 ∧ v11 ≤ n) ∧ ∀ i : Int, v2 ≤ i → i < v11 → isLt (q i), fun v11 => (n - v11).toNat, ?_, ?_⟩ -- loop I13 I13 v2
    ·
      -- l2: I13 v2
      exact ⟨by omega, fun i i0 i1 => by omega⟩
    intro v11 i13
    obtain ⟨j1, j2⟩ := i13
    refine ⟨apE q n v2 = v11, ?_, ?_⟩ -- join K17
    · intro k17
      refine ⟨by exact o2, ?_⟩ -- s1: jfn N 0 o = 1
      intro F22 e22
      intro b23 N24 F25 e23 e24 e25
      have f22 : ∀ f b, (b = o → f ≠ 3312) → F22 f b = F f b := fun f b hb => by
        rw [e22]
        by_cases w : b = o
        · rw [w, upF_f (hb w)]
        · rw [upF_a w]
      have yx : jfn N24 3332 o = (x : Int) := by rw [e24, jnew_fno (by omega)]; exact o4
      have ytx : jtg N24 x = 1 := by rw [e24, jnew_tgo (by omega)]; exact tx0
      have yt1 : jtg N24 (x + 1) = 111 := by rw [e24, jnew_tgo (by omega)]; exact t1
      have yl1 : jln N24 (x + 1) = 1600 := by rw [e24, jnew_lno (by omega)]; exact l1600
      have yp : jfn N24 302 x = ((x + 1 : Nat) : Int) := by rw [e24, jnew_fno (by omega)]; exact hy.p302
      obtain ⟨-, -, v18, w18, -, w5, -⟩ := id how
      have x18 := hnb (S 18) (by rw [w18]; decide)
      have tln : (((v11 - v2).toNat : Nat) : Int) = v11 - v2 := by omega
      have qs : ∀ i : Int, 0 ≤ i → i < ((v11 - v2).toNat : Nat) → isLt (q (v2 + i)) := fun i i0 i1 => j2 (v2 + i) (by omega) (by omega)
      refine ⟨_, by exact yx, ?_⟩ -- d31: jfn N24 3332 o = (b31 : Int)
      refine ⟨by exact ytx, ?_⟩ -- s2: jtg N24 b31 = 1
      refine ⟨by omega, ?_⟩ -- s3: jR (v11 - v2)
      refine ⟨_, sJ5_init (c := x + 1) (n := (v11 - v2).toNat) (q := fun i => q (v2 + i)) yp yt1 (by rw [e24, jnewNx]; omega) tln.symm ⟨by omega, by rw [yl1]; omega, by rw [yl1]; decide⟩ (fun i i0 i1 => hq (v2 + i) (by omega) (by omega)) ⟨by rw [e24, e23, jnew_f0], by rw [e24, jnewNx]; omega⟩ ⟨by rw [e24, jnew_tgo (by omega)]; exact w18, by rw [e24, jnew_fno (by omega)]; exact w5, by omega⟩, ?_⟩ -- call wqJ5_init S b23 (jfn N24 302 b31) v2 (v11 - v2) N24 F25 A P35
      intro N40 F38 A39 p35
      subst e23
      obtain ⟨⟨v, hs, hb⟩, k14, g14, nb14, b14, b14s⟩ := on_str hnb how e24 e25 (by omega) (fun i i0 i1 => (hq (v2 + i) (by omega) (by omega)).2) p35
      have c67 : ∀ f, F38 f o = F22 f o := fun f => k14.2.1 o hox f
      -- l3: Q (b23 : Int) N40 F38 A39
      rw [k17]
      refine ⟨⟨jnx N, v, rfl, hs.1, hs.2.1, fun i i0 i1 => ?_⟩, by rw [c67, e22, upF_s], ?_, ⟨k14.1, fun b hb hbo f => by rw [k14.2.1 b hb f]; exact f22 f b (fun w => absurd w hbo), k14.2.2, fun M g => g14 M (g.of (fun l hl => ?_)), fun _ => nb14⟩, by omega, by omega⟩
      · have := qs i i0 i1
        unfold isLt at this
        rw [hb i i0 i1, jby_255 (by omega), if_pos (by omega)]
        exact ⟨rfl, this⟩
      · unfold rU
        rw [c67, c67, c67, f22 _ _ (fun _ => by decide), f22 _ _ (fun _ => by decide), f22 _ _ (fun _ => by decide)]
        exact hU
      · have hlo : l ≠ o := fun w => by rw [w, o1] at hl; omega
        exact ⟨f22 _ l (fun w => absurd w hlo), f22 _ l (fun w => absurd w hlo)⟩
    refine ⟨fun hc => ?_, fun hc => ?_⟩ -- c1
    · -- case ((jfn N 3300 o) ≤ v11)
      -- l4: K17
      rw [apE_scn i1.2]
      exact scn_is (by omega) j2 (fun w => by omega)
    · -- case (¬ ((jfn N 3300 o) ≤ v11))
      refine ⟨_, by exact o4, ?_⟩ -- d45: jfn N 3332 o = (b45 : Int)
      refine ⟨by exact tx0, ?_⟩ -- s4: jtg N b45 = 1
      refine ⟨_, by exact hy.p302, ?_⟩ -- d48: jfn N 302 b45 = (b48 : Int)
      refine ⟨by exact t1, ?_⟩ -- s5: jtg N b48 = 111
      refine ⟨by omega, ?_⟩ -- s6: ((0 : Int) ≤ v11 ∧ (v11 : Int) < (jln N b48 : Int))
      have hv4 := hq v11 (by omega) (by omega)
      rw [hv4.1]
      refine ⟨_, sX10_isLetter, ?_⟩ -- call wqX10_isLetter o (A b48 v11) N F A P52
      intro z54 p52
      refine ⟨fun hc => ?_, fun hc => ?_⟩ -- c2
      · -- case (z54 = 0)
        -- l5: K17
        rw [apE_scn i1.2]
        exact scn_is (by omega) j2 (fun _ w => by unfold isLt at w; rw [if_pos w] at p52; omega)
      · -- case (¬ (z54 = 0))
        refine ⟨by omega, ?_⟩ -- s7: jR (v11 + 1)
        refine ⟨?_, ?_⟩ -- l6: I13 (v11 + 1)
        · refine ⟨by omega, fun i i0 i1 => ?_⟩
          by_cases w : i = v11
          · rw [w]; unfold isLt; split at p52 <;> omega
          · exact j2 i i0 (by omega)
        · dsimp only; omega
  refine ⟨fun hc => ?_, fun hc => ?_⟩ -- c3
  · -- case ((jfn N 3300 o) ≤ v2)
    -- l7: K8
    rw [← i2]
    exact scn_end hc
  · -- case (¬ ((jfn N 3300 o) ≤ v2))
    refine ⟨_, by exact o4, ?_⟩ -- d61: jfn N 3332 o = (b61 : Int)
    refine ⟨by exact tx0, ?_⟩ -- s8: jtg N b61 = 1
    refine ⟨_, by exact hy.p302, ?_⟩ -- d64: jfn N 302 b61 = (b64 : Int)
    refine ⟨by exact t1, ?_⟩ -- s9: jtg N b64 = 111
    refine ⟨by omega, ?_⟩ -- s10: ((0 : Int) ≤ v2 ∧ (v2 : Int) < (jln N b64 : Int))
    refine ⟨fun hc => ?_, fun hc => ?_⟩ -- c4
    · -- case ((A b64 v2) = 32)
      refine ⟨by omega, ?_⟩ -- s11: jR (v2 + 1)
      refine ⟨?_, ?_⟩ -- l8: I4 (v2 + 1)
      · have hv := hq v2 (by omega) (by omega)
        have go : tkAt q n v2 = tkAt q n (v2 + 1) := scn_go (P := fun i => isBl (q i)) (by omega) (Or.inl (by omega))
        exact ⟨by omega, by rw [← go]; exact i2⟩
      · dsimp only; omega
    · -- case (¬ ((A b64 v2) = 32))
      refine ⟨by omega, ?_⟩ -- s12: ((0 : Int) ≤ v2 ∧ (v2 : Int) < (jln N b64 : Int))
      refine ⟨fun hc => ?_, fun hc => ?_⟩ -- c5
      · -- case (¬ (A b64 v2) = 10)
        -- l9: K8
        have hv := hq v2 (by omega) (by omega)
        rw [← i2]
        exact scn_no (P := fun i => isBl (q i)) (by omega) (fun w => by rcases w with w | w <;> omega)
      · -- case ((A b64 v2) = 10)
        refine ⟨by omega, ?_⟩ -- s13: jR (v2 + 1)
        refine ⟨?_, ?_⟩ -- l10: I4 (v2 + 1)
        · have hv := hq v2 (by omega) (by omega)
          have go : tkAt q n v2 = tkAt q n (v2 + 1) := scn_go (P := fun i => isBl (q i)) (by omega) (Or.inr (by omega))
          exact ⟨by omega, by rw [← go]; exact i2⟩
        · dsimp only; omega

theorem sJ5_isEmpty {o : Nat} {N : jSh} {F : jFl} {A : jAr} {v n : Nat} {g : Int → Int} (h : txt N A o v g n) : wqJ5_isEmpty o N F A (fun z => z = (if n = 0 then 1 else 0)) := by
  unfold wqJ5_isEmpty
  refine ⟨_, by exact h.1.2.1, ?_⟩ -- d1: jfn N 6602 o = (b1 : Int)
  refine ⟨by exact h.2.1.1, ?_⟩ -- s1: jtg N b1 = 108
  have e := h.2.1.2.1
  have e2 := h.2.1.2.2
  refine ⟨by omega, ?_⟩ -- s2: jR (jln N b1 : Int)
  intro z6 e6
  -- l1: Q z6
  rw [e6]
  by_cases w : n = 0
  · rw [if_neg (by omega), if_pos w]
  · rw [if_pos (by omega), if_neg w]

/-- reading words of a row: also the row's own array is written -/
def rfw (S : Nat → Nat) (o r : Nat) (N : jSh) (F : jFl) (A : jAr) (N' : jSh) (F' : jFl) (A' : jAr) : Prop := nex N N' ∧ (∀ a : Nat, a < jnx N → a ≠ o → ∀ f, F' f a = F f a) ∧ (∀ a : Nat, a < jnx N → a ≠ r + 1 → A' a = A a) ∧ (∀ M, gi S M N F → gi S M N' F') ∧ (nb N → nb N')
theorem rfw.refl (S : Nat → Nat) (o r : Nat) (N : jSh) (F : jFl) (A : jAr) : rfw S o r N F A N F A := ⟨nex.refl _, fun _ _ _ _ => rfl, fun _ _ _ => rfl, fun _ h => h, id⟩
theorem rfr.w {S : Nat → Nat} {o r : Nat} {N N' : jSh} {F F' : jFl} {A A' : jAr} (h : rfr S o N F A N' F' A') : rfw S o r N F A N' F' A' := ⟨h.1, h.2.1, fun a ha _ => h.2.2.1 a ha, h.2.2.2⟩
theorem rfw.trans {S : Nat → Nat} {o r : Nat} {N N' N'' : jSh} {F F' F'' : jFl} {A A' A'' : jAr} (h : rfw S o r N F A N' F' A') (h2 : rfw S o r N' F' A' N'' F'' A'') : rfw S o r N F A N'' F'' A'' := by
  have l := h.1.1
  exact ⟨h.1.trans h2.1, fun a ha hao f => (h2.2.1 a (by omega) hao f).trans (h.2.1 a ha hao f), fun a ha hr => (h2.2.2.1 a (by omega) hr).trans (h.2.2.1 a ha hr), fun M g => h2.2.2.2.1 M (h.2.2.2.1 M g), fun g => h2.2.2.2.2 (h.2.2.2.2 g)⟩
theorem rfw.put (S : Nat → Nat) (o r : Nat) (N : jSh) (F : jFl) (A : jAr) (i z : Int) : rfw S o r N F A N F (upA A (r + 1) i z) := ⟨nex.refl _, fun _ _ _ _ => rfl, fun a _ h => upA_o h, fun _ h => h, id⟩
theorem rdO.g3 {S : Nat → Nat} {u : Int} {N N' : jSh} {A A' : jAr} {o x h r : Nat} {n : Int} {q : Int → Int} (d : rdO S u N A o x h n q) (hr : jtg N (r + 1) = 107) (f : nex N N') (fA : ∀ a : Nat, a < jnx N → a ≠ r + 1 → A' a = A a) (fn : nb N → nb N') : rdO S u N' A' o x h n q := by
  obtain ⟨⟨a1, a2, a3, a4, a5⟩, ⟨b1, b2, b3⟩, c, e⟩ := d
  have t1 : jtg N (x + 1) = 111 := (b3.1 1 (by decide)).1
  have hx : x + 141 ≤ jnx N := by
    have := b1 (x + 140) (by rw [(b3.1 140 (by decide)).1]; decide)
    omega
  have ef := fun g => f.fn b1 a1 (by decide) g
  refine ⟨⟨f.tg b1 a1 (by decide), by rw [ef, a2], by rw [ef, a3], by rw [ef, a4], by rw [ef, a5]⟩, ⟨fn b1, b2.kv b1 f (fun a ha => fA a (b1 a (by omega)) (fun w => by rw [w, hr] at ha; omega)) (Or.inl rfl), b3.ex b1 f hx⟩, c, fun i i0 i1 => ?_⟩
  rw [fA _ (by omega) (fun w => by rw [w, hr] at t1; omega)]
  exact e i i0 i1
theorem rdO.gw {S : Nat → Nat} {u : Int} {N N' : jSh} {F F' : jFl} {A A' : jAr} {o x h r : Nat} {n : Int} {q : Int → Int} (d : rdO S u N A o x h n q) (hr : jtg N (r + 1) = 107) (f : rfw S o r N F A N' F' A') : rdO S u N' A' o x h n q := d.g3 hr f.1 f.2.2.1 f.2.2.2.2
/-- the words that are known -/
def wSrc (u : Int) (N : jSh) (F : jFl) (A : jAr) (h l : Nat) (m : Int) (eW nm : Int → Int) : Prop := (jtg N h = 2 ∧ jfn N 617 h = (l : Int)) ∧ jli N F A l m eW ∧ ∀ i : Int, 0 ≤ i → i < m → nm1 N A u 14 (eW i) (nm i)
theorem wSrc.g3 {u : Int} {N N' : jSh} {F F' : jFl} {A A' : jAr} {h l r : Nat} {m : Int} {eW nm : Int → Int} (d : wSrc u N F A h l m eW nm) (hn : nb N) (hr : jtg N (r + 1) = 107) (f : nex N N') (fl : ∀ g, F' g l = F g l) (fA : ∀ a : Nat, a < jnx N → a ≠ r + 1 → A' a = A a) : wSrc u N' F' A' h l m eW nm := by
  obtain ⟨⟨a1, a2⟩, b, c⟩ := d
  have bt := b.1.1
  refine ⟨⟨f.tg hn a1 (by decide), by rw [f.fn hn a1 (by decide), a2]⟩, b.moved hn f (fl _) (fl _) (fun _ => ?_), fun i i0 i1 => (c i i0 i1).kv (by decide) hn f (fun a ha => fA a (hn a (by omega)) (fun w => by rw [w, hr] at ha; omega)) (Or.inl rfl)⟩
  obtain ⟨-, -, -, b9, z4, z5, -⟩ := b
  have e9 : lar F l = b9 := by show (F 6002 l).toNat = b9; rw [z4]; rfl
  rw [e9]
  exact fA b9 (hn b9 (by rw [z5]; decide)) (fun w => by rw [w, hr] at z5; omega)
theorem wSrc.gw {S : Nat → Nat} {u : Int} {N N' : jSh} {F F' : jFl} {A A' : jAr} {o h l r : Nat} {m : Int} {eW nm : Int → Int} (d : wSrc u N F A h l m eW nm) (hn : nb N) (ho : jtg N o = 11) (hr : jtg N (r + 1) = 107) (f : rfw S o r N F A N' F' A') : wSrc u N' F' A' h l m eW nm :=
  d.g3 hn hr f.1 (fun g => f.2.1 l (hn l (by rw [d.2.1.1.1]; decide)) (fun w => by have := d.2.1.1.1; rw [w, ho] at this; omega) g) f.2.2.1
def kW (N N' : jSh) (c c' : Int) : Prop := (jnx N' : Int) ≤ jnx N + 4 * (c' - c) ∧ (jsu N' : Int) ≤ jsu N + 26 * (c' - c)
def xW (n : Int) (N N' : jSh) (c : Int) : Prop := (jnx N' : Int) ≤ jnx N + 4 * (n - c) + 20 ∧ (jsu N' : Int) ≤ jsu N + 26 * (n - c) + 5000
def rXw (S : Nat → Nat) (n : Int) (o r : Nat) (N : jSh) (F : jFl) (A : jAr) (c : Int) (f : Int × Int) (X : Nat → jSh → jFl → jAr → Prop) : Prop := ∀ (b : Nat) (N' : jSh) (F' : jFl) (A' : jAr), flt N' b f → rfw S o r N F A N' F' A' → xW n N N' c → X b N' F' A'
theorem rwN_low {e : Int → Int} {m : Int} {q : Int → Int} {n most fm : Int} : ∀ (f : Nat) (k p : Int) (g : Int → Int) (i : Int), i < fm + k → (rwN e m q n most fm f k p g).2.2 i = g i
  | 0, _, _, _, _, _ => rfl
  | f + 1, k, p, g, i, hi => by
    by_cases w : rwE q n (tkAt q n p)
    · rw [rwN_stop w]
    · by_cases x : k = most
      · rw [rwN_full w x]
      · by_cases y : (knF e m q n (tkAt q n p)).1 = 0
        · rw [rwN_go w x y, rwN_low f (k + 1) _ _ i (by omega), upv_n (by omega)]
        · rw [rwN_bad w x y]
theorem rwW_low {e : Int → Int} {m : Int} {q : Int → Int} {n most fm p : Int} {g : Int → Int} {i : Int} (hi : i < fm) : (rwW e m q n most fm p g).2.2 i = g i := by
  unfold rwW
  by_cases y : (knF e m q n (tkAt q n p)).1 = 0
  · rw [if_pos y, rwN_low _ _ _ _ i (by omega), upv_n (by omega)]
  · rw [if_neg y]
set_option maxHeartbeats 4000000 in
theorem sX10_words {S : Nat → Nat} {o : Nat} {a1 : Int} {a2 : Int} {a3 : Int} {N : jSh} {F : jFl} {A : jAr} {u m : Int} {x h l r : Nat} {n p c : Int} {eW nm g0 : Int → Int} {q : Int → Int} (hO : rdO S u N A o x h n q) (hU : rU F o q n p) (hcp0 : c = p) (hW : wSrc u N F A h l m eW nm) (h1 : a1 = (r : Int)) (hr : rowOk N r) (h2 : 0 ≤ a2) (h3 : 1 ≤ a3 ∧ a2 + a3 ≤ 12) {X : Nat → jSh → jFl → jAr → Prop} (hX : (rwW nm m q n a3 a2 p g0).1.1 ≠ 0 → rXw S n o r N F A c (rwW nm m q n a3 a2 p g0).1 X) : wqX10_words S o a1 a2 a3 N F A (fun z N' F' A' => (rwW nm m q n a3 a2 p g0).1.1 = 0 ∧ z = (rwW nm m q n a3 a2 p g0).2.1.1 ∧ rU F' o q n (rwW nm m q n a3 a2 p g0).2.1.2 ∧ (∀ i : Int, a2 ≤ i → i < a2 + z → A' (r + 1) i = eW ((rwW nm m q n a3 a2 p g0).2.2 i)) ∧ (∀ i : Int, i < a2 → A' (r + 1) i = A (r + 1) i) ∧ rfw S o r N F A N' F' A' ∧ kW N N' c (rwW nm m q n a3 a2 p g0).2.1.2) (X) := by
  unfold wqX10_words
  obtain ⟨RR, hRR⟩ : ∃ RR : rwR, rwW nm m q n a3 a2 p g0 = RR := ⟨_, rfl⟩
  have hRR' := hRR
  rw [hRR] at hX ⊢
  have hnb := hO.2.1.1
  have hA : rA N F A o q n p c := ⟨hU.2.2.1, Or.inl ⟨hU, hcp0⟩⟩
  have hp := hA.1
  have ta := tkAt_all (q := q) hp.2
  have te := tkEnd_le (q := q) ta.1.2
  obtain ⟨r1, r2, r3, r4, r5, r6⟩ := hr
  have hm := hW.2.1.2.2.1
  have ho := hO.1.1
  have lo : l ≠ o := fun w => by have := hW.2.1.1.1; rw [w, ho] at this; omega
  refine ⟨_, by exact h1, ?_⟩ -- d1: a1 = (b1 : Int)
  refine ⟨by exact r1, ?_⟩ -- s1: jtg N b1 = 4
  refine ⟨_, by exact hO.1.2.2.2.2, ?_⟩ -- d4: jfn N 3305 o = (b4 : Int)
  refine ⟨by exact hW.1.1, ?_⟩ -- s2: jtg N b4 = 2
  refine ⟨_, sX10_known hO hA hW.1.2 hW.2.1 lo (Or.inl rfl) hW.2.2 (fun w => by
    have e : RR = (knF nm m q n (tkAt q n p), (0, 0), g0) := by rw [← hRR]; unfold rwW; rw [if_neg w]
    rw [e] at hX
    exact fun b N2 F2 A2 z1 z2 z3 => hX w b N2 F2 A2 z1 z2.w (by unfold xB at z3; unfold xW; omega)), ?_⟩ -- call wqX10_known S o (jfn N 617 b4) N F A P7 X
  intro z9 N12 F10 A11 p7
  obtain ⟨y1, y2, y3, y4, y5, -⟩ := p7
  have kc := knF_cases nm m q n (tkAt q n p) (by omega) ta.1.2 hm.1
  obtain ⟨-, kb, kk, -, kv, -⟩ : knF nm m q n (tkAt q n p) = (0, 0) ∧ tkBad q n (tkAt q n p) = -1 ∧ tkKd q n (tkAt q n p) = 1 ∧ ¬ sOwn (tkC q n (tkAt q n p)) ∧ (0 ≤ knV nm m q n (tkAt q n p) ∧ knV nm m q n (tkAt q n p) < m) ∧ nm (knV nm m q n (tkAt q n p)) = tkC q n (tkAt q n p) := by
    rcases kc with w | w
    · exact w
    · rw [y1] at w; omega
  have cc := tk_code ⟨by omega, ta.1.2⟩ kk kb
  obtain ⟨wb, w1, w2, -⟩ := hW.2.2 (knV nm m q n (tkAt q n p)) kv.1 kv.2
  have w2' := y4.1.tg hnb w2 (by decide)
  have aw := awP_end ta.1.2 kk
  have r4' := y4.1.tg hnb r4 (by decide)
  refine ⟨by exact jcst_word (y2.trans w1) w2', ?_⟩ -- s3: jcst N12 "ChildSays$Word" z9
  refine ⟨_, by exact r3, ?_⟩ -- d18: jfn N 1202 b1 = (b18 : Int)
  refine ⟨by exact r4', ?_⟩ -- s4: jtg N12 b18 = 107
  refine ⟨by (rw [y4.1.fn hnb r4 (by decide)]; exact r5), ?_⟩ -- s5: jfn N12 0 b18 = 1
  refine ⟨by (rw [y4.1.ln hnb r4 (by decide), r6]; omega), ?_⟩ -- s6: ((0 : Int) ≤ a2 ∧ (a2 : Int) < (jln N12 b18 : Int))
  refine ⟨by exact jast_word (y2.trans w1) w2', ?_⟩ -- s7: jast N12 "ChildSays$Word" z9
  intro A23 e23
  have f23 : rfw S o r N F A N12 F10 A23 := by rw [e23]; exact y4.w.trans (rfw.put S o r N12 F10 A11 a2 z9)
  refine ⟨_, sX10_ahead (hO.gw r4 f23) y3, ?_⟩ -- call wqX10_ahead S o N12 F10 A23 P27
  intro z29 N32 F30 A31 p27
  obtain ⟨g1, g2, g3, g4, g5, g6⟩ := p27
  have f32 := f23.trans (g4.w (r := r))
  have hrr : (r + 1 : Nat) < jnx N := hnb _ (by rw [r4]; decide)
  have hrr2 : (r + 1 : Nat) < jnx N12 := by have := y4.1.1; omega
  have a32 : A31 (r + 1) = A23 (r + 1) := g4.2.2.1 _ hrr2
  have ap := apE_range (q := q) (n := n) (a := tkAt q n (tkEnd q n (tkAt q n p))) (tkAt_all (q := q) te.2).1.2
  refine ⟨fun (v37 : Int) (v38 : Int) (N39 : jSh) (F40 : jFl) (A41 : jAr) => ∃ (p' : Int) (g : Int → Int), (1 ≤ v37 ∧ v37 ≤ a3) ∧ (c + 1 ≤ p' ∧ p' ≤ n) ∧ awP q n p' ∧ rU F40 o q n p' ∧ F40 3312 o = tkAt q n p' ∧ (∃ b v : Nat, v38 = (b : Int) ∧ txt N39 A41 b v (fun i => q (tkAt q n p' + i)) (apE q n (tkAt q n p') - tkAt q n p').toNat) ∧ RR = rwN nm m q n a3 a2 (a3 + 1 - v37).toNat v37 p' g ∧ (∀ i : Int, a2 ≤ i → i < a2 + v37 → A41 (r + 1) i = eW (g i)) ∧ (∀ i : Int, i < a2 → A41 (r + 1) i = A (r + 1) i) ∧ rfw S o r N F A N39 F40 A41 ∧ (jnx N39 : Int) ≤ jnx N + 4 * (p' - c) ∧ (jsu N39 : Int) ≤ jsu N + 20 * (p' - c) + (apE q n (tkAt q n p') - tkAt q n p'), fun v37 v38 N39 F40 A41 => (20 - v37).toNat, ?_, ?_⟩ -- loop I44 I44 1 z29 N32 F30 A31
  ·
    -- l1: I44 1 z29 N32 F30 A31
    refine ⟨tkEnd q n (tkAt q n p), upv g0 a2 (knV nm m q n (tkAt q n p)), by omega, by omega, aw, g3, g2, g1, ?_, fun i i0 i1 => ?_, fun i i0 => ?_, f32, ?_, ?_⟩
    · rw [show (a3 + 1 - 1).toNat = a3.toNat by omega, ← hRR]
      unfold rwW
      rw [if_pos (by rw [y1])]
    · have ei : i = a2 := by omega
      rw [ei, a32, e23, upA_s, upv_s, y2]
    · rw [a32, e23, upA_i (by omega), y4.2.2.1 _ hrr]
    · unfold kB at y5
      omega
    · unfold kB at y5
      omega
  intro v37 v38 N39 F40 A41 i44
  obtain ⟨p', g, i1, i2, i3, i4, i5, ⟨tb, tv, i6, i7⟩, i8, i9, i10, i11, i12, i13⟩ := i44
  have ta' := tkAt_all (q := q) i2.2
  have te' := tkEnd_le (q := q) ta'.1.2
  have ap' := apE_range (q := q) (n := n) ta'.1.2
  have hO' := hO.gw r4 i11
  have hnb' := hO'.2.1.1
  have ff : (a3 + 1 - v37).toNat = (a3 - v37).toNat + 1 := by omega
  have bd := awP_bad (by omega) i3 (n := n) (q := q) (p := p')
  refine ⟨_, by exact i6, ?_⟩ -- d46: v38 = (b46 : Int)
  refine ⟨by exact i7.1.1, ?_⟩ -- s8: jtg N39 b46 = 22
  refine ⟨_, sJ5_isEmpty i7, ?_⟩ -- call wqJ5_isEmpty b46 N39 F40 A41 P49
  intro z51 p49
  refine ⟨fun hc => ?_, fun hc => ?_⟩ -- c1
  · -- case (¬ z51 = 0)
    -- l2: Q v37 N39 F40 A41
    have z0 : (apE q n (tkAt q n p') - tkAt q n p').toNat = 0 := Classical.byContradiction (fun w => by rw [if_neg w] at p49; exact hc p49)
    have nk : tkKd q n (tkAt q n p') ≠ 1 := fun w => by
      unfold apE at z0
      rw [if_pos w] at z0
      rcases tk_cases q n (tkAt q n p') ta'.1.2 with y | y | y | y <;> omega
    rw [rwN_stop (Or.inl nk)] at i8
    rw [i8]
    exact ⟨rfl, rfl, i4, i9, i10, i11, by unfold kW; dsimp only; omega⟩
  · -- case (z51 = 0)
    have z1 : (apE q n (tkAt q n p') - tkAt q n p').toNat ≠ 0 := fun w => by rw [if_pos w] at p49; omega
    have k1 : tkKd q n (tkAt q n p') = 1 := Classical.byContradiction (fun w => by
      apply z1
      unfold apE
      rw [if_neg w]
      omega)
    have ea : apE q n (tkAt q n p') = tkEnd q n (tkAt q n p') := if_pos k1
    rw [ea] at i7 i13
    have bd := bd k1
    have tcc : tkEnd q n (tkAt q n p') - tkAt q n p' ≤ 6 → sCode (fun i => q (tkAt q n p' + i)) (tkEnd q n (tkAt q n p') - tkAt q n p').toNat = tkC q n (tkAt q n p') := fun w => by
      unfold tkC tkW
      rw [if_pos w]
    refine ⟨_, sX0_isOwn hO'.2.1.2.1 i7 i6, ?_⟩ -- call wqX0_isOwn S v38 N39 F40 A41 P57
    intro z59 p57
    refine ⟨fun hc => ?_, fun hc => ?_⟩ -- c2
    · -- case (¬ z59 = 0)
      -- l3: Q v37 N39 F40 A41
      have ow : tkEnd q n (tkAt q n p') - tkAt q n p' ≤ 6 ∧ sOwn (tkC q n (tkAt q n p')) := Classical.byContradiction (fun w => by
        rw [cif_neg (fun y => w ⟨by omega, by have y2 := y.2; rw [tcc (by omega)] at y2; exact y2⟩)] at p57
        exact hc p57)
      rw [rwN_stop (Or.inr ow)] at i8
      rw [i8]
      exact ⟨rfl, rfl, i4, i9, i10, i11, by unfold kW; dsimp only; omega⟩
    · -- case (z59 = 0)
      have nE : ¬ rwE q n (tkAt q n p') := fun w => by
        rcases w with w | ⟨w, w2⟩
        · exact w k1
        · rw [cif_pos ⟨by omega, by rw [tcc w]; exact w2⟩] at p57
          omega
      rw [ff] at i8
      refine ⟨fun hc => ?_, fun hc => ?_⟩ -- c3
      · -- case (¬ v37 = a3)
        refine ⟨_, by exact hO'.1.2.2.2.2, ?_⟩ -- d68: jfn N39 3305 o = (b68 : Int)
        refine ⟨by exact (hW.gw hnb ho r4 i11).1.1, ?_⟩ -- s9: jtg N39 b68 = 2
        have hW' := hW.gw hnb ho r4 i11
        refine ⟨_, sX10_known hO' ⟨by omega, Or.inl ⟨i4, rfl⟩⟩ hW'.1.2 hW'.2.1 lo (Or.inl rfl) hW'.2.2 (fun w => by
          have e : RR = (knF nm m q n (tkAt q n p'), (v37, 0), g) := by rw [i8]; exact rwN_bad nE hc w
          rw [e] at hX
          exact fun b N2 F2 A2 z1 z2 z3 => hX w b N2 F2 A2 z1 (i11.trans z2.w) (by unfold xB at z3; unfold xW; omega)), ?_⟩ -- call wqX10_known S o (jfn N39 617 b68) N39 F40 A41 P71 X
        intro z73 N76 F74 A75 p71
        obtain ⟨y1', y2', y3', y4', y5', -⟩ := p71
        obtain ⟨-, kb', -, -, kv', -⟩ : knF nm m q n (tkAt q n p') = (0, 0) ∧ tkBad q n (tkAt q n p') = -1 ∧ tkKd q n (tkAt q n p') = 1 ∧ ¬ sOwn (tkC q n (tkAt q n p')) ∧ (0 ≤ knV nm m q n (tkAt q n p') ∧ knV nm m q n (tkAt q n p') < m) ∧ nm (knV nm m q n (tkAt q n p')) = tkC q n (tkAt q n p') := by
          rcases knF_cases nm m q n (tkAt q n p') (by omega) ta'.1.2 hm.1 with w | w
          · exact w
          · rw [y1'] at w; omega
        have cc' := tk_code ⟨by omega, ta'.1.2⟩ k1 kb'
        obtain ⟨wb', w1', w2b, -⟩ := hW'.2.2 (knV nm m q n (tkAt q n p')) kv'.1 kv'.2
        have w2c := y4'.1.tg hnb' w2b (by decide)
        have r4b := i11.1.tg hnb r4 (by decide)
        have r4c := y4'.1.tg hnb' r4b (by decide)
        refine ⟨by exact jcst_word (y2'.trans w1') w2c, ?_⟩ -- s10: jcst N76 "ChildSays$Word" z73
        refine ⟨_, by (rw [i11.1.fn hnb r1 (by decide)]; exact r3), ?_⟩ -- d82: jfn N39 1202 b1 = (b82 : Int)
        refine ⟨by exact r4c, ?_⟩ -- s11: jtg N76 b82 = 107
        refine ⟨by (rw [y4'.1.fn hnb' r4b (by decide), i11.1.fn hnb r4 (by decide)]; exact r5), ?_⟩ -- s12: jfn N76 0 b82 = 1
        refine ⟨by (rw [y4'.1.ln hnb' r4b (by decide), i11.1.ln hnb r4 (by decide), r6]; omega), ?_⟩ -- s13: ((0 : Int) ≤ a2 + v37 ∧ (a2 + v37 : Int) < (jln N76 b82 : Int))
        refine ⟨by exact jast_word (y2'.trans w1') w2c, ?_⟩ -- s14: jast N76 "ChildSays$Word" z73
        intro A87 e87
        have f87 : rfw S o r N39 F40 A41 N76 F74 A87 := by rw [e87]; exact y4'.w.trans (rfw.put S o r N76 F74 A75 (a2 + v37) z73)
        refine ⟨by omega, ?_⟩ -- s15: jR (v37 + 1)
        refine ⟨_, sX10_ahead (hO'.gw r4b f87) y3', ?_⟩ -- call wqX10_ahead S o N76 F74 A87 P92
        intro z94 N97 F95 A96 p92
        refine ⟨?_, ?_⟩ -- l4: I44 (v37 + 1) z94 N97 F95 A96
        · obtain ⟨g1', g2', g3', g4', g5', g6'⟩ := p92
          have hrb : (r + 1 : Nat) < jnx N39 := hnb' _ (by rw [r4b]; decide)
          have hrc : (r + 1 : Nat) < jnx N76 := by have := y4'.1.1; omega
          have a92 : A96 (r + 1) = A87 (r + 1) := g4'.2.2.1 _ hrc
          refine ⟨tkEnd q n (tkAt q n p'), upv g (a2 + v37) (knV nm m q n (tkAt q n p')), by omega, by omega, awP_end ta'.1.2 k1, g3', g2', g1', ?_, fun i i0 i1' => ?_, fun i i0 => ?_, (i11.trans f87).trans g4'.w, ?_, ?_⟩
          · rw [i8, rwN_go nE hc (by rw [y1']), show (a3 + 1 - (v37 + 1)).toNat = (a3 - v37).toNat by omega]
          · rw [a92, e87]
            by_cases w : i = a2 + v37
            · rw [w, upA_s, upv_s, y2']
            · rw [upA_i w, upv_n w, y4'.2.2.1 _ hrb]; exact i9 i i0 (by omega)
          · rw [a92, e87, upA_i (by omega), y4'.2.2.1 _ hrb]; exact i10 i i0
          · unfold kB at y5'
            omega
          · unfold kB at y5'
            omega
        · dsimp only; omega
      · -- case (v37 = a3)
        intro b102 N103 F104 e102 e103 e104
        refine ⟨_, sX11_init (jnew_flt e102 e103 e104), ?_⟩ -- call wqX11_init b102 5 (F104 3312 o) N103 F104 A41 P110
        intro N115 F113 A114 p110
        -- l5: X b102 N115 F113 A114
        have hox := hnb' o (by rw [hO'.1.1]; decide)
        obtain ⟨z1', z2', z3', z4'⟩ := flt_new (S := S) (o := o) hnb' e102 e103 e104 p110
        rw [e104, nwF_o (by omega), i5] at z1'
        have e : RR = ((5, tkAt q n p'), (v37, 0), g) := by rw [i8]; exact rwN_full nE hc
        rw [e] at hX
        exact hX (by show (5 : Int) ≠ 0; decide) _ _ _ _ z1' (i11.trans z2'.w) (by unfold xW; omega)

