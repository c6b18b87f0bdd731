set_option maxRecDepth 100000
set_option linter.unusedVariables false
/-! the component's reader: a row, a row alone; printed by gen/prove.py out of spec/aq.rd3.spec -/
/-- reading a row: the row's own fields, its array are written too -/
def rfz (S : Nat → Nat) (o r : Nat) (N : jSh) (F : jFl) (A : jAr) (N' : jSh) (F' : jFl) (A' : jAr) : Prop := nex N N' ∧ (∀ a : Nat, a < jnx N → a ≠ o → a ≠ r → ∀ f, F' f a = F f a) ∧ (∀ a : Nat, a < jnx N → a ≠ r + 1 → A' a = A a) ∧ (∀ M, gi S M N F → gi S M N' F') ∧ (nb N → nb N')
theorem rfw.z {S : Nat → Nat} {o r : Nat} {N N' : jSh} {F F' : jFl} {A A' : jAr} (h : rfw S o r N F A N' F' A') : rfz S o r N F A N' F' A' := ⟨h.1, fun a ha hao _ f => h.2.1 a ha hao f, h.2.2⟩
theorem rfz.trans {S : Nat → Nat} {o r : Nat} {N N' N'' : jSh} {F F' F'' : jFl} {A A' A'' : jAr} (h : rfz S o r N F A N' F' A') (h2 : rfz S o r N' F' A' N'' F'' A'') : rfz S o r N F A N'' F'' A'' := by
  have l := h.1.1
  exact ⟨h.1.trans h2.1, fun a ha hao har f => (h2.2.1 a (by omega) hao har f).trans (h.2.1 a ha hao har f), fun a ha hr => (h2.2.2.1 a (by omega) hr).trans (h.2.2.1 a ha hr), fun M g => h2.2.2.2.1 M (h.2.2.2.1 M g), fun g => h2.2.2.2.2 (h.2.2.2.2 g)⟩
theorem rfz.put {S : Nat → Nat} {o r : Nat} {N : jSh} {F : jFl} {A : jAr} {f : Nat} {z : Int} (hr : jtg N r ≠ 20) : rfz S o r N F A N (upF F f r z) A := ⟨nex.refl _, fun a _ _ h g => upF_a h, fun _ _ _ => rfl, fun M g => g.of (fun l hl => by
  have : l ≠ r := fun w => hr (by rw [← w]; exact hl)
  exact ⟨upF_a this, upF_a this⟩), id⟩
theorem rdO.gz {S : Nat → Nat} {u : Int} {N N' : jSh} {F F' : jFl} {A A' : jAr} {o x h r : Nat} {n : Int} {q : Int → Int} (d : rdO S u N A o x h n q) (hr : jtg N (r + 1) = 107) (f : rfz S o r N F A N' F' A') : rdO S u N' A' o x h n q := d.g3 hr f.1 f.2.2.1 f.2.2.2.2
theorem wSrc.gz {S : Nat → Nat} {u : Int} {N N' : jSh} {F F' : jFl} {A A' : jAr} {o h l r : Nat} {m : Int} {eW nm : Int → Int} (d : wSrc u N F A h l m eW nm) (hn : nb N) (ho : jtg N o = 11) (hr4 : jtg N r = 4) (hr : jtg N (r + 1) = 107) (f : rfz S o r N F A N' F' A') : wSrc u N' F' A' h l m eW nm :=
  d.g3 hn hr f.1 (fun g => f.2.1 l (hn l (by rw [d.2.1.1.1]; decide)) (fun w => by have := d.2.1.1.1; rw [w, ho] at this; omega) (fun w => by have := d.2.1.1.1; rw [w, hr4] at this; omega) g) f.2.2.1
def rXz (S : Nat → Nat) (n : Int) (o r : Nat) (N : jSh) (F : jFl) (A : jAr) (c : Int) (f : Int × Int) (X : Nat → jSh → jFl → jAr → Prop) : Prop := ∀ (b : Nat) (N' : jSh) (F' : jFl) (A' : jAr), flt N' b f → rfz S o r N F A N' F' A' → xW n N N' c → X b N' F' A'
theorem rU.of {F F' : jFl} {o : Nat} {q : Int → Int} {n p : Int} (h : rU F o q n p) (hF : ∀ f, F' f o = F f o) : rU F' o q n p := by
  unfold rU at *
  rw [hF, hF, hF]
  exact h
theorem kW.trans {N N' N'' : jSh} {c c' c'' : Int} (h : kW N N' c c') (h2 : kW N' N'' c' c'') : kW N N'' c c'' := by unfold kW at *; omega
theorem kB.w {N N' : jSh} {c c' : Int} (h : kB N N' c c') (hc : c ≤ c') : kW N N' c c' := by unfold kB at h; unfold kW; omega
theorem kW.xw {n : Int} {N N' N'' : jSh} {c c' : Int} (h : kW N N' c c') (h2 : xW n N' N'' c') : xW n N N'' c := by unfold kW at h; unfold xW at *; omega
theorem xB.w {n : Int} {N N' : jSh} {c : Int} (h : xB n N N' c) (hc : c ≤ n) : xW n N N' c := by unfold xB at h; unfold xW; omega
set_option maxHeartbeats 4000000 in
theorem sX10_row {S : Nat → Nat} {o : Nat} {a1 : Int} {N : jSh} {F : jFl} {A : jAr} {u m : Int} {x h l r : Nat} {n p : Int} {eW nm : Int → Int} {q : Int → Int} (hO : rdO S u N A o x h n q) (hU : rU F o q n p) (hW : wSrc u N F A h l m eW nm) (h1 : a1 = (r : Int)) (hr : rowOk N r) {X : Nat → jSh → jFl → jAr → Prop} (hX1 : (roS nm m q n p).1.1 ≠ 0 → rXz S n o r N F A p (roS nm m q n p).1 X) (hX2 : (roS nm m q n p).1.1 = 0 → 0 ≤ tkBad q n (tkAt q n (roS nm m q n p).2.2.1) → rXz S n o r N F A p (1, tkBad q n (tkAt q n (roS nm m q n p).2.2.1)) X) : wqX10_row S o a1 N F A (fun z N' F' A' => (roS nm m q n p).1.1 = 0 ∧ rowIs N' F' A' eW r (roW (roS nm m q n p)) ∧ rfz S o r N F A N' F' A' ∧ ∃ c' : Int, (p ≤ c' ∧ c' ≤ n) ∧ rA N' F' A' o q n (roS nm m q n p).2.2.1 c' ∧ kW N N' p c') (X) := by
  unfold wqX10_row
  obtain ⟨RS, hRS⟩ : ∃ RS : roR, roS nm m q n p = RS := ⟨_, rfl⟩
  rw [hRS] at hX1 hX2 ⊢
  obtain ⟨R1, hR1⟩ : ∃ R1 : rwR, rwW nm m q n 8 0 p (fun _ => 0) = R1 := ⟨_, rfl⟩
  have hnb := hO.2.1.1
  have hm := hW.2.1.2.2.1
  have ho := hO.1.1
  obtain ⟨r1, r2, r3, r4, r5, r6⟩ := id hr
  have hro : r ≠ o := fun w => by rw [w, ho] at r1; omega
  have p0 := hU.2.2.1
  refine ⟨_, sX10_words (g0 := fun _ => 0) hO hU rfl hW h1 hr (by decide) ⟨by decide, by decide⟩ (fun w => by
    rw [hR1] at w ⊢
    have e : RS = (R1.1, (0, 0), 0, fun _ => 0) := by rw [← hRS]; exact roS_fault hR1 w
    rw [e] at hX1
    exact fun b N2 F2 A2 z1 z2 z3 => hX1 w b N2 F2 A2 z1 z2.z z3), ?_⟩ -- call wqX10_words S o a1 0 8 N F A P1 X
  intro z3 N6 F4 A5 p1
  rw [hR1] at p1
  obtain ⟨y1, y2, y3, y4, y5, y6, y7⟩ := p1
  obtain ⟨k1, k2, k3, k4⟩ := rwW_ok (e := nm) (q := q) (g := fun _ => 0) hm.1 p0 (Int.le_refl 0) (by decide : (1 : Int) ≤ 8) (fun i i0 i1 => by omega) (by rw [hR1]; exact y1)
  have kE := rwW_end (e := nm) (m := m) (q := q) (n := n) (fm := 0) (p := p) (g := fun _ => 0) (by decide : (1 : Int) ≤ 8) (by rw [hR1]; exact y1)
  rw [hR1] at k1 k2 k3 k4 kE
  have p1r : 0 ≤ R1.2.1.2 ∧ R1.2.1.2 ≤ n := by omega
  have hO6 := hO.gw r4 y6
  have hnb6 := hO6.2.1.1
  have r16 := y6.1.tg hnb r1 (by decide)
  have r46 := y6.1.tg hnb r4 (by decide)
  refine ⟨_, by exact h1, ?_⟩ -- d11: a1 = (b11 : Int)
  refine ⟨by exact r16, ?_⟩ -- s1: jtg N6 b11 = 4
  refine ⟨by (rw [y6.1.fn hnb r1 (by decide)]; exact r2), ?_⟩ -- s2: jfn N6 0 b11 = 1
  intro F16 e16
  have f16 : rfz S o r N6 F4 A5 N6 F16 A5 := by rw [e16]; exact rfz.put (by rw [r16]; decide)
  have fz := y6.z.trans f16
  have o16 : ∀ f, F16 f o = F4 f o := fun f => by rw [e16, upF_a (fun w => hro w.symm)]
  have U16 := y3.of o16
  have A16 : rA N6 F16 A5 o q n R1.2.1.2 R1.2.1.2 := ⟨p1r, Or.inl ⟨U16, rfl⟩⟩
  have main16 : F16 1203 r = R1.2.1.1 := by rw [e16, upF_s]; exact y2
  refine ⟨_, sX10_takes (code := 6452596) hO6 A16 (hO6.2.1.2.1.2.1 13 (by decide)).2 (fun w => by
    have nb9 : ¬ isBut q n (tkAt q n R1.2.1.2) := fun z => by
      have := (rwE_bad p1r k3 kE z.1).1
      omega
    have e : RS = ((0, 0), (R1.2.1.1, 0), R1.2.1.2, R1.2.2) := by rw [← hRS]; exact roS_main hR1 y1 nb9
    rw [e] at hX2
    exact fun b N2 F2 A2 z1 z2 z3 => hX2 rfl w b N2 F2 A2 z1 (fz.trans z2.w.z) (y7.xw (z3.w p1r.2))), ?_⟩ -- call wqX10_takes S o (S 14 : Int) N6 F16 A5 P18 X
  intro z20 N23 F21 A22 p18
  obtain ⟨t1, t2, t3⟩ := p18
  have te := tkEnd_le (q := q) (tkAt_all (q := q) p1r.2).1.2
  have tt := (tkAt_all (q := q) p1r.2).1
  have f23 := fz.trans t2.w.z
  have ro23 : rowOk N23 r := hr.ex hnb f23.1
  have hrx : r < jnx N6 := hnb6 r (by rw [r16]; decide)
  have hrx1 : r + 1 < jnx N6 := hnb6 (r + 1) (by rw [r46]; decide)
  have m23 : F21 1203 r = R1.2.1.1 := by rw [t2.2.1 r hrx hro]; exact main16
  have a23 : A22 (r + 1) = A5 (r + 1) := t2.2.2.1 _ hrx1
  refine ⟨fun hc => ?_, fun hc => ?_⟩ -- c1
  · -- case (z20 = 0)
    intro F32 e32
    -- l1: Q a1 N23 F32 A22
    obtain ⟨w1, w2⟩ : ¬ (tkKd q n (tkAt q n R1.2.1.2) = 1 ∧ tkC q n (tkAt q n R1.2.1.2) = 6452596) ∧ rS N23 F21 A22 o q n (tkAt q n R1.2.1.2) := by
      rcases t1 with w | w
      · omega
      · exact w.2
    have e : RS = ((0, 0), (R1.2.1.1, 0), R1.2.1.2, R1.2.2) := by rw [← hRS]; exact roS_main hR1 y1 w1
    rw [e]
    have f32 : rfz S o r N23 F21 A22 N23 F32 A22 := by rw [e32]; exact rfz.put (by rw [ro23.1]; decide)
    refine ⟨rfl, ⟨ro23, by rw [e32, upF_f (by decide)]; exact m23, by rw [e32, upF_s]; rfl, fun i i0 i1 => ?_⟩, f23.trans f32, tkEnd q n (tkAt q n R1.2.1.2), by omega, ?_, y7.trans (t3.w (by omega))⟩
    · have i1 : i < R1.2.1.1 + 0 := i1
      rw [a23]
      exact y4 i i0 (by omega)
    · have : rS N23 F32 A22 o q n (tkAt q n R1.2.1.2) := w2.ex (t2.2.2.2.2 hnb6) (nex.refl _) (fun _ _ => rfl) (fun f => by rw [e32, upF_a (fun w => hro w.symm)])
      exact this.rA p1r
  · -- case (¬ (z20 = 0))
    obtain ⟨w1, w2, w3⟩ : (tkKd q n (tkAt q n R1.2.1.2) = 1 ∧ tkC q n (tkAt q n R1.2.1.2) = 6452596) ∧ rU F21 o q n (tkEnd q n (tkAt q n R1.2.1.2)) ∧ tkBad q n (tkAt q n R1.2.1.2) = -1 := by
      rcases t1 with w | w
      · exact w.2
      · omega
    obtain ⟨T, hT⟩ : ∃ T : rwR, rwW nm m q n 4 R1.2.1.1 (tkEnd q n (tkAt q n R1.2.1.2)) R1.2.2 = T := ⟨_, rfl⟩
    have e : RS = (T.1, (R1.2.1.1, T.2.1.1), T.2.1.2, T.2.2) := by rw [← hRS]; exact roS_but hR1 y1 w1 hT
    rw [e] at hX1
    rw [m23]
    have hO23 := hO.gz r4 f23
    have r423 := f23.1.tg hnb r4 (by decide)
    refine ⟨_, sX10_words (g0 := R1.2.2) hO23 w2 rfl (hW.gz hnb ho r1 r4 f23) h1 ro23 (by omega) ⟨by decide, by omega⟩ (fun w => by
      rw [hT] at w ⊢
      exact fun b N2 F2 A2 z1 z2 z3 => hX1 w b N2 F2 A2 z1 (f23.trans z2.z) ((y7.trans (t3.w (by omega))).xw z3)), ?_⟩ -- call wqX10_words S o a1 (F21 1203 b11) 4 N23 F21 A22 P35 X
    intro z37 N40 F38 A39 p35
    rw [hT] at p35
    obtain ⟨x1, x2, x3, x4, x5, x6, x7⟩ := p35
    intro F48 e48
    -- l2: Q a1 N40 F48 A39
    have hnb23 := hO23.2.1.1
    have r140 := x6.1.tg hnb23 ro23.1 (by decide)
    have f48 : rfz S o r N40 F38 A39 N40 F48 A39 := by rw [e48]; exact rfz.put (by rw [r140]; decide)
    obtain ⟨q1, q2, q3, q4⟩ := rwW_ok (e := nm) (q := q) (g := R1.2.2) hm.1 (show 0 ≤ tkEnd q n (tkAt q n R1.2.1.2) ∧ tkEnd q n (tkAt q n R1.2.1.2) ≤ n by omega) (show 0 ≤ R1.2.1.1 by omega) (by decide : (1 : Int) ≤ 4) (fun i i0 i1 => k4 i i0 (by omega)) (by rw [hT]; exact x1)
    have low : ∀ i : Int, i < R1.2.1.1 → T.2.2 i = R1.2.2 i := fun i hi => by rw [← hT]; exact rwW_low hi
    rw [hT] at q1 q2 q3 q4
    rw [e]
    have hr23 : r < jnx N23 := hnb23 r (by rw [ro23.1]; decide)
    refine ⟨x1, ⟨ro23.ex hnb23 x6.1, ?_, by rw [e48, upF_s]; exact x2, fun i i0 i1 => ?_⟩, (f23.trans x6.z).trans f48, T.2.1.2, ⟨by show p ≤ T.2.1.2; omega, q2.2⟩, ⟨⟨by show 0 ≤ T.2.1.2; omega, q2.2⟩, Or.inl ⟨?_, rfl⟩⟩, (y7.trans (t3.w (by omega))).trans x7⟩
    · rw [e48, upF_f (by decide), x6.2.1 r hr23 hro]; exact m23
    · have i1 : i < R1.2.1.1 + T.2.1.1 := i1
      by_cases w : i < R1.2.1.1
      · rw [x5 i w, a23, y4 i i0 (by omega)]
        show eW (R1.2.2 i) = eW (T.2.2 i)
        rw [low i w]
      · exact x4 i (by omega) (by omega)
    · exact x3.of (fun f => by rw [e48, upF_a (fun w => hro w.symm)])

set_option maxHeartbeats 2000000 in
theorem sX10_rowAlone {S : Nat → Nat} {o : Nat} {a1 : Int} {N : jSh} {F : jFl} {A : jAr} {u m : Int} {x h l r : Nat} {n p : Int} {eW nm : Int → Int} {q : Int → Int} (hO : rdO S u N A o x h n q) (hU : rU F o q n p) (hW : wSrc u N F A h l m eW nm) (h1 : a1 = (r : Int)) (hr : rowOk N r) {X : Nat → jSh → jFl → jAr → Prop} (hX : (roA q n (roS nm m q n p)).1 ≠ 0 → rXz S n o r N F A p (roA q n (roS nm m q n p)) X) : wqX10_rowAlone S o a1 N F A (fun z N' F' A' => (roA q n (roS nm m q n p)).1 = 0 ∧ (roS nm m q n p).1.1 = 0 ∧ rowIs N' F' A' eW r (roW (roS nm m q n p)) ∧ rfz S o r N F A N' F' A' ∧ kW N N' p n) (X) := by
  unfold wqX10_rowAlone
  have hm := hW.2.1.2.2.1
  have hnb := hO.2.1.1
  have ho := hO.1.1
  have p0 := hU.2.2.1
  obtain ⟨r1, r2, r3, r4, r5, r6⟩ := id hr
  have hro : r ≠ o := fun w => by rw [w, ho] at r1; omega
  have hok := fun w => roS_ok (e := nm) (m := m) (q := q) (n := n) (p := p) hm.1 p0 w
  have hend := fun w k => roS_end (e := nm) (m := m) (q := q) (n := n) (p := p) hm.1 p0 w k
  obtain ⟨RS, hRS⟩ : ∃ RS : roR, roS nm m q n p = RS := ⟨_, rfl⟩
  rw [hRS] at hX hok hend ⊢
  refine ⟨_, sX10_row hO hU hW h1 hr (fun w => by
    rw [hRS] at w ⊢
    have e : roA q n RS = RS.1 := by rw [roA_roF (by rw [roF_ne w]; exact w), roF_ne w]
    rw [e] at hX
    exact hX w) (fun w w2 => by
    rw [hRS] at w w2 ⊢
    have nk : tkKd q n (tkAt q n RS.2.2.1) ≠ 1 := fun k => by have := hend w k; omega
    have e : roA q n RS = (1, tkBad q n (tkAt q n RS.2.2.1)) := roA_bad (by rw [roF_ok w nk]) w2
    rw [e] at hX
    exact hX ne10), ?_⟩ -- call wqX10_row S o a1 N F A P1 X
  intro z3 N6 F4 A5 p1
  rw [hRS] at p1
  obtain ⟨y1, y2, y3, c', y4, y5, y6⟩ := p1
  obtain ⟨k1, k2, k3, k4, -⟩ := hok y1
  have hend := hend y1
  have pr : 0 ≤ RS.2.2.1 ∧ RS.2.2.1 ≤ n := by omega
  have ta := (tkAt_all (q := q) pr.2).1
  have te := tkEnd_le (q := q) ta.2
  have hO6 := hO.gz r4 y3
  refine ⟨_, sX10_see hO6 y5 (fun b N2 F2 A2 z0 z1 z2 z3 => by
    have nk : tkKd q n (tkAt q n RS.2.2.1) ≠ 1 := fun k => by have := hend k; omega
    have e : roA q n RS = (1, tkBad q n (tkAt q n RS.2.2.1)) := roA_bad (by rw [roF_ok y1 nk]) z0
    rw [e] at hX
    exact hX ne10 _ _ _ _ z1 (y3.trans z2.w.z) (y6.xw (z3.w y4.2))), ?_⟩ -- call wqX10_see S o N6 F4 A5 P12 X
  intro z14 N17 F15 A16 p12
  obtain ⟨t1, t2, t3, t4, -⟩ := p12
  have hcc : c' ≤ tkEnd q n (tkAt q n RS.2.2.1) := by
    rcases y5.2 with ⟨-, w⟩ | ⟨-, w⟩ <;> omega
  have bd := t2.2.2.1
  refine ⟨fun hc => ?_, fun hc => ?_⟩ -- c1
  · -- case (z14 = 0)
    -- l1: Q a1 N17 F15 A16
    have nk : tkKd q n (tkAt q n RS.2.2.1) ≠ 1 := by omega
    have hnb6 := hO6.2.1.1
    have r16 := y3.1.tg hnb r1 (by decide)
    have r46 := y3.1.tg hnb r4 (by decide)
    have hrx : r < jnx N6 := hnb6 r (by rw [r16]; decide)
    have hrx1 : r + 1 < jnx N6 := hnb6 (r + 1) (by rw [r46]; decide)
    refine ⟨by rw [roA_ok (by rw [roF_ok y1 nk]) (by omega) (by rw [← t1]; exact hc)], y1, y2.ex hnb6 t3.1 (t3.2.1 r hrx hro _) (t3.2.1 r hrx hro _) (t3.2.2.1 _ hrx1), y3.trans t3.w.z, ?_⟩
    unfold kW at y6 ⊢
    unfold kB at t4
    omega
  · -- case (¬ (z14 = 0))
    refine ⟨_, sX10_wrong (hO6.go t3) t2.1.2.1, ?_⟩ -- call wqX10_wrong o N17 F15 A16 P24
    intro z26 N29 F27 A28 p24
    obtain ⟨b, g1, g2, g3, g4, g5⟩ := p24
    refine ⟨_, by exact g1, ?_⟩ -- d34: z26 = (b34 : Int)
    refine ⟨by exact g2.1, ?_⟩ -- s1: jtg N29 b34 = 12
    refine ⟨by exact g2.2.1, ?_⟩ -- s2: jfn N29 0 b34 = 1
    -- l2: X b34 N29 F27 A28
    have e : roA q n RS = (1, tkAt q n RS.2.2.1) := by
      by_cases k : tkKd q n (tkAt q n RS.2.2.1) = 1
      · rw [roA_roF (by rw [roF_word y1 k]; exact ne10), roF_word y1 k]
      · exact roA_more (by rw [roF_ok y1 k]) (by omega) (by rw [← t1]; exact hc)
    rw [e] at hX
    refine hX ne10 _ _ _ _ g2 ((y3.trans t3.w.z).trans g3.w.z) ?_
    unfold kW at y6
    unfold kB at t4
    unfold xW
    omega

