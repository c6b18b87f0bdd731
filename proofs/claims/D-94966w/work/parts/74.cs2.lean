set_option maxRecDepth 100000
set_option linter.unusedVariables false
/-! the component: lists, people, sittings; printed by gen/prove.py out of spec/74.cs2.spec -/
def sTells (kind : Int) (R : sRow) (k : Int) : Int := if k = -1 then kind else if k = 20 then R.1 + R.2.1 else if 0 ≤ k ∧ k < R.1 + R.2.1 then R.2.2 k else -1
abbrev sy (o : Nat) (l : Int) : Nat := o + 3 + 3 * l.toNat
theorem sJ9_checkIndex {a1 : Int} {a2 : Int} {a3 : Int} {N : jSh} {F : jFl} {A : jAr} (h1 : 0 ≤ a1 ∧ a1 < a2) : wqJ9_checkIndex a1 a2 a3 N F A (fun z => z = a1) := by
  unfold wqJ9_checkIndex
  refine ⟨fun hc => ?_, fun hc => ?_⟩ -- c1
  · -- case (a1 < 0)
    -- l1: False
    first | omega | rfl
  · -- case (¬ (a1 < 0))
    refine ⟨fun hc => ?_, fun hc => ?_⟩ -- c2
    · -- case (a1 < a2)
      -- l2: Q a1
      first | omega | rfl
    · -- case (¬ (a1 < a2))
      -- l3: False
      first | omega | rfl

theorem sJ11_checkIndex {a1 : Int} {a2 : Int} {N : jSh} {F : jFl} {A : jAr} (h1 : 0 ≤ a1 ∧ a1 < a2) : wqJ11_checkIndex a1 a2 N F A (fun z => z = a1) := by
  unfold wqJ11_checkIndex
  refine ⟨_, sJ9_checkIndex h1, ?_⟩ -- call wqJ9_checkIndex a1 a2 (-1) N F A P1
  intro z3 p1
  -- l1: Q z3
  exact p1

theorem sJ2_size {o : Nat} {N : jSh} {F : jFl} {A : jAr} {n : Int} {e : Int → Int} (hl : jli N F A o n e) : wqJ2_size o N F A (fun z => z = n) := by
  unfold wqJ2_size
  -- l1: Q (F 6003 o)
  exact hl.2.1

theorem sJ2_isEmpty {o : Nat} {N : jSh} {F : jFl} {A : jAr} {n : Int} {e : Int → Int} (hl : jli N F A o n e) : wqJ2_isEmpty o N F A (fun z => z = (if n = 0 then 1 else 0)) := by
  unfold wqJ2_isEmpty
  intro z2 e2
  -- l1: Q z2
  subst e2; rw [hl.2.1]; grind

theorem sJ2_elementData {o : Nat} {a1 : Int} {N : jSh} {F : jFl} {A : jAr} {n : Int} {e : Int → Int} (hl : jli N F A o n e) (h1 : 0 ≤ a1 ∧ a1 < n) : wqJ2_elementData o a1 N F A (fun z => z = e a1) := by
  unfold wqJ2_elementData
  obtain ⟨x1, x2, x3, b, x4, x5, x6, x7, x8⟩ := hl
  refine ⟨_, by assumption, ?_⟩ -- d1: F 6002 o = (b1 : Int)
  refine ⟨by first | assumption | omega, ?_⟩ -- s1: jtg N b1 = 104
  refine ⟨by first | assumption | omega, ?_⟩ -- s2: ((0 : Int) ≤ a1 ∧ (a1 : Int) < (jln N b1 : Int))
  -- l1: Q (A b1 a1)
  exact x7 a1 h1.1 h1.2

theorem sJ2_get {o : Nat} {a1 : Int} {N : jSh} {F : jFl} {A : jAr} {n : Int} {e : Int → Int} (hl : jli N F A o n e) (h1 : 0 ≤ a1 ∧ a1 < n) : wqJ2_get o a1 N F A (fun z => z = e a1) := by
  unfold wqJ2_get
  refine ⟨_, sJ11_checkIndex (by rw [hl.2.1]; exact h1), ?_⟩ -- call wqJ11_checkIndex a1 (F 6003 o) N F A P1
  intro z3 p1
  refine ⟨_, sJ2_elementData hl h1, ?_⟩ -- call wqJ2_elementData o a1 N F A P8
  intro z10 p8
  -- l1: Q z10
  exact p8

theorem sX2_of {o : Nat} {a1 : Int} {a2 : Int} {N : jSh} {F : jFl} {A : jAr} {wA sA cA lA : Int → Int} {W L : sTb} {x t : Nat} {c l : Int} (hx : ctx N F A x t W L wA sA cA lA) (ho : sayOk N x o) (hs : scr N o (o + 3)) (ha1 : a1 = cA c) (hc : 0 ≤ c ∧ c < W 2 0 0) (ha2 : a2 = lA l) (hl : 0 ≤ l ∧ l < W 3 0 0) : wqX2_of o a1 a2 N F A (fun z F' A' => z = (o : Int) ∧ sayIs N F' A' wA o (sKind W c (sRw L l) (sHolds W L c l)) (sSayR W c (sRw L l) (sHolds W L c l)) ∧ fr o (o + 3) F A F' A') := by
  unfold wqX2_of
  obtain ⟨⟨x1, x2, x3⟩, ⟨hW, hk⟩, hT⟩ := hx
  obtain ⟨b, y1, y2, y3, y4⟩ := hT.2.2.2.2.2.2 l hl.1 hl.2
  obtain ⟨ch, u1, u2⟩ := hT.2.2.2.2.2.1 c hc.1 hc.2
  have q := hs.out3 (Or.inr (Or.inr (Or.inr y2.1)))
  have k4 := (hk.2.2.2.1 l hl.1 hl.2).2.2.2
  have w1 := (hW.2.2.2.2.2.2.2.2.2.1 c hc.1 hc.2).2
  refine ⟨_, by exact ha2.trans y1, ?_⟩ -- d1: a2 = (b1 : Int)
  refine ⟨by exact y2.1, ?_⟩ -- s1: jtg N b1 = 17
  refine ⟨_, by exact ha1.trans u1, ?_⟩ -- d4: a1 = (b4 : Int)
  refine ⟨by exact u2.1.1, ?_⟩ -- s2: jtg N b4 = 16
  refine ⟨by rw [y3]; exact k4, ?_⟩ -- s3: (F 5103 b1 = 0 ∨ F 5103 b1 = 1)
  refine ⟨_, sX2_of_2 (left := sHolds W L c l) (c := c) (b := b + 3) (R := sRw L l) ho x1 x3 hT.1.1 hT.2.1.2.2.1 (ha1.trans u1) u2 hc y2.2.2.2.1 y4 (sRw_ok hk hl) hT.2.2.2.1 hW (by omega) (by unfold sHolds; rw [u2.2.2.1, y3]) (by rw [u2.2.2.1]; omega), ?_⟩ -- call wqX2_of_2 o a1 (jfn N 5102 b1) (F 5103 b1) (F 4803 b4) N F A P8
  intro z10 F11 A12 p8
  -- l1: Q z10 F11 A12
  exact p8

theorem sX2_lost {o : Nat} {N : jSh} {F : jFl} {A : jAr} {x : Nat} (ho : sayOk N x o) : wqX2_lost o N F A (fun z F' A' => z = (o : Int) ∧ (∀ wA f, sayIs N F' A' wA o 3 (0, 0, f)) ∧ fr o (o + 3) F A F' A') := by
  unfold wqX2_lost
  refine ⟨_, by exact ho.2.2.1, ?_⟩ -- d1: jfn N 902 o = (b1 : Int)
  refine ⟨by exact ho.2.2.2.1.1, ?_⟩ -- s1: jtg N b1 = 4
  refine ⟨_, sX3_empty ho.2.2.2.1, ?_⟩ -- call wqX3_empty b1 N F A P4
  intro z6 F7 A8 p4
  refine ⟨_, sX2_is ho.2.1, ?_⟩ -- call wqX2_is o 3 N F7 A8 P13
  intro z15 F16 A17 p13
  -- l1: Q z15 F16 A17
  obtain ⟨q1, q2, q3, q4⟩ := p4
  obtain ⟨r1, r2, r3⟩ := p13
  subst r2 r3
  refine ⟨r1, fun wA f => ⟨upF_same, (q2 wA f).of (upF_f (by decide)) (upF_f (by decide)) rfl⟩, ?_⟩
  exact (q4.mono (by omega) (by omega)).upF (by omega)

theorem sX2_tells {o : Nat} {a1 : Int} {N : jSh} {F : jFl} {A : jAr} {wA : Int → Int} {W : sTb} {x : Nat} {kind : Int} {R : sRow} (ho : sayOk N x o) (hr : sayIs N F A wA o kind R) (hk : sRok (W 0 0 0) R) (hw : wds N F W wA) : wqX2_tells o a1 N F A (fun z => z = sTells kind R a1) := by
  unfold wqX2_tells
  have hk0 := hk
  obtain ⟨k1, k2, k3⟩ := hk
  obtain ⟨y1, y2⟩ := hr
  obtain ⟨o1, o2, o3, ⟨o4, o5, o6, o7, o8, o9⟩, o10⟩ := ho
  refine ⟨fun hc => ?_, fun hc => ?_⟩ -- c1
  · -- case (¬ a1 = (-1))
    refine ⟨fun hc => ?_, fun hc => ?_⟩ -- c2
    · -- case (¬ a1 = 20)
      refine ⟨_, by assumption, ?_⟩ -- d3: jfn N 902 o = (b3 : Int)
      refine ⟨by first | assumption | omega, ?_⟩ -- s1: jtg N b3 = 4
      refine ⟨_, sX3_size y2 hk0, ?_⟩ -- call wqX3_size b3 N F A P6
      intro z8 p6
      refine ⟨by first | assumption | omega, ?_⟩ -- s2: jR (z8 - 1)
      refine ⟨_, sX0_isIn, ?_⟩ -- call wqX0_isIn a1 0 (z8 - 1) N F A P14
      intro z16 p14
      refine ⟨fun hc => ?_, fun hc => ?_⟩ -- c3
      · -- case (z16 = 0)
        -- l1: Q (-1)
        unfold sTells
        rw [if_neg (by assumption), if_neg (by assumption), if_neg (by grind)]
      · -- case (¬ (z16 = 0))
        refine ⟨_, by assumption, ?_⟩ -- d22: jfn N 1202 b3 = (b22 : Int)
        refine ⟨by first | assumption | omega, ?_⟩ -- s3: jtg N b22 = 107
        have hin0 : 0 ≤ a1 ∧ a1 < R.1 + R.2.1 := by grind
        refine ⟨by first | assumption | omega, ?_⟩ -- s4: ((0 : Int) ≤ a1 ∧ (a1 : Int) < (jln N b22 : Int))
        have hin : 0 ≤ a1 ∧ a1 < R.1 + R.2.1 := by grind
        obtain ⟨bw, x1, x2, x3, x4, x5⟩ := hw _ (k3 a1 hin.1 hin.2).1 (k3 a1 hin.1 hin.2).2
        refine ⟨_, by exact (y2.2.2.2 a1 hin.1 hin.2).trans x1, ?_⟩ -- d26: A b22 a1 = (b26 : Int)
        refine ⟨by first | assumption | omega, ?_⟩ -- s5: jtg N b26 = 14
        -- l2: Q (jfn N 3903 b26)
        unfold sTells
        rw [if_neg (by assumption), if_neg (by assumption), if_pos hin, x4]
    · -- case (a1 = 20)
      refine ⟨_, by assumption, ?_⟩ -- d29: jfn N 902 o = (b29 : Int)
      refine ⟨by first | assumption | omega, ?_⟩ -- s6: jtg N b29 = 4
      refine ⟨_, sX3_size y2 hk0, ?_⟩ -- call wqX3_size b29 N F A P32
      intro z34 p32
      -- l3: Q z34
      subst p32; unfold sTells; rw [if_neg (by assumption), if_pos (by assumption)]
  · -- case (a1 = (-1))
    -- l4: Q (F 903 o)
    unfold sTells; rw [if_pos hc]; exact y1

theorem sX0_childOf {o : Nat} {a1 : Int} {N : jSh} {F : jFl} {A : jAr} {wA sA cA lA : Int → Int} {W L : sTb} {t : Nat} (hx : ctx N F A o t W L wA sA cA lA) : wqX0_childOf o a1 N F A (fun z => z = (if 0 ≤ a1 ∧ a1 < W 2 0 0 then cA a1 else -1)) := by
  unfold wqX0_childOf
  have hl := hx.2.2.2.2.1.2.2.1
  have hn := hl.2.2.1
  refine ⟨_, by exact hx.1.2.2, ?_⟩ -- d1: F 311 o = (b1 : Int)
  refine ⟨by exact hx.2.2.1.1, ?_⟩ -- s1: jtg N b1 = 2
  refine ⟨_, by exact hx.2.2.1.2.2.2.2.1, ?_⟩ -- d4: jfn N 623 b1 = (b4 : Int)
  refine ⟨by exact hl.1.1, ?_⟩ -- s2: jtg N b4 = 20
  refine ⟨_, sJ2_size hl, ?_⟩ -- call wqJ2_size b4 N F A P7
  intro z9 p7
  refine ⟨by omega, ?_⟩ -- s3: jR (z9 - 1)
  refine ⟨_, sX0_isIn, ?_⟩ -- call wqX0_isIn a1 0 (z9 - 1) N F A P15
  intro z17 p15
  refine ⟨fun hc => ?_, fun hc => ?_⟩ -- c1
  · -- case (z17 = 0)
    -- l1: Q (-1)
    grind
  · -- case (¬ (z17 = 0))
    refine ⟨_, sJ2_get hl (by grind), ?_⟩ -- call wqJ2_get b4 a1 N F A P23
    intro z25 p23
    refine ⟨?_, ?_⟩ -- s4: jcst N "ChildSays$Child" z25
    · have g : 0 ≤ a1 ∧ a1 < W 2 0 0 := by grind
      obtain ⟨ch, u1, u2⟩ := hx.ch g
      exact jcst_child (p23.trans u1) u2.1.1
    -- l2: Q z25
    grind

theorem sX0_lawOf {o : Nat} {a1 : Int} {N : jSh} {F : jFl} {A : jAr} {wA sA cA lA : Int → Int} {W L : sTb} {t : Nat} (hx : ctx N F A o t W L wA sA cA lA) : wqX0_lawOf o a1 N F A (fun z => z = (if 0 ≤ a1 ∧ a1 < W 3 0 0 then lA a1 else -1)) := by
  unfold wqX0_lawOf
  have hl := hx.2.2.2.2.1.2.2.2.1
  have hn := hl.2.2.1
  refine ⟨_, by exact hx.1.2.2, ?_⟩ -- d1: F 311 o = (b1 : Int)
  refine ⟨by exact hx.2.2.1.1, ?_⟩ -- s1: jtg N b1 = 2
  refine ⟨_, by exact hx.2.2.1.2.2.2.2.2.1, ?_⟩ -- d4: jfn N 626 b1 = (b4 : Int)
  refine ⟨by exact hl.1.1, ?_⟩ -- s2: jtg N b4 = 20
  refine ⟨_, sJ2_size hl, ?_⟩ -- call wqJ2_size b4 N F A P7
  intro z9 p7
  refine ⟨by omega, ?_⟩ -- s3: jR (z9 - 1)
  refine ⟨_, sX0_isIn, ?_⟩ -- call wqX0_isIn a1 0 (z9 - 1) N F A P15
  intro z17 p15
  refine ⟨fun hc => ?_, fun hc => ?_⟩ -- c1
  · -- case (z17 = 0)
    -- l1: Q (-1)
    grind
  · -- case (¬ (z17 = 0))
    refine ⟨_, sJ2_get hl (by grind), ?_⟩ -- call wqJ2_get b4 a1 N F A P23
    intro z25 p23
    refine ⟨?_, ?_⟩ -- s4: jcst N "ChildSays$Law" z25
    · have g : 0 ≤ a1 ∧ a1 < W 3 0 0 := by grind
      obtain ⟨ch, u1, u2, -⟩ := hx.lw g
      exact jcst_law (p23.trans u1) u2.1
    -- l2: Q z25
    grind

theorem sX0_wordOf {o : Nat} {a1 : Int} {N : jSh} {F : jFl} {A : jAr} {wA sA cA lA : Int → Int} {W L : sTb} {t : Nat} (hx : ctx N F A o t W L wA sA cA lA) : wqX0_wordOf o a1 N F A (fun z => z = (if 0 ≤ a1 ∧ a1 < W 0 0 0 then wA a1 else -1)) := by
  unfold wqX0_wordOf
  have hl := hx.2.2.2.2.1.1
  have hn := hl.2.2.1
  refine ⟨_, by exact hx.1.2.2, ?_⟩ -- d1: F 311 o = (b1 : Int)
  refine ⟨by exact hx.2.2.1.1, ?_⟩ -- s1: jtg N b1 = 2
  refine ⟨_, by exact hx.2.2.1.2.2.1, ?_⟩ -- d4: jfn N 617 b1 = (b4 : Int)
  refine ⟨by exact hl.1.1, ?_⟩ -- s2: jtg N b4 = 20
  refine ⟨_, sJ2_size hl, ?_⟩ -- call wqJ2_size b4 N F A P7
  intro z9 p7
  refine ⟨by omega, ?_⟩ -- s3: jR (z9 - 1)
  refine ⟨_, sX0_isIn, ?_⟩ -- call wqX0_isIn a1 0 (z9 - 1) N F A P15
  intro z17 p15
  refine ⟨fun hc => ?_, fun hc => ?_⟩ -- c1
  · -- case (z17 = 0)
    -- l1: Q (-1)
    grind
  · -- case (¬ (z17 = 0))
    refine ⟨_, sJ2_get hl (by grind), ?_⟩ -- call wqJ2_get b4 a1 N F A P23
    intro z25 p23
    refine ⟨?_, ?_⟩ -- s4: jcst N "ChildSays$Word" z25
    · have g : 0 ≤ a1 ∧ a1 < W 0 0 0 := by grind
      obtain ⟨ch, u1, u2, -⟩ := hx.wd a1 g.1 g.2
      exact jcst_word (p23.trans u1) u2
    -- l2: Q z25
    grind

theorem sX0_isPlace {o : Nat} {a1 : Int} {N : jSh} {F : jFl} {A : jAr} {wA sA cA lA : Int → Int} {W L : sTb} {t : Nat} (hx : ctx N F A o t W L wA sA cA lA) : wqX0_isPlace o a1 N F A (fun z => z = (if 0 ≤ a1 ∧ a1 < W 3 0 0 then 1 else 0)) := by
  unfold wqX0_isPlace
  have hl := hx.2.2.2.2.1.2.2.2.2
  have hn := hl.2.2.1
  refine ⟨_, by exact hx.1.2.2, ?_⟩ -- d1: F 311 o = (b1 : Int)
  refine ⟨by exact hx.2.2.1.1, ?_⟩ -- s1: jtg N b1 = 2
  refine ⟨_, by exact hx.2.2.1.2.2.2.2.2.2.1, ?_⟩ -- d4: jfn N 629 b1 = (b4 : Int)
  refine ⟨by exact hl.1.1, ?_⟩ -- s2: jtg N b4 = 20
  refine ⟨_, sJ2_size hl, ?_⟩ -- call wqJ2_size b4 N F A P7
  intro z9 p7
  refine ⟨by omega, ?_⟩ -- s3: jR (z9 - 1)
  refine ⟨_, sX0_isIn, ?_⟩ -- call wqX0_isIn a1 0 (z9 - 1) N F A P15
  intro z17 p15
  -- l1: Q z17
  grind

theorem sX0_standingOf {o : Nat} {a1 : Int} {N : jSh} {F : jFl} {A : jAr} {wA sA cA lA : Int → Int} {W L : sTb} {t : Nat} (hx : ctx N F A o t W L wA sA cA lA) : wqX0_standingOf o a1 N F A (fun z => z = (if 0 ≤ a1 ∧ a1 < W 3 0 0 ∧ 0 < L 2 a1 0 then lA a1 else -1)) := by
  unfold wqX0_standingOf
  refine ⟨_, sX0_lawOf hx, ?_⟩ -- call wqX0_lawOf o a1 N F A P1
  intro z3 p1
  have hg : 0 ≤ a1 ∧ a1 < W 3 0 0 → ∃ b : Nat, lA a1 = (b : Int) ∧ lawOk N a1 b ∧ F 5103 b = L 4 a1 0 ∧ rowIs N F A wA (b + 3) (sRw L a1) := fun g => hx.lw g
  refine ⟨fun hc => ?_, fun hc => ?_⟩ -- c1
  · -- case (z3 < 0)
    -- l1: Q (-1)
    by_cases g : 0 ≤ a1 ∧ a1 < W 3 0 0
    · obtain ⟨b, u1, -⟩ := hg g
      rw [if_pos g] at p1
      omega
    · exact (if_neg (fun w => g ⟨w.1, w.2.1⟩)).symm
  · -- case (¬ (z3 < 0))
    have g : 0 ≤ a1 ∧ a1 < W 3 0 0 := by grind
    obtain ⟨b, u1, u2, u3, u4⟩ := hg g
    rw [if_pos g] at p1
    refine ⟨_, by exact p1.trans u1, ?_⟩ -- d9: z3 = (b9 : Int)
    refine ⟨by exact u2.1, ?_⟩ -- s1: jtg N b9 = 17
    refine ⟨_, by exact u2.2.2.2.1, ?_⟩ -- d12: jfn N 5102 b9 = (b12 : Int)
    refine ⟨by exact u2.2.2.2.2.1, ?_⟩ -- s2: jtg N b12 = 4
    refine ⟨_, sX3_isOne u4, ?_⟩ -- call wqX3_isOne b12 N F A P15
    intro z17 p15
    have e : (sRw L a1).1 = L 2 a1 0 := rfl
    rw [e] at p15
    refine ⟨fun hc => ?_, fun hc => ?_⟩ -- c2
    · -- case (¬ z17 = 0)
      -- l2: Q z3
      grind
    · -- case (z17 = 0)
      -- l3: Q (-1)
      grind

theorem sX1_standing {o : Nat} {N : jSh} {F : jFl} {A : jAr} {wA sA cA lA : Int → Int} {W L : sTb} (hT : twn N F A o W L wA sA cA lA) : wqX1_standing o N F A (fun z => z = sStand L (W 3 0 0) ∧ 0 ≤ z ∧ z ≤ W 3 0 0) := by
  unfold wqX1_standing
  have hl := hT.2.2.1.2.2.2.1
  have hn := hl.2.2.1
  refine ⟨fun (v1 : Int) (v2 : Int) => (0 ≤ v2 ∧ v2 ≤ W 3 0 0) ∧ v1 = sStand L v2 ∧ 0 ≤ v1 ∧ v1 ≤ v2, fun v1 v2 => (W 3 0 0 - v2).toNat, ?_, ?_⟩ -- loop I4 I4 0 0
  ·
    -- l1: I4 0 0
    exact ⟨by omega, rfl, by omega, by omega⟩
  intro v1 v2 i4
  obtain ⟨i1, i2, i3, i4⟩ := i4
  refine ⟨_, by exact hT.1.2.2.2.2.2.1, ?_⟩ -- d6: jfn N 626 o = (b6 : Int)
  refine ⟨by exact hl.1.1, ?_⟩ -- s1: jtg N b6 = 20
  refine ⟨_, sJ2_size hl, ?_⟩ -- call wqJ2_size b6 N F A P9
  intro z11 p9
  refine ⟨fun hc => ?_, fun hc => ?_⟩ -- c1
  · -- case (z11 ≤ v2)
    -- l2: Q v1
    refine ⟨by rw [i2, show v2 = W 3 0 0 by omega], by omega, by omega⟩
  · -- case (¬ (z11 ≤ v2))
    refine ⟨_, sJ2_get hl (by omega), ?_⟩ -- call wqJ2_get b6 v2 N F A P17
    intro z19 p17
    obtain ⟨b, u1, u2, u3, u4⟩ := hT.2.2.2.2.2.2 v2 (by omega) (by omega)
    have e : (sRw L v2).1 = L 2 v2 0 := rfl
    have st : sStand L (v2 + 1) = (if 0 < L 2 v2 0 then sStand L v2 + 1 else sStand L v2) := it_succ _ _ i1.1
    refine ⟨by exact jcst_law (p17.trans u1) u2.1, ?_⟩ -- s2: jcst N "ChildSays$Law" z19
    refine ⟨_, by exact p17.trans u1, ?_⟩ -- d25: z19 = (b25 : Int)
    refine ⟨by exact u2.1, ?_⟩ -- s3: jtg N b25 = 17
    refine ⟨_, by exact u2.2.2.2.1, ?_⟩ -- d28: jfn N 5102 b25 = (b28 : Int)
    refine ⟨by exact u2.2.2.2.2.1, ?_⟩ -- s4: jtg N b28 = 4
    refine ⟨_, sX3_isOne u4, ?_⟩ -- call wqX3_isOne b28 N F A P31
    intro z33 p31
    refine ⟨fun hc => ?_, fun hc => ?_⟩ -- c2
    · -- case (z33 = 0)
      refine ⟨by omega, ?_⟩ -- s5: jR (v2 + 1)
      refine ⟨?_, ?_⟩ -- l3: I4 v1 (v2 + 1)
      · refine ⟨by omega, ?_, by omega, by omega⟩
        rw [st, i2, if_neg (by rw [e] at p31; grind)]
      · dsimp only; omega
    · -- case (¬ (z33 = 0))
      refine ⟨by omega, ?_⟩ -- s6: jR (v1 + 1)
      refine ⟨by omega, ?_⟩ -- s7: jR (v2 + 1)
      refine ⟨?_, ?_⟩ -- l4: I4 (v1 + 1) (v2 + 1)
      · refine ⟨by omega, ?_, by omega, by omega⟩
        rw [st, i2, if_pos (by rw [e] at p31; grind)]
      · dsimp only; omega

theorem sX0_stands {o : Nat} {a1 : Int} {a2 : Int} {N : jSh} {F : jFl} {A : jAr} {wA sA cA lA : Int → Int} {W L : sTb} {t : Nat} {c l : Int} (hx : ctx N F A o t W L wA sA cA lA) (hy : lay N o) (ha1 : a1 = lA l) (hl : 0 ≤ l ∧ l < W 3 0 0) (ha2 : a2 = cA c) (hc1 : 0 ≤ c ∧ c < W 2 0 0) : wqX0_stands o a1 a2 N F A (fun z F' A' => z = (if 0 < L 2 l 0 ∧ sKind W c (sRw L l) (sHolds W L c l) = 0 then 1 else 0) ∧ fr (o + 11) (o + 14) F A F' A') := by
  unfold wqX0_stands
  obtain ⟨b, u1, u2, u3, u4⟩ := hx.lw hl
  have e : (sRw L l).1 = L 2 l 0 := rfl
  refine ⟨_, by exact ha1.trans u1, ?_⟩ -- d1: a1 = (b1 : Int)
  refine ⟨by exact u2.1, ?_⟩ -- s1: jtg N b1 = 17
  refine ⟨_, by exact u2.2.2.2.1, ?_⟩ -- d4: jfn N 5102 b1 = (b4 : Int)
  refine ⟨by exact u2.2.2.2.2.1, ?_⟩ -- s2: jtg N b4 = 4
  refine ⟨_, sX3_isOne u4, ?_⟩ -- call wqX3_isOne b4 N F A P7
  intro z9 p7
  rw [e] at p7
  refine ⟨fun hc => ?_, fun hc => ?_⟩ -- c1
  · -- case (z9 = 0)
    -- l1: Q 0 F A
    exact ⟨(if_neg (by grind)).symm, fr.refl _ _ _ _⟩
  · -- case (¬ (z9 = 0))
    refine ⟨_, by exact hy.p326, ?_⟩ -- d15: jfn N 326 o = (b15 : Int)
    refine ⟨by exact hy.alone.1, ?_⟩ -- s3: jtg N b15 = 3
    refine ⟨_, sX2_of hx hy.alone (hy.scr.mono (by omega) (by omega)) ha2 hc1 ha1 hl, ?_⟩ -- call wqX2_of b15 a2 a1 N F A P18
    intro z20 F21 A22 p18
    obtain ⟨q1, q2, q3⟩ := p18
    refine ⟨_, by exact q1, ?_⟩ -- d27: z20 = (b27 : Int)
    refine ⟨by exact hy.alone.1, ?_⟩ -- s4: jtg N b27 = 3
    intro z31 e31
    -- l2: Q z31 F21 A22
    refine ⟨?_, q3⟩
    rw [e31, q2.1]
    grind

theorem sX0_byMany {o : Nat} {a1 : Int} {a2 : Int} {N : jSh} {F : jFl} {A : jAr} {wA sA cA lA : Int → Int} {W L : sTb} {t b : Nat} {R : sRow} (hx : ctx N F A o t W L wA sA cA lA) (hy : lay N o) (ha1 : a1 = (b : Int)) (hr : rowIs N F A wA b R) (hk : sRok (W 0 0 0) R) (hb : b + 1 < o + 11 ∨ o + 14 ≤ b) : wqX0_byMany o a1 a2 N F A (fun z F' A' => z = (if 0 < R.1 then sByR W R a2 else 0) ∧ (0 ≤ z ∧ z ≤ W 2 0 0) ∧ fr (o + 11) (o + 14) F A F' A') := by
  unfold wqX0_byMany
  have hW := hx.2.1.1
  have hn := hW.2.2.1
  have hsc : scr N (o + 11) (o + 14) := hy.scr.mono (by omega) (by omega)
  refine ⟨fun (v1 : Int) (v2 : Int) (F3 : jFl) (A4 : jAr) => (0 ≤ v2 ∧ v2 ≤ W 2 0 0) ∧ (v2 = 0 ∨ 0 < R.1) ∧ v1 = it (fun c n => if sKind W c R (W 20 c 0 + (if a2 = 0 then 0 else W 6 0 0)) = 0 then n + 1 else n) 0 v2.toNat ∧ (0 ≤ v1 ∧ v1 ≤ v2) ∧ fr (o + 11) (o + 14) F A F3 A4, fun v1 v2 F3 A4 => (W 2 0 0 - v2).toNat, ?_, ?_⟩ -- loop I7 I7 0 0 F A
  ·
    -- l1: I7 0 0 F A
    exact ⟨by omega, Or.inl rfl, rfl, by omega, fr.refl _ _ _ _⟩
  intro v1 v2 F3 A4 i7
  obtain ⟨i1, i5, i2, i3, i4⟩ := i7
  have hx2 := hx.fr hsc i4
  have hl := hx2.lC
  have hr2 : rowIs N F3 A4 wA b R := hr.fr i4 (by omega) (by omega)
  refine ⟨_, by exact hx2.1.2.2, ?_⟩ -- d9: F3 311 o = (b9 : Int)
  refine ⟨by exact hx2.2.2.1.1, ?_⟩ -- s1: jtg N b9 = 2
  refine ⟨_, by exact hx2.2.2.1.2.2.2.2.1, ?_⟩ -- d12: jfn N 623 b9 = (b12 : Int)
  refine ⟨by exact hl.1.1, ?_⟩ -- s2: jtg N b12 = 20
  refine ⟨_, sJ2_size hl, ?_⟩ -- call wqJ2_size b12 N F3 A4 P15
  intro z17 p15
  refine ⟨fun hc => ?_, fun hc => ?_⟩ -- c1
  · -- case (z17 ≤ v2)
    -- l2: Q v1 F3 A4
    refine ⟨?_, by omega, i4⟩
    by_cases q : 0 < R.1
    · rw [if_pos q, i2, show v2 = W 2 0 0 by omega]; rfl
    · rw [if_neg q, i2, show v2 = 0 by omega]; rfl
  · -- case (¬ (z17 ≤ v2))
    refine ⟨_, by exact ha1, ?_⟩ -- d23: a1 = (b23 : Int)
    refine ⟨by exact hr.1.1, ?_⟩ -- s3: jtg N b23 = 4
    refine ⟨_, sX3_isOne hr2, ?_⟩ -- call wqX3_isOne b23 N F3 A4 P26
    intro z28 p26
    refine ⟨fun hc => ?_, fun hc => ?_⟩ -- c2
    · -- case (z28 = 0)
      -- l3: Q v1 F3 A4
      refine ⟨?_, by omega, i4⟩
      have q : ¬ 0 < R.1 := by grind
      rw [if_neg q, i2, show v2 = 0 by omega]; rfl
    · -- case (¬ (z28 = 0))
      refine ⟨_, sJ2_get hl (by omega), ?_⟩ -- call wqJ2_get b12 v2 N F3 A4 P34
      intro z36 p34
      obtain ⟨ch, u1, u2⟩ := hx2.ch (c := v2) (by omega)
      have w1 := (hW.2.2.2.2.2.2.2.2.2.1 v2 (by omega) (by omega)).2
      refine ⟨by exact jcst_child (p34.trans u1) u2.1.1, ?_⟩ -- s4: jcst N "ChildSays$Child" z36
      refine ⟨_, by exact p34.trans u1, ?_⟩ -- d42: z36 = (b42 : Int)
      refine ⟨by exact u2.1.1, ?_⟩ -- s5: jtg N b42 = 16
      refine ⟨_, by exact hy.p326, ?_⟩ -- d45: jfn N 326 o = (b45 : Int)
      refine ⟨by exact hy.alone.1, ?_⟩ -- s6: jtg N b45 = 3
      refine ⟨_, sX2_of_2 (left := W 20 v2 0 + (if a2 = 0 then 0 else W 6 0 0)) (c := v2) (R := R) hy.alone hx2.tx hx2.ft hx2.tt hx2.f6 (p34.trans u1) u2 (by omega) ha1 hr2 hk hx2.wd hW (by omega) (by rw [u2.2.2.1]) (by rw [u2.2.2.1]; omega), ?_⟩ -- call wqX2_of_2 b45 z36 a1 a2 (F3 4803 b42) N F3 A4 P48
      intro z50 F51 A52 p48
      obtain ⟨q1, q2, q3⟩ := p48
      have q4 := i4.trans q3
      refine ⟨_, by exact q1, ?_⟩ -- d57: z50 = (b57 : Int)
      refine ⟨by exact hy.alone.1, ?_⟩ -- s7: jtg N b57 = 3
      refine ⟨fun hc => ?_, fun hc => ?_⟩ -- c3
      · -- case (¬ (F51 903 b57) = 0)
        refine ⟨by omega, ?_⟩ -- s8: jR (v2 + 1)
        refine ⟨?_, ?_⟩ -- l4: I7 v1 (v2 + 1) F51 A52
        · refine ⟨by omega, Or.inr (by grind), ?_, by omega, q4⟩
          rw [it_succ _ _ i1.1, ← i2, if_neg (by rw [← q2.1]; exact hc)]
        · dsimp only; omega
      · -- case ((F51 903 b57) = 0)
        refine ⟨by omega, ?_⟩ -- s9: jR (v1 + 1)
        refine ⟨by omega, ?_⟩ -- s10: jR (v2 + 1)
        refine ⟨?_, ?_⟩ -- l5: I7 (v1 + 1) (v2 + 1) F51 A52
        · refine ⟨by omega, Or.inr (by grind), ?_, by omega, q4⟩
          rw [it_succ _ _ i1.1, ← i2, if_pos (by rw [← q2.1]; exact hc)]
        · dsimp only; omega

theorem sX4_of {o : Nat} {a1 : Int} {N : jSh} {F : jFl} {A : jAr} {wA sA cA lA : Int → Int} {W L : sTb} {x t : Nat} {l : Int} (hx : ctx N F A x t W L wA sA cA lA) (hs : sitOk N A x o) (ha1 : a1 = lA l) (hl : 0 ≤ l ∧ l < W 3 0 0) : wqX4_of o a1 N F A (fun z => z = ((sy o l : Nat) : Int)) := by
  unfold wqX4_of
  obtain ⟨b, u1, u2, u3, u4⟩ := hx.lw hl
  have w3 := hx.oW.2.2.2.1
  have q := (hs.2.2.2 l.toNat (by omega)).1
  rw [Int.toNat_of_nonneg hl.1] at q
  refine ⟨_, by exact ha1.trans u1, ?_⟩ -- d1: a1 = (b1 : Int)
  refine ⟨by exact u2.1, ?_⟩ -- s1: jtg N b1 = 17
  refine ⟨_, by exact hs.1.2.2.1, ?_⟩ -- d4: jfn N 1502 o = (b4 : Int)
  refine ⟨by exact hs.1.2.2.2.1, ?_⟩ -- s2: jtg N b4 = 110
  rw [u2.2.2.1]
  refine ⟨by (rw [hs.1.2.2.2.2]; omega), ?_⟩ -- s3: ((0 : Int) ≤ jfn N 3903 b1 ∧ (jfn N 3903 b1 : Int) < (jln N b4 : Int))
  -- l1: Q (A b4 (jfn N 3903 b1))
  exact q

theorem sX4_comes {o : Nat} {a1 : Int} {N : jSh} {F : jFl} {A : jAr} {x : Nat} (hs : sitOk N A x o) (h1 : 0 ≤ F 1506 o ∧ F 1506 o < 12) {b : Nat} (ha1 : a1 = (b : Int)) (hb : jtg N b = 17) : wqX4_comes o a1 N F A (fun F' A' => F' = upF F 1506 o (F 1506 o + 1) ∧ A' = upA A (o + 2) (F 1506 o) a1) := by
  unfold wqX4_comes
  obtain ⟨⟨s1, s2, s3, s4, s5⟩, ⟨s6, s7, s8, s9⟩, s10, s11⟩ := hs
  refine ⟨_, by assumption, ?_⟩ -- d1: jfn N 1505 o = (b1 : Int)
  refine ⟨by first | assumption | omega, ?_⟩ -- s1: jtg N b1 = 113
  refine ⟨by first | assumption | omega, ?_⟩ -- s2: jfn N 0 b1 = 1
  refine ⟨by first | assumption | omega, ?_⟩ -- s3: ((0 : Int) ≤ F 1506 o ∧ (F 1506 o : Int) < (jln N b1 : Int))
  refine ⟨by exact jast_law ha1 hb, ?_⟩ -- s4: jast N "ChildSays$Law" a1
  intro A6 e6
  refine ⟨by first | assumption | omega, ?_⟩ -- s5: jfn N 0 o = 1
  refine ⟨by first | assumption | omega, ?_⟩ -- s6: jR ((F 1506 o) + 1)
  intro F12 e12
  -- l1: Q F12 A6
  exact ⟨by assumption, by assumption⟩

theorem sX4_inOrder {o : Nat} {N : jSh} {F : jFl} {A : jAr} {wA sA cA lA : Int → Int} {W L : sTb} {x t : Nat} (hx : ctx N F A x t W L wA sA cA lA) (hs : sitOk N A x o) (hc : scr N o (o + 3)) : wqX4_inOrder o N F A (fun z F' A' => z = (o : Int) ∧ (F' 1506 o = (sSeats L (W 3 0 0)).1 ∧ ∀ i : Int, 0 ≤ i → i < (sSeats L (W 3 0 0)).1 → A' (o + 2) i = lA ((sSeats L (W 3 0 0)).2 i)) ∧ (∀ f a, ¬ (a = o ∧ f = 1506) → F' f a = F f a) ∧ ∀ a, a ≠ o + 2 → A' a = A a) := by
  unfold wqX4_inOrder
  have w3 := hx.oW.2.2.2.1
  have t1 := hx.tx
  have hs0 := hs
  obtain ⟨⟨s1, s2, s3, s4, s5⟩, ⟨s6, s7, s8, s9⟩, s10, s11⟩ := hs
  refine ⟨by first | assumption | omega, ?_⟩ -- s1: jfn N 0 o = 1
  intro F3 e3
  refine ⟨fun (v4 : Int) (F5 : jFl) (A6 : jAr) => (0 ≤ v4 ∧ v4 ≤ W 3 0 0) ∧ (F5 1506 o = (sSeats L v4).1 ∧ ∀ i : Int, 0 ≤ i → i < (sSeats L v4).1 → A6 (o + 2) i = lA ((sSeats L v4).2 i)) ∧ (∀ f a, ¬ (a = o ∧ f = 1506) → F5 f a = F f a) ∧ ∀ a, a ≠ o + 2 → A6 a = A a, fun v4 F5 A6 => (W 3 0 0 - v4).toNat, ?_, ?_⟩ -- loop I9 I9 0 F3 A
  ·
    -- l1: I9 0 F3 A
    refine ⟨by omega, ⟨by subst e3; exact upF_s, fun i i0 i1 => ?_⟩, fun f a h => by subst e3; exact if_neg (fun w => h ⟨w.2, w.1⟩), fun _ _ => rfl⟩
    have : i < 0 := i1
    omega
  intro v4 F5 A6 i9
  obtain ⟨i1, ⟨i2, i3⟩, i4, i5⟩ := i9
  have hf : fr o (o + 3) F A F5 A6 := fun a ha => ⟨fun f => i4 f a (by omega), i5 a (by omega)⟩
  have hx2 := hx.fr hc hf
  have hs2 : sitOk N A6 x o := ⟨hs0.1, hs0.2.1, hs0.2.2.1, by rw [i5 (o + 1) (by omega)]; exact hs0.2.2.2⟩
  have hl := hx2.lO
  have ok := sSeats_ok hx.oW hx.oL i1
  refine ⟨_, by assumption, ?_⟩ -- d11: jfn N 1511 o = (b11 : Int)
  refine ⟨by first | assumption | omega, ?_⟩ -- s2: jtg N b11 = 1
  refine ⟨_, by exact hx2.ft, ?_⟩ -- d14: F5 311 b11 = (b14 : Int)
  refine ⟨by exact hx2.tt, ?_⟩ -- s3: jtg N b14 = 2
  refine ⟨_, by exact hx2.nO, ?_⟩ -- d17: jfn N 629 b14 = (b17 : Int)
  refine ⟨by exact hl.1.1, ?_⟩ -- s4: jtg N b17 = 20
  refine ⟨_, sJ2_size hl, ?_⟩ -- call wqJ2_size b17 N F5 A6 P20
  intro z22 p20
  refine ⟨fun hc => ?_, fun hc => ?_⟩ -- c1
  · -- case (z22 ≤ v4)
    -- l2: Q (o : Int) F5 A6
    have e : v4 = W 3 0 0 := by omega
    subst e
    exact ⟨rfl, ⟨i2, i3⟩, i4, i5⟩
  · -- case (¬ (z22 ≤ v4))
    refine ⟨_, sJ2_get hl (by omega), ?_⟩ -- call wqJ2_get b17 v4 N F5 A6 P28
    intro z30 p28
    have gp := hx.oL.2.1 v4 (by omega) (by omega)
    obtain ⟨b, u1, u2, u3, u4⟩ := hx2.lw gp
    have st : sSeats L (v4 + 1) = sSeatF L v4 (sSeats L v4) := it_succ _ _ i1.1
    unfold sSeatF at st
    have eR : (sRw L (L 1 v4 0)).1 = L 2 (L 1 v4 0) 0 := rfl
    refine ⟨by exact jcst_law (p28.trans u1) u2.1, ?_⟩ -- s5: jcst N "ChildSays$Law" z30
    refine ⟨_, by exact p28.trans u1, ?_⟩ -- d36: z30 = (b36 : Int)
    refine ⟨by exact u2.1, ?_⟩ -- s6: jtg N b36 = 17
    refine ⟨_, by exact u2.2.2.2.1, ?_⟩ -- d39: jfn N 5102 b36 = (b39 : Int)
    refine ⟨by exact u2.2.2.2.2.1, ?_⟩ -- s7: jtg N b39 = 4
    refine ⟨_, sX3_isOne u4, ?_⟩ -- call wqX3_isOne b39 N F5 A6 P42
    intro z44 p42
    rw [eR] at p42
    refine ⟨fun hc => ?_, fun hc => ?_⟩ -- c2
    · -- case (z44 = 0)
      refine ⟨by first | assumption | omega, ?_⟩ -- s8: jR (v4 + 1)
      refine ⟨?_, ?_⟩ -- l3: I9 (v4 + 1) F5 A6
      · have q : ¬ 0 < L 2 (L 1 v4 0) 0 := by grind
        rw [if_neg q] at st
        dsimp only
        rw [st]
        exact ⟨by omega, ⟨i2, i3⟩, i4, i5⟩
      · dsimp only; omega
    · -- case (¬ (z44 = 0))
      refine ⟨_, sJ2_get hl (by omega), ?_⟩ -- call wqJ2_get b17 v4 N F5 A6 P51
      intro z53 p51
      refine ⟨by exact jcst_law (p51.trans u1) u2.1, ?_⟩ -- s9: jcst N "ChildSays$Law" z53
      refine ⟨_, sX4_comes hs2 (by rw [i2]; omega) (p51.trans u1) u2.1, ?_⟩ -- call wqX4_comes o z53 N F5 A6 P59
      intro F62 A63 p59
      obtain ⟨q1, q2⟩ := p59
      have q : 0 < L 2 (L 1 v4 0) 0 := by grind
      rw [if_pos q] at st
      refine ⟨by first | assumption | omega, ?_⟩ -- s10: jR (v4 + 1)
      refine ⟨?_, ?_⟩ -- l4: I9 (v4 + 1) F62 A63
      · dsimp only
        rw [st]
        refine ⟨by omega, ⟨by rw [q1, upF_s, i2], fun j j0 j1 => ?_⟩, fun f a h => by rw [q1, ← i4 f a h]; exact if_neg (fun w => h ⟨w.2, w.1⟩), fun a h => by rw [q2, ← i5 a h]; exact upA_o h⟩
        dsimp only at j1 ⊢
        rw [q2, i2]
        by_cases w : j = (sSeats L v4).1
        · rw [w, upA_s, upI_s, p51]
        · rw [upA_i w, upI_n w]; exact i3 j j0 (by omega)
      · dsimp only; omega

theorem sX4_runs {o : Nat} {a1 : Int} {a2 : Int} {N : jSh} {F : jFl} {A : jAr} {wA sA cA lA : Int → Int} {W L : sTb} {x t : Nat} {l k : Int} {seat : Int → Int} {st : sSit} {u : sRow} (hx : ctx N F A x t W L wA sA cA lA) (hs : sitOk N A x o) (ha1 : a1 = ((sy o l : Nat) : Int)) (hl : 0 ≤ l ∧ l < W 3 0 0) (h2 : 0 ≤ a2 ∧ a2 ≤ 12) (hse : ∀ i : Int, 0 ≤ i → i < a2 → (0 ≤ seat i ∧ seat i < W 3 0 0) ∧ seat i ≠ l ∧ A (o + 2) i = lA (seat i) ∧ sayIs N F A wA (sy o (seat i)) (st.2.1 (seat i)) (st.2.2 (seat i))) (hro : ∀ l : Int, sRok (W 0 0 0) (st.2.2 l)) (hu : sayIs N F A wA (sy o l) k u) (hu2 : sRok (W 0 0 0) u) : wqX4_runs o a1 a2 N F A (fun F' A' => sayIs N F' A' wA (sy o l) (if sRun st seat u a2 = -1 then k else 4) (if sRun st seat u a2 = -1 then u else st.2.2 (seat (sRun st seat u a2))) ∧ fr (sy o l) (sy o l + 3) F A F' A') := by
  unfold wqX4_runs
  have w3 := hx.oW.2.2.2.1
  have hs0 := hs
  have hsy : ∀ l : Int, 0 ≤ l ∧ l < W 3 0 0 → sayOk N x (sy o l) := fun l hl => (hs0.2.2.2 l.toNat (by omega)).2
  have hsl := hsy l hl
  obtain ⟨⟨s1, s2, s3, s4, s5⟩, ⟨s6, s7, s8, s9⟩, s10, s11⟩ := hs
  refine ⟨fun (v1 : Int) => (0 ≤ v1 ∧ v1 ≤ a2) ∧ ∀ j : Int, 0 ≤ j → j < v1 → ¬ sRunP st seat u j, fun v1 => (a2 - v1).toNat, ?_, ?_⟩ -- loop I3 I3 0
  ·
    -- l1: I3 0
    exact ⟨by omega, fun j j0 j1 => by omega⟩
  intro v1 i3
  obtain ⟨i1, i2⟩ := i3
  refine ⟨fun hc => ?_, fun hc => ?_⟩ -- c1
  · -- case (a2 ≤ v1)
    -- l2: Q F A
    have e : sRun st seat u a2 = -1 := sFirst_none (fun j j0 j1 => i2 j j0 (by omega))
    rw [if_pos e, if_pos e]
    exact ⟨hu, fr.refl _ _ _ _⟩
  · -- case (¬ (a2 ≤ v1))
    obtain ⟨y1, y2, y3, y4⟩ := hse v1 i1.1 (by omega)
    have hsj := hsy _ y1
    refine ⟨_, by assumption, ?_⟩ -- d6: jfn N 1505 o = (b6 : Int)
    refine ⟨by first | assumption | omega, ?_⟩ -- s1: jtg N b6 = 113
    refine ⟨by first | assumption | omega, ?_⟩ -- s2: ((0 : Int) ≤ v1 ∧ (v1 : Int) < (jln N b6 : Int))
    refine ⟨_, sX4_of hx hs0 y3 y1, ?_⟩ -- call wqX4_of o (A b6 v1) N F A P10
    intro z12 p10
    refine ⟨_, by exact p10, ?_⟩ -- d17: z12 = (b17 : Int)
    refine ⟨by exact hsj.1, ?_⟩ -- s3: jtg N b17 = 3
    refine ⟨fun hc => ?_, fun hc => ?_⟩ -- c2
    · -- case ((F 903 b17) = 3)
      refine ⟨by first | assumption | omega, ?_⟩ -- s4: jR (v1 + 1)
      refine ⟨?_, ?_⟩ -- l3: I3 (v1 + 1)
      · refine ⟨by omega, fun j j0 j1 => ?_⟩
        by_cases q : j = v1
        · rw [q]; exact fun w => w.1 (y4.1.symm.trans hc)
        · exact i2 j j0 (by omega)
      · dsimp only; omega
    · -- case (¬ ((F 903 b17) = 3))
      refine ⟨_, by assumption, ?_⟩ -- d22: a1 = (b22 : Int)
      refine ⟨by exact hsl.1, ?_⟩ -- s5: jtg N b22 = 3
      refine ⟨_, by exact hsj.2.2.1, ?_⟩ -- d25: jfn N 902 b17 = (b25 : Int)
      refine ⟨by exact hsj.2.2.2.1.1, ?_⟩ -- s6: jtg N b25 = 4
      refine ⟨_, sX3_beginsLike hsl.2.2.1 y4.2 (hro _) hu.2 hu2 hx.wd, ?_⟩ -- call wqX3_beginsLike b25 (jfn N 902 b22) N F A P28
      intro z30 p28
      skip
      refine ⟨fun hc => ?_, fun hc => ?_⟩ -- c3
      · -- case (¬ z30 = 0)
        refine ⟨_, by exact hsl.2.2.1, ?_⟩ -- d36: jfn N 902 b22 = (b36 : Int)
        refine ⟨by exact hsl.2.2.2.1.1, ?_⟩ -- s7: jtg N b36 = 4
        refine ⟨_, sX3_like hsj.2.2.1 hsl.2.2.2.1 y4.2 (hro _) hx.wd (by simp only [sy]; omega) (by simp only [sy]; omega) (by simp only [sy]; omega), ?_⟩ -- call wqX3_like b36 (jfn N 902 b17) N F A P39
        intro z41 F42 A43 p39
        obtain ⟨q1, q2, q3⟩ := p39
        have hp : sRunP st seat u v1 := by
          refine ⟨fun w => ?_, ?_⟩
          · apply (by assumption : ¬ F 903 (sy o (seat v1)) = 3)
            rw [y4.1]; exact w
          · by_cases w : 1 < (st.2.2 (seat v1)).1 ∧ 1 < u.1 ∧ (st.2.2 (seat v1)).2.2 0 = u.2.2 0 ∧ (st.2.2 (seat v1)).2.2 1 = u.2.2 1
            · exact w
            · rw [if_neg w] at p28; omega
        have e : sRun st seat u a2 = v1 := sFirst_some i1.1 (by omega) hp i2
        have ne : ¬ v1 = -1 := by omega
        refine ⟨by exact hsl.2.1, ?_⟩ -- s8: jfn N 0 b22 = 1
        intro F50 e50
        -- l4: Q F50 A43
        rw [e, if_neg ne, if_neg ne]
        subst e50
        refine ⟨⟨upF_s, q2.of (upF_f (by decide)) (upF_f (by decide)) rfl⟩, ?_⟩
        exact (q3.mono (by omega) (by omega)).upF (by omega)
      · -- case (z30 = 0)
        refine ⟨by first | assumption | omega, ?_⟩ -- s9: jR (v1 + 1)
        refine ⟨?_, ?_⟩ -- l5: I3 (v1 + 1)
        · refine ⟨by omega, fun j j0 j1 => ?_⟩
          by_cases q : j = v1
          · rw [q]; intro w
            rw [if_pos w.2] at p28
            omega
          · exact i2 j j0 (by omega)
        · dsimp only; omega

set_option maxHeartbeats 4000000 in
theorem sX4_saidBy {o : Nat} {a1 : Int} {N : jSh} {F : jFl} {A : jAr} {wA sA cA lA : Int → Int} {W L : sTb} {x t : Nat} {n c : Int} {seat : Int → Int} (hx : ctx N F A x t W L wA sA cA lA) (hs : sitOk N A x o) (hsc : scr N (o + 3) (o + 39)) (ha1 : a1 = cA c) (hc1 : 0 ≤ c ∧ c < W 2 0 0) (hn : F 1506 o = n ∧ 0 ≤ n ∧ n ≤ 12) (hse : ∀ i : Int, 0 ≤ i → i < n → (0 ≤ seat i ∧ seat i < W 3 0 0) ∧ A (o + 2) i = lA (seat i)) (hin : ∀ i j : Int, 0 ≤ i → i < n → 0 ≤ j → j < n → seat i = seat j → i = j) : wqX4_saidBy o a1 N F A (fun z F' A' => z = (o : Int) ∧ (∀ i : Int, 0 ≤ i → i < n → sayIs N F' A' wA (sy o (seat i)) ((sSits W L c seat n.toNat).2.1 (seat i)) ((sSits W L c seat n.toNat).2.2 (seat i))) ∧ fr (o + 3) (o + 39) F A F' A') := by
  unfold wqX4_saidBy
  have hW := hx.oW
  have hL := hx.oL
  have w3 := hW.2.2.2.1
  have w4 := hW.2.2.2.2.1
  have hs0 := hs
  have hsy : ∀ l : Int, 0 ≤ l ∧ l < W 3 0 0 → sayOk N x (sy o l) ∧ o + 3 ≤ sy o l ∧ sy o l + 3 ≤ o + 39 := fun l hl => ⟨(hs0.2.2.2 l.toNat (by omega)).2, by simp only [sy]; omega, by simp only [sy]; omega⟩
  have hdis : ∀ l l2 : Int, 0 ≤ l → 0 ≤ l2 → l ≠ l2 → sy o l + 3 ≤ sy o l2 ∨ sy o l2 + 3 ≤ sy o l := fun l l2 h1 h2 h3 => by simp only [sy]; omega
  obtain ⟨⟨s1, s2, s3, s4, s5⟩, ⟨s6, s7, s8, s9⟩, s10, s11⟩ := hs
  refine ⟨fun (v1 : Int) (v2 : Int) (F3 : jFl) (A4 : jAr) => (0 ≤ v2 ∧ v2 ≤ n) ∧ v1 = (sSits W L c seat v2.toNat).1 ∧ (∀ i : Int, 0 ≤ i → i < v2 → sayIs N F3 A4 wA (sy o (seat i)) ((sSits W L c seat v2.toNat).2.1 (seat i)) ((sSits W L c seat v2.toNat).2.2 (seat i))) ∧ fr (o + 3) (o + 39) F A F3 A4, fun v1 v2 F3 A4 => (n - v2).toNat, ?_, ?_⟩ -- loop I7 I7 0 0 F A
  ·
    -- l1: I7 0 0 F A
    exact ⟨by omega, rfl, fun i i0 i1 => by omega, fr.refl _ _ _ _⟩
  intro v1 v2 F3 A4 i7
  obtain ⟨i1, i2, i3, i4⟩ := i7
  have hx2 := hx.fr hsc i4
  have hs2 : sitOk N A4 x o := ⟨hs0.1, hs0.2.1, hs0.2.2.1, by rw [(i4 (o + 1) (by omega)).2]; exact hs0.2.2.2⟩
  have ok := sSits_ok (n := v2.toNat) hW hL hc1 (fun i i0 i1 => (hse i i0 (by omega)).1)
  have st : sSits W L c seat (v2 + 1).toNat = sSitF W L c seat v2 (sSits W L c seat v2.toNat) := it_succ _ _ i1.1
  unfold sSitF at st
  have e2 : A4 (o + 2) = A (o + 2) := (i4 (o + 2) (by omega)).2
  have e3 : F3 1506 o = n := by rw [(i4 o (by omega)).1]; exact hn.1
  have e4 := hx2.f4
  have t1 := hx2.tx
  have t2 := hx2.tt
  refine ⟨fun hc => ?_, fun hc => ?_⟩ -- c1
  · -- case ((F3 1506 o) ≤ v2)
    -- l2: Q (o : Int) F3 A4
    have e : v2 = n := by omega
    subst e
    exact ⟨rfl, i3, i4⟩
  · -- case (¬ ((F3 1506 o) ≤ v2))
    obtain ⟨y1, y2⟩ := hse v2 i1.1 (by omega)
    obtain ⟨hsl, hlo, hhi⟩ := hsy _ y1
    have hs3 := hsl.1
    refine ⟨_, by assumption, ?_⟩ -- d10: jfn N 1505 o = (b10 : Int)
    refine ⟨by first | assumption | omega, ?_⟩ -- s1: jtg N b10 = 113
    refine ⟨by first | assumption | omega, ?_⟩ -- s2: ((0 : Int) ≤ v2 ∧ (v2 : Int) < (jln N b10 : Int))
    refine ⟨_, sX4_of hx2 hs2 (by rw [e2]; exact y2) y1, ?_⟩ -- call wqX4_of o (A4 b10 v2) N F3 A4 P14
    intro z16 p14
    refine ⟨_, by assumption, ?_⟩ -- d21: jfn N 1511 o = (b21 : Int)
    refine ⟨by first | assumption | omega, ?_⟩ -- s3: jtg N b21 = 1
    refine ⟨_, by exact hx2.ft, ?_⟩ -- d24: F3 311 b21 = (b24 : Int)
    refine ⟨by first | assumption | omega, ?_⟩ -- s4: jtg N b24 = 2
    refine ⟨fun hc => ?_, fun hc => ?_⟩ -- c2
    · -- case (¬ v1 = (F3 603 b24))
      refine ⟨by first | assumption | omega, ?_⟩ -- s5: ((0 : Int) ≤ v2 ∧ (v2 : Int) < (jln N b10 : Int))
      refine ⟨_, by exact p14, ?_⟩ -- d29: z16 = (b29 : Int)
      refine ⟨by first | assumption | omega, ?_⟩ -- s6: jtg N b29 = 3
      refine ⟨_, sX2_of hx2 hsl (hsc.mono (by omega) (by omega)) ha1 hc1 (by rw [e2]; exact y2) y1, ?_⟩ -- call wqX2_of b29 a1 (A4 b10 v2) N F3 A4 P32
      intro z34 F35 A36 p32
      obtain ⟨q1, q2, q3⟩ := p32
      have q4 : fr (o + 3) (o + 39) F A F35 A36 := i4.trans (q3.mono (by omega) (by omega))
      have hlt : ¬ W 4 0 0 ≤ (sSits W L c seat v2.toNat).1 := by rw [← i2]; omega
      rw [if_neg hlt] at st
      unfold sSitK at st
      refine ⟨_, by exact q1, ?_⟩ -- d41: z34 = (b41 : Int)
      refine ⟨by first | assumption | omega, ?_⟩ -- s7: jtg N b41 = 3
      refine ⟨fun hc => ?_, fun hc => ?_⟩ -- c3
      · -- case (¬ (F35 903 b41) = 3)
        refine ⟨by first | assumption | omega, ?_⟩ -- s8: jR (v1 + 1)
        have hx3 := hx2.fr (hsc.mono (by omega) (by omega)) q3
        have hs4 : sitOk N A36 x o := ⟨hs0.1, hs0.2.1, hs0.2.2.1, by rw [(q4 (o + 1) (by omega)).2]; exact hs0.2.2.2⟩
        have hk3 : ¬ sKind W c (sRw L (seat v2)) (sHolds W L c (seat v2)) = 3 := by rw [← q2.1]; exact hc
        rw [if_neg hk3] at st
        refine ⟨_, sX4_runs (st := sSits W L c seat v2.toNat) (seat := seat) hx3 hs4 p14 y1 (by omega) (fun i j0 j1 => ⟨(hse i j0 (by omega)).1, fun w => by have := hin i v2 j0 (by omega) i1.1 (by omega) w; omega, by rw [(q4 (o + 2) (by omega)).2]; exact (hse i j0 (by omega)).2, (by
          have d := hdis (seat i) (seat v2) (hse i j0 (by omega)).1.1 y1.1 (fun w => by have := hin i v2 j0 (by omega) i1.1 (by omega) w; omega)
          have p := i3 i j0 j1
          exact ⟨by rw [(q3 _ (by omega)).1]; exact p.1, p.2.fr q3 (by omega) (by omega)⟩)⟩) (fun l => (ok.2 l).2) q2 (sSayR_ok hW hc1 (sRw_ok hL y1)), ?_⟩ -- call wqX4_runs o z16 v2 N F35 A36 P46
        intro F49 A50 p46
        obtain ⟨r1, r2⟩ := p46
        have r3 : ∀ i : Int, 0 ≤ i → i < v2 → sayIs N F49 A50 wA (sy o (seat i)) ((sSits W L c seat v2.toNat).2.1 (seat i)) ((sSits W L c seat v2.toNat).2.2 (seat i)) ∧ seat i ≠ seat v2 := fun i j0 j1 => by
          have ne : seat i ≠ seat v2 := fun w => by have := hin i v2 j0 (by omega) i1.1 (by omega) w; omega
          have d := hdis (seat i) (seat v2) (hse i j0 (by omega)).1.1 y1.1 ne
          have p := i3 i j0 j1
          exact ⟨⟨by rw [(r2 _ (by omega)).1, (q3 _ (by omega)).1]; exact p.1, (p.2.fr q3 (by omega) (by omega)).fr r2 (by omega) (by omega)⟩, ne⟩
        refine ⟨by first | assumption | omega, ?_⟩ -- s9: jR (v2 + 1)
        refine ⟨?_, ?_⟩ -- l3: I7 (v1 + 1) (v2 + 1) F49 A50
        · by_cases w : sRun (sSits W L c seat v2.toNat) seat (sSayR W c (sRw L (seat v2)) (sHolds W L c (seat v2))) v2 = -1
          · rw [if_pos w] at st
            rw [if_pos w, if_pos w] at r1
            rw [st]
            refine ⟨by omega, by rw [i2], fun i j0 j1 => ?_, q4.trans (r2.mono (by omega) (by omega))⟩
            dsimp only
            by_cases w2 : i = v2
            · rw [w2, upI_s, upI_s]; exact r1
            · have r4 := r3 i j0 (by omega)
              rw [upI_n r4.2, upI_n r4.2]; exact r4.1
          · rw [if_neg w] at st
            rw [if_neg w, if_neg w] at r1
            rw [st]
            refine ⟨by omega, by rw [i2], fun i j0 j1 => ?_, q4.trans (r2.mono (by omega) (by omega))⟩
            dsimp only
            by_cases w2 : i = v2
            · rw [w2, upI_s, upI_s]; exact r1
            · have r4 := r3 i j0 (by omega)
              rw [upI_n r4.2, upI_n r4.2]; exact r4.1
        · dsimp only; omega
      · -- case ((F35 903 b41) = 3)
        refine ⟨by first | assumption | omega, ?_⟩ -- s10: jR (v2 + 1)
        have hk3 : sKind W c (sRw L (seat v2)) (sHolds W L c (seat v2)) = 3 := by rw [← q2.1]; exact hc
        rw [if_pos hk3] at st
        refine ⟨?_, ?_⟩ -- l4: I7 v1 (v2 + 1) F35 A36
        · dsimp only
          rw [st]
          refine ⟨by omega, i2, fun i j0 j1 => ?_, q4⟩
          dsimp only
          by_cases w2 : i = v2
          · rw [w2, upI_s, upI_s, ← hk3]; exact q2
          · have ne : seat i ≠ seat v2 := fun w => by have := hin i v2 j0 (by omega) i1.1 (by omega) w; omega
            have d := hdis (seat i) (seat v2) (hse i j0 (by omega)).1.1 y1.1 ne
            have p := i3 i j0 (by omega)
            rw [upI_n ne, upI_n ne]
            exact ⟨by rw [(q3 _ (by omega)).1]; exact p.1, p.2.fr q3 (by omega) (by omega)⟩
        · dsimp only; omega
    · -- case (v1 = (F3 603 b24))
      refine ⟨_, by exact p14, ?_⟩ -- d57: z16 = (b57 : Int)
      refine ⟨by first | assumption | omega, ?_⟩ -- s11: jtg N b57 = 3
      refine ⟨_, sX2_lost hsl, ?_⟩ -- call wqX2_lost b57 N F3 A4 P60
      intro z62 F63 A64 p60
      obtain ⟨q1, q2, q3⟩ := p60
      have hlt : W 4 0 0 ≤ (sSits W L c seat v2.toNat).1 := by rw [← i2]; omega
      rw [if_pos hlt] at st
      refine ⟨by first | assumption | omega, ?_⟩ -- s12: jR (v2 + 1)
      refine ⟨?_, ?_⟩ -- l5: I7 v1 (v2 + 1) F63 A64
      · dsimp only
        rw [st]
        refine ⟨by omega, i2, fun i j0 j1 => ?_, i4.trans (q3.mono (by omega) (by omega))⟩
        dsimp only
        by_cases w2 : i = v2
        · rw [w2, upI_s, upI_s]; exact q2 wA _
        · have ne : seat i ≠ seat v2 := fun w => by have := hin i v2 j0 (by omega) i1.1 (by omega) w; omega
          have d := hdis (seat i) (seat v2) (hse i j0 (by omega)).1.1 y1.1 ne
          have p := i3 i j0 (by omega)
          rw [upI_n ne, upI_n ne]
          exact ⟨by rw [(q3 _ (by omega)).1]; exact p.1, p.2.fr q3 (by omega) (by omega)⟩
      · dsimp only; omega

