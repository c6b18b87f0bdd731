set_option maxRecDepth 100000
set_option linter.unusedVariables false
/-! the model: sing, swap; printed by gen/prove.py out of spec/9d.ms12.spec -/
/-- only one layer's rows above 28 are others -/
theorem mst.lay0 {R : Int} {o : Nat} {F : jFl} {A A' : jAr} {W L L' : sTb} {B : sBk} {U : sUn} {Q : sMi} (h : mst R o F A W L B U Q) (hk : sLok W L') (h9 : L' 9 0 0 = 0) (hL : mrL o A' 0 (W 3 0 0) L') (hl : mlf o 0 A A') (hA : ∀ b, (b < o + 28 ∨ o + 33 < b) → A' b = A b) : mst R o F A' W L' B U Q :=
  h.act ⟨⟨h.1.1.1.1, hk⟩, h.1.1.2.1.of rfl (fun k _ _ => hA _ (by omega)), hL, h.1.1.2.2.2.1, by decide⟩ h9 (h.2.1.of (hA _ (by omega)) (hA _ (by omega))) hl (fun _ _ => rfl) (hA _ (by omega)) (hA _ (by omega)) (hA _ (by omega))
theorem sX9_sing {o : Nat} {a1 : Int} {a2 : Int} {F : jFl} {A : jAr} {R : Int} {W L : sTb} {B : sBk} {U : sUn} {Q : sMi} (h : mst R o F A W L B U Q) (hR : R < 1000000000) (hb : a2 = 0 ∨ a2 = 1) : wpX9_sing o a1 a2 F A (fun z F' A' => if (0 ≤ a1 ∧ a1 < W 3 0 0) ∧ L 4 a1 0 ≠ a2 then z = 1 ∧ mst (R + 1) o F' A' W (sSset L a1 a2) B (sKeep U (L, B)) Q else z = 0 ∧ mst (R + 1) o F' A' W L B U (qRef Q 2)) := by
  unfold wpX9_sing
  have hLk := h.1.1.1.2
  have hL := h.1.1.2.2.1
  have w3 := h.1.1.1.1.2.2.2.1
  refine ⟨_, sX9_isLaw h.1.1.2.1, ?_⟩ -- call wpX9_isLaw o a1 F A P1
  intro z3 p1
  refine ⟨fun hc => ?_, fun hc => ?_⟩ -- c1
  · -- case (z3 = 0)
    refine ⟨_, sX9_refuses h hR (by decide), ?_⟩ -- call wpX9_refuses o 2 F A P7
    intro z9 F10 A11 p7
    intro z16 e16
    -- l1: Q z16 F10 A11
    rw [if_neg (by grind)]; exact ⟨by rw [e16, p7.1]; rfl, p7.2⟩
  · -- case ¬ (z3 = 0)
    have h1 : 0 ≤ a1 ∧ a1 < W 3 0 0 := by grind
    have g := (hL.2.2 a1 h1.1 h1.2).2.2.1
    rw [show 12 * 0 + a1 = a1 by omega] at g
    have k := (hLk.2.2.2.1 a1 h1.1 h1.2).2.2.2
    refine ⟨by omega, ?_⟩ -- s1: (0 ≤ a1 ∧ a1 < 264)
    intro z20 e20
    have ez : z20 = L 4 a1 0 := by rw [e20, g]; split <;> omega
    refine ⟨fun hc => ?_, fun hc => ?_⟩ -- c2
    · -- case (¬ z20 = a2)
      refine ⟨_, sX9_keeps h, ?_⟩ -- call wpX9_keeps o F A P23
      intro F26 A27 p23
      obtain ⟨m1, m2, m3⟩ := p23
      intro z32 e32
      refine ⟨by omega, ?_⟩ -- s2: (0 ≤ a1 ∧ a1 < 264)
      intro A35 e35
      -- l2: Q 1 F26 A35
      rw [if_pos ⟨h1, by omega⟩]
      have ez2 : z32 = a2 := by rw [e32]; split <;> omega
      have fo : ∀ b, b ≠ o + 32 → A35 b = A27 b := fun b hb => by rw [e35, upA_o hb]
      have mL := m1.1.1.2.2.1
      obtain ⟨k1, k2, k3, k4, k5⟩ := hLk
      refine ⟨rfl, (m1.lay0 (L' := sSset L a1 a2) ⟨k1, k2, k3, fun l l0 l1 => ?_, k5⟩ h.1.2 ⟨by rw [fo _ (by omega)]; exact mL.1, fun p p0 p1 => by rw [fo _ (by omega)]; exact mL.2.1 p p0 p1, fun l l0 l1 => ?_⟩ ⟨fun i hi => ⟨by rw [fo _ (by omega)], by rw [fo _ (by omega)]⟩, fun i hi => ⟨by rw [fo _ (by omega)], by rw [fo _ (by omega)], by rw [fo _ (by omega)], ?_⟩, fun i hi => by rw [fo _ (by omega)], fun i hi => by rw [fo _ (by omega)]⟩ (fun b hb => fo b (by omega))).mono (by omega)⟩
      · obtain ⟨y1, y2, y3, y4⟩ := k4 l l0 l1
        refine ⟨y1, y2, y3, ?_⟩
        show (if 4 = 4 ∧ l = a1 then a2 else L 4 l 0) = 0 ∨ (if 4 = 4 ∧ l = a1 then a2 else L 4 l 0) = 1
        by_cases w : l = a1
        · rw [if_pos ⟨rfl, w⟩]; exact hb
        · rw [if_neg (fun q => w q.2)]; exact y4
      · obtain ⟨y1, y2, y3, y4⟩ := mL.2.2 l l0 l1
        refine ⟨by rw [fo _ (by omega)]; exact y1, by rw [fo _ (by omega)]; exact y2, ?_, fun k k0 k1 => by rw [fo _ (by omega)]; exact y4 k k0 k1⟩
        show _ = (if 4 = 4 ∧ l = a1 then a2 else L 4 l 0)
        rw [e35]
        by_cases w : l = a1
        · rw [if_pos ⟨rfl, w⟩, w, show 12 * 0 + a1 = a1 by omega, upA_s, ez2]
        · rw [if_neg (fun q => w q.2), upA_i (by omega)]; exact y3
      · rw [e35, upA_i (by omega)]
    · -- case ¬ (¬ z20 = a2)
      refine ⟨_, sX9_refuses h hR (by decide), ?_⟩ -- call wpX9_refuses o 2 F A P37
      intro z39 F40 A41 p37
      intro z46 e46
      -- l3: Q z46 F40 A41
      rw [if_neg (by omega)]; exact ⟨by rw [e46, p37.1]; rfl, p37.2⟩

def sSwap (L : sTb) (p q : Int) : sTb := sOset (sOset L p (L 1 q 0)) q (L 1 p 0)
theorem sSwap_1 {L : sTb} {p q i : Int} : sSwap L p q 1 i 0 = if i = q then L 1 p 0 else if i = p then L 1 q 0 else L 1 i 0 := by
  unfold sSwap sOset
  simp
theorem sSwap_ok {W L : sTb} (h : sLok W L) {p q : Int} (hp : 0 ≤ p ∧ p < W 3 0 0) (hq : 0 ≤ q ∧ q < W 3 0 0) : sLok W (sSwap L p q) := by
  obtain ⟨k1, k2, k3, k4, k5⟩ := h
  have gp := k2 p hp.1 hp.2
  have gq := k2 q hq.1 hq.2
  refine ⟨k1, fun i i0 i1 => ?_, fun i j i0 i1 j0 j1 h9 e => ?_, k4, k5⟩
  · rw [sSwap_1]
    have := k2 i i0 i1
    split
    · exact gp
    · split
      · exact gq
      · exact this
  · have h9 : L 9 0 0 = 0 := h9
    rw [sSwap_1, sSwap_1] at e
    have kk := fun a b a0 a1 b0 b1 => k3 a b a0 a1 b0 b1 h9
    have x1 := kk i j i0 i1 j0 j1
    have x2 := kk i p i0 i1 hp.1 hp.2
    have x3 := kk i q i0 i1 hq.1 hq.2
    have x4 := kk p j hp.1 hp.2 j0 j1
    have x5 := kk q j hq.1 hq.2 j0 j1
    have x6 := kk p q hp.1 hp.2 hq.1 hq.2
    grind
theorem sX9_swap {o : Nat} {a1 : Int} {a2 : Int} {F : jFl} {A : jAr} {R : Int} {W L : sTb} {B : sBk} {U : sUn} {Q : sMi} (h : mst R o F A W L B U Q) (hR : R < 1000000000) : wpX9_swap o a1 a2 F A (fun z F' A' => if ((0 ≤ a1 ∧ a1 < W 3 0 0) ∧ (0 ≤ a2 ∧ a2 < W 3 0 0)) ∧ a1 ≠ a2 then z = 1 ∧ mst (R + 1) o F' A' W (sSwap L a1 a2) B (sKeep U (L, B)) Q else z = 0 ∧ mst (R + 1) o F' A' W L B U (qRef Q 3)) := by
  unfold wpX9_swap
  have hLk := h.1.1.1.2
  have w3 := h.1.1.1.1.2.2.2.1
  refine ⟨_, sX9_isLaw h.1.1.2.1, ?_⟩ -- call wpX9_isLaw o a1 F A P1
  intro z3 p1
  refine ⟨fun hc => ?_, fun hc => ?_⟩ -- c1
  · -- case (z3 = 0)
    refine ⟨_, sX9_refuses h hR (by decide), ?_⟩ -- call wpX9_refuses o 3 F A P7
    intro z9 F10 A11 p7
    intro z16 e16
    -- l1: Q z16 F10 A11
    rw [if_neg (by grind)]; exact ⟨by rw [e16, p7.1]; rfl, p7.2⟩
  · -- case ¬ (z3 = 0)
    refine ⟨_, sX9_isLaw h.1.1.2.1, ?_⟩ -- call wpX9_isLaw o a2 F A P18
    intro z20 p18
    refine ⟨fun hc => ?_, fun hc => ?_⟩ -- c2
    · -- case (z20 = 0)
      refine ⟨_, sX9_refuses h hR (by decide), ?_⟩ -- call wpX9_refuses o 3 F A P24
      intro z26 F27 A28 p24
      intro z33 e33
      -- l2: Q z33 F27 A28
      rw [if_neg (by grind)]; exact ⟨by rw [e33, p24.1]; rfl, p24.2⟩
    · -- case ¬ (z20 = 0)
      refine ⟨fun hc => ?_, fun hc => ?_⟩ -- c3
      · -- case (¬ a1 = a2)
        have h1 : 0 ≤ a1 ∧ a1 < W 3 0 0 := by grind
        have h2 : 0 ≤ a2 ∧ a2 < W 3 0 0 := by grind
        refine ⟨_, sX9_keeps h, ?_⟩ -- call wpX9_keeps o F A P36
        intro F39 A40 p36
        obtain ⟨m1, m2, m3⟩ := p36
        refine ⟨by omega, ?_⟩ -- s1: (0 ≤ a1 ∧ a1 < 264)
        intro v45 e45
        refine ⟨by omega, ?_⟩ -- s2: (0 ≤ a2 ∧ a2 < 264)
        refine ⟨by omega, ?_⟩ -- s3: (0 ≤ a1 ∧ a1 < 264)
        intro A48 e48
        refine ⟨by omega, ?_⟩ -- s4: (0 ≤ a2 ∧ a2 < 264)
        intro A51 e51
        -- l3: Q 1 F39 A51
        rw [if_pos ⟨⟨h1, h2⟩, hc⟩]
        have fo : ∀ b, b ≠ o + 29 → A51 b = A40 b := fun b hb => by rw [e51, upA_o hb, e48, upA_o hb]
        have mL := m1.1.1.2.2.1
        have g1 := mL.2.1 a1 h1.1 h1.2
        have g2 := mL.2.1 a2 h2.1 h2.2
        rw [show 12 * 0 + a1 = a1 by omega] at g1
        rw [show 12 * 0 + a2 = a2 by omega] at g2
        refine ⟨rfl, (m1.lay0 (L' := sSwap L a1 a2) (sSwap_ok hLk h1 h2) h.1.2 ⟨by rw [fo _ (by omega)]; exact mL.1, fun p p0 p1 => ?_, fun l l0 l1 => by rw [fo _ (by omega), fo _ (by omega), fo _ (by omega), fo _ (by omega)]; exact mL.2.2 l l0 l1⟩ ⟨fun i hi => ⟨by rw [fo _ (by omega)], by rw [fo _ (by omega)]⟩, fun i hi => ⟨?_, by rw [fo _ (by omega)], by rw [fo _ (by omega)], by rw [fo _ (by omega)]⟩, fun i hi => by rw [fo _ (by omega)], fun i hi => by rw [fo _ (by omega)]⟩ (fun b hb => fo b (by omega))).mono (by omega)⟩
        · have g3 := mL.2.1 p p0 p1
          rw [show 12 * 0 + p = p by omega] at g3 ⊢
          rw [sSwap_1, e51, e48, e45]
          by_cases w : p = a2
          · rw [if_pos w, w, upA_s, g1]
          · rw [if_neg w, upA_i w]
            by_cases w2 : p = a1
            · rw [if_pos w2, w2, upA_s, g2]
            · rw [if_neg w2, upA_i w2, g3]
        · rw [e51, e48, upA_i (by omega), upA_i (by omega)]
      · -- case ¬ (¬ a1 = a2)
        refine ⟨_, sX9_refuses h hR (by decide), ?_⟩ -- call wpX9_refuses o 3 F A P53
        intro z55 F56 A57 p53
        intro z62 e62
        -- l4: Q z62 F56 A57
        rw [if_neg (by omega)]; exact ⟨by rw [e62, p53.1]; rfl, p53.2⟩

