set_option maxRecDepth 100000
set_option linter.unusedVariables false
/-! the law's loop; printed by gen/lawp.py loop -/
theorem b01 {z c : Int} (h : z = (if c = 0 then (0 : Int) else 1)) : z = 0 ∨ z = 1 := by
  rw [h]
  split
  · exact Or.inl rfl
  · exact Or.inr rfl
set_option maxHeartbeats 8000000 in
theorem sL_law {S : Nat → Nat} {s n : Nat} {a1 : Int} {N : jSh} {F : jFl} {A : jAr} {nx0 su0 : Int} {Q : Int → jSh → jFl → jAr → Prop} (ha : a1 = (s : Int)) (hn : n ≤ 384)
    {P0 : jSh → jFl → jAr → Prop} (h0 : wqX0_init S (jnx N) (jnew N 1 0 17 1) (nwF N F) A P0) (h1 : ∀ N1 F1 A1, P0 N1 F1 A1 → jnx N1 = jnx N + 142 ∧ ∃ P9, wqX9_init (jnx N + 142) (jnew N1 10 0 80 1) (nwF N1 F1) A1 P9 ∧ ∀ N2 F2 A2, P9 N2 F2 A2 → lst S (jnx N) s n nx0 su0 0 N2 F2 A2)
    (hQ : ∀ N' F' A' (κ : Int), 0 ≤ κ → κ ≤ 64 → lst S (jnx N) s n nx0 su0 κ N' F' A' → Q 1 N' F' A') : wqL_law S a1 N F A Q := by
  unfold wqL_law
  intro b1 N2 F3 e1 e2 e3
  subst e1; subst e2; subst e3
  refine ⟨_, h0, fun N13 F11 A12 hp => ?_⟩
  obtain ⟨hnx, P9, h9, hL9⟩ := h1 _ _ _ hp
  intro b18 N19 F20 e1 e2 e3
  rw [hnx] at e1
  subst e1; subst e2; subst e3
  refine ⟨_, h9, fun N30 F28 A29 hL9p => ?_⟩
  have hL := hL9 _ _ _ hL9p
  refine ⟨fun v N' F' A' => ∃ κ : Int, v = 6 * κ ∧ 0 ≤ κ ∧ κ ≤ 64 ∧ lst S (jnx N) s n nx0 su0 κ N' F' A', fun v _ _ _ => (n + 6 - v).toNat, ⟨0, rfl, by omega, by omega, hL⟩, ?_⟩
  rintro v N36 F37 A38 ⟨κ, hv, k0, k1, h⟩
  have hs := h.2.2.1
  refine ⟨s, ha, hs.2.1, ?_, fun c => hQ _ _ _ κ k0 k1 h, fun c => ?_⟩
  · rw [hs.2.2.1]; exact ⟨by omega, by omega⟩
  rw [hs.2.2.1] at c
  have hκ : 0 ≤ κ ∧ κ ≤ 63 := by omega
  have bd : ∀ j : Int, 0 ≤ j → j < 6 → (0 : Int) ≤ v + j ∧ (v + j : Int) < (n : Int) := fun j j0 j1 => by omega
  have rv : jR (v + 6) := ⟨by omega, by omega⟩
  rw [hs.2.2.1]
  refine ⟨⟨by omega, by omega⟩, ?_, ?_, ?_, ?_, ?_, ?_, ?_, ?_, ?_, ?_, ?_, ?_, ?_, ?_, ?_, ?_, ?_, ?_, ?_, ?_, ?_, ?_, ?_, ?_, ?_, ?_, ?_, ?_, ?_, ?_, ?_, ?_, ?_, ?_, ?_, ?_, ?_, ?_, ?_, ?_, ?_, ?_, ?_⟩
  · intro c
    obtain ⟨P, h1, h2⟩ := lp_feed h hκ (A38 s (v + 1)) (A38 s (v + 2)) (A38 s (v + 3)) (A38 s (v + 4)) (A38 s (v + 5))
    refine ⟨bd 1 (by decide) (by decide), bd 2 (by decide) (by decide), bd 3 (by decide) (by decide), bd 4 (by decide) (by decide), bd 5 (by decide) (by decide), P, h1, fun z F' A' p => ?_⟩
    obtain ⟨⟨e1, e2⟩, P', g1, g2⟩ := h2 z F' A' p
    rw [e1]
    refine ⟨bd 1 (by decide) (by decide), bd 2 (by decide) (by decide), bd 3 (by decide) (by decide), bd 4 (by decide) (by decide), bd 5 (by decide) (by decide), P', g1, fun z' F'' A'' p' => ?_⟩
    obtain ⟨e, hz⟩ := g2 z' F'' A'' p'
    exact ⟨fun _ => ⟨rv, ⟨κ + 1, by omega, by omega, by omega, hz⟩, by show ((n : Int) + 6 - (v + 6)).toNat < ((n : Int) + 6 - v).toNat; omega⟩, fun w => absurd e w⟩
  · intro c
    obtain ⟨P, h1, h2⟩ := lp_end h hκ (A38 s (v + 1))
    refine ⟨bd 1 (by decide) (by decide), P, h1, fun z F' A' p => ?_⟩
    obtain ⟨⟨e1, e2⟩, P', g1, g2⟩ := h2 z F' A' p
    rw [e1]
    refine ⟨bd 1 (by decide) (by decide), P', g1, fun z' F'' A'' p' => ?_⟩
    obtain ⟨e, hz⟩ := g2 z' F'' A'' p'
    exact ⟨fun _ => ⟨rv, ⟨κ + 1, by omega, by omega, by omega, hz⟩, by show ((n : Int) + 6 - (v + 6)).toNat < ((n : Int) + 6 - v).toNat; omega⟩, fun w => absurd e w⟩
  · intro c
    obtain ⟨P, h1, h2⟩ := lp_town h hκ 
    refine ⟨P, h1, fun z N' F' A' p => ?_⟩
    obtain ⟨⟨e1, e2⟩, P', g1, g2⟩ := h2 z N' F' A' p
    refine ⟨P', g1, fun z' F'' A'' p' => ?_⟩
    obtain ⟨e, hz⟩ := g2 z' F'' A'' p'
    exact ⟨fun _ => ⟨rv, ⟨κ + 1, by omega, by omega, by omega, hz⟩, by show ((n : Int) + 6 - (v + 6)).toNat < ((n : Int) + 6 - v).toNat; omega⟩, fun w => absurd e w⟩
  · intro c
    obtain ⟨P, h1, h2⟩ := lp_fault h hκ (A38 s (v + 1))
    refine ⟨bd 1 (by decide) (by decide), P, h1, fun z p => ?_⟩
    obtain ⟨P', g1, g2⟩ := h2 z p
    refine ⟨bd 1 (by decide) (by decide), P', g1, fun z' p' => ?_⟩
    obtain ⟨e, hz⟩ := g2 z' p'
    exact ⟨fun _ => ⟨rv, ⟨κ + 1, by omega, by omega, by omega, hz⟩, by show ((n : Int) + 6 - (v + 6)).toNat < ((n : Int) + 6 - v).toNat; omega⟩, fun w => absurd e w⟩
  · intro c
    obtain ⟨P, h1, h2⟩ := lp_has h hκ (A38 s (v + 1))
    refine ⟨bd 1 (by decide) (by decide), P, h1, fun z p => ?_⟩
    obtain ⟨P', g1, g2⟩ := h2 z p
    refine ⟨bd 1 (by decide) (by decide), P', g1, fun z' p' => ?_⟩
    obtain ⟨e, hz⟩ := g2 z' p'
    exact ⟨fun _ => ⟨rv, ⟨κ + 1, by omega, by omega, by omega, hz⟩, by show ((n : Int) + 6 - (v + 6)).toNat < ((n : Int) + 6 - v).toNat; omega⟩, fun w => absurd e w⟩
  · intro c
    obtain ⟨P, h1, h2⟩ := lp_letter h hκ (A38 s (v + 1)) (A38 s (v + 2)) (A38 s (v + 3))
    refine ⟨bd 1 (by decide) (by decide), bd 2 (by decide) (by decide), bd 3 (by decide) (by decide), P, h1, fun z p => ?_⟩
    obtain ⟨P', g1, g2⟩ := h2 z p
    refine ⟨bd 1 (by decide) (by decide), bd 2 (by decide) (by decide), bd 3 (by decide) (by decide), P', g1, fun z' p' => ?_⟩
    obtain ⟨e, hz⟩ := g2 z' p'
    exact ⟨fun _ => ⟨rv, ⟨κ + 1, by omega, by omega, by omega, hz⟩, by show ((n : Int) + 6 - (v + 6)).toNat < ((n : Int) + 6 - v).toNat; omega⟩, fun w => absurd e w⟩
  · intro c
    obtain ⟨P, h1, h2⟩ := lp_word h hκ (A38 s (v + 1)) (A38 s (v + 2))
    refine ⟨bd 1 (by decide) (by decide), bd 2 (by decide) (by decide), P, h1, fun z p => ?_⟩
    obtain ⟨P', g1, g2⟩ := h2 z p
    refine ⟨bd 1 (by decide) (by decide), bd 2 (by decide) (by decide), P', g1, fun z' p' => ?_⟩
    obtain ⟨e, hz⟩ := g2 z' p'
    exact ⟨fun _ => ⟨rv, ⟨κ + 1, by omega, by omega, by omega, hz⟩, by show ((n : Int) + 6 - (v + 6)).toNat < ((n : Int) + 6 - v).toNat; omega⟩, fun w => absurd e w⟩
  · intro c
    obtain ⟨P, h1, h2⟩ := lp_child h hκ (A38 s (v + 1)) (A38 s (v + 2))
    refine ⟨bd 1 (by decide) (by decide), bd 2 (by decide) (by decide), P, h1, fun z F' A' p => ?_⟩
    obtain ⟨⟨e1, e2⟩, P', g1, g2⟩ := h2 z F' A' p
    rw [e1]
    refine ⟨bd 1 (by decide) (by decide), bd 2 (by decide) (by decide), P', g1, fun z' F'' A'' p' => ?_⟩
    obtain ⟨e, hz⟩ := g2 z' F'' A'' p'
    exact ⟨fun _ => ⟨rv, ⟨κ + 1, by omega, by omega, by omega, hz⟩, by show ((n : Int) + 6 - (v + 6)).toNat < ((n : Int) + 6 - v).toNat; omega⟩, fun w => absurd e w⟩
  · intro c
    obtain ⟨P, h1, h2⟩ := lp_law h hκ (A38 s (v + 1)) (A38 s (v + 2)) (hs.2.2.2 _)
    refine ⟨bd 1 (by decide) (by decide), bd 2 (by decide) (by decide), P, h1, fun z F' A' p => ?_⟩
    obtain ⟨⟨e1, e2⟩, P', g1, g2⟩ := h2 z F' A' p
    rw [e1]
    refine ⟨bd 1 (by decide) (by decide), bd 2 (by decide) (by decide), P', g1, fun z' F'' A'' p' => ?_⟩
    obtain ⟨e, hz⟩ := g2 z' F'' A'' p'
    exact ⟨fun _ => ⟨rv, ⟨κ + 1, by omega, by omega, by omega, hz⟩, by show ((n : Int) + 6 - (v + 6)).toNat < ((n : Int) + 6 - v).toNat; omega⟩, fun w => absurd e w⟩
  · intro c
    obtain ⟨P, h1, h2⟩ := lp_order h hκ (A38 s (v + 1))
    refine ⟨bd 1 (by decide) (by decide), P, h1, fun z p => ?_⟩
    obtain ⟨P', g1, g2⟩ := h2 z p
    refine ⟨bd 1 (by decide) (by decide), P', g1, fun z' p' => ?_⟩
    obtain ⟨e, hz⟩ := g2 z' p'
    exact ⟨fun _ => ⟨rv, ⟨κ + 1, by omega, by omega, by omega, hz⟩, by show ((n : Int) + 6 - (v + 6)).toNat < ((n : Int) + 6 - v).toNat; omega⟩, fun w => absurd e w⟩
  · intro c
    obtain ⟨P, h1, h2⟩ := lp_alike h hκ (A38 s (v + 1)) (A38 s (v + 2))
    refine ⟨bd 1 (by decide) (by decide), bd 2 (by decide) (by decide), P, h1, fun z p => ?_⟩
    obtain ⟨P', g1, g2⟩ := h2 z p
    refine ⟨bd 1 (by decide) (by decide), bd 2 (by decide) (by decide), P', g1, fun z' p' => ?_⟩
    obtain ⟨e, hz⟩ := g2 z' p'
    exact ⟨fun _ => ⟨rv, ⟨κ + 1, by omega, by omega, by omega, hz⟩, by show ((n : Int) + 6 - (v + 6)).toNat < ((n : Int) + 6 - v).toNat; omega⟩, fun w => absurd e w⟩
  · intro c
    refine ⟨bd 1 (by decide) (by decide), bd 2 (by decide) (by decide), bd 3 (by decide) (by decide), fun z0 ez0 => ?_⟩
    obtain ⟨P, h1, h2⟩ := lp_hears h hκ (A38 s (v + 1)) (A38 s (v + 2)) z0
    refine ⟨P, h1, fun z p => ?_⟩
    obtain ⟨P', g1, g2⟩ := h2 z p
    refine ⟨bd 1 (by decide) (by decide), bd 2 (by decide) (by decide), bd 3 (by decide) (by decide), fun z1 ez1 => ?_⟩
    rw [← ez0] at ez1
    subst ez1
    refine ⟨P', g1, fun z' p' => ?_⟩
    obtain ⟨e, hz⟩ := g2 z' p'
    exact ⟨fun _ => ⟨rv, ⟨κ + 1, by omega, by omega, by omega, hz⟩, by show ((n : Int) + 6 - (v + 6)).toNat < ((n : Int) + 6 - v).toNat; omega⟩, fun w => absurd e w⟩
  · intro c
    obtain ⟨P, h1, h2⟩ := lp_says h hκ (A38 s (v + 1)) (A38 s (v + 2)) (A38 s (v + 3))
    refine ⟨bd 1 (by decide) (by decide), bd 2 (by decide) (by decide), bd 3 (by decide) (by decide), P, h1, fun z F' A' p => ?_⟩
    obtain ⟨⟨e1, e2⟩, P', g1, g2⟩ := h2 z F' A' p
    rw [e1]
    refine ⟨bd 1 (by decide) (by decide), bd 2 (by decide) (by decide), bd 3 (by decide) (by decide), P', g1, fun z' F'' A'' p' => ?_⟩
    obtain ⟨e, hz⟩ := g2 z' F'' A'' p'
    exact ⟨fun _ => ⟨rv, ⟨κ + 1, by omega, by omega, by omega, hz⟩, by show ((n : Int) + 6 - (v + 6)).toNat < ((n : Int) + 6 - v).toNat; omega⟩, fun w => absurd e w⟩
  · intro c
    obtain ⟨P, h1, h2⟩ := lp_sits h hκ (A38 s (v + 1)) (A38 s (v + 2)) (A38 s (v + 3))
    refine ⟨bd 1 (by decide) (by decide), bd 2 (by decide) (by decide), bd 3 (by decide) (by decide), P, h1, fun z F' A' p => ?_⟩
    obtain ⟨⟨e1, e2⟩, P', g1, g2⟩ := h2 z F' A' p
    rw [e1]
    refine ⟨bd 1 (by decide) (by decide), bd 2 (by decide) (by decide), bd 3 (by decide) (by decide), P', g1, fun z' F'' A'' p' => ?_⟩
    obtain ⟨e, hz⟩ := g2 z' F'' A'' p'
    exact ⟨fun _ => ⟨rv, ⟨κ + 1, by omega, by omega, by omega, hz⟩, by show ((n : Int) + 6 - (v + 6)).toNat < ((n : Int) + 6 - v).toNat; omega⟩, fun w => absurd e w⟩
  · intro c
    obtain ⟨P, h1, h2⟩ := lp_sitting h hκ (A38 s (v + 1)) (A38 s (v + 2))
    refine ⟨bd 1 (by decide) (by decide), bd 2 (by decide) (by decide), P, h1, fun z F' A' p => ?_⟩
    obtain ⟨⟨e1, e2⟩, P', g1, g2⟩ := h2 z F' A' p
    rw [e1]
    refine ⟨bd 1 (by decide) (by decide), bd 2 (by decide) (by decide), P', g1, fun z' F'' A'' p' => ?_⟩
    obtain ⟨e, hz⟩ := g2 z' F'' A'' p'
    exact ⟨fun _ => ⟨rv, ⟨κ + 1, by omega, by omega, by omega, hz⟩, by show ((n : Int) + 6 - (v + 6)).toNat < ((n : Int) + 6 - v).toNat; omega⟩, fun w => absurd e w⟩
  · intro c
    obtain ⟨P, h1, h2⟩ := lp_tell h hκ (A38 s (v + 1)) (A38 s (v + 2))
    refine ⟨bd 1 (by decide) (by decide), bd 2 (by decide) (by decide), P, h1, fun z N' F' A' p => ?_⟩
    obtain ⟨⟨e1, e2⟩, P', g1, g2⟩ := h2 z N' F' A' p
    rw [e1, e2]
    refine ⟨bd 1 (by decide) (by decide), bd 2 (by decide) (by decide), P', g1, fun z' F'' A'' p' => ?_⟩
    obtain ⟨e, hz⟩ := g2 z' F'' A'' p'
    exact ⟨fun _ => ⟨rv, ⟨κ + 1, by omega, by omega, by omega, hz⟩, by show ((n : Int) + 6 - (v + 6)).toNat < ((n : Int) + 6 - v).toNat; omega⟩, fun w => absurd e w⟩
  · intro c
    obtain ⟨P, h1, h2⟩ := lp_anew h hκ (A38 s (v + 1))
    refine ⟨bd 1 (by decide) (by decide), P, h1, fun z N' F' A' p => ?_⟩
    obtain ⟨⟨e1, e2⟩, P', g1, g2⟩ := h2 z N' F' A' p
    rw [e1, e2]
    refine ⟨bd 1 (by decide) (by decide), P', g1, fun z' F'' A'' p' => ?_⟩
    obtain ⟨e, hz⟩ := g2 z' F'' A'' p'
    exact ⟨fun _ => ⟨rv, ⟨κ + 1, by omega, by omega, by omega, hz⟩, by show ((n : Int) + 6 - (v + 6)).toNat < ((n : Int) + 6 - v).toNat; omega⟩, fun w => absurd e w⟩
  · intro c
    obtain ⟨P, h1, h2⟩ := lp_council h hκ (A38 s (v + 1))
    refine ⟨bd 1 (by decide) (by decide), P, h1, fun z N' F' A' p => ?_⟩
    obtain ⟨⟨e1, e2⟩, P', g1, g2⟩ := h2 z N' F' A' p
    rw [e1, e2]
    refine ⟨bd 1 (by decide) (by decide), P', g1, fun z' F'' A'' p' => ?_⟩
    obtain ⟨e, hz⟩ := g2 z' F'' A'' p'
    exact ⟨fun _ => ⟨rv, ⟨κ + 1, by omega, by omega, by omega, hz⟩, by show ((n : Int) + 6 - (v + 6)).toNat < ((n : Int) + 6 - v).toNat; omega⟩, fun w => absurd e w⟩
  · intro c
    refine ⟨bd 1 (by decide) (by decide), bd 2 (by decide) (by decide), fun z0 ez0 => ?_⟩
    obtain ⟨P, h1, h2⟩ := lp_sing h hκ (A38 s (v + 1)) z0 (b01 ez0)
    refine ⟨P, h1, fun z N' F' A' p => ?_⟩
    obtain ⟨⟨e1, e2⟩, P', g1, g2⟩ := h2 z N' F' A' p
    rw [e1, e2]
    refine ⟨bd 1 (by decide) (by decide), bd 2 (by decide) (by decide), fun z1 ez1 => ?_⟩
    rw [← ez0] at ez1
    subst ez1
    refine ⟨P', g1, fun z' F'' A'' p' => ?_⟩
    obtain ⟨e, hz⟩ := g2 z' F'' A'' p'
    exact ⟨fun _ => ⟨rv, ⟨κ + 1, by omega, by omega, by omega, hz⟩, by show ((n : Int) + 6 - (v + 6)).toNat < ((n : Int) + 6 - v).toNat; omega⟩, fun w => absurd e w⟩
  · intro c
    obtain ⟨P, h1, h2⟩ := lp_swap h hκ (A38 s (v + 1)) (A38 s (v + 2))
    refine ⟨bd 1 (by decide) (by decide), bd 2 (by decide) (by decide), P, h1, fun z N' F' A' p => ?_⟩
    obtain ⟨⟨e1, e2⟩, P', g1, g2⟩ := h2 z N' F' A' p
    rw [e1, e2]
    refine ⟨bd 1 (by decide) (by decide), bd 2 (by decide) (by decide), P', g1, fun z' F'' A'' p' => ?_⟩
    obtain ⟨e, hz⟩ := g2 z' F'' A'' p'
    exact ⟨fun _ => ⟨rv, ⟨κ + 1, by omega, by omega, by omega, hz⟩, by show ((n : Int) + 6 - (v + 6)).toNat < ((n : Int) + 6 - v).toNat; omega⟩, fun w => absurd e w⟩
  · intro c
    obtain ⟨P, h1, h2⟩ := lp_years h hκ (A38 s (v + 1))
    refine ⟨bd 1 (by decide) (by decide), P, h1, fun z N' F' A' p => ?_⟩
    obtain ⟨⟨e1, e2⟩, P', g1, g2⟩ := h2 z N' F' A' p
    rw [e1, e2]
    refine ⟨bd 1 (by decide) (by decide), P', g1, fun z' F'' A'' p' => ?_⟩
    obtain ⟨e, hz⟩ := g2 z' F'' A'' p'
    exact ⟨fun _ => ⟨rv, ⟨κ + 1, by omega, by omega, by omega, hz⟩, by show ((n : Int) + 6 - (v + 6)).toNat < ((n : Int) + 6 - v).toNat; omega⟩, fun w => absurd e w⟩
  · intro c
    obtain ⟨P, h1, h2⟩ := lp_undo h hκ 
    refine ⟨P, h1, fun z N' F' A' p => ?_⟩
    obtain ⟨⟨e1, e2⟩, P', g1, g2⟩ := h2 z N' F' A' p
    refine ⟨P', g1, fun z' F'' A'' p' => ?_⟩
    obtain ⟨e, hz⟩ := g2 z' F'' A'' p'
    exact ⟨fun _ => ⟨rv, ⟨κ + 1, by omega, by omega, by omega, hz⟩, by show ((n : Int) + 6 - (v + 6)).toNat < ((n : Int) + 6 - v).toNat; omega⟩, fun w => absurd e w⟩
  · intro c
    obtain ⟨P, h1, h2⟩ := lp_seed h hκ (A38 s (v + 1)) (hs.2.2.2 _)
    refine ⟨bd 1 (by decide) (by decide), P, h1, fun z F' A' p => ?_⟩
    obtain ⟨⟨e1, e2⟩, P', g1, g2⟩ := h2 z F' A' p
    rw [e1]
    refine ⟨bd 1 (by decide) (by decide), P', g1, fun z' F'' A'' p' => ?_⟩
    obtain ⟨e, hz⟩ := g2 z' F'' A'' p'
    exact ⟨fun _ => ⟨rv, ⟨κ + 1, by omega, by omega, by omega, hz⟩, by show ((n : Int) + 6 - (v + 6)).toNat < ((n : Int) + 6 - v).toNat; omega⟩, fun w => absurd e w⟩
  · intro c
    obtain ⟨P, h1, h2⟩ := lp_book h hκ (A38 s (v + 1)) (A38 s (v + 2))
    refine ⟨bd 1 (by decide) (by decide), bd 2 (by decide) (by decide), P, h1, fun z p => ?_⟩
    obtain ⟨P', g1, g2⟩ := h2 z p
    refine ⟨bd 1 (by decide) (by decide), bd 2 (by decide) (by decide), P', g1, fun z' p' => ?_⟩
    obtain ⟨e, hz⟩ := g2 z' p'
    exact ⟨fun _ => ⟨rv, ⟨κ + 1, by omega, by omega, by omega, hz⟩, by show ((n : Int) + 6 - (v + 6)).toNat < ((n : Int) + 6 - v).toNat; omega⟩, fun w => absurd e w⟩
  · intro c
    obtain ⟨P, h1, h2⟩ := lp_odds h hκ (A38 s (v + 1))
    refine ⟨bd 1 (by decide) (by decide), P, h1, fun z F' A' p => ?_⟩
    obtain ⟨⟨e1, e2⟩, P', g1, g2⟩ := h2 z F' A' p
    rw [e1]
    refine ⟨bd 1 (by decide) (by decide), P', g1, fun z' F'' A'' p' => ?_⟩
    obtain ⟨e, hz⟩ := g2 z' F'' A'' p'
    exact ⟨fun _ => ⟨rv, ⟨κ + 1, by omega, by omega, by omega, hz⟩, by show ((n : Int) + 6 - (v + 6)).toNat < ((n : Int) + 6 - v).toNat; omega⟩, fun w => absurd e w⟩
  · intro c
    refine ⟨bd 1 (by decide) (by decide), bd 2 (by decide) (by decide), bd 3 (by decide) (by decide), fun z0 ez0 => ?_⟩
    obtain ⟨P, h1, h2⟩ := lp_becomes_2 h hκ (A38 s (v + 1)) (A38 s (v + 2)) z0
    refine ⟨P, h1, fun z F' A' p => ?_⟩
    obtain ⟨⟨e1, e2⟩, P', g1, g2⟩ := h2 z F' A' p
    rw [e1]
    refine ⟨bd 1 (by decide) (by decide), bd 2 (by decide) (by decide), bd 3 (by decide) (by decide), fun z1 ez1 => ?_⟩
    rw [← ez0] at ez1
    subst ez1
    refine ⟨P', g1, fun z' F'' A'' p' => ?_⟩
    obtain ⟨e, hz⟩ := g2 z' F'' A'' p'
    exact ⟨fun _ => ⟨rv, ⟨κ + 1, by omega, by omega, by omega, hz⟩, by show ((n : Int) + 6 - (v + 6)).toNat < ((n : Int) + 6 - v).toNat; omega⟩, fun w => absurd e w⟩
  · intro c
    obtain ⟨P, h1, h2⟩ := lp_round h hκ (A38 s (v + 1)) (A38 s (v + 2)) (A38 s (v + 3))
    refine ⟨bd 1 (by decide) (by decide), bd 2 (by decide) (by decide), bd 3 (by decide) (by decide), P, h1, fun z F' A' p => ?_⟩
    obtain ⟨⟨e1, e2⟩, P', g1, g2⟩ := h2 z F' A' p
    rw [e1]
    refine ⟨bd 1 (by decide) (by decide), bd 2 (by decide) (by decide), bd 3 (by decide) (by decide), P', g1, fun z' F'' A'' p' => ?_⟩
    obtain ⟨e, hz⟩ := g2 z' F'' A'' p'
    exact ⟨fun _ => ⟨rv, ⟨κ + 1, by omega, by omega, by omega, hz⟩, by show ((n : Int) + 6 - (v + 6)).toNat < ((n : Int) + 6 - v).toNat; omega⟩, fun w => absurd e w⟩
  · intro c
    obtain ⟨P, h1, h2⟩ := lp_best h hκ (A38 s (v + 1)) (A38 s (v + 2))
    refine ⟨bd 1 (by decide) (by decide), bd 2 (by decide) (by decide), P, h1, fun z F' A' p => ?_⟩
    obtain ⟨⟨e1, e2⟩, P', g1, g2⟩ := h2 z F' A' p
    rw [e1]
    refine ⟨bd 1 (by decide) (by decide), bd 2 (by decide) (by decide), P', g1, fun z' F'' A'' p' => ?_⟩
    obtain ⟨e, hz⟩ := g2 z' F'' A'' p'
    exact ⟨fun _ => ⟨rv, ⟨κ + 1, by omega, by omega, by omega, hz⟩, by show ((n : Int) + 6 - (v + 6)).toNat < ((n : Int) + 6 - v).toNat; omega⟩, fun w => absurd e w⟩
  · intro c
    obtain ⟨P, h1, h2⟩ := lp_mended h hκ (A38 s (v + 1)) (A38 s (v + 2))
    refine ⟨bd 1 (by decide) (by decide), bd 2 (by decide) (by decide), P, h1, fun z F' A' p => ?_⟩
    obtain ⟨⟨e1, e2⟩, P', g1, g2⟩ := h2 z F' A' p
    rw [e1]
    refine ⟨bd 1 (by decide) (by decide), bd 2 (by decide) (by decide), P', g1, fun z' F'' A'' p' => ?_⟩
    obtain ⟨e, hz⟩ := g2 z' F'' A'' p'
    exact ⟨fun _ => ⟨rv, ⟨κ + 1, by omega, by omega, by omega, hz⟩, by show ((n : Int) + 6 - (v + 6)).toNat < ((n : Int) + 6 - v).toNat; omega⟩, fun w => absurd e w⟩
  · intro c
    obtain ⟨P, h1, h2⟩ := lp_forty h hκ (A38 s (v + 1)) (A38 s (v + 2))
    refine ⟨bd 1 (by decide) (by decide), bd 2 (by decide) (by decide), P, h1, fun z F' A' p => ?_⟩
    obtain ⟨⟨e1, e2⟩, P', g1, g2⟩ := h2 z F' A' p
    rw [e1]
    refine ⟨bd 1 (by decide) (by decide), bd 2 (by decide) (by decide), P', g1, fun z' F'' A'' p' => ?_⟩
    obtain ⟨e, hz⟩ := g2 z' F'' A'' p'
    exact ⟨fun _ => ⟨rv, ⟨κ + 1, by omega, by omega, by omega, hz⟩, by show ((n : Int) + 6 - (v + 6)).toNat < ((n : Int) + 6 - v).toNat; omega⟩, fun w => absurd e w⟩
  · intro c
    obtain ⟨P, h1, h2⟩ := lp_sorted h hκ (A38 s (v + 1)) (A38 s (v + 2))
    refine ⟨bd 1 (by decide) (by decide), bd 2 (by decide) (by decide), P, h1, fun z F' A' p => ?_⟩
    obtain ⟨⟨e1, e2⟩, P', g1, g2⟩ := h2 z F' A' p
    rw [e1]
    refine ⟨bd 1 (by decide) (by decide), bd 2 (by decide) (by decide), P', g1, fun z' F'' A'' p' => ?_⟩
    obtain ⟨e, hz⟩ := g2 z' F'' A'' p'
    exact ⟨fun _ => ⟨rv, ⟨κ + 1, by omega, by omega, by omega, hz⟩, by show ((n : Int) + 6 - (v + 6)).toNat < ((n : Int) + 6 - v).toNat; omega⟩, fun w => absurd e w⟩
  · intro c
    obtain ⟨P, h1, h2⟩ := lp_apart h hκ (A38 s (v + 1))
    refine ⟨bd 1 (by decide) (by decide), P, h1, fun z p => ?_⟩
    obtain ⟨P', g1, g2⟩ := h2 z p
    refine ⟨bd 1 (by decide) (by decide), P', g1, fun z' p' => ?_⟩
    obtain ⟨e, hz⟩ := g2 z' p'
    exact ⟨fun _ => ⟨rv, ⟨κ + 1, by omega, by omega, by omega, hz⟩, by show ((n : Int) + 6 - (v + 6)).toNat < ((n : Int) + 6 - v).toNat; omega⟩, fun w => absurd e w⟩
  · intro c
    obtain ⟨P, h1, h2⟩ := lp_against h hκ (A38 s (v + 1))
    refine ⟨bd 1 (by decide) (by decide), P, h1, fun z p => ?_⟩
    obtain ⟨P', g1, g2⟩ := h2 z p
    refine ⟨bd 1 (by decide) (by decide), P', g1, fun z' p' => ?_⟩
    obtain ⟨e, hz⟩ := g2 z' p'
    exact ⟨fun _ => ⟨rv, ⟨κ + 1, by omega, by omega, by omega, hz⟩, by show ((n : Int) + 6 - (v + 6)).toNat < ((n : Int) + 6 - v).toNat; omega⟩, fun w => absurd e w⟩
  · intro c
    obtain ⟨P, h1, h2⟩ := lp_once h hκ (A38 s (v + 1)) (A38 s (v + 2)) (A38 s (v + 3)) (A38 s (v + 4))
    refine ⟨bd 1 (by decide) (by decide), bd 2 (by decide) (by decide), bd 3 (by decide) (by decide), bd 4 (by decide) (by decide), P, h1, fun z F' A' p => ?_⟩
    obtain ⟨⟨e1, e2⟩, P', g1, g2⟩ := h2 z F' A' p
    rw [e1]
    refine ⟨bd 1 (by decide) (by decide), bd 2 (by decide) (by decide), bd 3 (by decide) (by decide), bd 4 (by decide) (by decide), P', g1, fun z' F'' A'' p' => ?_⟩
    obtain ⟨e, hz⟩ := g2 z' F'' A'' p'
    exact ⟨fun _ => ⟨rv, ⟨κ + 1, by omega, by omega, by omega, hz⟩, by show ((n : Int) + 6 - (v + 6)).toNat < ((n : Int) + 6 - v).toNat; omega⟩, fun w => absurd e w⟩
  · intro c
    obtain ⟨P, h1, h2⟩ := lp_meaning h hκ (A38 s (v + 1))
    refine ⟨bd 1 (by decide) (by decide), P, h1, fun z p => ?_⟩
    obtain ⟨P', g1, g2⟩ := h2 z p
    refine ⟨bd 1 (by decide) (by decide), P', g1, fun z' F'' A'' p' => ?_⟩
    obtain ⟨e, hz⟩ := g2 z' F'' A'' p'
    exact ⟨fun _ => ⟨rv, ⟨κ + 1, by omega, by omega, by omega, hz⟩, by show ((n : Int) + 6 - (v + 6)).toNat < ((n : Int) + 6 - v).toNat; omega⟩, fun w => absurd e w⟩
  · intro c
    obtain ⟨P, h1, h2⟩ := lp_harm h hκ (A38 s (v + 1))
    refine ⟨bd 1 (by decide) (by decide), P, h1, fun z F' A' p => ?_⟩
    obtain ⟨⟨e1, e2⟩, P', g1, g2⟩ := h2 z F' A' p
    rw [e1]
    refine ⟨bd 1 (by decide) (by decide), P', g1, fun z' F'' A'' p' => ?_⟩
    obtain ⟨e, hz⟩ := g2 z' F'' A'' p'
    exact ⟨fun _ => ⟨rv, ⟨κ + 1, by omega, by omega, by omega, hz⟩, by show ((n : Int) + 6 - (v + 6)).toNat < ((n : Int) + 6 - v).toNat; omega⟩, fun w => absurd e w⟩
  · intro c
    obtain ⟨P, h1, h2⟩ := lp_needs h hκ (A38 s (v + 1)) (A38 s (v + 2))
    refine ⟨bd 1 (by decide) (by decide), bd 2 (by decide) (by decide), P, h1, fun z F' A' p => ?_⟩
    obtain ⟨⟨e1, e2⟩, P', g1, g2⟩ := h2 z F' A' p
    rw [e1]
    refine ⟨bd 1 (by decide) (by decide), bd 2 (by decide) (by decide), P', g1, fun z' F'' A'' p' => ?_⟩
    obtain ⟨e, hz⟩ := g2 z' F'' A'' p'
    exact ⟨fun _ => ⟨rv, ⟨κ + 1, by omega, by omega, by omega, hz⟩, by show ((n : Int) + 6 - (v + 6)).toNat < ((n : Int) + 6 - v).toNat; omega⟩, fun w => absurd e w⟩
  · intro c
    obtain ⟨P, h1, h2⟩ := lp_runs h hκ (A38 s (v + 1)) (A38 s (v + 2)) (A38 s (v + 3))
    refine ⟨bd 1 (by decide) (by decide), bd 2 (by decide) (by decide), bd 3 (by decide) (by decide), P, h1, fun z N' F' A' p => ?_⟩
    obtain ⟨⟨e1, e2⟩, P', g1, g2⟩ := h2 z N' F' A' p
    rw [e1, e2]
    refine ⟨bd 1 (by decide) (by decide), bd 2 (by decide) (by decide), bd 3 (by decide) (by decide), P', g1, fun z' F'' A'' p' => ?_⟩
    obtain ⟨e, hz⟩ := g2 z' F'' A'' p'
    exact ⟨fun _ => ⟨rv, ⟨κ + 1, by omega, by omega, by omega, hz⟩, by show ((n : Int) + 6 - (v + 6)).toNat < ((n : Int) + 6 - v).toNat; omega⟩, fun w => absurd e w⟩
  · intro c
    obtain ⟨P, h1, h2⟩ := lp_image h hκ 
    refine ⟨P, h1, fun z N' F' A' p => ?_⟩
    obtain ⟨⟨e1, e2⟩, P', g1, g2⟩ := h2 z N' F' A' p
    refine ⟨P', g1, fun z' F'' A'' p' => ?_⟩
    obtain ⟨e, hz⟩ := g2 z' F'' A'' p'
    exact ⟨fun _ => ⟨rv, ⟨κ + 1, by omega, by omega, by omega, hz⟩, by show ((n : Int) + 6 - (v + 6)).toNat < ((n : Int) + 6 - v).toNat; omega⟩, fun w => absurd e w⟩
  · intro c
    obtain ⟨P, h1, h2⟩ := lp_octet h hκ (A38 s (v + 1))
    refine ⟨bd 1 (by decide) (by decide), P, h1, fun z p => ?_⟩
    obtain ⟨P', g1, g2⟩ := h2 z p
    refine ⟨bd 1 (by decide) (by decide), P', g1, fun z' p' => ?_⟩
    obtain ⟨e, hz⟩ := g2 z' p'
    exact ⟨fun _ => ⟨rv, ⟨κ + 1, by omega, by omega, by omega, hz⟩, by show ((n : Int) + 6 - (v + 6)).toNat < ((n : Int) + 6 - v).toNat; omega⟩, fun w => absurd e w⟩
  · intro c
    obtain ⟨P, h1, h2⟩ := lp_on h hκ 
    refine ⟨P, h1, fun z N' F' A' p => ?_⟩
    obtain ⟨⟨e1, e2⟩, P', g1, g2⟩ := h2 z N' F' A' p
    refine ⟨P', g1, fun z' F'' A'' p' => ?_⟩
    obtain ⟨e, hz⟩ := g2 z' F'' A'' p'
    exact ⟨fun _ => ⟨rv, ⟨κ + 1, by omega, by omega, by omega, hz⟩, by show ((n : Int) + 6 - (v + 6)).toNat < ((n : Int) + 6 - v).toNat; omega⟩, fun w => absurd e w⟩
  · intro c
    obtain ⟨P, h1, h2⟩ := lp_status h hκ (A38 s (v + 1))
    refine ⟨bd 1 (by decide) (by decide), P, h1, fun z p => ?_⟩
    obtain ⟨P', g1, g2⟩ := h2 z p
    refine ⟨bd 1 (by decide) (by decide), P', g1, fun z' p' => ?_⟩
    obtain ⟨e, hz⟩ := g2 z' p'
    exact ⟨fun _ => ⟨rv, ⟨κ + 1, by omega, by omega, by omega, hz⟩, by show ((n : Int) + 6 - (v + 6)).toNat < ((n : Int) + 6 - v).toNat; omega⟩, fun w => absurd e w⟩
  · intros
    exact ⟨rv, ⟨κ + 1, by omega, by omega, by omega, h.up (by omega)⟩, by show ((n : Int) + 6 - (v + 6)).toNat < ((n : Int) + 6 - v).toNat; omega⟩
