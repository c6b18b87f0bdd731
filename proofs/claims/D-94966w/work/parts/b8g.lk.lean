set_option maxRecDepth 100000
set_option linter.unusedVariables false
/-! the law: its name, its calls of methods with handlers -/
def mL_law : jM := (⟨"ChildSaysLaw", "law", "([I)Z"⟩, cL_law, 4, some .boolean, [])
def jLVH (own : String) (i : Nat) (y : jM) (n : Nat) : Prop := jwd y = Cond.codeWith y.1 y.2.1 y.2.2.1 y.2.2.2.1 y.2.2.2.2 ∧ y.2.2.1 ≤ 45 ∧ Cond.codeWith y.1 y.2.1 y.2.2.1 y.2.2.2.1 y.2.2.2.2 ∈ lw_all ∧ Cond.initialized y.1.cls ∈ lw_all ∧ jnm y.1 n ∧ Cond.methodLink own i y.1 ∈ lw_all ∧ Cond.instanceMethod y.1 ∈ lw_all ∧ Cond.selects y.1.cls y.1 y.1 ∈ lw_all
section JVH
variable {G : jG} {l : Launch} {d : Nat} {k : jM} {pc : Nat} {ls st : List Value} {N : jSh} {F : jFl} {A : jAr} {post : jPo}
theorem j_invVH {i n b ci d2 : Nat} {cl : jC} {y : jM} {As rest : List Value} {P1 : jPo} (hd : decode k.2.1 pc = .ok (.invokevirtual i, 3)) (hl : jLVH k.1.cls i y n) (htg : jtg N b = ci) (hc : jcls ci = some cl) (hcn : cl.1 = y.1.cls) (hC : jCall G l d2 y (.ref b :: As) N F A P1) (hn : As.length = n) (hst : st = As.reverse ++ .ref b :: rest) (hcat : (rest.map fun v => v.category).sum ≤ 8) (hdd : d2 + 1 ≤ d)
    (kk : ∀ (o : Outcome) (N' : jSh) (F' : jFl) (A' : jAr), P1 o N' F' A' → jnx N ≤ jnx N' → (∃ v, o = .returned v ∧ J G l d k (pc + 3) ls (v.toList ++ rest) N' F' A' post) ∨ ∃ q, o = .threw q ∧ JT G l d k pc ls rest q N' F' A' post) : J G l d k pc ls st N F A post := by
  refine J.callx hC (fun {o N' F' A'} hX {p e R s m args below meth c H locs cells slots a} X h1 h2 h3 h4 hRep hS hL => ?_) kk
  obtain ⟨y1, y2, y3, y4, y5⟩ := y
  obtain ⟨hh, hy3, hcode, hini, ⟨m1, m2, m3⟩, hlk, hin, hse⟩ := hl
  subst hst
  have hm := hX.2.2
  have hw : jws (y1, y2, y3, y4, y5) = wsW_ y1 y2 y3 y4 y5 := by
    show jwd (y1, y2, y3, y4, y5) :: lw_all = _
    rw [hh]
  rw [hw] at hm
  have hw2 : wsW_ y1 y2 y3 y4 y5 = Cond.codeWith y1 y2 y3 y4 y5 :: lw_all := rfl
  exact vy_runVX (C := y1.cls) (As := As) (rest := rest) (jFix X) hm (vy_cwVW n X.2.2.2.2.2.2.2.1 (lw_VW hlk hin hse hini hcode) hw2 rfl rfl ⟨rfl, m1, m2, m3⟩ ⟨by show d2 + 1 ≤ _; omega, by show 8 + (y3 + 11) + 64 * d2 ≤ _; have : y3 ≤ 45 := hy3; omega⟩)
    ⟨jPre.blind, by rw [← hcn]; exact jrecv X.2.2.2.2.2.2.2.2.1 hRep htg hc, fun U hU hW => ⟨rfl, jPre.call X.2.2.2.2.2.2.2.2.1 X.2.2.2.2.2.2.2.2.2.1 X.2.2.2.2.2.2.2.2.2.2.1 hRep hS U hU hW⟩⟩ rfl hn hL.2.1 rfl (lv_room hcat) hd ⟨h1, h2⟩
theorem r_invVH {i n b d2 ci : Nat} {z : Int} {cl : jC} {y : jM} {As rest : List Value} {P1 : jPo} (hd : decode k.2.1 pc = .ok (.invokevirtual i, 3)) (hl : jLVH k.1.cls i y n) (hz : z = (b : Int)) (htg : jtg N b = ci) (hc : jcls ci = some cl) (hcn : cl.1 = y.1.cls) (hC : jCall G l d2 y (vR (b : Int) :: As) N F A P1) (hn : As.length = n) (hst : st = As.reverse ++ vR z :: rest) (hcat : rest.length ≤ 4) (hdd : d2 + 1 ≤ d)
    (kk : ∀ (o : Outcome) (N' : jSh) (F' : jFl) (A' : jAr), P1 o N' F' A' → jnx N ≤ jnx N' → (∃ v, o = .returned v ∧ J G l d k (pc + 3) ls (v.toList ++ rest) N' F' A' post) ∨ ∃ q, o = .threw q ∧ JT G l d k pc ls rest q N' F' A' post) : J G l d k pc ls st N F A post := by
  rw [vR_n hz] at hst
  rw [vR_nat] at hC
  exact j_invVH hd hl htg hc hcn hC hn hst (jcat4 hcat) hdd kk
end JVH
theorem lkL_23 : jLVH "ChildSaysLaw" 23 mX0_town 0 := ⟨rfl, by decide, q611, q147, ⟨by decide, by decide, by decide +kernel⟩, q608, q609, q610⟩
theorem lkL_88 : jLVH "ChildSaysLaw" 88 mX0_council 1 := ⟨rfl, by decide, q1553, q147, ⟨by decide, by decide, by decide +kernel⟩, q1550, q1551, q1552⟩
