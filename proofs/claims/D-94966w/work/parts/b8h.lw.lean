set_option maxRecDepth 100000
set_option linter.unusedVariables false
/-! the law: its walk; printed by gen/emit_law.py law -/
/-- ChildSaysLaw.law([I)Z -/
def wqL_law (S : Nat → Nat) (a1 : Int) (N : jSh) (F : jFl) (A : jAr) (Q : Int → jSh → jFl → jAr → Prop) : Prop :=
  ∀ (b1 : Nat) (N2 : jSh) (F3 : jFl), b1 = jnx N → N2 = jnew N 1 0 17 1 → F3 = nwF N F →
  ∃ (P8 : jSh → jFl → jAr → Prop), wqX0_init S b1 N2 F3 A P8 ∧
  ∀ N13 F11 A12, P8 N13 F11 A12 →
  ∀ (b18 : Nat) (N19 : jSh) (F20 : jFl), b18 = jnx N13 → N19 = jnew N13 10 0 80 1 → F20 = nwF N13 F11 →
  ∃ (P25 : jSh → jFl → jAr → Prop), wqX9_init b18 N19 F20 A12 P25 ∧
  ∀ N30 F28 A29, P25 N30 F28 A29 →
  ∃ (I41 : Int → jSh → jFl → jAr → Prop) (m42 : Int → jSh → jFl → jAr → Nat), I41 0 N30 F28 A29 ∧ ∀ (v35 : Int) (N36 : jSh) (F37 : jFl) (A38 : jAr), I41 v35 N36 F37 A38 →
    ∃ b43 : Nat, a1 = (b43 : Int) ∧
    jtg N36 b43 = 102 ∧
    jR ((jln N36 b43 : Int) - 6) ∧
    ((((jln N36 b43 : Int) - 6) < v35) →
      Q 1 N36 F37 A38) ∧
    ((¬ (((jln N36 b43 : Int) - 6) < v35)) →
      ((0 : Int) ≤ v35 ∧ (v35 : Int) < (jln N36 b43 : Int)) ∧
      (((A38 b43 v35) % 64) = 0 →
        ((0 : Int) ≤ v35 + 1 ∧ (v35 + 1 : Int) < (jln N36 b43 : Int)) ∧
        ((0 : Int) ≤ v35 + 2 ∧ (v35 + 2 : Int) < (jln N36 b43 : Int)) ∧
        ((0 : Int) ≤ v35 + 3 ∧ (v35 + 3 : Int) < (jln N36 b43 : Int)) ∧
        ((0 : Int) ≤ v35 + 4 ∧ (v35 + 4 : Int) < (jln N36 b43 : Int)) ∧
        ((0 : Int) ≤ v35 + 5 ∧ (v35 + 5 : Int) < (jln N36 b43 : Int)) ∧
        ∃ (P55 : Int → jFl → jAr → Prop), wqX0_feed b1 (A38 b43 (v35 + 1)) (A38 b43 (v35 + 2)) (A38 b43 (v35 + 3)) (A38 b43 (v35 + 4)) (A38 b43 (v35 + 5)) N36 F37 A38 P55 ∧
        ∀ z57 F58 A59, P55 z57 F58 A59 →
        ((0 : Int) ≤ v35 + 1 ∧ (v35 + 1 : Int) < (jln N36 b43 : Int)) ∧
        ((0 : Int) ≤ v35 + 2 ∧ (v35 + 2 : Int) < (jln N36 b43 : Int)) ∧
        ((0 : Int) ≤ v35 + 3 ∧ (v35 + 3 : Int) < (jln N36 b43 : Int)) ∧
        ((0 : Int) ≤ v35 + 4 ∧ (v35 + 4 : Int) < (jln N36 b43 : Int)) ∧
        ((0 : Int) ≤ v35 + 5 ∧ (v35 + 5 : Int) < (jln N36 b43 : Int)) ∧
        ∃ (P70 : Int → jFl → jAr → Prop), wqX9_feed b18 (A59 b43 (v35 + 1)) (A59 b43 (v35 + 2)) (A59 b43 (v35 + 3)) (A59 b43 (v35 + 4)) (A59 b43 (v35 + 5)) N36 F58 A59 P70 ∧
        ∀ z72 F73 A74, P70 z72 F73 A74 →
        ((z57 = z72) →
          jR (v35 + 6) ∧
          I41 (v35 + 6) N36 F73 A74 ∧ m42 (v35 + 6) N36 F73 A74 < m42 v35 N36 F37 A38) ∧
        ((¬ (z57 = z72)) →
          Q 0 N36 F73 A74)) ∧
      (((A38 b43 v35) % 64) = 1 →
        ((0 : Int) ≤ v35 + 1 ∧ (v35 + 1 : Int) < (jln N36 b43 : Int)) ∧
        ∃ (P83 : Int → jFl → jAr → Prop), wqX0_end b1 (A38 b43 (v35 + 1)) N36 F37 A38 P83 ∧
        ∀ z85 F86 A87, P83 z85 F86 A87 →
        ((0 : Int) ≤ v35 + 1 ∧ (v35 + 1 : Int) < (jln N36 b43 : Int)) ∧
        ∃ (P94 : Int → jFl → jAr → Prop), wqX9_end b18 (A87 b43 (v35 + 1)) N36 F86 A87 P94 ∧
        ∀ z96 F97 A98, P94 z96 F97 A98 →
        ((z85 = z96) →
          jR (v35 + 6) ∧
          I41 (v35 + 6) N36 F97 A98 ∧ m42 (v35 + 6) N36 F97 A98 < m42 v35 N36 F37 A38) ∧
        ((¬ (z85 = z96)) →
          Q 0 N36 F97 A98)) ∧
      (((A38 b43 v35) % 64) = 2 →
        ∃ (P106 : Int → jSh → jFl → jAr → Prop), wqX0_town S b1 N36 F37 A38 P106 ∧
        ∀ z108 N111 F109 A110, P106 z108 N111 F109 A110 →
        ∃ (P117 : Int → jFl → jAr → Prop), wqX9_town b18 N111 F109 A110 P117 ∧
        ∀ z119 F120 A121, P117 z119 F120 A121 →
        ((z108 = z119) →
          jR (v35 + 6) ∧
          I41 (v35 + 6) N111 F120 A121 ∧ m42 (v35 + 6) N111 F120 A121 < m42 v35 N36 F37 A38) ∧
        ((¬ (z108 = z119)) →
          Q 0 N111 F120 A121)) ∧
      (((A38 b43 v35) % 64) = 3 →
        ((0 : Int) ≤ v35 + 1 ∧ (v35 + 1 : Int) < (jln N36 b43 : Int)) ∧
        ∃ (P130 : Int → Prop), wqX0_fault b1 (A38 b43 (v35 + 1)) N36 F37 A38 P130 ∧
        ∀ z132, P130 z132 →
        ((0 : Int) ≤ v35 + 1 ∧ (v35 + 1 : Int) < (jln N36 b43 : Int)) ∧
        ∃ (P139 : Int → Prop), wqX9_fault b18 (A38 b43 (v35 + 1)) N36 F37 A38 P139 ∧
        ∀ z141, P139 z141 →
        ((z132 = z141) →
          jR (v35 + 6) ∧
          I41 (v35 + 6) N36 F37 A38 ∧ m42 (v35 + 6) N36 F37 A38 < m42 v35 N36 F37 A38) ∧
        ((¬ (z132 = z141)) →
          Q 0 N36 F37 A38)) ∧
      (((A38 b43 v35) % 64) = 4 →
        ((0 : Int) ≤ v35 + 1 ∧ (v35 + 1 : Int) < (jln N36 b43 : Int)) ∧
        ∃ (P150 : Int → Prop), wqX0_has b1 (A38 b43 (v35 + 1)) N36 F37 A38 P150 ∧
        ∀ z152, P150 z152 →
        ((0 : Int) ≤ v35 + 1 ∧ (v35 + 1 : Int) < (jln N36 b43 : Int)) ∧
        ∃ (P159 : Int → Prop), wqX9_has b18 (A38 b43 (v35 + 1)) N36 F37 A38 P159 ∧
        ∀ z161, P159 z161 →
        ((z152 = z161) →
          jR (v35 + 6) ∧
          I41 (v35 + 6) N36 F37 A38 ∧ m42 (v35 + 6) N36 F37 A38 < m42 v35 N36 F37 A38) ∧
        ((¬ (z152 = z161)) →
          Q 0 N36 F37 A38)) ∧
      (((A38 b43 v35) % 64) = 5 →
        ((0 : Int) ≤ v35 + 1 ∧ (v35 + 1 : Int) < (jln N36 b43 : Int)) ∧
        ((0 : Int) ≤ v35 + 2 ∧ (v35 + 2 : Int) < (jln N36 b43 : Int)) ∧
        ((0 : Int) ≤ v35 + 3 ∧ (v35 + 3 : Int) < (jln N36 b43 : Int)) ∧
        ∃ (P172 : Int → Prop), wqX0_letter S b1 (A38 b43 (v35 + 1)) (A38 b43 (v35 + 2)) (A38 b43 (v35 + 3)) N36 F37 A38 P172 ∧
        ∀ z174, P172 z174 →
        ((0 : Int) ≤ v35 + 1 ∧ (v35 + 1 : Int) < (jln N36 b43 : Int)) ∧
        ((0 : Int) ≤ v35 + 2 ∧ (v35 + 2 : Int) < (jln N36 b43 : Int)) ∧
        ((0 : Int) ≤ v35 + 3 ∧ (v35 + 3 : Int) < (jln N36 b43 : Int)) ∧
        ∃ (P183 : Int → Prop), wqX9_letter b18 (A38 b43 (v35 + 1)) (A38 b43 (v35 + 2)) (A38 b43 (v35 + 3)) N36 F37 A38 P183 ∧
        ∀ z185, P183 z185 →
        ((z174 = z185) →
          jR (v35 + 6) ∧
          I41 (v35 + 6) N36 F37 A38 ∧ m42 (v35 + 6) N36 F37 A38 < m42 v35 N36 F37 A38) ∧
        ((¬ (z174 = z185)) →
          Q 0 N36 F37 A38)) ∧
      (((A38 b43 v35) % 64) = 6 →
        ((0 : Int) ≤ v35 + 1 ∧ (v35 + 1 : Int) < (jln N36 b43 : Int)) ∧
        ((0 : Int) ≤ v35 + 2 ∧ (v35 + 2 : Int) < (jln N36 b43 : Int)) ∧
        ∃ (P195 : Int → Prop), wqX0_word b1 (A38 b43 (v35 + 1)) (A38 b43 (v35 + 2)) N36 F37 A38 P195 ∧
        ∀ z197, P195 z197 →
        ((0 : Int) ≤ v35 + 1 ∧ (v35 + 1 : Int) < (jln N36 b43 : Int)) ∧
        ((0 : Int) ≤ v35 + 2 ∧ (v35 + 2 : Int) < (jln N36 b43 : Int)) ∧
        ∃ (P205 : Int → Prop), wqX9_word b18 (A38 b43 (v35 + 1)) (A38 b43 (v35 + 2)) N36 F37 A38 P205 ∧
        ∀ z207, P205 z207 →
        ((z197 = z207) →
          jR (v35 + 6) ∧
          I41 (v35 + 6) N36 F37 A38 ∧ m42 (v35 + 6) N36 F37 A38 < m42 v35 N36 F37 A38) ∧
        ((¬ (z197 = z207)) →
          Q 0 N36 F37 A38)) ∧
      (((A38 b43 v35) % 64) = 7 →
        ((0 : Int) ≤ v35 + 1 ∧ (v35 + 1 : Int) < (jln N36 b43 : Int)) ∧
        ((0 : Int) ≤ v35 + 2 ∧ (v35 + 2 : Int) < (jln N36 b43 : Int)) ∧
        ∃ (P217 : Int → jFl → jAr → Prop), wqX0_child b1 (A38 b43 (v35 + 1)) (A38 b43 (v35 + 2)) N36 F37 A38 P217 ∧
        ∀ z219 F220 A221, P217 z219 F220 A221 →
        ((0 : Int) ≤ v35 + 1 ∧ (v35 + 1 : Int) < (jln N36 b43 : Int)) ∧
        ((0 : Int) ≤ v35 + 2 ∧ (v35 + 2 : Int) < (jln N36 b43 : Int)) ∧
        ∃ (P229 : Int → jFl → jAr → Prop), wqX9_child b18 (A221 b43 (v35 + 1)) (A221 b43 (v35 + 2)) N36 F220 A221 P229 ∧
        ∀ z231 F232 A233, P229 z231 F232 A233 →
        ((z219 = z231) →
          jR (v35 + 6) ∧
          I41 (v35 + 6) N36 F232 A233 ∧ m42 (v35 + 6) N36 F232 A233 < m42 v35 N36 F37 A38) ∧
        ((¬ (z219 = z231)) →
          Q 0 N36 F232 A233)) ∧
      (((A38 b43 v35) % 64) = 8 →
        ((0 : Int) ≤ v35 + 1 ∧ (v35 + 1 : Int) < (jln N36 b43 : Int)) ∧
        ((0 : Int) ≤ v35 + 2 ∧ (v35 + 2 : Int) < (jln N36 b43 : Int)) ∧
        ∃ (P243 : Int → jFl → jAr → Prop), wqX0_law b1 (A38 b43 (v35 + 1)) (A38 b43 (v35 + 2)) N36 F37 A38 P243 ∧
        ∀ z245 F246 A247, P243 z245 F246 A247 →
        ((0 : Int) ≤ v35 + 1 ∧ (v35 + 1 : Int) < (jln N36 b43 : Int)) ∧
        ((0 : Int) ≤ v35 + 2 ∧ (v35 + 2 : Int) < (jln N36 b43 : Int)) ∧
        ∃ (P255 : Int → jFl → jAr → Prop), wqX9_law b18 (A247 b43 (v35 + 1)) (A247 b43 (v35 + 2)) N36 F246 A247 P255 ∧
        ∀ z257 F258 A259, P255 z257 F258 A259 →
        ((z245 = z257) →
          jR (v35 + 6) ∧
          I41 (v35 + 6) N36 F258 A259 ∧ m42 (v35 + 6) N36 F258 A259 < m42 v35 N36 F37 A38) ∧
        ((¬ (z245 = z257)) →
          Q 0 N36 F258 A259)) ∧
      (((A38 b43 v35) % 64) = 9 →
        ((0 : Int) ≤ v35 + 1 ∧ (v35 + 1 : Int) < (jln N36 b43 : Int)) ∧
        ∃ (P268 : Int → Prop), wqX0_order b1 (A38 b43 (v35 + 1)) N36 F37 A38 P268 ∧
        ∀ z270, P268 z270 →
        ((0 : Int) ≤ v35 + 1 ∧ (v35 + 1 : Int) < (jln N36 b43 : Int)) ∧
        ∃ (P277 : Int → Prop), wqX9_order b18 (A38 b43 (v35 + 1)) N36 F37 A38 P277 ∧
        ∀ z279, P277 z279 →
        ((z270 = z279) →
          jR (v35 + 6) ∧
          I41 (v35 + 6) N36 F37 A38 ∧ m42 (v35 + 6) N36 F37 A38 < m42 v35 N36 F37 A38) ∧
        ((¬ (z270 = z279)) →
          Q 0 N36 F37 A38)) ∧
      (((A38 b43 v35) % 64) = 10 →
        ((0 : Int) ≤ v35 + 1 ∧ (v35 + 1 : Int) < (jln N36 b43 : Int)) ∧
        ((0 : Int) ≤ v35 + 2 ∧ (v35 + 2 : Int) < (jln N36 b43 : Int)) ∧
        ∃ (P289 : Int → Prop), wqX0_alike b1 (A38 b43 (v35 + 1)) (A38 b43 (v35 + 2)) N36 F37 A38 P289 ∧
        ∀ z291, P289 z291 →
        ((0 : Int) ≤ v35 + 1 ∧ (v35 + 1 : Int) < (jln N36 b43 : Int)) ∧
        ((0 : Int) ≤ v35 + 2 ∧ (v35 + 2 : Int) < (jln N36 b43 : Int)) ∧
        ∃ (P299 : Int → Prop), wqX9_alike b18 (A38 b43 (v35 + 1)) (A38 b43 (v35 + 2)) N36 F37 A38 P299 ∧
        ∀ z301, P299 z301 →
        ((z291 = z301) →
          jR (v35 + 6) ∧
          I41 (v35 + 6) N36 F37 A38 ∧ m42 (v35 + 6) N36 F37 A38 < m42 v35 N36 F37 A38) ∧
        ((¬ (z291 = z301)) →
          Q 0 N36 F37 A38)) ∧
      (((A38 b43 v35) % 64) = 11 →
        ((0 : Int) ≤ v35 + 1 ∧ (v35 + 1 : Int) < (jln N36 b43 : Int)) ∧
        ((0 : Int) ≤ v35 + 2 ∧ (v35 + 2 : Int) < (jln N36 b43 : Int)) ∧
        ((0 : Int) ≤ v35 + 3 ∧ (v35 + 3 : Int) < (jln N36 b43 : Int)) ∧
        ∀ z312 : Int, z312 = (if (A38 b43 (v35 + 3)) = 0 then (0 : Int) else 1) →
        ∃ (P315 : Int → Prop), wqX0_hears b1 (A38 b43 (v35 + 1)) (A38 b43 (v35 + 2)) z312 N36 F37 A38 P315 ∧
        ∀ z317, P315 z317 →
        ((0 : Int) ≤ v35 + 1 ∧ (v35 + 1 : Int) < (jln N36 b43 : Int)) ∧
        ((0 : Int) ≤ v35 + 2 ∧ (v35 + 2 : Int) < (jln N36 b43 : Int)) ∧
        ((0 : Int) ≤ v35 + 3 ∧ (v35 + 3 : Int) < (jln N36 b43 : Int)) ∧
        ∀ z326 : Int, z326 = (if (A38 b43 (v35 + 3)) = 0 then (0 : Int) else 1) →
        ∃ (P329 : Int → Prop), wqX9_hears b18 (A38 b43 (v35 + 1)) (A38 b43 (v35 + 2)) z326 N36 F37 A38 P329 ∧
        ∀ z331, P329 z331 →
        ((z317 = z331) →
          jR (v35 + 6) ∧
          I41 (v35 + 6) N36 F37 A38 ∧ m42 (v35 + 6) N36 F37 A38 < m42 v35 N36 F37 A38) ∧
        ((¬ (z317 = z331)) →
          Q 0 N36 F37 A38)) ∧
      (((A38 b43 v35) % 64) = 12 →
        ((0 : Int) ≤ v35 + 1 ∧ (v35 + 1 : Int) < (jln N36 b43 : Int)) ∧
        ((0 : Int) ≤ v35 + 2 ∧ (v35 + 2 : Int) < (jln N36 b43 : Int)) ∧
        ((0 : Int) ≤ v35 + 3 ∧ (v35 + 3 : Int) < (jln N36 b43 : Int)) ∧
        ∃ (P342 : Int → jFl → jAr → Prop), wqX0_says b1 (A38 b43 (v35 + 1)) (A38 b43 (v35 + 2)) (A38 b43 (v35 + 3)) N36 F37 A38 P342 ∧
        ∀ z344 F345 A346, P342 z344 F345 A346 →
        ((0 : Int) ≤ v35 + 1 ∧ (v35 + 1 : Int) < (jln N36 b43 : Int)) ∧
        ((0 : Int) ≤ v35 + 2 ∧ (v35 + 2 : Int) < (jln N36 b43 : Int)) ∧
        ((0 : Int) ≤ v35 + 3 ∧ (v35 + 3 : Int) < (jln N36 b43 : Int)) ∧
        ∃ (P355 : Int → jFl → jAr → Prop), wqX9_says b18 (A346 b43 (v35 + 1)) (A346 b43 (v35 + 2)) (A346 b43 (v35 + 3)) N36 F345 A346 P355 ∧
        ∀ z357 F358 A359, P355 z357 F358 A359 →
        ((z344 = z357) →
          jR (v35 + 6) ∧
          I41 (v35 + 6) N36 F358 A359 ∧ m42 (v35 + 6) N36 F358 A359 < m42 v35 N36 F37 A38) ∧
        ((¬ (z344 = z357)) →
          Q 0 N36 F358 A359)) ∧
      (((A38 b43 v35) % 64) = 13 →
        ((0 : Int) ≤ v35 + 1 ∧ (v35 + 1 : Int) < (jln N36 b43 : Int)) ∧
        ((0 : Int) ≤ v35 + 2 ∧ (v35 + 2 : Int) < (jln N36 b43 : Int)) ∧
        ((0 : Int) ≤ v35 + 3 ∧ (v35 + 3 : Int) < (jln N36 b43 : Int)) ∧
        ∃ (P370 : Int → jFl → jAr → Prop), wqX0_sits b1 (A38 b43 (v35 + 1)) (A38 b43 (v35 + 2)) (A38 b43 (v35 + 3)) N36 F37 A38 P370 ∧
        ∀ z372 F373 A374, P370 z372 F373 A374 →
        ((0 : Int) ≤ v35 + 1 ∧ (v35 + 1 : Int) < (jln N36 b43 : Int)) ∧
        ((0 : Int) ≤ v35 + 2 ∧ (v35 + 2 : Int) < (jln N36 b43 : Int)) ∧
        ((0 : Int) ≤ v35 + 3 ∧ (v35 + 3 : Int) < (jln N36 b43 : Int)) ∧
        ∃ (P383 : Int → jFl → jAr → Prop), wqX9_sits b18 (A374 b43 (v35 + 1)) (A374 b43 (v35 + 2)) (A374 b43 (v35 + 3)) N36 F373 A374 P383 ∧
        ∀ z385 F386 A387, P383 z385 F386 A387 →
        ((z372 = z385) →
          jR (v35 + 6) ∧
          I41 (v35 + 6) N36 F386 A387 ∧ m42 (v35 + 6) N36 F386 A387 < m42 v35 N36 F37 A38) ∧
        ((¬ (z372 = z385)) →
          Q 0 N36 F386 A387)) ∧
      (((A38 b43 v35) % 64) = 14 →
        ((0 : Int) ≤ v35 + 1 ∧ (v35 + 1 : Int) < (jln N36 b43 : Int)) ∧
        ((0 : Int) ≤ v35 + 2 ∧ (v35 + 2 : Int) < (jln N36 b43 : Int)) ∧
        ∃ (P397 : Int → jFl → jAr → Prop), wqX0_sitting S b1 (A38 b43 (v35 + 1)) (A38 b43 (v35 + 2)) N36 F37 A38 P397 ∧
        ∀ z399 F400 A401, P397 z399 F400 A401 →
        ((0 : Int) ≤ v35 + 1 ∧ (v35 + 1 : Int) < (jln N36 b43 : Int)) ∧
        ((0 : Int) ≤ v35 + 2 ∧ (v35 + 2 : Int) < (jln N36 b43 : Int)) ∧
        ∃ (P409 : Int → jFl → jAr → Prop), wqX9_sitting b18 (A401 b43 (v35 + 1)) (A401 b43 (v35 + 2)) N36 F400 A401 P409 ∧
        ∀ z411 F412 A413, P409 z411 F412 A413 →
        ((z399 = z411) →
          jR (v35 + 6) ∧
          I41 (v35 + 6) N36 F412 A413 ∧ m42 (v35 + 6) N36 F412 A413 < m42 v35 N36 F37 A38) ∧
        ((¬ (z399 = z411)) →
          Q 0 N36 F412 A413)) ∧
      (((A38 b43 v35) % 64) = 15 →
        ((0 : Int) ≤ v35 + 1 ∧ (v35 + 1 : Int) < (jln N36 b43 : Int)) ∧
        ((0 : Int) ≤ v35 + 2 ∧ (v35 + 2 : Int) < (jln N36 b43 : Int)) ∧
        ∃ (P423 : Int → jSh → jFl → jAr → Prop), wqX0_tell S b1 (A38 b43 (v35 + 1)) (A38 b43 (v35 + 2)) N36 F37 A38 P423 ∧
        ∀ z425 N428 F426 A427, P423 z425 N428 F426 A427 →
        ((0 : Int) ≤ v35 + 1 ∧ (v35 + 1 : Int) < (jln N428 b43 : Int)) ∧
        ((0 : Int) ≤ v35 + 2 ∧ (v35 + 2 : Int) < (jln N428 b43 : Int)) ∧
        ∃ (P437 : Int → jFl → jAr → Prop), wqX9_tell b18 (A427 b43 (v35 + 1)) (A427 b43 (v35 + 2)) N428 F426 A427 P437 ∧
        ∀ z439 F440 A441, P437 z439 F440 A441 →
        ((z425 = z439) →
          jR (v35 + 6) ∧
          I41 (v35 + 6) N428 F440 A441 ∧ m42 (v35 + 6) N428 F440 A441 < m42 v35 N36 F37 A38) ∧
        ((¬ (z425 = z439)) →
          Q 0 N428 F440 A441)) ∧
      (((A38 b43 v35) % 64) = 16 →
        ((0 : Int) ≤ v35 + 1 ∧ (v35 + 1 : Int) < (jln N36 b43 : Int)) ∧
        ∃ (P450 : Int → jSh → jFl → jAr → Prop), wqX0_anew S b1 (A38 b43 (v35 + 1)) N36 F37 A38 P450 ∧
        ∀ z452 N455 F453 A454, P450 z452 N455 F453 A454 →
        ((0 : Int) ≤ v35 + 1 ∧ (v35 + 1 : Int) < (jln N455 b43 : Int)) ∧
        ∃ (P463 : Int → jFl → jAr → Prop), wqX9_anew b18 (A454 b43 (v35 + 1)) N455 F453 A454 P463 ∧
        ∀ z465 F466 A467, P463 z465 F466 A467 →
        ((z452 = z465) →
          jR (v35 + 6) ∧
          I41 (v35 + 6) N455 F466 A467 ∧ m42 (v35 + 6) N455 F466 A467 < m42 v35 N36 F37 A38) ∧
        ((¬ (z452 = z465)) →
          Q 0 N455 F466 A467)) ∧
      (((A38 b43 v35) % 64) = 17 →
        ((0 : Int) ≤ v35 + 1 ∧ (v35 + 1 : Int) < (jln N36 b43 : Int)) ∧
        ∃ (P476 : Int → jSh → jFl → jAr → Prop), wqX0_council S b1 (A38 b43 (v35 + 1)) N36 F37 A38 P476 ∧
        ∀ z478 N481 F479 A480, P476 z478 N481 F479 A480 →
        ((0 : Int) ≤ v35 + 1 ∧ (v35 + 1 : Int) < (jln N481 b43 : Int)) ∧
        ∃ (P489 : Int → jFl → jAr → Prop), wqX9_council b18 (A480 b43 (v35 + 1)) N481 F479 A480 P489 ∧
        ∀ z491 F492 A493, P489 z491 F492 A493 →
        ((z478 = z491) →
          jR (v35 + 6) ∧
          I41 (v35 + 6) N481 F492 A493 ∧ m42 (v35 + 6) N481 F492 A493 < m42 v35 N36 F37 A38) ∧
        ((¬ (z478 = z491)) →
          Q 0 N481 F492 A493)) ∧
      (((A38 b43 v35) % 64) = 18 →
        ((0 : Int) ≤ v35 + 1 ∧ (v35 + 1 : Int) < (jln N36 b43 : Int)) ∧
        ((0 : Int) ≤ v35 + 2 ∧ (v35 + 2 : Int) < (jln N36 b43 : Int)) ∧
        ∀ z503 : Int, z503 = (if (A38 b43 (v35 + 2)) = 0 then (0 : Int) else 1) →
        ∃ (P506 : Int → jSh → jFl → jAr → Prop), wqX0_sing S b1 (A38 b43 (v35 + 1)) z503 N36 F37 A38 P506 ∧
        ∀ z508 N511 F509 A510, P506 z508 N511 F509 A510 →
        ((0 : Int) ≤ v35 + 1 ∧ (v35 + 1 : Int) < (jln N511 b43 : Int)) ∧
        ((0 : Int) ≤ v35 + 2 ∧ (v35 + 2 : Int) < (jln N511 b43 : Int)) ∧
        ∀ z520 : Int, z520 = (if (A510 b43 (v35 + 2)) = 0 then (0 : Int) else 1) →
        ∃ (P523 : Int → jFl → jAr → Prop), wqX9_sing b18 (A510 b43 (v35 + 1)) z520 N511 F509 A510 P523 ∧
        ∀ z525 F526 A527, P523 z525 F526 A527 →
        ((z508 = z525) →
          jR (v35 + 6) ∧
          I41 (v35 + 6) N511 F526 A527 ∧ m42 (v35 + 6) N511 F526 A527 < m42 v35 N36 F37 A38) ∧
        ((¬ (z508 = z525)) →
          Q 0 N511 F526 A527)) ∧
      (((A38 b43 v35) % 64) = 19 →
        ((0 : Int) ≤ v35 + 1 ∧ (v35 + 1 : Int) < (jln N36 b43 : Int)) ∧
        ((0 : Int) ≤ v35 + 2 ∧ (v35 + 2 : Int) < (jln N36 b43 : Int)) ∧
        ∃ (P537 : Int → jSh → jFl → jAr → Prop), wqX0_swap S b1 (A38 b43 (v35 + 1)) (A38 b43 (v35 + 2)) N36 F37 A38 P537 ∧
        ∀ z539 N542 F540 A541, P537 z539 N542 F540 A541 →
        ((0 : Int) ≤ v35 + 1 ∧ (v35 + 1 : Int) < (jln N542 b43 : Int)) ∧
        ((0 : Int) ≤ v35 + 2 ∧ (v35 + 2 : Int) < (jln N542 b43 : Int)) ∧
        ∃ (P551 : Int → jFl → jAr → Prop), wqX9_swap b18 (A541 b43 (v35 + 1)) (A541 b43 (v35 + 2)) N542 F540 A541 P551 ∧
        ∀ z553 F554 A555, P551 z553 F554 A555 →
        ((z539 = z553) →
          jR (v35 + 6) ∧
          I41 (v35 + 6) N542 F554 A555 ∧ m42 (v35 + 6) N542 F554 A555 < m42 v35 N36 F37 A38) ∧
        ((¬ (z539 = z553)) →
          Q 0 N542 F554 A555)) ∧
      (((A38 b43 v35) % 64) = 20 →
        ((0 : Int) ≤ v35 + 1 ∧ (v35 + 1 : Int) < (jln N36 b43 : Int)) ∧
        ∃ (P564 : Int → jSh → jFl → jAr → Prop), wqX0_years S b1 (A38 b43 (v35 + 1)) N36 F37 A38 P564 ∧
        ∀ z566 N569 F567 A568, P564 z566 N569 F567 A568 →
        ((0 : Int) ≤ v35 + 1 ∧ (v35 + 1 : Int) < (jln N569 b43 : Int)) ∧
        ∃ (P577 : Int → jFl → jAr → Prop), wqX9_years b18 (A568 b43 (v35 + 1)) N569 F567 A568 P577 ∧
        ∀ z579 F580 A581, P577 z579 F580 A581 →
        ((z566 = z579) →
          jR (v35 + 6) ∧
          I41 (v35 + 6) N569 F580 A581 ∧ m42 (v35 + 6) N569 F580 A581 < m42 v35 N36 F37 A38) ∧
        ((¬ (z566 = z579)) →
          Q 0 N569 F580 A581)) ∧
      (((A38 b43 v35) % 64) = 21 →
        ∃ (P589 : Int → jSh → jFl → jAr → Prop), wqX0_undo S b1 N36 F37 A38 P589 ∧
        ∀ z591 N594 F592 A593, P589 z591 N594 F592 A593 →
        ∃ (P600 : Int → jFl → jAr → Prop), wqX9_undo b18 N594 F592 A593 P600 ∧
        ∀ z602 F603 A604, P600 z602 F603 A604 →
        ((z591 = z602) →
          jR (v35 + 6) ∧
          I41 (v35 + 6) N594 F603 A604 ∧ m42 (v35 + 6) N594 F603 A604 < m42 v35 N36 F37 A38) ∧
        ((¬ (z591 = z602)) →
          Q 0 N594 F603 A604)) ∧
      (((A38 b43 v35) % 64) = 22 →
        ((0 : Int) ≤ v35 + 1 ∧ (v35 + 1 : Int) < (jln N36 b43 : Int)) ∧
        ∃ (P613 : Int → jFl → jAr → Prop), wqX0_seed b1 (A38 b43 (v35 + 1)) N36 F37 A38 P613 ∧
        ∀ z615 F616 A617, P613 z615 F616 A617 →
        ((0 : Int) ≤ v35 + 1 ∧ (v35 + 1 : Int) < (jln N36 b43 : Int)) ∧
        ∃ (P624 : Int → jFl → jAr → Prop), wqX9_seed b18 (A617 b43 (v35 + 1)) N36 F616 A617 P624 ∧
        ∀ z626 F627 A628, P624 z626 F627 A628 →
        ((z615 = z626) →
          jR (v35 + 6) ∧
          I41 (v35 + 6) N36 F627 A628 ∧ m42 (v35 + 6) N36 F627 A628 < m42 v35 N36 F37 A38) ∧
        ((¬ (z615 = z626)) →
          Q 0 N36 F627 A628)) ∧
      (((A38 b43 v35) % 64) = 23 →
        ((0 : Int) ≤ v35 + 1 ∧ (v35 + 1 : Int) < (jln N36 b43 : Int)) ∧
        ((0 : Int) ≤ v35 + 2 ∧ (v35 + 2 : Int) < (jln N36 b43 : Int)) ∧
        ∃ (P638 : Int → Prop), wqX0_book b1 (A38 b43 (v35 + 1)) (A38 b43 (v35 + 2)) N36 F37 A38 P638 ∧
        ∀ z640, P638 z640 →
        ((0 : Int) ≤ v35 + 1 ∧ (v35 + 1 : Int) < (jln N36 b43 : Int)) ∧
        ((0 : Int) ≤ v35 + 2 ∧ (v35 + 2 : Int) < (jln N36 b43 : Int)) ∧
        ∃ (P648 : Int → Prop), wqX9_book b18 (A38 b43 (v35 + 1)) (A38 b43 (v35 + 2)) N36 F37 A38 P648 ∧
        ∀ z650, P648 z650 →
        ((z640 = z650) →
          jR (v35 + 6) ∧
          I41 (v35 + 6) N36 F37 A38 ∧ m42 (v35 + 6) N36 F37 A38 < m42 v35 N36 F37 A38) ∧
        ((¬ (z640 = z650)) →
          Q 0 N36 F37 A38)) ∧
      (((A38 b43 v35) % 64) = 24 →
        ((0 : Int) ≤ v35 + 1 ∧ (v35 + 1 : Int) < (jln N36 b43 : Int)) ∧
        ∃ (P659 : Int → jFl → jAr → Prop), wqX0_odds b1 (A38 b43 (v35 + 1)) N36 F37 A38 P659 ∧
        ∀ z661 F662 A663, P659 z661 F662 A663 →
        ((0 : Int) ≤ v35 + 1 ∧ (v35 + 1 : Int) < (jln N36 b43 : Int)) ∧
        ∃ (P670 : Int → jFl → jAr → Prop), wqX9_odds b18 (A663 b43 (v35 + 1)) N36 F662 A663 P670 ∧
        ∀ z672 F673 A674, P670 z672 F673 A674 →
        ((z661 = z672) →
          jR (v35 + 6) ∧
          I41 (v35 + 6) N36 F673 A674 ∧ m42 (v35 + 6) N36 F673 A674 < m42 v35 N36 F37 A38) ∧
        ((¬ (z661 = z672)) →
          Q 0 N36 F673 A674)) ∧
      (((A38 b43 v35) % 64) = 25 →
        ((0 : Int) ≤ v35 + 1 ∧ (v35 + 1 : Int) < (jln N36 b43 : Int)) ∧
        ((0 : Int) ≤ v35 + 2 ∧ (v35 + 2 : Int) < (jln N36 b43 : Int)) ∧
        ((0 : Int) ≤ v35 + 3 ∧ (v35 + 3 : Int) < (jln N36 b43 : Int)) ∧
        ∀ z685 : Int, z685 = (if (A38 b43 (v35 + 3)) = 0 then (0 : Int) else 1) →
        ∃ (P688 : Int → jFl → jAr → Prop), wqX0_becomes_2 b1 (A38 b43 (v35 + 1)) (A38 b43 (v35 + 2)) z685 N36 F37 A38 P688 ∧
        ∀ z690 F691 A692, P688 z690 F691 A692 →
        ((0 : Int) ≤ v35 + 1 ∧ (v35 + 1 : Int) < (jln N36 b43 : Int)) ∧
        ((0 : Int) ≤ v35 + 2 ∧ (v35 + 2 : Int) < (jln N36 b43 : Int)) ∧
        ((0 : Int) ≤ v35 + 3 ∧ (v35 + 3 : Int) < (jln N36 b43 : Int)) ∧
        ∀ z701 : Int, z701 = (if (A692 b43 (v35 + 3)) = 0 then (0 : Int) else 1) →
        ∃ (P704 : Int → jFl → jAr → Prop), wqX9_becomes b18 (A692 b43 (v35 + 1)) (A692 b43 (v35 + 2)) z701 N36 F691 A692 P704 ∧
        ∀ z706 F707 A708, P704 z706 F707 A708 →
        ((z690 = z706) →
          jR (v35 + 6) ∧
          I41 (v35 + 6) N36 F707 A708 ∧ m42 (v35 + 6) N36 F707 A708 < m42 v35 N36 F37 A38) ∧
        ((¬ (z690 = z706)) →
          Q 0 N36 F707 A708)) ∧
      (((A38 b43 v35) % 64) = 26 →
        ((0 : Int) ≤ v35 + 1 ∧ (v35 + 1 : Int) < (jln N36 b43 : Int)) ∧
        ((0 : Int) ≤ v35 + 2 ∧ (v35 + 2 : Int) < (jln N36 b43 : Int)) ∧
        ((0 : Int) ≤ v35 + 3 ∧ (v35 + 3 : Int) < (jln N36 b43 : Int)) ∧
        ∃ (P719 : Int → jFl → jAr → Prop), wqX0_round S b1 (A38 b43 (v35 + 1)) (A38 b43 (v35 + 2)) (A38 b43 (v35 + 3)) N36 F37 A38 P719 ∧
        ∀ z721 F722 A723, P719 z721 F722 A723 →
        ((0 : Int) ≤ v35 + 1 ∧ (v35 + 1 : Int) < (jln N36 b43 : Int)) ∧
        ((0 : Int) ≤ v35 + 2 ∧ (v35 + 2 : Int) < (jln N36 b43 : Int)) ∧
        ((0 : Int) ≤ v35 + 3 ∧ (v35 + 3 : Int) < (jln N36 b43 : Int)) ∧
        ∃ (P732 : Int → jFl → jAr → Prop), wqX9_round b18 (A723 b43 (v35 + 1)) (A723 b43 (v35 + 2)) (A723 b43 (v35 + 3)) N36 F722 A723 P732 ∧
        ∀ z734 F735 A736, P732 z734 F735 A736 →
        ((z721 = z734) →
          jR (v35 + 6) ∧
          I41 (v35 + 6) N36 F735 A736 ∧ m42 (v35 + 6) N36 F735 A736 < m42 v35 N36 F37 A38) ∧
        ((¬ (z721 = z734)) →
          Q 0 N36 F735 A736)) ∧
      (((A38 b43 v35) % 64) = 27 →
        ((0 : Int) ≤ v35 + 1 ∧ (v35 + 1 : Int) < (jln N36 b43 : Int)) ∧
        ((0 : Int) ≤ v35 + 2 ∧ (v35 + 2 : Int) < (jln N36 b43 : Int)) ∧
        ∃ (P746 : Int → jFl → jAr → Prop), wqX0_best b1 (A38 b43 (v35 + 1)) (A38 b43 (v35 + 2)) N36 F37 A38 P746 ∧
        ∀ z748 F749 A750, P746 z748 F749 A750 →
        ((0 : Int) ≤ v35 + 1 ∧ (v35 + 1 : Int) < (jln N36 b43 : Int)) ∧
        ((0 : Int) ≤ v35 + 2 ∧ (v35 + 2 : Int) < (jln N36 b43 : Int)) ∧
        ∃ (P758 : Int → jFl → jAr → Prop), wqX9_best b18 (A750 b43 (v35 + 1)) (A750 b43 (v35 + 2)) N36 F749 A750 P758 ∧
        ∀ z760 F761 A762, P758 z760 F761 A762 →
        ((z748 = z760) →
          jR (v35 + 6) ∧
          I41 (v35 + 6) N36 F761 A762 ∧ m42 (v35 + 6) N36 F761 A762 < m42 v35 N36 F37 A38) ∧
        ((¬ (z748 = z760)) →
          Q 0 N36 F761 A762)) ∧
      (((A38 b43 v35) % 64) = 28 →
        ((0 : Int) ≤ v35 + 1 ∧ (v35 + 1 : Int) < (jln N36 b43 : Int)) ∧
        ((0 : Int) ≤ v35 + 2 ∧ (v35 + 2 : Int) < (jln N36 b43 : Int)) ∧
        ∃ (P772 : Int → jFl → jAr → Prop), wqX0_mended b1 (A38 b43 (v35 + 1)) (A38 b43 (v35 + 2)) N36 F37 A38 P772 ∧
        ∀ z774 F775 A776, P772 z774 F775 A776 →
        ((0 : Int) ≤ v35 + 1 ∧ (v35 + 1 : Int) < (jln N36 b43 : Int)) ∧
        ((0 : Int) ≤ v35 + 2 ∧ (v35 + 2 : Int) < (jln N36 b43 : Int)) ∧
        ∃ (P784 : Int → jFl → jAr → Prop), wqX9_mended b18 (A776 b43 (v35 + 1)) (A776 b43 (v35 + 2)) N36 F775 A776 P784 ∧
        ∀ z786 F787 A788, P784 z786 F787 A788 →
        ((z774 = z786) →
          jR (v35 + 6) ∧
          I41 (v35 + 6) N36 F787 A788 ∧ m42 (v35 + 6) N36 F787 A788 < m42 v35 N36 F37 A38) ∧
        ((¬ (z774 = z786)) →
          Q 0 N36 F787 A788)) ∧
      (((A38 b43 v35) % 64) = 29 →
        ((0 : Int) ≤ v35 + 1 ∧ (v35 + 1 : Int) < (jln N36 b43 : Int)) ∧
        ((0 : Int) ≤ v35 + 2 ∧ (v35 + 2 : Int) < (jln N36 b43 : Int)) ∧
        ∃ (P798 : Int → jFl → jAr → Prop), wqX0_forty S b1 (A38 b43 (v35 + 1)) (A38 b43 (v35 + 2)) N36 F37 A38 P798 ∧
        ∀ z800 F801 A802, P798 z800 F801 A802 →
        ((0 : Int) ≤ v35 + 1 ∧ (v35 + 1 : Int) < (jln N36 b43 : Int)) ∧
        ((0 : Int) ≤ v35 + 2 ∧ (v35 + 2 : Int) < (jln N36 b43 : Int)) ∧
        ∃ (P810 : Int → jFl → jAr → Prop), wqX9_forty b18 (A802 b43 (v35 + 1)) (A802 b43 (v35 + 2)) N36 F801 A802 P810 ∧
        ∀ z812 F813 A814, P810 z812 F813 A814 →
        ((z800 = z812) →
          jR (v35 + 6) ∧
          I41 (v35 + 6) N36 F813 A814 ∧ m42 (v35 + 6) N36 F813 A814 < m42 v35 N36 F37 A38) ∧
        ((¬ (z800 = z812)) →
          Q 0 N36 F813 A814)) ∧
      (((A38 b43 v35) % 64) = 30 →
        ((0 : Int) ≤ v35 + 1 ∧ (v35 + 1 : Int) < (jln N36 b43 : Int)) ∧
        ((0 : Int) ≤ v35 + 2 ∧ (v35 + 2 : Int) < (jln N36 b43 : Int)) ∧
        ∃ (P824 : Int → jFl → jAr → Prop), wqX0_sorted b1 (A38 b43 (v35 + 1)) (A38 b43 (v35 + 2)) N36 F37 A38 P824 ∧
        ∀ z826 F827 A828, P824 z826 F827 A828 →
        ((0 : Int) ≤ v35 + 1 ∧ (v35 + 1 : Int) < (jln N36 b43 : Int)) ∧
        ((0 : Int) ≤ v35 + 2 ∧ (v35 + 2 : Int) < (jln N36 b43 : Int)) ∧
        ∃ (P836 : Int → jFl → jAr → Prop), wqX9_sorted b18 (A828 b43 (v35 + 1)) (A828 b43 (v35 + 2)) N36 F827 A828 P836 ∧
        ∀ z838 F839 A840, P836 z838 F839 A840 →
        ((z826 = z838) →
          jR (v35 + 6) ∧
          I41 (v35 + 6) N36 F839 A840 ∧ m42 (v35 + 6) N36 F839 A840 < m42 v35 N36 F37 A38) ∧
        ((¬ (z826 = z838)) →
          Q 0 N36 F839 A840)) ∧
      (((A38 b43 v35) % 64) = 31 →
        ((0 : Int) ≤ v35 + 1 ∧ (v35 + 1 : Int) < (jln N36 b43 : Int)) ∧
        ∃ (P849 : Int → Prop), wqX0_apart S b1 (A38 b43 (v35 + 1)) N36 F37 A38 P849 ∧
        ∀ z851, P849 z851 →
        ((0 : Int) ≤ v35 + 1 ∧ (v35 + 1 : Int) < (jln N36 b43 : Int)) ∧
        ∃ (P858 : Int → Prop), wqX9_apart b18 (A38 b43 (v35 + 1)) N36 F37 A38 P858 ∧
        ∀ z860, P858 z860 →
        ((z851 = z860) →
          jR (v35 + 6) ∧
          I41 (v35 + 6) N36 F37 A38 ∧ m42 (v35 + 6) N36 F37 A38 < m42 v35 N36 F37 A38) ∧
        ((¬ (z851 = z860)) →
          Q 0 N36 F37 A38)) ∧
      (((A38 b43 v35) % 64) = 32 →
        ((0 : Int) ≤ v35 + 1 ∧ (v35 + 1 : Int) < (jln N36 b43 : Int)) ∧
        ∃ (P869 : Int → Prop), wqX0_against S b1 (A38 b43 (v35 + 1)) N36 F37 A38 P869 ∧
        ∀ z871, P869 z871 →
        ((0 : Int) ≤ v35 + 1 ∧ (v35 + 1 : Int) < (jln N36 b43 : Int)) ∧
        ∃ (P878 : Int → Prop), wqX9_against b18 (A38 b43 (v35 + 1)) N36 F37 A38 P878 ∧
        ∀ z880, P878 z880 →
        ((z871 = z880) →
          jR (v35 + 6) ∧
          I41 (v35 + 6) N36 F37 A38 ∧ m42 (v35 + 6) N36 F37 A38 < m42 v35 N36 F37 A38) ∧
        ((¬ (z871 = z880)) →
          Q 0 N36 F37 A38)) ∧
      (((A38 b43 v35) % 64) = 33 →
        ((0 : Int) ≤ v35 + 1 ∧ (v35 + 1 : Int) < (jln N36 b43 : Int)) ∧
        ((0 : Int) ≤ v35 + 2 ∧ (v35 + 2 : Int) < (jln N36 b43 : Int)) ∧
        ((0 : Int) ≤ v35 + 3 ∧ (v35 + 3 : Int) < (jln N36 b43 : Int)) ∧
        ((0 : Int) ≤ v35 + 4 ∧ (v35 + 4 : Int) < (jln N36 b43 : Int)) ∧
        ∃ (P892 : Int → jFl → jAr → Prop), wqX0_once b1 (A38 b43 (v35 + 1)) (A38 b43 (v35 + 2)) (A38 b43 (v35 + 3)) (A38 b43 (v35 + 4)) N36 F37 A38 P892 ∧
        ∀ z894 F895 A896, P892 z894 F895 A896 →
        ((0 : Int) ≤ v35 + 1 ∧ (v35 + 1 : Int) < (jln N36 b43 : Int)) ∧
        ((0 : Int) ≤ v35 + 2 ∧ (v35 + 2 : Int) < (jln N36 b43 : Int)) ∧
        ((0 : Int) ≤ v35 + 3 ∧ (v35 + 3 : Int) < (jln N36 b43 : Int)) ∧
        ((0 : Int) ≤ v35 + 4 ∧ (v35 + 4 : Int) < (jln N36 b43 : Int)) ∧
        ∃ (P906 : Int → jFl → jAr → Prop), wqX9_once b18 (A896 b43 (v35 + 1)) (A896 b43 (v35 + 2)) (A896 b43 (v35 + 3)) (A896 b43 (v35 + 4)) N36 F895 A896 P906 ∧
        ∀ z908 F909 A910, P906 z908 F909 A910 →
        ((z894 = z908) →
          jR (v35 + 6) ∧
          I41 (v35 + 6) N36 F909 A910 ∧ m42 (v35 + 6) N36 F909 A910 < m42 v35 N36 F37 A38) ∧
        ((¬ (z894 = z908)) →
          Q 0 N36 F909 A910)) ∧
      (((A38 b43 v35) % 64) = 34 →
        ((0 : Int) ≤ v35 + 1 ∧ (v35 + 1 : Int) < (jln N36 b43 : Int)) ∧
        ∃ (P919 : Int → Prop), wqX0_meaning S b1 (A38 b43 (v35 + 1)) N36 F37 A38 P919 ∧
        ∀ z921, P919 z921 →
        ((0 : Int) ≤ v35 + 1 ∧ (v35 + 1 : Int) < (jln N36 b43 : Int)) ∧
        ∃ (P928 : Int → jFl → jAr → Prop), wqX9_meaning b18 (A38 b43 (v35 + 1)) N36 F37 A38 P928 ∧
        ∀ z930 F931 A932, P928 z930 F931 A932 →
        ((z921 = z930) →
          jR (v35 + 6) ∧
          I41 (v35 + 6) N36 F931 A932 ∧ m42 (v35 + 6) N36 F931 A932 < m42 v35 N36 F37 A38) ∧
        ((¬ (z921 = z930)) →
          Q 0 N36 F931 A932)) ∧
      (((A38 b43 v35) % 64) = 35 →
        ((0 : Int) ≤ v35 + 1 ∧ (v35 + 1 : Int) < (jln N36 b43 : Int)) ∧
        ∃ (P941 : Int → jFl → jAr → Prop), wqX0_harm b1 (A38 b43 (v35 + 1)) N36 F37 A38 P941 ∧
        ∀ z943 F944 A945, P941 z943 F944 A945 →
        ((0 : Int) ≤ v35 + 1 ∧ (v35 + 1 : Int) < (jln N36 b43 : Int)) ∧
        ∃ (P952 : Int → jFl → jAr → Prop), wqX9_harm b18 (A945 b43 (v35 + 1)) N36 F944 A945 P952 ∧
        ∀ z954 F955 A956, P952 z954 F955 A956 →
        ((z943 = z954) →
          jR (v35 + 6) ∧
          I41 (v35 + 6) N36 F955 A956 ∧ m42 (v35 + 6) N36 F955 A956 < m42 v35 N36 F37 A38) ∧
        ((¬ (z943 = z954)) →
          Q 0 N36 F955 A956)) ∧
      (((A38 b43 v35) % 64) = 36 →
        ((0 : Int) ≤ v35 + 1 ∧ (v35 + 1 : Int) < (jln N36 b43 : Int)) ∧
        ((0 : Int) ≤ v35 + 2 ∧ (v35 + 2 : Int) < (jln N36 b43 : Int)) ∧
        ∃ (P966 : Int → jFl → jAr → Prop), wqX0_needs b1 (A38 b43 (v35 + 1)) (A38 b43 (v35 + 2)) N36 F37 A38 P966 ∧
        ∀ z968 F969 A970, P966 z968 F969 A970 →
        ((0 : Int) ≤ v35 + 1 ∧ (v35 + 1 : Int) < (jln N36 b43 : Int)) ∧
        ((0 : Int) ≤ v35 + 2 ∧ (v35 + 2 : Int) < (jln N36 b43 : Int)) ∧
        ∃ (P978 : Int → jFl → jAr → Prop), wqX9_needs b18 (A970 b43 (v35 + 1)) (A970 b43 (v35 + 2)) N36 F969 A970 P978 ∧
        ∀ z980 F981 A982, P978 z980 F981 A982 →
        ((z968 = z980) →
          jR (v35 + 6) ∧
          I41 (v35 + 6) N36 F981 A982 ∧ m42 (v35 + 6) N36 F981 A982 < m42 v35 N36 F37 A38) ∧
        ((¬ (z968 = z980)) →
          Q 0 N36 F981 A982)) ∧
      (((A38 b43 v35) % 64) = 37 →
        ((0 : Int) ≤ v35 + 1 ∧ (v35 + 1 : Int) < (jln N36 b43 : Int)) ∧
        ((0 : Int) ≤ v35 + 2 ∧ (v35 + 2 : Int) < (jln N36 b43 : Int)) ∧
        ((0 : Int) ≤ v35 + 3 ∧ (v35 + 3 : Int) < (jln N36 b43 : Int)) ∧
        ∃ (P993 : Int → jSh → jFl → jAr → Prop), wqX0_runs S b1 (A38 b43 (v35 + 1)) (A38 b43 (v35 + 2)) (A38 b43 (v35 + 3)) N36 F37 A38 P993 ∧
        ∀ z995 N998 F996 A997, P993 z995 N998 F996 A997 →
        ((0 : Int) ≤ v35 + 1 ∧ (v35 + 1 : Int) < (jln N998 b43 : Int)) ∧
        ((0 : Int) ≤ v35 + 2 ∧ (v35 + 2 : Int) < (jln N998 b43 : Int)) ∧
        ((0 : Int) ≤ v35 + 3 ∧ (v35 + 3 : Int) < (jln N998 b43 : Int)) ∧
        ∃ (P1008 : Int → jFl → jAr → Prop), wqX9_runs b18 (A997 b43 (v35 + 1)) (A997 b43 (v35 + 2)) (A997 b43 (v35 + 3)) N998 F996 A997 P1008 ∧
        ∀ z1010 F1011 A1012, P1008 z1010 F1011 A1012 →
        ((z995 = z1010) →
          jR (v35 + 6) ∧
          I41 (v35 + 6) N998 F1011 A1012 ∧ m42 (v35 + 6) N998 F1011 A1012 < m42 v35 N36 F37 A38) ∧
        ((¬ (z995 = z1010)) →
          Q 0 N998 F1011 A1012)) ∧
      (((A38 b43 v35) % 64) = 38 →
        ∃ (P1020 : Int → jSh → jFl → jAr → Prop), wqX0_image S b1 N36 F37 A38 P1020 ∧
        ∀ z1022 N1025 F1023 A1024, P1020 z1022 N1025 F1023 A1024 →
        ∃ (P1031 : Int → jFl → jAr → Prop), wqX9_image b18 N1025 F1023 A1024 P1031 ∧
        ∀ z1033 F1034 A1035, P1031 z1033 F1034 A1035 →
        ((z1022 = z1033) →
          jR (v35 + 6) ∧
          I41 (v35 + 6) N1025 F1034 A1035 ∧ m42 (v35 + 6) N1025 F1034 A1035 < m42 v35 N36 F37 A38) ∧
        ((¬ (z1022 = z1033)) →
          Q 0 N1025 F1034 A1035)) ∧
      (((A38 b43 v35) % 64) = 39 →
        ((0 : Int) ≤ v35 + 1 ∧ (v35 + 1 : Int) < (jln N36 b43 : Int)) ∧
        ∃ (P1044 : Int → Prop), wqX0_octet S b1 (A38 b43 (v35 + 1)) N36 F37 A38 P1044 ∧
        ∀ z1046, P1044 z1046 →
        ((0 : Int) ≤ v35 + 1 ∧ (v35 + 1 : Int) < (jln N36 b43 : Int)) ∧
        ∃ (P1053 : Int → Prop), wqX9_octet b18 (A38 b43 (v35 + 1)) N36 F37 A38 P1053 ∧
        ∀ z1055, P1053 z1055 →
        ((z1046 = z1055) →
          jR (v35 + 6) ∧
          I41 (v35 + 6) N36 F37 A38 ∧ m42 (v35 + 6) N36 F37 A38 < m42 v35 N36 F37 A38) ∧
        ((¬ (z1046 = z1055)) →
          Q 0 N36 F37 A38)) ∧
      (((A38 b43 v35) % 64) = 40 →
        ∃ (P1063 : Int → jSh → jFl → jAr → Prop), wqX0_on S b1 N36 F37 A38 P1063 ∧
        ∀ z1065 N1068 F1066 A1067, P1063 z1065 N1068 F1066 A1067 →
        ∃ (P1074 : Int → jFl → jAr → Prop), wqX9_on b18 N1068 F1066 A1067 P1074 ∧
        ∀ z1076 F1077 A1078, P1074 z1076 F1077 A1078 →
        ((z1065 = z1076) →
          jR (v35 + 6) ∧
          I41 (v35 + 6) N1068 F1077 A1078 ∧ m42 (v35 + 6) N1068 F1077 A1078 < m42 v35 N36 F37 A38) ∧
        ((¬ (z1065 = z1076)) →
          Q 0 N1068 F1077 A1078)) ∧
      (((A38 b43 v35) % 64) = 41 →
        ((0 : Int) ≤ v35 + 1 ∧ (v35 + 1 : Int) < (jln N36 b43 : Int)) ∧
        ∃ (P1087 : Int → Prop), wqX0_status S b1 (A38 b43 (v35 + 1)) N36 F37 A38 P1087 ∧
        ∀ z1089, P1087 z1089 →
        ((0 : Int) ≤ v35 + 1 ∧ (v35 + 1 : Int) < (jln N36 b43 : Int)) ∧
        ∃ (P1096 : Int → Prop), wqX9_status b18 (A38 b43 (v35 + 1)) N36 F37 A38 P1096 ∧
        ∀ z1098, P1096 z1098 →
        ((z1089 = z1098) →
          jR (v35 + 6) ∧
          I41 (v35 + 6) N36 F37 A38 ∧ m42 (v35 + 6) N36 F37 A38 < m42 v35 N36 F37 A38) ∧
        ((¬ (z1089 = z1098)) →
          Q 0 N36 F37 A38)) ∧
      (¬ ((A38 b43 v35) % 64) = 0 → ¬ ((A38 b43 v35) % 64) = 1 → ¬ ((A38 b43 v35) % 64) = 2 → ¬ ((A38 b43 v35) % 64) = 3 → ¬ ((A38 b43 v35) % 64) = 4 → ¬ ((A38 b43 v35) % 64) = 5 → ¬ ((A38 b43 v35) % 64) = 6 → ¬ ((A38 b43 v35) % 64) = 7 → ¬ ((A38 b43 v35) % 64) = 8 → ¬ ((A38 b43 v35) % 64) = 9 → ¬ ((A38 b43 v35) % 64) = 10 → ¬ ((A38 b43 v35) % 64) = 11 → ¬ ((A38 b43 v35) % 64) = 12 → ¬ ((A38 b43 v35) % 64) = 13 → ¬ ((A38 b43 v35) % 64) = 14 → ¬ ((A38 b43 v35) % 64) = 15 → ¬ ((A38 b43 v35) % 64) = 16 → ¬ ((A38 b43 v35) % 64) = 17 → ¬ ((A38 b43 v35) % 64) = 18 → ¬ ((A38 b43 v35) % 64) = 19 → ¬ ((A38 b43 v35) % 64) = 20 → ¬ ((A38 b43 v35) % 64) = 21 → ¬ ((A38 b43 v35) % 64) = 22 → ¬ ((A38 b43 v35) % 64) = 23 → ¬ ((A38 b43 v35) % 64) = 24 → ¬ ((A38 b43 v35) % 64) = 25 → ¬ ((A38 b43 v35) % 64) = 26 → ¬ ((A38 b43 v35) % 64) = 27 → ¬ ((A38 b43 v35) % 64) = 28 → ¬ ((A38 b43 v35) % 64) = 29 → ¬ ((A38 b43 v35) % 64) = 30 → ¬ ((A38 b43 v35) % 64) = 31 → ¬ ((A38 b43 v35) % 64) = 32 → ¬ ((A38 b43 v35) % 64) = 33 → ¬ ((A38 b43 v35) % 64) = 34 → ¬ ((A38 b43 v35) % 64) = 35 → ¬ ((A38 b43 v35) % 64) = 36 → ¬ ((A38 b43 v35) % 64) = 37 → ¬ ((A38 b43 v35) % 64) = 38 → ¬ ((A38 b43 v35) % 64) = 39 → ¬ ((A38 b43 v35) % 64) = 40 → ¬ ((A38 b43 v35) % 64) = 41 →
        jR (v35 + 6) ∧
        I41 (v35 + 6) N36 F37 A38 ∧ m42 (v35 + 6) N36 F37 A38 < m42 v35 N36 F37 A38))
theorem vL_law {G : jG} {l : Launch} [jOff l] {d : Nat} {N : jSh} {F : jFl} {A : jAr} {a1 : Int} {Q : Int → jSh → jFl → jAr → Prop} (hd : 71 ≤ d) (hW : jWg G N F A) (h : wqL_law (gS G) a1 N F A Q) : J G l d mL_law 0 [vR a1, jD, jD, jD] [] N F A (cnB G N Q) := by
  unfold wqL_law at h
  refine c_new (ci := 1) hW dL_law_0 rfl q182 rfl rfl fun b1 N2 F3 eb1 eN2 eF3 t4 w5 hT6 hW7 => ?_
  have h := h b1 N2 F3 eb1 eN2 eF3
  refine j_dup dL_law_3 (vR_cat _) ?_
  obtain ⟨P8, hp9, h⟩ := h
  refine r_invI (As := []) (rest := [vR (b1 : Int)]) dL_law_4 lkL_9 rfl (vX0_init (d := 6) (Nat.le_of_ble_eq_true rfl) hW7 t4  hp9) rfl rfl (Nat.le_of_ble_eq_true rfl) (Nat.le_trans (Nat.le_of_ble_eq_true rfl) hd) (cknV fun N13 F11 A12 hW14 hT15 p16 => ?_)
  have h := h N13 F11 A12 p16
  refine r_astore_n dL_law_7 (jokR rfl (Nat.le_of_ble_eq_true rfl)) ?_
  refine c_new (ci := 10) hW14 dL_law_8 rfl q1923 rfl rfl fun b18 N19 F20 eb18 eN19 eF20 t21 w22 hT23 hW24 => ?_
  have h := h b18 N19 F20 eb18 eN19 eF20
  refine j_dup dL_law_11 (vR_cat _) ?_
  obtain ⟨P25, hp26, h⟩ := h
  refine r_invI (As := []) (rest := [vR (b18 : Int)]) dL_law_12 lkL_12 rfl (vX9_init (d := 2) (Nat.le_of_ble_eq_true rfl) hW24 t21  hp26) rfl rfl (Nat.le_of_ble_eq_true rfl) (Nat.le_trans (Nat.le_of_ble_eq_true rfl) hd) (cknV fun N30 F28 A29 hW31 hT32 p33 => ?_)
  have h := h N30 F28 A29 p33
  refine r_astore_n dL_law_15 (jokR rfl (Nat.le_of_ble_eq_true rfl)) ?_
  refine j_iconst dL_law_16 ?_
  refine j_istore_n dL_law_17 (jokR rfl (Nat.le_of_ble_eq_true rfl)) ?_
  obtain ⟨I41, m42, h0, hs⟩ := h
  have lp : ∀ (n : Nat) (v35 : Int) (N36 : jSh) (F37 : jFl) (A38 : jAr), m42 v35 N36 F37 A38 < n → jWg G N36 F37 A38 → jTx N30 N36 → jR v35 → I41 v35 N36 F37 A38 → J G l d mL_law 18 [vR a1, vR (b1 : Int), vR (b18 : Int), vI v35] [] N36 F37 A38 (cnB G N Q) := by
    intro nI41
    induction nI41 with
    | zero =>
      intro v35 N36 F37 A38 hmu
      exact absurd hmu (Nat.not_lt_zero _)
    | succ nI41 ihI41 =>
      intro v35 N36 F37 A38 hmuI41 hW39 hT40 rv35 hI
      have h := hs v35 N36 F37 A38 hI
      refine j_iload_n dL_law_18 rfl ?_
      refine r_aload_n dL_law_19 rfl ?_
      obtain ⟨b43, hz44, h⟩ := h
      obtain ⟨t45, h⟩ := h
      refine r_alen dL_law_20 hz44 t45 rfl ?_
      refine j_bipush dL_law_21 ?_
      refine j_isub dL_law_23 ?_
      obtain ⟨r46, h⟩ := h
      obtain ⟨h1, h2⟩ := h
      refine j_icmp_gt 1546 dL_law_24 rfl rv35 r46 (fun q47 => ?_) (fun q47 => ?_)
      · have h := h1 q47
        clear h1 h2
        refine j_iconst dL_law_1546 ?_
        exact j_zret dL_law_1547 rfl (nr_bool (by decide)) ⟨_, rfl, hW39, ((((hT6.trans hT15).trans hT23).trans hT32).trans hT40), h, (by decide)⟩
      · have h := h2 q47
        clear h1 h2
        refine r_aload_n dL_law_27 rfl ?_
        refine j_iload_n dL_law_28 rfl ?_
        obtain ⟨c48, h⟩ := h
        refine r_iald dL_law_29 hz44 t45 c48 ?_
        refine j_bipush dL_law_30 ?_
        refine j_iand 6 (by decide) (by decide +kernel) dL_law_32 ?_
        rw [show ((2 ^ 6 : Nat) : Int) = 64 from rfl]
        obtain ⟨h1, h⟩ := h
        by_cases q1106 : ((A38 b43 v35) % 64) = 0
        · refine j_tableIn (off := 183) 216 dL_law_33 (jR_mod (x := A38 b43 v35) (m := 64) (by decide)) (by rw [q1106]; decide) (by rw [q1106]; decide) (by rw [q1106]; rfl) rfl ?_
          have h := h1 q1106
          clear h1
          refine r_aload_n dL_law_216 rfl ?_
          refine r_aload_n dL_law_217 rfl ?_
          refine j_iload_n dL_law_218 rfl ?_
          refine j_iconst dL_law_219 ?_
          refine j_iadd dL_law_220 ?_
          obtain ⟨c49, h⟩ := h
          refine r_iald dL_law_221 hz44 t45 c49 ?_
          refine r_aload_n dL_law_222 rfl ?_
          refine j_iload_n dL_law_223 rfl ?_
          refine j_iconst dL_law_224 ?_
          refine j_iadd dL_law_225 ?_
          obtain ⟨c50, h⟩ := h
          refine r_iald dL_law_226 hz44 t45 c50 ?_
          refine r_aload_n dL_law_227 rfl ?_
          refine j_iload_n dL_law_228 rfl ?_
          refine j_iconst dL_law_229 ?_
          refine j_iadd dL_law_230 ?_
          obtain ⟨c51, h⟩ := h
          refine r_iald dL_law_231 hz44 t45 c51 ?_
          refine r_aload_n dL_law_232 rfl ?_
          refine j_iload_n dL_law_233 rfl ?_
          refine j_iconst dL_law_234 ?_
          refine j_iadd dL_law_235 ?_
          obtain ⟨c52, h⟩ := h
          refine r_iald dL_law_236 hz44 t45 c52 ?_
          refine r_aload_n dL_law_237 rfl ?_
          refine j_iload_n dL_law_238 rfl ?_
          refine j_iconst dL_law_239 ?_
          refine j_iadd dL_law_240 ?_
          obtain ⟨c53, h⟩ := h
          refine r_iald dL_law_241 hz44 t45 c53 ?_
          have t54 : jtg N36 b1 = 1 := (hT40.tg hW31 (hT32.tg hW24 (hT23.tg hW14 (hT15.tg hW7 t4))))
          obtain ⟨P55, hp56, h⟩ := h
          refine r_invV (ci := 1) (As := [vI (A38 b43 (v35 + 1)), vI (A38 b43 (v35 + 2)), vI (A38 b43 (v35 + 3)), vI (A38 b43 (v35 + 4)), vI (A38 b43 (v35 + 5))]) (rest := []) dL_law_242 lkL_13 rfl t54 rfl rfl (vX0_feed (d := 3) (Nat.le_of_ble_eq_true rfl) hW39 t54 (hW39.ai t45 rfl) (hW39.ai t45 rfl) (hW39.ai t45 rfl) (hW39.ai t45 rfl) (hW39.ai t45 rfl) hp56) rfl rfl (Nat.le_of_ble_eq_true rfl) (Nat.le_trans (Nat.le_of_ble_eq_true rfl) hd) (ckmI fun z57 F58 A59 hW60 p62 r63 => ?_)
          have h := h z57 F58 A59 p62
          refine r_aload_n dL_law_245 rfl ?_
          refine r_aload_n dL_law_246 rfl ?_
          refine j_iload_n dL_law_247 rfl ?_
          refine j_iconst dL_law_248 ?_
          refine j_iadd dL_law_249 ?_
          obtain ⟨c64, h⟩ := h
          refine r_iald dL_law_250 hz44 t45 c64 ?_
          refine r_aload_n dL_law_251 rfl ?_
          refine j_iload_n dL_law_252 rfl ?_
          refine j_iconst dL_law_253 ?_
          refine j_iadd dL_law_254 ?_
          obtain ⟨c65, h⟩ := h
          refine r_iald dL_law_255 hz44 t45 c65 ?_
          refine r_aload_n dL_law_256 rfl ?_
          refine j_iload_n dL_law_257 rfl ?_
          refine j_iconst dL_law_258 ?_
          refine j_iadd dL_law_259 ?_
          obtain ⟨c66, h⟩ := h
          refine r_iald dL_law_260 hz44 t45 c66 ?_
          refine r_aload_n dL_law_261 rfl ?_
          refine j_iload_n dL_law_262 rfl ?_
          refine j_iconst dL_law_263 ?_
          refine j_iadd dL_law_264 ?_
          obtain ⟨c67, h⟩ := h
          refine r_iald dL_law_265 hz44 t45 c67 ?_
          refine r_aload_n dL_law_266 rfl ?_
          refine j_iload_n dL_law_267 rfl ?_
          refine j_iconst dL_law_268 ?_
          refine j_iadd dL_law_269 ?_
          obtain ⟨c68, h⟩ := h
          refine r_iald dL_law_270 hz44 t45 c68 ?_
          have t69 : jtg N36 b18 = 10 := (hT40.tg hW31 (hT32.tg hW24 t21))
          obtain ⟨P70, hp71, h⟩ := h
          refine r_invV (ci := 10) (As := [vI (A59 b43 (v35 + 1)), vI (A59 b43 (v35 + 2)), vI (A59 b43 (v35 + 3)), vI (A59 b43 (v35 + 4)), vI (A59 b43 (v35 + 5))]) (rest := [vI z57]) dL_law_271 lkL_17 rfl t69 rfl rfl (vX9_feed (d := 2) (Nat.le_of_ble_eq_true rfl) hW60 t69 (hW60.ai t45 rfl) (hW60.ai t45 rfl) (hW60.ai t45 rfl) (hW60.ai t45 rfl) (hW60.ai t45 rfl) hp71) rfl rfl (Nat.le_of_ble_eq_true rfl) (Nat.le_trans (Nat.le_of_ble_eq_true rfl) hd) (ckmI fun z72 F73 A74 hW75 p77 r78 => ?_)
          have h := h z72 F73 A74 p77
          obtain ⟨h1, h2⟩ := h
          refine j_icmp_eq 1540 dL_law_274 rfl r63 r78 (fun q79 => ?_) (fun q79 => ?_)
          · have h := h1 q79
            clear h1 h2
            obtain ⟨r80, h⟩ := h
            refine j_iinc dL_law_1540 rfl (jokR rfl (Nat.le_of_ble_eq_true rfl)) ?_
            refine j_goto 18 dL_law_1543 rfl ?_
            exact J.wk (((((jWk.nil).eq).eq).eq).eq) (ihI41 _ _ _ _ (Nat.lt_of_lt_of_le h.2 (Nat.le_of_lt_succ hmuI41)) hW75 hT40 r80 h.1)
          · have h := h2 q79
            clear h1 h2
            refine j_iconst dL_law_277 ?_
            exact j_zret dL_law_278 rfl (nr_bool (by decide)) ⟨_, rfl, hW75, ((((hT6.trans hT15).trans hT23).trans hT32).trans hT40), h, (by decide)⟩
        clear h1
        obtain ⟨h1, h⟩ := h
        by_cases q1107 : ((A38 b43 v35) % 64) = 1
        · refine j_tableIn (off := 246) 279 dL_law_33 (jR_mod (x := A38 b43 v35) (m := 64) (by decide)) (by rw [q1107]; decide) (by rw [q1107]; decide) (by rw [q1107]; rfl) rfl ?_
          have h := h1 q1107
          clear h1
          refine r_aload_n dL_law_279 rfl ?_
          refine r_aload_n dL_law_280 rfl ?_
          refine j_iload_n dL_law_281 rfl ?_
          refine j_iconst dL_law_282 ?_
          refine j_iadd dL_law_283 ?_
          obtain ⟨c81, h⟩ := h
          refine r_iald dL_law_284 hz44 t45 c81 ?_
          have t82 : jtg N36 b1 = 1 := (hT40.tg hW31 (hT32.tg hW24 (hT23.tg hW14 (hT15.tg hW7 t4))))
          obtain ⟨P83, hp84, h⟩ := h
          refine r_invV (ci := 1) (As := [vI (A38 b43 (v35 + 1))]) (rest := []) dL_law_285 lkL_18 rfl t82 rfl rfl (vX0_end (d := 4) (Nat.le_of_ble_eq_true rfl) hW39 t82 (hW39.ai t45 rfl) hp84) rfl rfl (Nat.le_of_ble_eq_true rfl) (Nat.le_trans (Nat.le_of_ble_eq_true rfl) hd) (ckmB fun z85 F86 A87 hW88 p90 r91 => ?_)
          have h := h z85 F86 A87 p90
          refine r_aload_n dL_law_288 rfl ?_
          refine r_aload_n dL_law_289 rfl ?_
          refine j_iload_n dL_law_290 rfl ?_
          refine j_iconst dL_law_291 ?_
          refine j_iadd dL_law_292 ?_
          obtain ⟨c92, h⟩ := h
          refine r_iald dL_law_293 hz44 t45 c92 ?_
          have t93 : jtg N36 b18 = 10 := (hT40.tg hW31 (hT32.tg hW24 t21))
          obtain ⟨P94, hp95, h⟩ := h
          refine r_invV (ci := 10) (As := [vI (A87 b43 (v35 + 1))]) (rest := [vI z85]) dL_law_294 lkL_22 rfl t93 rfl rfl (vX9_end (d := 2) (Nat.le_of_ble_eq_true rfl) hW88 t93 (hW88.ai t45 rfl) hp95) rfl rfl (Nat.le_of_ble_eq_true rfl) (Nat.le_trans (Nat.le_of_ble_eq_true rfl) hd) (ckmB fun z96 F97 A98 hW99 p101 r102 => ?_)
          have h := h z96 F97 A98 p101
          obtain ⟨h1, h2⟩ := h
          refine j_icmp_eq 1540 dL_law_297 rfl (jR_b r91) (jR_b r102) (fun q103 => ?_) (fun q103 => ?_)
          · have h := h1 q103
            clear h1 h2
            obtain ⟨r104, h⟩ := h
            refine j_iinc dL_law_1540 rfl (jokR rfl (Nat.le_of_ble_eq_true rfl)) ?_
            refine j_goto 18 dL_law_1543 rfl ?_
            exact J.wk (((((jWk.nil).eq).eq).eq).eq) (ihI41 _ _ _ _ (Nat.lt_of_lt_of_le h.2 (Nat.le_of_lt_succ hmuI41)) hW99 hT40 r104 h.1)
          · have h := h2 q103
            clear h1 h2
            refine j_iconst dL_law_300 ?_
            exact j_zret dL_law_301 rfl (nr_bool (by decide)) ⟨_, rfl, hW99, ((((hT6.trans hT15).trans hT23).trans hT32).trans hT40), h, (by decide)⟩
        clear h1
        obtain ⟨h1, h⟩ := h
        by_cases q1108 : ((A38 b43 v35) % 64) = 2
        · refine j_tableIn (off := 269) 302 dL_law_33 (jR_mod (x := A38 b43 v35) (m := 64) (by decide)) (by rw [q1108]; decide) (by rw [q1108]; decide) (by rw [q1108]; rfl) rfl ?_
          have h := h1 q1108
          clear h1
          refine r_aload_n dL_law_302 rfl ?_
          have t105 : jtg N36 b1 = 1 := (hT40.tg hW31 (hT32.tg hW24 (hT23.tg hW14 (hT15.tg hW7 t4))))
          obtain ⟨P106, hp107, h⟩ := h
          refine r_invVH (ci := 1) (As := []) (rest := []) dL_law_303 lkL_23 rfl t105 rfl rfl (vX0_town (d := 17) (Nat.le_of_ble_eq_true rfl) hW39 t105  hp107) rfl rfl (Nat.le_of_ble_eq_true rfl) (Nat.le_trans (Nat.le_of_ble_eq_true rfl) hd) (cknI fun z108 N111 F109 A110 hW112 hT113 p114 r115 => ?_)
          have h := h z108 N111 F109 A110 p114
          refine r_aload_n dL_law_306 rfl ?_
          have t116 : jtg N111 b18 = 10 := (hT113.tg hW39 (hT40.tg hW31 (hT32.tg hW24 t21)))
          obtain ⟨P117, hp118, h⟩ := h
          refine r_invV (ci := 10) (As := []) (rest := [vI z108]) dL_law_307 lkL_27 rfl t116 rfl rfl (vX9_town (d := 9) (Nat.le_of_ble_eq_true rfl) hW112 t116  hp118) rfl rfl (Nat.le_of_ble_eq_true rfl) (Nat.le_trans (Nat.le_of_ble_eq_true rfl) hd) (ckmI fun z119 F120 A121 hW122 p124 r125 => ?_)
          have h := h z119 F120 A121 p124
          obtain ⟨h1, h2⟩ := h
          refine j_icmp_eq 1540 dL_law_310 rfl r115 r125 (fun q126 => ?_) (fun q126 => ?_)
          · have h := h1 q126
            clear h1 h2
            obtain ⟨r127, h⟩ := h
            refine j_iinc dL_law_1540 rfl (jokR rfl (Nat.le_of_ble_eq_true rfl)) ?_
            refine j_goto 18 dL_law_1543 rfl ?_
            exact J.wk (((((jWk.nil).eq).eq).eq).eq) (ihI41 _ _ _ _ (Nat.lt_of_lt_of_le h.2 (Nat.le_of_lt_succ hmuI41)) hW122 (hT40.trans hT113) r127 h.1)
          · have h := h2 q126
            clear h1 h2
            refine j_iconst dL_law_313 ?_
            exact j_zret dL_law_314 rfl (nr_bool (by decide)) ⟨_, rfl, hW122, (((((hT6.trans hT15).trans hT23).trans hT32).trans hT40).trans hT113), h, (by decide)⟩
        clear h1
        obtain ⟨h1, h⟩ := h
        by_cases q1109 : ((A38 b43 v35) % 64) = 3
        · refine j_tableIn (off := 282) 315 dL_law_33 (jR_mod (x := A38 b43 v35) (m := 64) (by decide)) (by rw [q1109]; decide) (by rw [q1109]; decide) (by rw [q1109]; rfl) rfl ?_
          have h := h1 q1109
          clear h1
          refine r_aload_n dL_law_315 rfl ?_
          refine r_aload_n dL_law_316 rfl ?_
          refine j_iload_n dL_law_317 rfl ?_
          refine j_iconst dL_law_318 ?_
          refine j_iadd dL_law_319 ?_
          obtain ⟨c128, h⟩ := h
          refine r_iald dL_law_320 hz44 t45 c128 ?_
          have t129 : jtg N36 b1 = 1 := (hT40.tg hW31 (hT32.tg hW24 (hT23.tg hW14 (hT15.tg hW7 t4))))
          obtain ⟨P130, hp131, h⟩ := h
          refine r_invV (ci := 1) (As := [vI (A38 b43 (v35 + 1))]) (rest := []) dL_law_321 lkL_28 rfl t129 rfl rfl (vX0_fault (d := 2) (Nat.le_of_ble_eq_true rfl) hW39 t129 (hW39.ai t45 rfl) hp131) rfl rfl (Nat.le_of_ble_eq_true rfl) (Nat.le_trans (Nat.le_of_ble_eq_true rfl) hd) (jkpI fun z132 p135 r136 => ?_)
          have h := h z132 p135
          refine r_aload_n dL_law_324 rfl ?_
          refine r_aload_n dL_law_325 rfl ?_
          refine j_iload_n dL_law_326 rfl ?_
          refine j_iconst dL_law_327 ?_
          refine j_iadd dL_law_328 ?_
          obtain ⟨c137, h⟩ := h
          refine r_iald dL_law_329 hz44 t45 c137 ?_
          have t138 : jtg N36 b18 = 10 := (hT40.tg hW31 (hT32.tg hW24 t21))
          obtain ⟨P139, hp140, h⟩ := h
          refine r_invV (ci := 10) (As := [vI (A38 b43 (v35 + 1))]) (rest := [vI z132]) dL_law_330 lkL_32 rfl t138 rfl rfl (vX9_fault (d := 1) (Nat.le_of_ble_eq_true rfl) hW39 t138 (hW39.ai t45 rfl) hp140) rfl rfl (Nat.le_of_ble_eq_true rfl) (Nat.le_trans (Nat.le_of_ble_eq_true rfl) hd) (jkpI fun z141 p144 r145 => ?_)
          have h := h z141 p144
          obtain ⟨h1, h2⟩ := h
          refine j_icmp_eq 1540 dL_law_333 rfl r136 r145 (fun q146 => ?_) (fun q146 => ?_)
          · have h := h1 q146
            clear h1 h2
            obtain ⟨r147, h⟩ := h
            refine j_iinc dL_law_1540 rfl (jokR rfl (Nat.le_of_ble_eq_true rfl)) ?_
            refine j_goto 18 dL_law_1543 rfl ?_
            exact J.wk (((((jWk.nil).eq).eq).eq).eq) (ihI41 _ _ _ _ (Nat.lt_of_lt_of_le h.2 (Nat.le_of_lt_succ hmuI41)) hW39 hT40 r147 h.1)
          · have h := h2 q146
            clear h1 h2
            refine j_iconst dL_law_336 ?_
            exact j_zret dL_law_337 rfl (nr_bool (by decide)) ⟨_, rfl, hW39, ((((hT6.trans hT15).trans hT23).trans hT32).trans hT40), h, (by decide)⟩
        clear h1
        obtain ⟨h1, h⟩ := h
        by_cases q1110 : ((A38 b43 v35) % 64) = 4
        · refine j_tableIn (off := 305) 338 dL_law_33 (jR_mod (x := A38 b43 v35) (m := 64) (by decide)) (by rw [q1110]; decide) (by rw [q1110]; decide) (by rw [q1110]; rfl) rfl ?_
          have h := h1 q1110
          clear h1
          refine r_aload_n dL_law_338 rfl ?_
          refine r_aload_n dL_law_339 rfl ?_
          refine j_iload_n dL_law_340 rfl ?_
          refine j_iconst dL_law_341 ?_
          refine j_iadd dL_law_342 ?_
          obtain ⟨c148, h⟩ := h
          refine r_iald dL_law_343 hz44 t45 c148 ?_
          have t149 : jtg N36 b1 = 1 := (hT40.tg hW31 (hT32.tg hW24 (hT23.tg hW14 (hT15.tg hW7 t4))))
          obtain ⟨P150, hp151, h⟩ := h
          refine r_invV (ci := 1) (As := [vI (A38 b43 (v35 + 1))]) (rest := []) dL_law_344 lkL_33 rfl t149 rfl rfl (vX0_has (d := 6) (Nat.le_of_ble_eq_true rfl) hW39 t149 (hW39.ai t45 rfl) hp151) rfl rfl (Nat.le_of_ble_eq_true rfl) (Nat.le_trans (Nat.le_of_ble_eq_true rfl) hd) (jkpI fun z152 p155 r156 => ?_)
          have h := h z152 p155
          refine r_aload_n dL_law_347 rfl ?_
          refine r_aload_n dL_law_348 rfl ?_
          refine j_iload_n dL_law_349 rfl ?_
          refine j_iconst dL_law_350 ?_
          refine j_iadd dL_law_351 ?_
          obtain ⟨c157, h⟩ := h
          refine r_iald dL_law_352 hz44 t45 c157 ?_
          have t158 : jtg N36 b18 = 10 := (hT40.tg hW31 (hT32.tg hW24 t21))
          obtain ⟨P159, hp160, h⟩ := h
          refine r_invV (ci := 10) (As := [vI (A38 b43 (v35 + 1))]) (rest := [vI z152]) dL_law_353 lkL_36 rfl t158 rfl rfl (vX9_has (d := 3) (Nat.le_of_ble_eq_true rfl) hW39 t158 (hW39.ai t45 rfl) hp160) rfl rfl (Nat.le_of_ble_eq_true rfl) (Nat.le_trans (Nat.le_of_ble_eq_true rfl) hd) (jkpI fun z161 p164 r165 => ?_)
          have h := h z161 p164
          obtain ⟨h1, h2⟩ := h
          refine j_icmp_eq 1540 dL_law_356 rfl r156 r165 (fun q166 => ?_) (fun q166 => ?_)
          · have h := h1 q166
            clear h1 h2
            obtain ⟨r167, h⟩ := h
            refine j_iinc dL_law_1540 rfl (jokR rfl (Nat.le_of_ble_eq_true rfl)) ?_
            refine j_goto 18 dL_law_1543 rfl ?_
            exact J.wk (((((jWk.nil).eq).eq).eq).eq) (ihI41 _ _ _ _ (Nat.lt_of_lt_of_le h.2 (Nat.le_of_lt_succ hmuI41)) hW39 hT40 r167 h.1)
          · have h := h2 q166
            clear h1 h2
            refine j_iconst dL_law_359 ?_
            exact j_zret dL_law_360 rfl (nr_bool (by decide)) ⟨_, rfl, hW39, ((((hT6.trans hT15).trans hT23).trans hT32).trans hT40), h, (by decide)⟩
        clear h1
        obtain ⟨h1, h⟩ := h
        by_cases q1111 : ((A38 b43 v35) % 64) = 5
        · refine j_tableIn (off := 328) 361 dL_law_33 (jR_mod (x := A38 b43 v35) (m := 64) (by decide)) (by rw [q1111]; decide) (by rw [q1111]; decide) (by rw [q1111]; rfl) rfl ?_
          have h := h1 q1111
          clear h1
          refine r_aload_n dL_law_361 rfl ?_
          refine r_aload_n dL_law_362 rfl ?_
          refine j_iload_n dL_law_363 rfl ?_
          refine j_iconst dL_law_364 ?_
          refine j_iadd dL_law_365 ?_
          obtain ⟨c168, h⟩ := h
          refine r_iald dL_law_366 hz44 t45 c168 ?_
          refine r_aload_n dL_law_367 rfl ?_
          refine j_iload_n dL_law_368 rfl ?_
          refine j_iconst dL_law_369 ?_
          refine j_iadd dL_law_370 ?_
          obtain ⟨c169, h⟩ := h
          refine r_iald dL_law_371 hz44 t45 c169 ?_
          refine r_aload_n dL_law_372 rfl ?_
          refine j_iload_n dL_law_373 rfl ?_
          refine j_iconst dL_law_374 ?_
          refine j_iadd dL_law_375 ?_
          obtain ⟨c170, h⟩ := h
          refine r_iald dL_law_376 hz44 t45 c170 ?_
          have t171 : jtg N36 b1 = 1 := (hT40.tg hW31 (hT32.tg hW24 (hT23.tg hW14 (hT15.tg hW7 t4))))
          obtain ⟨P172, hp173, h⟩ := h
          refine r_invV (ci := 1) (As := [vI (A38 b43 (v35 + 1)), vI (A38 b43 (v35 + 2)), vI (A38 b43 (v35 + 3))]) (rest := []) dL_law_377 lkL_37 rfl t171 rfl rfl (vX0_letter (d := 7) (Nat.le_of_ble_eq_true rfl) hW39 t171 (hW39.ai t45 rfl) (hW39.ai t45 rfl) (hW39.ai t45 rfl) hp173) rfl rfl (Nat.le_of_ble_eq_true rfl) (Nat.le_trans (Nat.le_of_ble_eq_true rfl) hd) (jkpI fun z174 p177 r178 => ?_)
          have h := h z174 p177
          refine r_aload_n dL_law_380 rfl ?_
          refine r_aload_n dL_law_381 rfl ?_
          refine j_iload_n dL_law_382 rfl ?_
          refine j_iconst dL_law_383 ?_
          refine j_iadd dL_law_384 ?_
          obtain ⟨c179, h⟩ := h
          refine r_iald dL_law_385 hz44 t45 c179 ?_
          refine r_aload_n dL_law_386 rfl ?_
          refine j_iload_n dL_law_387 rfl ?_
          refine j_iconst dL_law_388 ?_
          refine j_iadd dL_law_389 ?_
          obtain ⟨c180, h⟩ := h
          refine r_iald dL_law_390 hz44 t45 c180 ?_
          refine r_aload_n dL_law_391 rfl ?_
          refine j_iload_n dL_law_392 rfl ?_
          refine j_iconst dL_law_393 ?_
          refine j_iadd dL_law_394 ?_
          obtain ⟨c181, h⟩ := h
          refine r_iald dL_law_395 hz44 t45 c181 ?_
          have t182 : jtg N36 b18 = 10 := (hT40.tg hW31 (hT32.tg hW24 t21))
          obtain ⟨P183, hp184, h⟩ := h
          refine r_invV (ci := 10) (As := [vI (A38 b43 (v35 + 1)), vI (A38 b43 (v35 + 2)), vI (A38 b43 (v35 + 3))]) (rest := [vI z174]) dL_law_396 lkL_41 rfl t182 rfl rfl (vX9_letter (d := 2) (Nat.le_of_ble_eq_true rfl) hW39 t182 (hW39.ai t45 rfl) (hW39.ai t45 rfl) (hW39.ai t45 rfl) hp184) rfl rfl (Nat.le_of_ble_eq_true rfl) (Nat.le_trans (Nat.le_of_ble_eq_true rfl) hd) (jkpI fun z185 p188 r189 => ?_)
          have h := h z185 p188
          obtain ⟨h1, h2⟩ := h
          refine j_icmp_eq 1540 dL_law_399 rfl r178 r189 (fun q190 => ?_) (fun q190 => ?_)
          · have h := h1 q190
            clear h1 h2
            obtain ⟨r191, h⟩ := h
            refine j_iinc dL_law_1540 rfl (jokR rfl (Nat.le_of_ble_eq_true rfl)) ?_
            refine j_goto 18 dL_law_1543 rfl ?_
            exact J.wk (((((jWk.nil).eq).eq).eq).eq) (ihI41 _ _ _ _ (Nat.lt_of_lt_of_le h.2 (Nat.le_of_lt_succ hmuI41)) hW39 hT40 r191 h.1)
          · have h := h2 q190
            clear h1 h2
            refine j_iconst dL_law_402 ?_
            exact j_zret dL_law_403 rfl (nr_bool (by decide)) ⟨_, rfl, hW39, ((((hT6.trans hT15).trans hT23).trans hT32).trans hT40), h, (by decide)⟩
        clear h1
        obtain ⟨h1, h⟩ := h
        by_cases q1112 : ((A38 b43 v35) % 64) = 6
        · refine j_tableIn (off := 371) 404 dL_law_33 (jR_mod (x := A38 b43 v35) (m := 64) (by decide)) (by rw [q1112]; decide) (by rw [q1112]; decide) (by rw [q1112]; rfl) rfl ?_
          have h := h1 q1112
          clear h1
          refine r_aload_n dL_law_404 rfl ?_
          refine r_aload_n dL_law_405 rfl ?_
          refine j_iload_n dL_law_406 rfl ?_
          refine j_iconst dL_law_407 ?_
          refine j_iadd dL_law_408 ?_
          obtain ⟨c192, h⟩ := h
          refine r_iald dL_law_409 hz44 t45 c192 ?_
          refine r_aload_n dL_law_410 rfl ?_
          refine j_iload_n dL_law_411 rfl ?_
          refine j_iconst dL_law_412 ?_
          refine j_iadd dL_law_413 ?_
          obtain ⟨c193, h⟩ := h
          refine r_iald dL_law_414 hz44 t45 c193 ?_
          have t194 : jtg N36 b1 = 1 := (hT40.tg hW31 (hT32.tg hW24 (hT23.tg hW14 (hT15.tg hW7 t4))))
          obtain ⟨P195, hp196, h⟩ := h
          refine r_invV (ci := 1) (As := [vI (A38 b43 (v35 + 1)), vI (A38 b43 (v35 + 2))]) (rest := []) dL_law_415 lkL_42 rfl t194 rfl rfl (vX0_word (d := 6) (Nat.le_of_ble_eq_true rfl) hW39 t194 (hW39.ai t45 rfl) (hW39.ai t45 rfl) hp196) rfl rfl (Nat.le_of_ble_eq_true rfl) (Nat.le_trans (Nat.le_of_ble_eq_true rfl) hd) (jkpI fun z197 p200 r201 => ?_)
          have h := h z197 p200
          refine r_aload_n dL_law_418 rfl ?_
          refine r_aload_n dL_law_419 rfl ?_
          refine j_iload_n dL_law_420 rfl ?_
          refine j_iconst dL_law_421 ?_
          refine j_iadd dL_law_422 ?_
          obtain ⟨c202, h⟩ := h
          refine r_iald dL_law_423 hz44 t45 c202 ?_
          refine r_aload_n dL_law_424 rfl ?_
          refine j_iload_n dL_law_425 rfl ?_
          refine j_iconst dL_law_426 ?_
          refine j_iadd dL_law_427 ?_
          obtain ⟨c203, h⟩ := h
          refine r_iald dL_law_428 hz44 t45 c203 ?_
          have t204 : jtg N36 b18 = 10 := (hT40.tg hW31 (hT32.tg hW24 t21))
          obtain ⟨P205, hp206, h⟩ := h
          refine r_invV (ci := 10) (As := [vI (A38 b43 (v35 + 1)), vI (A38 b43 (v35 + 2))]) (rest := [vI z197]) dL_law_429 lkL_46 rfl t204 rfl rfl (vX9_word (d := 2) (Nat.le_of_ble_eq_true rfl) hW39 t204 (hW39.ai t45 rfl) (hW39.ai t45 rfl) hp206) rfl rfl (Nat.le_of_ble_eq_true rfl) (Nat.le_trans (Nat.le_of_ble_eq_true rfl) hd) (jkpI fun z207 p210 r211 => ?_)
          have h := h z207 p210
          obtain ⟨h1, h2⟩ := h
          refine j_icmp_eq 1540 dL_law_432 rfl r201 r211 (fun q212 => ?_) (fun q212 => ?_)
          · have h := h1 q212
            clear h1 h2
            obtain ⟨r213, h⟩ := h
            refine j_iinc dL_law_1540 rfl (jokR rfl (Nat.le_of_ble_eq_true rfl)) ?_
            refine j_goto 18 dL_law_1543 rfl ?_
            exact J.wk (((((jWk.nil).eq).eq).eq).eq) (ihI41 _ _ _ _ (Nat.lt_of_lt_of_le h.2 (Nat.le_of_lt_succ hmuI41)) hW39 hT40 r213 h.1)
          · have h := h2 q212
            clear h1 h2
            refine j_iconst dL_law_435 ?_
            exact j_zret dL_law_436 rfl (nr_bool (by decide)) ⟨_, rfl, hW39, ((((hT6.trans hT15).trans hT23).trans hT32).trans hT40), h, (by decide)⟩
        clear h1
        obtain ⟨h1, h⟩ := h
        by_cases q1113 : ((A38 b43 v35) % 64) = 7
        · refine j_tableIn (off := 404) 437 dL_law_33 (jR_mod (x := A38 b43 v35) (m := 64) (by decide)) (by rw [q1113]; decide) (by rw [q1113]; decide) (by rw [q1113]; rfl) rfl ?_
          have h := h1 q1113
          clear h1
          refine r_aload_n dL_law_437 rfl ?_
          refine r_aload_n dL_law_438 rfl ?_
          refine j_iload_n dL_law_439 rfl ?_
          refine j_iconst dL_law_440 ?_
          refine j_iadd dL_law_441 ?_
          obtain ⟨c214, h⟩ := h
          refine r_iald dL_law_442 hz44 t45 c214 ?_
          refine r_aload_n dL_law_443 rfl ?_
          refine j_iload_n dL_law_444 rfl ?_
          refine j_iconst dL_law_445 ?_
          refine j_iadd dL_law_446 ?_
          obtain ⟨c215, h⟩ := h
          refine r_iald dL_law_447 hz44 t45 c215 ?_
          have t216 : jtg N36 b1 = 1 := (hT40.tg hW31 (hT32.tg hW24 (hT23.tg hW14 (hT15.tg hW7 t4))))
          obtain ⟨P217, hp218, h⟩ := h
          refine r_invV (ci := 1) (As := [vI (A38 b43 (v35 + 1)), vI (A38 b43 (v35 + 2))]) (rest := []) dL_law_448 lkL_47 rfl t216 rfl rfl (vX0_child (d := 7) (Nat.le_of_ble_eq_true rfl) hW39 t216 (hW39.ai t45 rfl) (hW39.ai t45 rfl) hp218) rfl rfl (Nat.le_of_ble_eq_true rfl) (Nat.le_trans (Nat.le_of_ble_eq_true rfl) hd) (ckmI fun z219 F220 A221 hW222 p224 r225 => ?_)
          have h := h z219 F220 A221 p224
          refine r_aload_n dL_law_451 rfl ?_
          refine r_aload_n dL_law_452 rfl ?_
          refine j_iload_n dL_law_453 rfl ?_
          refine j_iconst dL_law_454 ?_
          refine j_iadd dL_law_455 ?_
          obtain ⟨c226, h⟩ := h
          refine r_iald dL_law_456 hz44 t45 c226 ?_
          refine r_aload_n dL_law_457 rfl ?_
          refine j_iload_n dL_law_458 rfl ?_
          refine j_iconst dL_law_459 ?_
          refine j_iadd dL_law_460 ?_
          obtain ⟨c227, h⟩ := h
          refine r_iald dL_law_461 hz44 t45 c227 ?_
          have t228 : jtg N36 b18 = 10 := (hT40.tg hW31 (hT32.tg hW24 t21))
          obtain ⟨P229, hp230, h⟩ := h
          refine r_invV (ci := 10) (As := [vI (A221 b43 (v35 + 1)), vI (A221 b43 (v35 + 2))]) (rest := [vI z219]) dL_law_462 lkL_50 rfl t228 rfl rfl (vX9_child (d := 5) (Nat.le_of_ble_eq_true rfl) hW222 t228 (hW222.ai t45 rfl) (hW222.ai t45 rfl) hp230) rfl rfl (Nat.le_of_ble_eq_true rfl) (Nat.le_trans (Nat.le_of_ble_eq_true rfl) hd) (ckmI fun z231 F232 A233 hW234 p236 r237 => ?_)
          have h := h z231 F232 A233 p236
          obtain ⟨h1, h2⟩ := h
          refine j_icmp_eq 1540 dL_law_465 rfl r225 r237 (fun q238 => ?_) (fun q238 => ?_)
          · have h := h1 q238
            clear h1 h2
            obtain ⟨r239, h⟩ := h
            refine j_iinc dL_law_1540 rfl (jokR rfl (Nat.le_of_ble_eq_true rfl)) ?_
            refine j_goto 18 dL_law_1543 rfl ?_
            exact J.wk (((((jWk.nil).eq).eq).eq).eq) (ihI41 _ _ _ _ (Nat.lt_of_lt_of_le h.2 (Nat.le_of_lt_succ hmuI41)) hW234 hT40 r239 h.1)
          · have h := h2 q238
            clear h1 h2
            refine j_iconst dL_law_468 ?_
            exact j_zret dL_law_469 rfl (nr_bool (by decide)) ⟨_, rfl, hW234, ((((hT6.trans hT15).trans hT23).trans hT32).trans hT40), h, (by decide)⟩
        clear h1
        obtain ⟨h1, h⟩ := h
        by_cases q1114 : ((A38 b43 v35) % 64) = 8
        · refine j_tableIn (off := 437) 470 dL_law_33 (jR_mod (x := A38 b43 v35) (m := 64) (by decide)) (by rw [q1114]; decide) (by rw [q1114]; decide) (by rw [q1114]; rfl) rfl ?_
          have h := h1 q1114
          clear h1
          refine r_aload_n dL_law_470 rfl ?_
          refine r_aload_n dL_law_471 rfl ?_
          refine j_iload_n dL_law_472 rfl ?_
          refine j_iconst dL_law_473 ?_
          refine j_iadd dL_law_474 ?_
          obtain ⟨c240, h⟩ := h
          refine r_iald dL_law_475 hz44 t45 c240 ?_
          refine r_aload_n dL_law_476 rfl ?_
          refine j_iload_n dL_law_477 rfl ?_
          refine j_iconst dL_law_478 ?_
          refine j_iadd dL_law_479 ?_
          obtain ⟨c241, h⟩ := h
          refine r_iald dL_law_480 hz44 t45 c241 ?_
          have t242 : jtg N36 b1 = 1 := (hT40.tg hW31 (hT32.tg hW24 (hT23.tg hW14 (hT15.tg hW7 t4))))
          obtain ⟨P243, hp244, h⟩ := h
          refine r_invV (ci := 1) (As := [vI (A38 b43 (v35 + 1)), vI (A38 b43 (v35 + 2))]) (rest := []) dL_law_481 lkL_51 rfl t242 rfl rfl (vX0_law (d := 6) (Nat.le_of_ble_eq_true rfl) hW39 t242 (hW39.ai t45 rfl) (hW39.ai t45 rfl) hp244) rfl rfl (Nat.le_of_ble_eq_true rfl) (Nat.le_trans (Nat.le_of_ble_eq_true rfl) hd) (ckmI fun z245 F246 A247 hW248 p250 r251 => ?_)
          have h := h z245 F246 A247 p250
          refine r_aload_n dL_law_484 rfl ?_
          refine r_aload_n dL_law_485 rfl ?_
          refine j_iload_n dL_law_486 rfl ?_
          refine j_iconst dL_law_487 ?_
          refine j_iadd dL_law_488 ?_
          obtain ⟨c252, h⟩ := h
          refine r_iald dL_law_489 hz44 t45 c252 ?_
          refine r_aload_n dL_law_490 rfl ?_
          refine j_iload_n dL_law_491 rfl ?_
          refine j_iconst dL_law_492 ?_
          refine j_iadd dL_law_493 ?_
          obtain ⟨c253, h⟩ := h
          refine r_iald dL_law_494 hz44 t45 c253 ?_
          have t254 : jtg N36 b18 = 10 := (hT40.tg hW31 (hT32.tg hW24 t21))
          obtain ⟨P255, hp256, h⟩ := h
          refine r_invV (ci := 10) (As := [vI (A247 b43 (v35 + 1)), vI (A247 b43 (v35 + 2))]) (rest := [vI z245]) dL_law_495 lkL_54 rfl t254 rfl rfl (vX9_law (d := 6) (Nat.le_of_ble_eq_true rfl) hW248 t254 (hW248.ai t45 rfl) (hW248.ai t45 rfl) hp256) rfl rfl (Nat.le_of_ble_eq_true rfl) (Nat.le_trans (Nat.le_of_ble_eq_true rfl) hd) (ckmI fun z257 F258 A259 hW260 p262 r263 => ?_)
          have h := h z257 F258 A259 p262
          obtain ⟨h1, h2⟩ := h
          refine j_icmp_eq 1540 dL_law_498 rfl r251 r263 (fun q264 => ?_) (fun q264 => ?_)
          · have h := h1 q264
            clear h1 h2
            obtain ⟨r265, h⟩ := h
            refine j_iinc dL_law_1540 rfl (jokR rfl (Nat.le_of_ble_eq_true rfl)) ?_
            refine j_goto 18 dL_law_1543 rfl ?_
            exact J.wk (((((jWk.nil).eq).eq).eq).eq) (ihI41 _ _ _ _ (Nat.lt_of_lt_of_le h.2 (Nat.le_of_lt_succ hmuI41)) hW260 hT40 r265 h.1)
          · have h := h2 q264
            clear h1 h2
            refine j_iconst dL_law_501 ?_
            exact j_zret dL_law_502 rfl (nr_bool (by decide)) ⟨_, rfl, hW260, ((((hT6.trans hT15).trans hT23).trans hT32).trans hT40), h, (by decide)⟩
        clear h1
        obtain ⟨h1, h⟩ := h
        by_cases q1115 : ((A38 b43 v35) % 64) = 9
        · refine j_tableIn (off := 470) 503 dL_law_33 (jR_mod (x := A38 b43 v35) (m := 64) (by decide)) (by rw [q1115]; decide) (by rw [q1115]; decide) (by rw [q1115]; rfl) rfl ?_
          have h := h1 q1115
          clear h1
          refine r_aload_n dL_law_503 rfl ?_
          refine r_aload_n dL_law_504 rfl ?_
          refine j_iload_n dL_law_505 rfl ?_
          refine j_iconst dL_law_506 ?_
          refine j_iadd dL_law_507 ?_
          obtain ⟨c266, h⟩ := h
          refine r_iald dL_law_508 hz44 t45 c266 ?_
          have t267 : jtg N36 b1 = 1 := (hT40.tg hW31 (hT32.tg hW24 (hT23.tg hW14 (hT15.tg hW7 t4))))
          obtain ⟨P268, hp269, h⟩ := h
          refine r_invV (ci := 1) (As := [vI (A38 b43 (v35 + 1))]) (rest := []) dL_law_509 lkL_55 rfl t267 rfl rfl (vX0_order (d := 5) (Nat.le_of_ble_eq_true rfl) hW39 t267 (hW39.ai t45 rfl) hp269) rfl rfl (Nat.le_of_ble_eq_true rfl) (Nat.le_trans (Nat.le_of_ble_eq_true rfl) hd) (jkpI fun z270 p273 r274 => ?_)
          have h := h z270 p273
          refine r_aload_n dL_law_512 rfl ?_
          refine r_aload_n dL_law_513 rfl ?_
          refine j_iload_n dL_law_514 rfl ?_
          refine j_iconst dL_law_515 ?_
          refine j_iadd dL_law_516 ?_
          obtain ⟨c275, h⟩ := h
          refine r_iald dL_law_517 hz44 t45 c275 ?_
          have t276 : jtg N36 b18 = 10 := (hT40.tg hW31 (hT32.tg hW24 t21))
          obtain ⟨P277, hp278, h⟩ := h
          refine r_invV (ci := 10) (As := [vI (A38 b43 (v35 + 1))]) (rest := [vI z270]) dL_law_518 lkL_58 rfl t276 rfl rfl (vX9_order (d := 2) (Nat.le_of_ble_eq_true rfl) hW39 t276 (hW39.ai t45 rfl) hp278) rfl rfl (Nat.le_of_ble_eq_true rfl) (Nat.le_trans (Nat.le_of_ble_eq_true rfl) hd) (jkpI fun z279 p282 r283 => ?_)
          have h := h z279 p282
          obtain ⟨h1, h2⟩ := h
          refine j_icmp_eq 1540 dL_law_521 rfl r274 r283 (fun q284 => ?_) (fun q284 => ?_)
          · have h := h1 q284
            clear h1 h2
            obtain ⟨r285, h⟩ := h
            refine j_iinc dL_law_1540 rfl (jokR rfl (Nat.le_of_ble_eq_true rfl)) ?_
            refine j_goto 18 dL_law_1543 rfl ?_
            exact J.wk (((((jWk.nil).eq).eq).eq).eq) (ihI41 _ _ _ _ (Nat.lt_of_lt_of_le h.2 (Nat.le_of_lt_succ hmuI41)) hW39 hT40 r285 h.1)
          · have h := h2 q284
            clear h1 h2
            refine j_iconst dL_law_524 ?_
            exact j_zret dL_law_525 rfl (nr_bool (by decide)) ⟨_, rfl, hW39, ((((hT6.trans hT15).trans hT23).trans hT32).trans hT40), h, (by decide)⟩
        clear h1
        obtain ⟨h1, h⟩ := h
        by_cases q1116 : ((A38 b43 v35) % 64) = 10
        · refine j_tableIn (off := 493) 526 dL_law_33 (jR_mod (x := A38 b43 v35) (m := 64) (by decide)) (by rw [q1116]; decide) (by rw [q1116]; decide) (by rw [q1116]; rfl) rfl ?_
          have h := h1 q1116
          clear h1
          refine r_aload_n dL_law_526 rfl ?_
          refine r_aload_n dL_law_527 rfl ?_
          refine j_iload_n dL_law_528 rfl ?_
          refine j_iconst dL_law_529 ?_
          refine j_iadd dL_law_530 ?_
          obtain ⟨c286, h⟩ := h
          refine r_iald dL_law_531 hz44 t45 c286 ?_
          refine r_aload_n dL_law_532 rfl ?_
          refine j_iload_n dL_law_533 rfl ?_
          refine j_iconst dL_law_534 ?_
          refine j_iadd dL_law_535 ?_
          obtain ⟨c287, h⟩ := h
          refine r_iald dL_law_536 hz44 t45 c287 ?_
          have t288 : jtg N36 b1 = 1 := (hT40.tg hW31 (hT32.tg hW24 (hT23.tg hW14 (hT15.tg hW7 t4))))
          obtain ⟨P289, hp290, h⟩ := h
          refine r_invV (ci := 1) (As := [vI (A38 b43 (v35 + 1)), vI (A38 b43 (v35 + 2))]) (rest := []) dL_law_537 lkL_59 rfl t288 rfl rfl (vX0_alike (d := 6) (Nat.le_of_ble_eq_true rfl) hW39 t288 (hW39.ai t45 rfl) (hW39.ai t45 rfl) hp290) rfl rfl (Nat.le_of_ble_eq_true rfl) (Nat.le_trans (Nat.le_of_ble_eq_true rfl) hd) (jkpI fun z291 p294 r295 => ?_)
          have h := h z291 p294
          refine r_aload_n dL_law_540 rfl ?_
          refine r_aload_n dL_law_541 rfl ?_
          refine j_iload_n dL_law_542 rfl ?_
          refine j_iconst dL_law_543 ?_
          refine j_iadd dL_law_544 ?_
          obtain ⟨c296, h⟩ := h
          refine r_iald dL_law_545 hz44 t45 c296 ?_
          refine r_aload_n dL_law_546 rfl ?_
          refine j_iload_n dL_law_547 rfl ?_
          refine j_iconst dL_law_548 ?_
          refine j_iadd dL_law_549 ?_
          obtain ⟨c297, h⟩ := h
          refine r_iald dL_law_550 hz44 t45 c297 ?_
          have t298 : jtg N36 b18 = 10 := (hT40.tg hW31 (hT32.tg hW24 t21))
          obtain ⟨P299, hp300, h⟩ := h
          refine r_invV (ci := 10) (As := [vI (A38 b43 (v35 + 1)), vI (A38 b43 (v35 + 2))]) (rest := [vI z291]) dL_law_551 lkL_62 rfl t298 rfl rfl (vX9_alike (d := 2) (Nat.le_of_ble_eq_true rfl) hW39 t298 (hW39.ai t45 rfl) (hW39.ai t45 rfl) hp300) rfl rfl (Nat.le_of_ble_eq_true rfl) (Nat.le_trans (Nat.le_of_ble_eq_true rfl) hd) (jkpI fun z301 p304 r305 => ?_)
          have h := h z301 p304
          obtain ⟨h1, h2⟩ := h
          refine j_icmp_eq 1540 dL_law_554 rfl r295 r305 (fun q306 => ?_) (fun q306 => ?_)
          · have h := h1 q306
            clear h1 h2
            obtain ⟨r307, h⟩ := h
            refine j_iinc dL_law_1540 rfl (jokR rfl (Nat.le_of_ble_eq_true rfl)) ?_
            refine j_goto 18 dL_law_1543 rfl ?_
            exact J.wk (((((jWk.nil).eq).eq).eq).eq) (ihI41 _ _ _ _ (Nat.lt_of_lt_of_le h.2 (Nat.le_of_lt_succ hmuI41)) hW39 hT40 r307 h.1)
          · have h := h2 q306
            clear h1 h2
            refine j_iconst dL_law_557 ?_
            exact j_zret dL_law_558 rfl (nr_bool (by decide)) ⟨_, rfl, hW39, ((((hT6.trans hT15).trans hT23).trans hT32).trans hT40), h, (by decide)⟩
        clear h1
        obtain ⟨h1, h⟩ := h
        by_cases q1117 : ((A38 b43 v35) % 64) = 11
        · refine j_tableIn (off := 526) 559 dL_law_33 (jR_mod (x := A38 b43 v35) (m := 64) (by decide)) (by rw [q1117]; decide) (by rw [q1117]; decide) (by rw [q1117]; rfl) rfl ?_
          have h := h1 q1117
          clear h1
          refine r_aload_n dL_law_559 rfl ?_
          refine r_aload_n dL_law_560 rfl ?_
          refine j_iload_n dL_law_561 rfl ?_
          refine j_iconst dL_law_562 ?_
          refine j_iadd dL_law_563 ?_
          obtain ⟨c308, h⟩ := h
          refine r_iald dL_law_564 hz44 t45 c308 ?_
          refine r_aload_n dL_law_565 rfl ?_
          refine j_iload_n dL_law_566 rfl ?_
          refine j_iconst dL_law_567 ?_
          refine j_iadd dL_law_568 ?_
          obtain ⟨c309, h⟩ := h
          refine r_iald dL_law_569 hz44 t45 c309 ?_
          refine r_aload_n dL_law_570 rfl ?_
          refine j_iload_n dL_law_571 rfl ?_
          refine j_iconst dL_law_572 ?_
          refine j_iadd dL_law_573 ?_
          obtain ⟨c310, h⟩ := h
          refine r_iald dL_law_574 hz44 t45 c310 ?_
          have jn313 : ∀ z312 : Int, z312 = (if (A38 b43 (v35 + 3)) = 0 then (0 : Int) else 1) → J G l d mL_law 583 [vR a1, vR (b1 : Int), vR (b18 : Int), vI v35] [vI z312, vI (A38 b43 (v35 + 2)), vI (A38 b43 (v35 + 1)), vR (b1 : Int)] N36 F37 A38 (cnB G N Q) := by
            intro z312 ez312
            have h := h z312 ez312
            have t314 : jtg N36 b1 = 1 := (hT40.tg hW31 (hT32.tg hW24 (hT23.tg hW14 (hT15.tg hW7 t4))))
            obtain ⟨P315, hp316, h⟩ := h
            refine r_invV (ci := 1) (As := [vI (A38 b43 (v35 + 1)), vI (A38 b43 (v35 + 2)), vI z312]) (rest := []) dL_law_583 lkL_63 rfl t314 rfl rfl (vX0_hears (d := 6) (Nat.le_of_ble_eq_true rfl) hW39 t314 (hW39.ai t45 rfl) (hW39.ai t45 rfl) (ez312 ▸ jB_ite (by decide) (by decide)) hp316) rfl rfl (Nat.le_of_ble_eq_true rfl) (Nat.le_trans (Nat.le_of_ble_eq_true rfl) hd) (jkpI fun z317 p320 r321 => ?_)
            have h := h z317 p320
            refine r_aload_n dL_law_586 rfl ?_
            refine r_aload_n dL_law_587 rfl ?_
            refine j_iload_n dL_law_588 rfl ?_
            refine j_iconst dL_law_589 ?_
            refine j_iadd dL_law_590 ?_
            obtain ⟨c322, h⟩ := h
            refine r_iald dL_law_591 hz44 t45 c322 ?_
            refine r_aload_n dL_law_592 rfl ?_
            refine j_iload_n dL_law_593 rfl ?_
            refine j_iconst dL_law_594 ?_
            refine j_iadd dL_law_595 ?_
            obtain ⟨c323, h⟩ := h
            refine r_iald dL_law_596 hz44 t45 c323 ?_
            refine r_aload_n dL_law_597 rfl ?_
            refine j_iload_n dL_law_598 rfl ?_
            refine j_iconst dL_law_599 ?_
            refine j_iadd dL_law_600 ?_
            obtain ⟨c324, h⟩ := h
            refine r_iald dL_law_601 hz44 t45 c324 ?_
            have jn327 : ∀ z326 : Int, z326 = (if (A38 b43 (v35 + 3)) = 0 then (0 : Int) else 1) → J G l d mL_law 610 [vR a1, vR (b1 : Int), vR (b18 : Int), vI v35] [vI z326, vI (A38 b43 (v35 + 2)), vI (A38 b43 (v35 + 1)), vR (b18 : Int), vI z317] N36 F37 A38 (cnB G N Q) := by
              intro z326 ez326
              have h := h z326 ez326
              have t328 : jtg N36 b18 = 10 := (hT40.tg hW31 (hT32.tg hW24 t21))
              obtain ⟨P329, hp330, h⟩ := h
              refine r_invV (ci := 10) (As := [vI (A38 b43 (v35 + 1)), vI (A38 b43 (v35 + 2)), vI z326]) (rest := [vI z317]) dL_law_610 lkL_67 rfl t328 rfl rfl (vX9_hears (d := 3) (Nat.le_of_ble_eq_true rfl) hW39 t328 (hW39.ai t45 rfl) (hW39.ai t45 rfl) (ez326 ▸ jB_ite (by decide) (by decide)) hp330) rfl rfl (Nat.le_of_ble_eq_true rfl) (Nat.le_trans (Nat.le_of_ble_eq_true rfl) hd) (jkpI fun z331 p334 r335 => ?_)
              have h := h z331 p334
              obtain ⟨h1, h2⟩ := h
              refine j_icmp_eq 1540 dL_law_613 rfl r321 r335 (fun q336 => ?_) (fun q336 => ?_)
              · have h := h1 q336
                clear h1 h2
                obtain ⟨r337, h⟩ := h
                refine j_iinc dL_law_1540 rfl (jokR rfl (Nat.le_of_ble_eq_true rfl)) ?_
                refine j_goto 18 dL_law_1543 rfl ?_
                exact J.wk (((((jWk.nil).eq).eq).eq).eq) (ihI41 _ _ _ _ (Nat.lt_of_lt_of_le h.2 (Nat.le_of_lt_succ hmuI41)) hW39 hT40 r337 h.1)
              · have h := h2 q336
                clear h1 h2
                refine j_iconst dL_law_616 ?_
                exact j_zret dL_law_617 rfl (nr_bool (by decide)) ⟨_, rfl, hW39, ((((hT6.trans hT15).trans hT23).trans hT32).trans hT40), h, (by decide)⟩
            clear h
            refine j_if_eq 609 dL_law_602 rfl (hW39.ai t45 rfl) (fun q325 => ?_) (fun q325 => ?_)
            · refine j_iconst dL_law_609 ?_
              exact jn327 _ (if_pos q325).symm
            · refine j_iconst dL_law_605 ?_
              refine j_goto 610 dL_law_606 rfl ?_
              exact jn327 _ (if_neg q325).symm
          clear h
          refine j_if_eq 582 dL_law_575 rfl (hW39.ai t45 rfl) (fun q311 => ?_) (fun q311 => ?_)
          · refine j_iconst dL_law_582 ?_
            exact jn313 _ (if_pos q311).symm
          · refine j_iconst dL_law_578 ?_
            refine j_goto 583 dL_law_579 rfl ?_
            exact jn313 _ (if_neg q311).symm
        clear h1
        obtain ⟨h1, h⟩ := h
        by_cases q1118 : ((A38 b43 v35) % 64) = 12
        · refine j_tableIn (off := 585) 618 dL_law_33 (jR_mod (x := A38 b43 v35) (m := 64) (by decide)) (by rw [q1118]; decide) (by rw [q1118]; decide) (by rw [q1118]; rfl) rfl ?_
          have h := h1 q1118
          clear h1
          refine r_aload_n dL_law_618 rfl ?_
          refine r_aload_n dL_law_619 rfl ?_
          refine j_iload_n dL_law_620 rfl ?_
          refine j_iconst dL_law_621 ?_
          refine j_iadd dL_law_622 ?_
          obtain ⟨c338, h⟩ := h
          refine r_iald dL_law_623 hz44 t45 c338 ?_
          refine r_aload_n dL_law_624 rfl ?_
          refine j_iload_n dL_law_625 rfl ?_
          refine j_iconst dL_law_626 ?_
          refine j_iadd dL_law_627 ?_
          obtain ⟨c339, h⟩ := h
          refine r_iald dL_law_628 hz44 t45 c339 ?_
          refine r_aload_n dL_law_629 rfl ?_
          refine j_iload_n dL_law_630 rfl ?_
          refine j_iconst dL_law_631 ?_
          refine j_iadd dL_law_632 ?_
          obtain ⟨c340, h⟩ := h
          refine r_iald dL_law_633 hz44 t45 c340 ?_
          have t341 : jtg N36 b1 = 1 := (hT40.tg hW31 (hT32.tg hW24 (hT23.tg hW14 (hT15.tg hW7 t4))))
          obtain ⟨P342, hp343, h⟩ := h
          refine r_invV (ci := 1) (As := [vI (A38 b43 (v35 + 1)), vI (A38 b43 (v35 + 2)), vI (A38 b43 (v35 + 3))]) (rest := []) dL_law_634 lkL_68 rfl t341 rfl rfl (vX0_says (d := 7) (Nat.le_of_ble_eq_true rfl) hW39 t341 (hW39.ai t45 rfl) (hW39.ai t45 rfl) (hW39.ai t45 rfl) hp343) rfl rfl (Nat.le_of_ble_eq_true rfl) (Nat.le_trans (Nat.le_of_ble_eq_true rfl) hd) (ckmI fun z344 F345 A346 hW347 p349 r350 => ?_)
          have h := h z344 F345 A346 p349
          refine r_aload_n dL_law_637 rfl ?_
          refine r_aload_n dL_law_638 rfl ?_
          refine j_iload_n dL_law_639 rfl ?_
          refine j_iconst dL_law_640 ?_
          refine j_iadd dL_law_641 ?_
          obtain ⟨c351, h⟩ := h
          refine r_iald dL_law_642 hz44 t45 c351 ?_
          refine r_aload_n dL_law_643 rfl ?_
          refine j_iload_n dL_law_644 rfl ?_
          refine j_iconst dL_law_645 ?_
          refine j_iadd dL_law_646 ?_
          obtain ⟨c352, h⟩ := h
          refine r_iald dL_law_647 hz44 t45 c352 ?_
          refine r_aload_n dL_law_648 rfl ?_
          refine j_iload_n dL_law_649 rfl ?_
          refine j_iconst dL_law_650 ?_
          refine j_iadd dL_law_651 ?_
          obtain ⟨c353, h⟩ := h
          refine r_iald dL_law_652 hz44 t45 c353 ?_
          have t354 : jtg N36 b18 = 10 := (hT40.tg hW31 (hT32.tg hW24 t21))
          obtain ⟨P355, hp356, h⟩ := h
          refine r_invV (ci := 10) (As := [vI (A346 b43 (v35 + 1)), vI (A346 b43 (v35 + 2)), vI (A346 b43 (v35 + 3))]) (rest := [vI z344]) dL_law_653 lkL_71 rfl t354 rfl rfl (vX9_says (d := 4) (Nat.le_of_ble_eq_true rfl) hW347 t354 (hW347.ai t45 rfl) (hW347.ai t45 rfl) (hW347.ai t45 rfl) hp356) rfl rfl (Nat.le_of_ble_eq_true rfl) (Nat.le_trans (Nat.le_of_ble_eq_true rfl) hd) (ckmI fun z357 F358 A359 hW360 p362 r363 => ?_)
          have h := h z357 F358 A359 p362
          obtain ⟨h1, h2⟩ := h
          refine j_icmp_eq 1540 dL_law_656 rfl r350 r363 (fun q364 => ?_) (fun q364 => ?_)
          · have h := h1 q364
            clear h1 h2
            obtain ⟨r365, h⟩ := h
            refine j_iinc dL_law_1540 rfl (jokR rfl (Nat.le_of_ble_eq_true rfl)) ?_
            refine j_goto 18 dL_law_1543 rfl ?_
            exact J.wk (((((jWk.nil).eq).eq).eq).eq) (ihI41 _ _ _ _ (Nat.lt_of_lt_of_le h.2 (Nat.le_of_lt_succ hmuI41)) hW360 hT40 r365 h.1)
          · have h := h2 q364
            clear h1 h2
            refine j_iconst dL_law_659 ?_
            exact j_zret dL_law_660 rfl (nr_bool (by decide)) ⟨_, rfl, hW360, ((((hT6.trans hT15).trans hT23).trans hT32).trans hT40), h, (by decide)⟩
        clear h1
        obtain ⟨h1, h⟩ := h
        by_cases q1119 : ((A38 b43 v35) % 64) = 13
        · refine j_tableIn (off := 628) 661 dL_law_33 (jR_mod (x := A38 b43 v35) (m := 64) (by decide)) (by rw [q1119]; decide) (by rw [q1119]; decide) (by rw [q1119]; rfl) rfl ?_
          have h := h1 q1119
          clear h1
          refine r_aload_n dL_law_661 rfl ?_
          refine r_aload_n dL_law_662 rfl ?_
          refine j_iload_n dL_law_663 rfl ?_
          refine j_iconst dL_law_664 ?_
          refine j_iadd dL_law_665 ?_
          obtain ⟨c366, h⟩ := h
          refine r_iald dL_law_666 hz44 t45 c366 ?_
          refine r_aload_n dL_law_667 rfl ?_
          refine j_iload_n dL_law_668 rfl ?_
          refine j_iconst dL_law_669 ?_
          refine j_iadd dL_law_670 ?_
          obtain ⟨c367, h⟩ := h
          refine r_iald dL_law_671 hz44 t45 c367 ?_
          refine r_aload_n dL_law_672 rfl ?_
          refine j_iload_n dL_law_673 rfl ?_
          refine j_iconst dL_law_674 ?_
          refine j_iadd dL_law_675 ?_
          obtain ⟨c368, h⟩ := h
          refine r_iald dL_law_676 hz44 t45 c368 ?_
          have t369 : jtg N36 b1 = 1 := (hT40.tg hW31 (hT32.tg hW24 (hT23.tg hW14 (hT15.tg hW7 t4))))
          obtain ⟨P370, hp371, h⟩ := h
          refine r_invV (ci := 1) (As := [vI (A38 b43 (v35 + 1)), vI (A38 b43 (v35 + 2)), vI (A38 b43 (v35 + 3))]) (rest := []) dL_law_677 lkL_72 rfl t369 rfl rfl (vX0_sits (d := 7) (Nat.le_of_ble_eq_true rfl) hW39 t369 (hW39.ai t45 rfl) (hW39.ai t45 rfl) (hW39.ai t45 rfl) hp371) rfl rfl (Nat.le_of_ble_eq_true rfl) (Nat.le_trans (Nat.le_of_ble_eq_true rfl) hd) (ckmI fun z372 F373 A374 hW375 p377 r378 => ?_)
          have h := h z372 F373 A374 p377
          refine r_aload_n dL_law_680 rfl ?_
          refine r_aload_n dL_law_681 rfl ?_
          refine j_iload_n dL_law_682 rfl ?_
          refine j_iconst dL_law_683 ?_
          refine j_iadd dL_law_684 ?_
          obtain ⟨c379, h⟩ := h
          refine r_iald dL_law_685 hz44 t45 c379 ?_
          refine r_aload_n dL_law_686 rfl ?_
          refine j_iload_n dL_law_687 rfl ?_
          refine j_iconst dL_law_688 ?_
          refine j_iadd dL_law_689 ?_
          obtain ⟨c380, h⟩ := h
          refine r_iald dL_law_690 hz44 t45 c380 ?_
          refine r_aload_n dL_law_691 rfl ?_
          refine j_iload_n dL_law_692 rfl ?_
          refine j_iconst dL_law_693 ?_
          refine j_iadd dL_law_694 ?_
          obtain ⟨c381, h⟩ := h
          refine r_iald dL_law_695 hz44 t45 c381 ?_
          have t382 : jtg N36 b18 = 10 := (hT40.tg hW31 (hT32.tg hW24 t21))
          obtain ⟨P383, hp384, h⟩ := h
          refine r_invV (ci := 10) (As := [vI (A374 b43 (v35 + 1)), vI (A374 b43 (v35 + 2)), vI (A374 b43 (v35 + 3))]) (rest := [vI z372]) dL_law_696 lkL_75 rfl t382 rfl rfl (vX9_sits (d := 6) (Nat.le_of_ble_eq_true rfl) hW375 t382 (hW375.ai t45 rfl) (hW375.ai t45 rfl) (hW375.ai t45 rfl) hp384) rfl rfl (Nat.le_of_ble_eq_true rfl) (Nat.le_trans (Nat.le_of_ble_eq_true rfl) hd) (ckmI fun z385 F386 A387 hW388 p390 r391 => ?_)
          have h := h z385 F386 A387 p390
          obtain ⟨h1, h2⟩ := h
          refine j_icmp_eq 1540 dL_law_699 rfl r378 r391 (fun q392 => ?_) (fun q392 => ?_)
          · have h := h1 q392
            clear h1 h2
            obtain ⟨r393, h⟩ := h
            refine j_iinc dL_law_1540 rfl (jokR rfl (Nat.le_of_ble_eq_true rfl)) ?_
            refine j_goto 18 dL_law_1543 rfl ?_
            exact J.wk (((((jWk.nil).eq).eq).eq).eq) (ihI41 _ _ _ _ (Nat.lt_of_lt_of_le h.2 (Nat.le_of_lt_succ hmuI41)) hW388 hT40 r393 h.1)
          · have h := h2 q392
            clear h1 h2
            refine j_iconst dL_law_702 ?_
            exact j_zret dL_law_703 rfl (nr_bool (by decide)) ⟨_, rfl, hW388, ((((hT6.trans hT15).trans hT23).trans hT32).trans hT40), h, (by decide)⟩
        clear h1
        obtain ⟨h1, h⟩ := h
        by_cases q1120 : ((A38 b43 v35) % 64) = 14
        · refine j_tableIn (off := 671) 704 dL_law_33 (jR_mod (x := A38 b43 v35) (m := 64) (by decide)) (by rw [q1120]; decide) (by rw [q1120]; decide) (by rw [q1120]; rfl) rfl ?_
          have h := h1 q1120
          clear h1
          refine r_aload_n dL_law_704 rfl ?_
          refine r_aload_n dL_law_705 rfl ?_
          refine j_iload_n dL_law_706 rfl ?_
          refine j_iconst dL_law_707 ?_
          refine j_iadd dL_law_708 ?_
          obtain ⟨c394, h⟩ := h
          refine r_iald dL_law_709 hz44 t45 c394 ?_
          refine r_aload_n dL_law_710 rfl ?_
          refine j_iload_n dL_law_711 rfl ?_
          refine j_iconst dL_law_712 ?_
          refine j_iadd dL_law_713 ?_
          obtain ⟨c395, h⟩ := h
          refine r_iald dL_law_714 hz44 t45 c395 ?_
          have t396 : jtg N36 b1 = 1 := (hT40.tg hW31 (hT32.tg hW24 (hT23.tg hW14 (hT15.tg hW7 t4))))
          obtain ⟨P397, hp398, h⟩ := h
          refine r_invV (ci := 1) (As := [vI (A38 b43 (v35 + 1)), vI (A38 b43 (v35 + 2))]) (rest := []) dL_law_715 lkL_76 rfl t396 rfl rfl (vX0_sitting (d := 7) (Nat.le_of_ble_eq_true rfl) hW39 t396 (hW39.ai t45 rfl) (hW39.ai t45 rfl) hp398) rfl rfl (Nat.le_of_ble_eq_true rfl) (Nat.le_trans (Nat.le_of_ble_eq_true rfl) hd) (ckmI fun z399 F400 A401 hW402 p404 r405 => ?_)
          have h := h z399 F400 A401 p404
          refine r_aload_n dL_law_718 rfl ?_
          refine r_aload_n dL_law_719 rfl ?_
          refine j_iload_n dL_law_720 rfl ?_
          refine j_iconst dL_law_721 ?_
          refine j_iadd dL_law_722 ?_
          obtain ⟨c406, h⟩ := h
          refine r_iald dL_law_723 hz44 t45 c406 ?_
          refine r_aload_n dL_law_724 rfl ?_
          refine j_iload_n dL_law_725 rfl ?_
          refine j_iconst dL_law_726 ?_
          refine j_iadd dL_law_727 ?_
          obtain ⟨c407, h⟩ := h
          refine r_iald dL_law_728 hz44 t45 c407 ?_
          have t408 : jtg N36 b18 = 10 := (hT40.tg hW31 (hT32.tg hW24 t21))
          obtain ⟨P409, hp410, h⟩ := h
          refine r_invV (ci := 10) (As := [vI (A401 b43 (v35 + 1)), vI (A401 b43 (v35 + 2))]) (rest := [vI z399]) dL_law_729 lkL_79 rfl t408 rfl rfl (vX9_sitting (d := 6) (Nat.le_of_ble_eq_true rfl) hW402 t408 (hW402.ai t45 rfl) (hW402.ai t45 rfl) hp410) rfl rfl (Nat.le_of_ble_eq_true rfl) (Nat.le_trans (Nat.le_of_ble_eq_true rfl) hd) (ckmI fun z411 F412 A413 hW414 p416 r417 => ?_)
          have h := h z411 F412 A413 p416
          obtain ⟨h1, h2⟩ := h
          refine j_icmp_eq 1540 dL_law_732 rfl r405 r417 (fun q418 => ?_) (fun q418 => ?_)
          · have h := h1 q418
            clear h1 h2
            obtain ⟨r419, h⟩ := h
            refine j_iinc dL_law_1540 rfl (jokR rfl (Nat.le_of_ble_eq_true rfl)) ?_
            refine j_goto 18 dL_law_1543 rfl ?_
            exact J.wk (((((jWk.nil).eq).eq).eq).eq) (ihI41 _ _ _ _ (Nat.lt_of_lt_of_le h.2 (Nat.le_of_lt_succ hmuI41)) hW414 hT40 r419 h.1)
          · have h := h2 q418
            clear h1 h2
            refine j_iconst dL_law_735 ?_
            exact j_zret dL_law_736 rfl (nr_bool (by decide)) ⟨_, rfl, hW414, ((((hT6.trans hT15).trans hT23).trans hT32).trans hT40), h, (by decide)⟩
        clear h1
        obtain ⟨h1, h⟩ := h
        by_cases q1121 : ((A38 b43 v35) % 64) = 15
        · refine j_tableIn (off := 704) 737 dL_law_33 (jR_mod (x := A38 b43 v35) (m := 64) (by decide)) (by rw [q1121]; decide) (by rw [q1121]; decide) (by rw [q1121]; rfl) rfl ?_
          have h := h1 q1121
          clear h1
          refine r_aload_n dL_law_737 rfl ?_
          refine r_aload_n dL_law_738 rfl ?_
          refine j_iload_n dL_law_739 rfl ?_
          refine j_iconst dL_law_740 ?_
          refine j_iadd dL_law_741 ?_
          obtain ⟨c420, h⟩ := h
          refine r_iald dL_law_742 hz44 t45 c420 ?_
          refine r_aload_n dL_law_743 rfl ?_
          refine j_iload_n dL_law_744 rfl ?_
          refine j_iconst dL_law_745 ?_
          refine j_iadd dL_law_746 ?_
          obtain ⟨c421, h⟩ := h
          refine r_iald dL_law_747 hz44 t45 c421 ?_
          have t422 : jtg N36 b1 = 1 := (hT40.tg hW31 (hT32.tg hW24 (hT23.tg hW14 (hT15.tg hW7 t4))))
          obtain ⟨P423, hp424, h⟩ := h
          refine r_invV (ci := 1) (As := [vI (A38 b43 (v35 + 1)), vI (A38 b43 (v35 + 2))]) (rest := []) dL_law_748 lkL_80 rfl t422 rfl rfl (vX0_tell (d := 11) (Nat.le_of_ble_eq_true rfl) hW39 t422 (hW39.ai t45 rfl) (hW39.ai t45 rfl) hp424) rfl rfl (Nat.le_of_ble_eq_true rfl) (Nat.le_trans (Nat.le_of_ble_eq_true rfl) hd) (cknI fun z425 N428 F426 A427 hW429 hT430 p431 r432 => ?_)
          have h := h z425 N428 F426 A427 p431
          refine r_aload_n dL_law_751 rfl ?_
          refine r_aload_n dL_law_752 rfl ?_
          refine j_iload_n dL_law_753 rfl ?_
          refine j_iconst dL_law_754 ?_
          refine j_iadd dL_law_755 ?_
          have t433 : jtg N428 b43 = 102 := (hT430.tg hW39 t45)
          obtain ⟨c434, h⟩ := h
          refine r_iald dL_law_756 hz44 t433 c434 ?_
          refine r_aload_n dL_law_757 rfl ?_
          refine j_iload_n dL_law_758 rfl ?_
          refine j_iconst dL_law_759 ?_
          refine j_iadd dL_law_760 ?_
          obtain ⟨c435, h⟩ := h
          refine r_iald dL_law_761 hz44 t433 c435 ?_
          have t436 : jtg N428 b18 = 10 := (hT430.tg hW39 (hT40.tg hW31 (hT32.tg hW24 t21)))
          obtain ⟨P437, hp438, h⟩ := h
          refine r_invV (ci := 10) (As := [vI (A427 b43 (v35 + 1)), vI (A427 b43 (v35 + 2))]) (rest := [vI z425]) dL_law_762 lkL_83 rfl t436 rfl rfl (vX9_tell (d := 4) (Nat.le_of_ble_eq_true rfl) hW429 t436 (hW429.ai t433 rfl) (hW429.ai t433 rfl) hp438) rfl rfl (Nat.le_of_ble_eq_true rfl) (Nat.le_trans (Nat.le_of_ble_eq_true rfl) hd) (ckmI fun z439 F440 A441 hW442 p444 r445 => ?_)
          have h := h z439 F440 A441 p444
          obtain ⟨h1, h2⟩ := h
          refine j_icmp_eq 1540 dL_law_765 rfl r432 r445 (fun q446 => ?_) (fun q446 => ?_)
          · have h := h1 q446
            clear h1 h2
            obtain ⟨r447, h⟩ := h
            refine j_iinc dL_law_1540 rfl (jokR rfl (Nat.le_of_ble_eq_true rfl)) ?_
            refine j_goto 18 dL_law_1543 rfl ?_
            exact J.wk (((((jWk.nil).eq).eq).eq).eq) (ihI41 _ _ _ _ (Nat.lt_of_lt_of_le h.2 (Nat.le_of_lt_succ hmuI41)) hW442 (hT40.trans hT430) r447 h.1)
          · have h := h2 q446
            clear h1 h2
            refine j_iconst dL_law_768 ?_
            exact j_zret dL_law_769 rfl (nr_bool (by decide)) ⟨_, rfl, hW442, (((((hT6.trans hT15).trans hT23).trans hT32).trans hT40).trans hT430), h, (by decide)⟩
        clear h1
        obtain ⟨h1, h⟩ := h
        by_cases q1122 : ((A38 b43 v35) % 64) = 16
        · refine j_tableIn (off := 737) 770 dL_law_33 (jR_mod (x := A38 b43 v35) (m := 64) (by decide)) (by rw [q1122]; decide) (by rw [q1122]; decide) (by rw [q1122]; rfl) rfl ?_
          have h := h1 q1122
          clear h1
          refine r_aload_n dL_law_770 rfl ?_
          refine r_aload_n dL_law_771 rfl ?_
          refine j_iload_n dL_law_772 rfl ?_
          refine j_iconst dL_law_773 ?_
          refine j_iadd dL_law_774 ?_
          obtain ⟨c448, h⟩ := h
          refine r_iald dL_law_775 hz44 t45 c448 ?_
          have t449 : jtg N36 b1 = 1 := (hT40.tg hW31 (hT32.tg hW24 (hT23.tg hW14 (hT15.tg hW7 t4))))
          obtain ⟨P450, hp451, h⟩ := h
          refine r_invV (ci := 1) (As := [vI (A38 b43 (v35 + 1))]) (rest := []) dL_law_776 lkL_84 rfl t449 rfl rfl (vX0_anew (d := 11) (Nat.le_of_ble_eq_true rfl) hW39 t449 (hW39.ai t45 rfl) hp451) rfl rfl (Nat.le_of_ble_eq_true rfl) (Nat.le_trans (Nat.le_of_ble_eq_true rfl) hd) (cknI fun z452 N455 F453 A454 hW456 hT457 p458 r459 => ?_)
          have h := h z452 N455 F453 A454 p458
          refine r_aload_n dL_law_779 rfl ?_
          refine r_aload_n dL_law_780 rfl ?_
          refine j_iload_n dL_law_781 rfl ?_
          refine j_iconst dL_law_782 ?_
          refine j_iadd dL_law_783 ?_
          have t460 : jtg N455 b43 = 102 := (hT457.tg hW39 t45)
          obtain ⟨c461, h⟩ := h
          refine r_iald dL_law_784 hz44 t460 c461 ?_
          have t462 : jtg N455 b18 = 10 := (hT457.tg hW39 (hT40.tg hW31 (hT32.tg hW24 t21)))
          obtain ⟨P463, hp464, h⟩ := h
          refine r_invV (ci := 10) (As := [vI (A454 b43 (v35 + 1))]) (rest := [vI z452]) dL_law_785 lkL_87 rfl t462 rfl rfl (vX9_anew (d := 6) (Nat.le_of_ble_eq_true rfl) hW456 t462 (hW456.ai t460 rfl) hp464) rfl rfl (Nat.le_of_ble_eq_true rfl) (Nat.le_trans (Nat.le_of_ble_eq_true rfl) hd) (ckmI fun z465 F466 A467 hW468 p470 r471 => ?_)
          have h := h z465 F466 A467 p470
          obtain ⟨h1, h2⟩ := h
          refine j_icmp_eq 1540 dL_law_788 rfl r459 r471 (fun q472 => ?_) (fun q472 => ?_)
          · have h := h1 q472
            clear h1 h2
            obtain ⟨r473, h⟩ := h
            refine j_iinc dL_law_1540 rfl (jokR rfl (Nat.le_of_ble_eq_true rfl)) ?_
            refine j_goto 18 dL_law_1543 rfl ?_
            exact J.wk (((((jWk.nil).eq).eq).eq).eq) (ihI41 _ _ _ _ (Nat.lt_of_lt_of_le h.2 (Nat.le_of_lt_succ hmuI41)) hW468 (hT40.trans hT457) r473 h.1)
          · have h := h2 q472
            clear h1 h2
            refine j_iconst dL_law_791 ?_
            exact j_zret dL_law_792 rfl (nr_bool (by decide)) ⟨_, rfl, hW468, (((((hT6.trans hT15).trans hT23).trans hT32).trans hT40).trans hT457), h, (by decide)⟩
        clear h1
        obtain ⟨h1, h⟩ := h
        by_cases q1123 : ((A38 b43 v35) % 64) = 17
        · refine j_tableIn (off := 760) 793 dL_law_33 (jR_mod (x := A38 b43 v35) (m := 64) (by decide)) (by rw [q1123]; decide) (by rw [q1123]; decide) (by rw [q1123]; rfl) rfl ?_
          have h := h1 q1123
          clear h1
          refine r_aload_n dL_law_793 rfl ?_
          refine r_aload_n dL_law_794 rfl ?_
          refine j_iload_n dL_law_795 rfl ?_
          refine j_iconst dL_law_796 ?_
          refine j_iadd dL_law_797 ?_
          obtain ⟨c474, h⟩ := h
          refine r_iald dL_law_798 hz44 t45 c474 ?_
          have t475 : jtg N36 b1 = 1 := (hT40.tg hW31 (hT32.tg hW24 (hT23.tg hW14 (hT15.tg hW7 t4))))
          obtain ⟨P476, hp477, h⟩ := h
          refine r_invVH (ci := 1) (As := [vI (A38 b43 (v35 + 1))]) (rest := []) dL_law_799 lkL_88 rfl t475 rfl rfl (vX0_council (d := 15) (Nat.le_of_ble_eq_true rfl) hW39 t475 (hW39.ai t45 rfl) hp477) rfl rfl (Nat.le_of_ble_eq_true rfl) (Nat.le_trans (Nat.le_of_ble_eq_true rfl) hd) (cknI fun z478 N481 F479 A480 hW482 hT483 p484 r485 => ?_)
          have h := h z478 N481 F479 A480 p484
          refine r_aload_n dL_law_802 rfl ?_
          refine r_aload_n dL_law_803 rfl ?_
          refine j_iload_n dL_law_804 rfl ?_
          refine j_iconst dL_law_805 ?_
          refine j_iadd dL_law_806 ?_
          have t486 : jtg N481 b43 = 102 := (hT483.tg hW39 t45)
          obtain ⟨c487, h⟩ := h
          refine r_iald dL_law_807 hz44 t486 c487 ?_
          have t488 : jtg N481 b18 = 10 := (hT483.tg hW39 (hT40.tg hW31 (hT32.tg hW24 t21)))
          obtain ⟨P489, hp490, h⟩ := h
          refine r_invV (ci := 10) (As := [vI (A480 b43 (v35 + 1))]) (rest := [vI z478]) dL_law_808 lkL_91 rfl t488 rfl rfl (vX9_council (d := 7) (Nat.le_of_ble_eq_true rfl) hW482 t488 (hW482.ai t486 rfl) hp490) rfl rfl (Nat.le_of_ble_eq_true rfl) (Nat.le_trans (Nat.le_of_ble_eq_true rfl) hd) (ckmI fun z491 F492 A493 hW494 p496 r497 => ?_)
          have h := h z491 F492 A493 p496
          obtain ⟨h1, h2⟩ := h
          refine j_icmp_eq 1540 dL_law_811 rfl r485 r497 (fun q498 => ?_) (fun q498 => ?_)
          · have h := h1 q498
            clear h1 h2
            obtain ⟨r499, h⟩ := h
            refine j_iinc dL_law_1540 rfl (jokR rfl (Nat.le_of_ble_eq_true rfl)) ?_
            refine j_goto 18 dL_law_1543 rfl ?_
            exact J.wk (((((jWk.nil).eq).eq).eq).eq) (ihI41 _ _ _ _ (Nat.lt_of_lt_of_le h.2 (Nat.le_of_lt_succ hmuI41)) hW494 (hT40.trans hT483) r499 h.1)
          · have h := h2 q498
            clear h1 h2
            refine j_iconst dL_law_814 ?_
            exact j_zret dL_law_815 rfl (nr_bool (by decide)) ⟨_, rfl, hW494, (((((hT6.trans hT15).trans hT23).trans hT32).trans hT40).trans hT483), h, (by decide)⟩
        clear h1
        obtain ⟨h1, h⟩ := h
        by_cases q1124 : ((A38 b43 v35) % 64) = 18
        · refine j_tableIn (off := 783) 816 dL_law_33 (jR_mod (x := A38 b43 v35) (m := 64) (by decide)) (by rw [q1124]; decide) (by rw [q1124]; decide) (by rw [q1124]; rfl) rfl ?_
          have h := h1 q1124
          clear h1
          refine r_aload_n dL_law_816 rfl ?_
          refine r_aload_n dL_law_817 rfl ?_
          refine j_iload_n dL_law_818 rfl ?_
          refine j_iconst dL_law_819 ?_
          refine j_iadd dL_law_820 ?_
          obtain ⟨c500, h⟩ := h
          refine r_iald dL_law_821 hz44 t45 c500 ?_
          refine r_aload_n dL_law_822 rfl ?_
          refine j_iload_n dL_law_823 rfl ?_
          refine j_iconst dL_law_824 ?_
          refine j_iadd dL_law_825 ?_
          obtain ⟨c501, h⟩ := h
          refine r_iald dL_law_826 hz44 t45 c501 ?_
          have jn504 : ∀ z503 : Int, z503 = (if (A38 b43 (v35 + 2)) = 0 then (0 : Int) else 1) → J G l d mL_law 835 [vR a1, vR (b1 : Int), vR (b18 : Int), vI v35] [vI z503, vI (A38 b43 (v35 + 1)), vR (b1 : Int)] N36 F37 A38 (cnB G N Q) := by
            intro z503 ez503
            have h := h z503 ez503
            have t505 : jtg N36 b1 = 1 := (hT40.tg hW31 (hT32.tg hW24 (hT23.tg hW14 (hT15.tg hW7 t4))))
            obtain ⟨P506, hp507, h⟩ := h
            refine r_invV (ci := 1) (As := [vI (A38 b43 (v35 + 1)), vI z503]) (rest := []) dL_law_835 lkL_92 rfl t505 rfl rfl (vX0_sing (d := 11) (Nat.le_of_ble_eq_true rfl) hW39 t505 (hW39.ai t45 rfl) (ez503 ▸ jB_ite (by decide) (by decide)) hp507) rfl rfl (Nat.le_of_ble_eq_true rfl) (Nat.le_trans (Nat.le_of_ble_eq_true rfl) hd) (cknB fun z508 N511 F509 A510 hW512 hT513 p514 r515 => ?_)
            have h := h z508 N511 F509 A510 p514
            refine r_aload_n dL_law_838 rfl ?_
            refine r_aload_n dL_law_839 rfl ?_
            refine j_iload_n dL_law_840 rfl ?_
            refine j_iconst dL_law_841 ?_
            refine j_iadd dL_law_842 ?_
            have t516 : jtg N511 b43 = 102 := (hT513.tg hW39 t45)
            obtain ⟨c517, h⟩ := h
            refine r_iald dL_law_843 hz44 t516 c517 ?_
            refine r_aload_n dL_law_844 rfl ?_
            refine j_iload_n dL_law_845 rfl ?_
            refine j_iconst dL_law_846 ?_
            refine j_iadd dL_law_847 ?_
            obtain ⟨c518, h⟩ := h
            refine r_iald dL_law_848 hz44 t516 c518 ?_
            have jn521 : ∀ z520 : Int, z520 = (if (A510 b43 (v35 + 2)) = 0 then (0 : Int) else 1) → J G l d mL_law 857 [vR a1, vR (b1 : Int), vR (b18 : Int), vI v35] [vI z520, vI (A510 b43 (v35 + 1)), vR (b18 : Int), vI z508] N511 F509 A510 (cnB G N Q) := by
              intro z520 ez520
              have h := h z520 ez520
              have t522 : jtg N511 b18 = 10 := (hT513.tg hW39 (hT40.tg hW31 (hT32.tg hW24 t21)))
              obtain ⟨P523, hp524, h⟩ := h
              refine r_invV (ci := 10) (As := [vI (A510 b43 (v35 + 1)), vI z520]) (rest := [vI z508]) dL_law_857 lkL_96 rfl t522 rfl rfl (vX9_sing (d := 3) (Nat.le_of_ble_eq_true rfl) hW512 t522 (hW512.ai t516 rfl) (ez520 ▸ jB_ite (by decide) (by decide)) hp524) rfl rfl (Nat.le_of_ble_eq_true rfl) (Nat.le_trans (Nat.le_of_ble_eq_true rfl) hd) (ckmB fun z525 F526 A527 hW528 p530 r531 => ?_)
              have h := h z525 F526 A527 p530
              obtain ⟨h1, h2⟩ := h
              refine j_icmp_eq 1540 dL_law_860 rfl (jR_b r515) (jR_b r531) (fun q532 => ?_) (fun q532 => ?_)
              · have h := h1 q532
                clear h1 h2
                obtain ⟨r533, h⟩ := h
                refine j_iinc dL_law_1540 rfl (jokR rfl (Nat.le_of_ble_eq_true rfl)) ?_
                refine j_goto 18 dL_law_1543 rfl ?_
                exact J.wk (((((jWk.nil).eq).eq).eq).eq) (ihI41 _ _ _ _ (Nat.lt_of_lt_of_le h.2 (Nat.le_of_lt_succ hmuI41)) hW528 (hT40.trans hT513) r533 h.1)
              · have h := h2 q532
                clear h1 h2
                refine j_iconst dL_law_863 ?_
                exact j_zret dL_law_864 rfl (nr_bool (by decide)) ⟨_, rfl, hW528, (((((hT6.trans hT15).trans hT23).trans hT32).trans hT40).trans hT513), h, (by decide)⟩
            clear h
            refine j_if_eq 856 dL_law_849 rfl (hW512.ai t516 rfl) (fun q519 => ?_) (fun q519 => ?_)
            · refine j_iconst dL_law_856 ?_
              exact jn521 _ (if_pos q519).symm
            · refine j_iconst dL_law_852 ?_
              refine j_goto 857 dL_law_853 rfl ?_
              exact jn521 _ (if_neg q519).symm
          clear h
          refine j_if_eq 834 dL_law_827 rfl (hW39.ai t45 rfl) (fun q502 => ?_) (fun q502 => ?_)
          · refine j_iconst dL_law_834 ?_
            exact jn504 _ (if_pos q502).symm
          · refine j_iconst dL_law_830 ?_
            refine j_goto 835 dL_law_831 rfl ?_
            exact jn504 _ (if_neg q502).symm
        clear h1
        obtain ⟨h1, h⟩ := h
        by_cases q1125 : ((A38 b43 v35) % 64) = 19
        · refine j_tableIn (off := 832) 865 dL_law_33 (jR_mod (x := A38 b43 v35) (m := 64) (by decide)) (by rw [q1125]; decide) (by rw [q1125]; decide) (by rw [q1125]; rfl) rfl ?_
          have h := h1 q1125
          clear h1
          refine r_aload_n dL_law_865 rfl ?_
          refine r_aload_n dL_law_866 rfl ?_
          refine j_iload_n dL_law_867 rfl ?_
          refine j_iconst dL_law_868 ?_
          refine j_iadd dL_law_869 ?_
          obtain ⟨c534, h⟩ := h
          refine r_iald dL_law_870 hz44 t45 c534 ?_
          refine r_aload_n dL_law_871 rfl ?_
          refine j_iload_n dL_law_872 rfl ?_
          refine j_iconst dL_law_873 ?_
          refine j_iadd dL_law_874 ?_
          obtain ⟨c535, h⟩ := h
          refine r_iald dL_law_875 hz44 t45 c535 ?_
          have t536 : jtg N36 b1 = 1 := (hT40.tg hW31 (hT32.tg hW24 (hT23.tg hW14 (hT15.tg hW7 t4))))
          obtain ⟨P537, hp538, h⟩ := h
          refine r_invV (ci := 1) (As := [vI (A38 b43 (v35 + 1)), vI (A38 b43 (v35 + 2))]) (rest := []) dL_law_876 lkL_97 rfl t536 rfl rfl (vX0_swap (d := 11) (Nat.le_of_ble_eq_true rfl) hW39 t536 (hW39.ai t45 rfl) (hW39.ai t45 rfl) hp538) rfl rfl (Nat.le_of_ble_eq_true rfl) (Nat.le_trans (Nat.le_of_ble_eq_true rfl) hd) (cknB fun z539 N542 F540 A541 hW543 hT544 p545 r546 => ?_)
          have h := h z539 N542 F540 A541 p545
          refine r_aload_n dL_law_879 rfl ?_
          refine r_aload_n dL_law_880 rfl ?_
          refine j_iload_n dL_law_881 rfl ?_
          refine j_iconst dL_law_882 ?_
          refine j_iadd dL_law_883 ?_
          have t547 : jtg N542 b43 = 102 := (hT544.tg hW39 t45)
          obtain ⟨c548, h⟩ := h
          refine r_iald dL_law_884 hz44 t547 c548 ?_
          refine r_aload_n dL_law_885 rfl ?_
          refine j_iload_n dL_law_886 rfl ?_
          refine j_iconst dL_law_887 ?_
          refine j_iadd dL_law_888 ?_
          obtain ⟨c549, h⟩ := h
          refine r_iald dL_law_889 hz44 t547 c549 ?_
          have t550 : jtg N542 b18 = 10 := (hT544.tg hW39 (hT40.tg hW31 (hT32.tg hW24 t21)))
          obtain ⟨P551, hp552, h⟩ := h
          refine r_invV (ci := 10) (As := [vI (A541 b43 (v35 + 1)), vI (A541 b43 (v35 + 2))]) (rest := [vI z539]) dL_law_890 lkL_101 rfl t550 rfl rfl (vX9_swap (d := 3) (Nat.le_of_ble_eq_true rfl) hW543 t550 (hW543.ai t547 rfl) (hW543.ai t547 rfl) hp552) rfl rfl (Nat.le_of_ble_eq_true rfl) (Nat.le_trans (Nat.le_of_ble_eq_true rfl) hd) (ckmB fun z553 F554 A555 hW556 p558 r559 => ?_)
          have h := h z553 F554 A555 p558
          obtain ⟨h1, h2⟩ := h
          refine j_icmp_eq 1540 dL_law_893 rfl (jR_b r546) (jR_b r559) (fun q560 => ?_) (fun q560 => ?_)
          · have h := h1 q560
            clear h1 h2
            obtain ⟨r561, h⟩ := h
            refine j_iinc dL_law_1540 rfl (jokR rfl (Nat.le_of_ble_eq_true rfl)) ?_
            refine j_goto 18 dL_law_1543 rfl ?_
            exact J.wk (((((jWk.nil).eq).eq).eq).eq) (ihI41 _ _ _ _ (Nat.lt_of_lt_of_le h.2 (Nat.le_of_lt_succ hmuI41)) hW556 (hT40.trans hT544) r561 h.1)
          · have h := h2 q560
            clear h1 h2
            refine j_iconst dL_law_896 ?_
            exact j_zret dL_law_897 rfl (nr_bool (by decide)) ⟨_, rfl, hW556, (((((hT6.trans hT15).trans hT23).trans hT32).trans hT40).trans hT544), h, (by decide)⟩
        clear h1
        obtain ⟨h1, h⟩ := h
        by_cases q1126 : ((A38 b43 v35) % 64) = 20
        · refine j_tableIn (off := 865) 898 dL_law_33 (jR_mod (x := A38 b43 v35) (m := 64) (by decide)) (by rw [q1126]; decide) (by rw [q1126]; decide) (by rw [q1126]; rfl) rfl ?_
          have h := h1 q1126
          clear h1
          refine r_aload_n dL_law_898 rfl ?_
          refine r_aload_n dL_law_899 rfl ?_
          refine j_iload_n dL_law_900 rfl ?_
          refine j_iconst dL_law_901 ?_
          refine j_iadd dL_law_902 ?_
          obtain ⟨c562, h⟩ := h
          refine r_iald dL_law_903 hz44 t45 c562 ?_
          have t563 : jtg N36 b1 = 1 := (hT40.tg hW31 (hT32.tg hW24 (hT23.tg hW14 (hT15.tg hW7 t4))))
          obtain ⟨P564, hp565, h⟩ := h
          refine r_invV (ci := 1) (As := [vI (A38 b43 (v35 + 1))]) (rest := []) dL_law_904 lkL_102 rfl t563 rfl rfl (vX0_years (d := 12) (Nat.le_of_ble_eq_true rfl) hW39 t563 (hW39.ai t45 rfl) hp565) rfl rfl (Nat.le_of_ble_eq_true rfl) (Nat.le_trans (Nat.le_of_ble_eq_true rfl) hd) (cknI fun z566 N569 F567 A568 hW570 hT571 p572 r573 => ?_)
          have h := h z566 N569 F567 A568 p572
          refine r_aload_n dL_law_907 rfl ?_
          refine r_aload_n dL_law_908 rfl ?_
          refine j_iload_n dL_law_909 rfl ?_
          refine j_iconst dL_law_910 ?_
          refine j_iadd dL_law_911 ?_
          have t574 : jtg N569 b43 = 102 := (hT571.tg hW39 t45)
          obtain ⟨c575, h⟩ := h
          refine r_iald dL_law_912 hz44 t574 c575 ?_
          have t576 : jtg N569 b18 = 10 := (hT571.tg hW39 (hT40.tg hW31 (hT32.tg hW24 t21)))
          obtain ⟨P577, hp578, h⟩ := h
          refine r_invV (ci := 10) (As := [vI (A568 b43 (v35 + 1))]) (rest := [vI z566]) dL_law_913 lkL_105 rfl t576 rfl rfl (vX9_years (d := 7) (Nat.le_of_ble_eq_true rfl) hW570 t576 (hW570.ai t574 rfl) hp578) rfl rfl (Nat.le_of_ble_eq_true rfl) (Nat.le_trans (Nat.le_of_ble_eq_true rfl) hd) (ckmI fun z579 F580 A581 hW582 p584 r585 => ?_)
          have h := h z579 F580 A581 p584
          obtain ⟨h1, h2⟩ := h
          refine j_icmp_eq 1540 dL_law_916 rfl r573 r585 (fun q586 => ?_) (fun q586 => ?_)
          · have h := h1 q586
            clear h1 h2
            obtain ⟨r587, h⟩ := h
            refine j_iinc dL_law_1540 rfl (jokR rfl (Nat.le_of_ble_eq_true rfl)) ?_
            refine j_goto 18 dL_law_1543 rfl ?_
            exact J.wk (((((jWk.nil).eq).eq).eq).eq) (ihI41 _ _ _ _ (Nat.lt_of_lt_of_le h.2 (Nat.le_of_lt_succ hmuI41)) hW582 (hT40.trans hT571) r587 h.1)
          · have h := h2 q586
            clear h1 h2
            refine j_iconst dL_law_919 ?_
            exact j_zret dL_law_920 rfl (nr_bool (by decide)) ⟨_, rfl, hW582, (((((hT6.trans hT15).trans hT23).trans hT32).trans hT40).trans hT571), h, (by decide)⟩
        clear h1
        obtain ⟨h1, h⟩ := h
        by_cases q1127 : ((A38 b43 v35) % 64) = 21
        · refine j_tableIn (off := 888) 921 dL_law_33 (jR_mod (x := A38 b43 v35) (m := 64) (by decide)) (by rw [q1127]; decide) (by rw [q1127]; decide) (by rw [q1127]; rfl) rfl ?_
          have h := h1 q1127
          clear h1
          refine r_aload_n dL_law_921 rfl ?_
          have t588 : jtg N36 b1 = 1 := (hT40.tg hW31 (hT32.tg hW24 (hT23.tg hW14 (hT15.tg hW7 t4))))
          obtain ⟨P589, hp590, h⟩ := h
          refine r_invV (ci := 1) (As := []) (rest := []) dL_law_922 lkL_106 rfl t588 rfl rfl (vX0_undo (d := 10) (Nat.le_of_ble_eq_true rfl) hW39 t588  hp590) rfl rfl (Nat.le_of_ble_eq_true rfl) (Nat.le_trans (Nat.le_of_ble_eq_true rfl) hd) (cknB fun z591 N594 F592 A593 hW595 hT596 p597 r598 => ?_)
          have h := h z591 N594 F592 A593 p597
          refine r_aload_n dL_law_925 rfl ?_
          have t599 : jtg N594 b18 = 10 := (hT596.tg hW39 (hT40.tg hW31 (hT32.tg hW24 t21)))
          obtain ⟨P600, hp601, h⟩ := h
          refine r_invV (ci := 10) (As := []) (rest := [vI z591]) dL_law_926 lkL_110 rfl t599 rfl rfl (vX9_undo (d := 2) (Nat.le_of_ble_eq_true rfl) hW595 t599  hp601) rfl rfl (Nat.le_of_ble_eq_true rfl) (Nat.le_trans (Nat.le_of_ble_eq_true rfl) hd) (ckmB fun z602 F603 A604 hW605 p607 r608 => ?_)
          have h := h z602 F603 A604 p607
          obtain ⟨h1, h2⟩ := h
          refine j_icmp_eq 1540 dL_law_929 rfl (jR_b r598) (jR_b r608) (fun q609 => ?_) (fun q609 => ?_)
          · have h := h1 q609
            clear h1 h2
            obtain ⟨r610, h⟩ := h
            refine j_iinc dL_law_1540 rfl (jokR rfl (Nat.le_of_ble_eq_true rfl)) ?_
            refine j_goto 18 dL_law_1543 rfl ?_
            exact J.wk (((((jWk.nil).eq).eq).eq).eq) (ihI41 _ _ _ _ (Nat.lt_of_lt_of_le h.2 (Nat.le_of_lt_succ hmuI41)) hW605 (hT40.trans hT596) r610 h.1)
          · have h := h2 q609
            clear h1 h2
            refine j_iconst dL_law_932 ?_
            exact j_zret dL_law_933 rfl (nr_bool (by decide)) ⟨_, rfl, hW605, (((((hT6.trans hT15).trans hT23).trans hT32).trans hT40).trans hT596), h, (by decide)⟩
        clear h1
        obtain ⟨h1, h⟩ := h
        by_cases q1128 : ((A38 b43 v35) % 64) = 22
        · refine j_tableIn (off := 901) 934 dL_law_33 (jR_mod (x := A38 b43 v35) (m := 64) (by decide)) (by rw [q1128]; decide) (by rw [q1128]; decide) (by rw [q1128]; rfl) rfl ?_
          have h := h1 q1128
          clear h1
          refine r_aload_n dL_law_934 rfl ?_
          refine r_aload_n dL_law_935 rfl ?_
          refine j_iload_n dL_law_936 rfl ?_
          refine j_iconst dL_law_937 ?_
          refine j_iadd dL_law_938 ?_
          obtain ⟨c611, h⟩ := h
          refine r_iald dL_law_939 hz44 t45 c611 ?_
          have t612 : jtg N36 b1 = 1 := (hT40.tg hW31 (hT32.tg hW24 (hT23.tg hW14 (hT15.tg hW7 t4))))
          obtain ⟨P613, hp614, h⟩ := h
          refine r_invV (ci := 1) (As := [vI (A38 b43 (v35 + 1))]) (rest := []) dL_law_940 lkL_111 rfl t612 rfl rfl (vX0_seed (d := 4) (Nat.le_of_ble_eq_true rfl) hW39 t612 (hW39.ai t45 rfl) hp614) rfl rfl (Nat.le_of_ble_eq_true rfl) (Nat.le_trans (Nat.le_of_ble_eq_true rfl) hd) (ckmB fun z615 F616 A617 hW618 p620 r621 => ?_)
          have h := h z615 F616 A617 p620
          refine r_aload_n dL_law_943 rfl ?_
          refine r_aload_n dL_law_944 rfl ?_
          refine j_iload_n dL_law_945 rfl ?_
          refine j_iconst dL_law_946 ?_
          refine j_iadd dL_law_947 ?_
          obtain ⟨c622, h⟩ := h
          refine r_iald dL_law_948 hz44 t45 c622 ?_
          have t623 : jtg N36 b18 = 10 := (hT40.tg hW31 (hT32.tg hW24 t21))
          obtain ⟨P624, hp625, h⟩ := h
          refine r_invV (ci := 10) (As := [vI (A617 b43 (v35 + 1))]) (rest := [vI z615]) dL_law_949 lkL_114 rfl t623 rfl rfl (vX9_seed (d := 2) (Nat.le_of_ble_eq_true rfl) hW618 t623 (hW618.ai t45 rfl) hp625) rfl rfl (Nat.le_of_ble_eq_true rfl) (Nat.le_trans (Nat.le_of_ble_eq_true rfl) hd) (ckmB fun z626 F627 A628 hW629 p631 r632 => ?_)
          have h := h z626 F627 A628 p631
          obtain ⟨h1, h2⟩ := h
          refine j_icmp_eq 1540 dL_law_952 rfl (jR_b r621) (jR_b r632) (fun q633 => ?_) (fun q633 => ?_)
          · have h := h1 q633
            clear h1 h2
            obtain ⟨r634, h⟩ := h
            refine j_iinc dL_law_1540 rfl (jokR rfl (Nat.le_of_ble_eq_true rfl)) ?_
            refine j_goto 18 dL_law_1543 rfl ?_
            exact J.wk (((((jWk.nil).eq).eq).eq).eq) (ihI41 _ _ _ _ (Nat.lt_of_lt_of_le h.2 (Nat.le_of_lt_succ hmuI41)) hW629 hT40 r634 h.1)
          · have h := h2 q633
            clear h1 h2
            refine j_iconst dL_law_955 ?_
            exact j_zret dL_law_956 rfl (nr_bool (by decide)) ⟨_, rfl, hW629, ((((hT6.trans hT15).trans hT23).trans hT32).trans hT40), h, (by decide)⟩
        clear h1
        obtain ⟨h1, h⟩ := h
        by_cases q1129 : ((A38 b43 v35) % 64) = 23
        · refine j_tableIn (off := 924) 957 dL_law_33 (jR_mod (x := A38 b43 v35) (m := 64) (by decide)) (by rw [q1129]; decide) (by rw [q1129]; decide) (by rw [q1129]; rfl) rfl ?_
          have h := h1 q1129
          clear h1
          refine r_aload_n dL_law_957 rfl ?_
          refine r_aload_n dL_law_958 rfl ?_
          refine j_iload_n dL_law_959 rfl ?_
          refine j_iconst dL_law_960 ?_
          refine j_iadd dL_law_961 ?_
          obtain ⟨c635, h⟩ := h
          refine r_iald dL_law_962 hz44 t45 c635 ?_
          refine r_aload_n dL_law_963 rfl ?_
          refine j_iload_n dL_law_964 rfl ?_
          refine j_iconst dL_law_965 ?_
          refine j_iadd dL_law_966 ?_
          obtain ⟨c636, h⟩ := h
          refine r_iald dL_law_967 hz44 t45 c636 ?_
          have t637 : jtg N36 b1 = 1 := (hT40.tg hW31 (hT32.tg hW24 (hT23.tg hW14 (hT15.tg hW7 t4))))
          obtain ⟨P638, hp639, h⟩ := h
          refine r_invV (ci := 1) (As := [vI (A38 b43 (v35 + 1)), vI (A38 b43 (v35 + 2))]) (rest := []) dL_law_968 lkL_115 rfl t637 rfl rfl (vX0_book (d := 5) (Nat.le_of_ble_eq_true rfl) hW39 t637 (hW39.ai t45 rfl) (hW39.ai t45 rfl) hp639) rfl rfl (Nat.le_of_ble_eq_true rfl) (Nat.le_trans (Nat.le_of_ble_eq_true rfl) hd) (jkpI fun z640 p643 r644 => ?_)
          have h := h z640 p643
          refine r_aload_n dL_law_971 rfl ?_
          refine r_aload_n dL_law_972 rfl ?_
          refine j_iload_n dL_law_973 rfl ?_
          refine j_iconst dL_law_974 ?_
          refine j_iadd dL_law_975 ?_
          obtain ⟨c645, h⟩ := h
          refine r_iald dL_law_976 hz44 t45 c645 ?_
          refine r_aload_n dL_law_977 rfl ?_
          refine j_iload_n dL_law_978 rfl ?_
          refine j_iconst dL_law_979 ?_
          refine j_iadd dL_law_980 ?_
          obtain ⟨c646, h⟩ := h
          refine r_iald dL_law_981 hz44 t45 c646 ?_
          have t647 : jtg N36 b18 = 10 := (hT40.tg hW31 (hT32.tg hW24 t21))
          obtain ⟨P648, hp649, h⟩ := h
          refine r_invV (ci := 10) (As := [vI (A38 b43 (v35 + 1)), vI (A38 b43 (v35 + 2))]) (rest := [vI z640]) dL_law_982 lkL_118 rfl t647 rfl rfl (vX9_book (d := 2) (Nat.le_of_ble_eq_true rfl) hW39 t647 (hW39.ai t45 rfl) (hW39.ai t45 rfl) hp649) rfl rfl (Nat.le_of_ble_eq_true rfl) (Nat.le_trans (Nat.le_of_ble_eq_true rfl) hd) (jkpI fun z650 p653 r654 => ?_)
          have h := h z650 p653
          obtain ⟨h1, h2⟩ := h
          refine j_icmp_eq 1540 dL_law_985 rfl r644 r654 (fun q655 => ?_) (fun q655 => ?_)
          · have h := h1 q655
            clear h1 h2
            obtain ⟨r656, h⟩ := h
            refine j_iinc dL_law_1540 rfl (jokR rfl (Nat.le_of_ble_eq_true rfl)) ?_
            refine j_goto 18 dL_law_1543 rfl ?_
            exact J.wk (((((jWk.nil).eq).eq).eq).eq) (ihI41 _ _ _ _ (Nat.lt_of_lt_of_le h.2 (Nat.le_of_lt_succ hmuI41)) hW39 hT40 r656 h.1)
          · have h := h2 q655
            clear h1 h2
            refine j_iconst dL_law_988 ?_
            exact j_zret dL_law_989 rfl (nr_bool (by decide)) ⟨_, rfl, hW39, ((((hT6.trans hT15).trans hT23).trans hT32).trans hT40), h, (by decide)⟩
        clear h1
        obtain ⟨h1, h⟩ := h
        by_cases q1130 : ((A38 b43 v35) % 64) = 24
        · refine j_tableIn (off := 957) 990 dL_law_33 (jR_mod (x := A38 b43 v35) (m := 64) (by decide)) (by rw [q1130]; decide) (by rw [q1130]; decide) (by rw [q1130]; rfl) rfl ?_
          have h := h1 q1130
          clear h1
          refine r_aload_n dL_law_990 rfl ?_
          refine r_aload_n dL_law_991 rfl ?_
          refine j_iload_n dL_law_992 rfl ?_
          refine j_iconst dL_law_993 ?_
          refine j_iadd dL_law_994 ?_
          obtain ⟨c657, h⟩ := h
          refine r_iald dL_law_995 hz44 t45 c657 ?_
          have t658 : jtg N36 b1 = 1 := (hT40.tg hW31 (hT32.tg hW24 (hT23.tg hW14 (hT15.tg hW7 t4))))
          obtain ⟨P659, hp660, h⟩ := h
          refine r_invV (ci := 1) (As := [vI (A38 b43 (v35 + 1))]) (rest := []) dL_law_996 lkL_119 rfl t658 rfl rfl (vX0_odds (d := 7) (Nat.le_of_ble_eq_true rfl) hW39 t658 (hW39.ai t45 rfl) hp660) rfl rfl (Nat.le_of_ble_eq_true rfl) (Nat.le_trans (Nat.le_of_ble_eq_true rfl) hd) (ckmI fun z661 F662 A663 hW664 p666 r667 => ?_)
          have h := h z661 F662 A663 p666
          refine r_aload_n dL_law_999 rfl ?_
          refine r_aload_n dL_law_1000 rfl ?_
          refine j_iload_n dL_law_1001 rfl ?_
          refine j_iconst dL_law_1002 ?_
          refine j_iadd dL_law_1003 ?_
          obtain ⟨c668, h⟩ := h
          refine r_iald dL_law_1004 hz44 t45 c668 ?_
          have t669 : jtg N36 b18 = 10 := (hT40.tg hW31 (hT32.tg hW24 t21))
          obtain ⟨P670, hp671, h⟩ := h
          refine r_invV (ci := 10) (As := [vI (A663 b43 (v35 + 1))]) (rest := [vI z661]) dL_law_1005 lkL_122 rfl t669 rfl rfl (vX9_odds (d := 6) (Nat.le_of_ble_eq_true rfl) hW664 t669 (hW664.ai t45 rfl) hp671) rfl rfl (Nat.le_of_ble_eq_true rfl) (Nat.le_trans (Nat.le_of_ble_eq_true rfl) hd) (ckmI fun z672 F673 A674 hW675 p677 r678 => ?_)
          have h := h z672 F673 A674 p677
          obtain ⟨h1, h2⟩ := h
          refine j_icmp_eq 1540 dL_law_1008 rfl r667 r678 (fun q679 => ?_) (fun q679 => ?_)
          · have h := h1 q679
            clear h1 h2
            obtain ⟨r680, h⟩ := h
            refine j_iinc dL_law_1540 rfl (jokR rfl (Nat.le_of_ble_eq_true rfl)) ?_
            refine j_goto 18 dL_law_1543 rfl ?_
            exact J.wk (((((jWk.nil).eq).eq).eq).eq) (ihI41 _ _ _ _ (Nat.lt_of_lt_of_le h.2 (Nat.le_of_lt_succ hmuI41)) hW675 hT40 r680 h.1)
          · have h := h2 q679
            clear h1 h2
            refine j_iconst dL_law_1011 ?_
            exact j_zret dL_law_1012 rfl (nr_bool (by decide)) ⟨_, rfl, hW675, ((((hT6.trans hT15).trans hT23).trans hT32).trans hT40), h, (by decide)⟩
        clear h1
        obtain ⟨h1, h⟩ := h
        by_cases q1131 : ((A38 b43 v35) % 64) = 25
        · refine j_tableIn (off := 980) 1013 dL_law_33 (jR_mod (x := A38 b43 v35) (m := 64) (by decide)) (by rw [q1131]; decide) (by rw [q1131]; decide) (by rw [q1131]; rfl) rfl ?_
          have h := h1 q1131
          clear h1
          refine r_aload_n dL_law_1013 rfl ?_
          refine r_aload_n dL_law_1014 rfl ?_
          refine j_iload_n dL_law_1015 rfl ?_
          refine j_iconst dL_law_1016 ?_
          refine j_iadd dL_law_1017 ?_
          obtain ⟨c681, h⟩ := h
          refine r_iald dL_law_1018 hz44 t45 c681 ?_
          refine r_aload_n dL_law_1019 rfl ?_
          refine j_iload_n dL_law_1020 rfl ?_
          refine j_iconst dL_law_1021 ?_
          refine j_iadd dL_law_1022 ?_
          obtain ⟨c682, h⟩ := h
          refine r_iald dL_law_1023 hz44 t45 c682 ?_
          refine r_aload_n dL_law_1024 rfl ?_
          refine j_iload_n dL_law_1025 rfl ?_
          refine j_iconst dL_law_1026 ?_
          refine j_iadd dL_law_1027 ?_
          obtain ⟨c683, h⟩ := h
          refine r_iald dL_law_1028 hz44 t45 c683 ?_
          have jn686 : ∀ z685 : Int, z685 = (if (A38 b43 (v35 + 3)) = 0 then (0 : Int) else 1) → J G l d mL_law 1037 [vR a1, vR (b1 : Int), vR (b18 : Int), vI v35] [vI z685, vI (A38 b43 (v35 + 2)), vI (A38 b43 (v35 + 1)), vR (b1 : Int)] N36 F37 A38 (cnB G N Q) := by
            intro z685 ez685
            have h := h z685 ez685
            have t687 : jtg N36 b1 = 1 := (hT40.tg hW31 (hT32.tg hW24 (hT23.tg hW14 (hT15.tg hW7 t4))))
            obtain ⟨P688, hp689, h⟩ := h
            refine r_invV (ci := 1) (As := [vI (A38 b43 (v35 + 1)), vI (A38 b43 (v35 + 2)), vI z685]) (rest := []) dL_law_1037 lkL_123 rfl t687 rfl rfl (vX0_becomes_2 (d := 7) (Nat.le_of_ble_eq_true rfl) hW39 t687 (hW39.ai t45 rfl) (hW39.ai t45 rfl) (ez685 ▸ jB_ite (by decide) (by decide)) hp689) rfl rfl (Nat.le_of_ble_eq_true rfl) (Nat.le_trans (Nat.le_of_ble_eq_true rfl) hd) (ckmI fun z690 F691 A692 hW693 p695 r696 => ?_)
            have h := h z690 F691 A692 p695
            refine r_aload_n dL_law_1040 rfl ?_
            refine r_aload_n dL_law_1041 rfl ?_
            refine j_iload_n dL_law_1042 rfl ?_
            refine j_iconst dL_law_1043 ?_
            refine j_iadd dL_law_1044 ?_
            obtain ⟨c697, h⟩ := h
            refine r_iald dL_law_1045 hz44 t45 c697 ?_
            refine r_aload_n dL_law_1046 rfl ?_
            refine j_iload_n dL_law_1047 rfl ?_
            refine j_iconst dL_law_1048 ?_
            refine j_iadd dL_law_1049 ?_
            obtain ⟨c698, h⟩ := h
            refine r_iald dL_law_1050 hz44 t45 c698 ?_
            refine r_aload_n dL_law_1051 rfl ?_
            refine j_iload_n dL_law_1052 rfl ?_
            refine j_iconst dL_law_1053 ?_
            refine j_iadd dL_law_1054 ?_
            obtain ⟨c699, h⟩ := h
            refine r_iald dL_law_1055 hz44 t45 c699 ?_
            have jn702 : ∀ z701 : Int, z701 = (if (A692 b43 (v35 + 3)) = 0 then (0 : Int) else 1) → J G l d mL_law 1064 [vR a1, vR (b1 : Int), vR (b18 : Int), vI v35] [vI z701, vI (A692 b43 (v35 + 2)), vI (A692 b43 (v35 + 1)), vR (b18 : Int), vI z690] N36 F691 A692 (cnB G N Q) := by
              intro z701 ez701
              have h := h z701 ez701
              have t703 : jtg N36 b18 = 10 := (hT40.tg hW31 (hT32.tg hW24 t21))
              obtain ⟨P704, hp705, h⟩ := h
              refine r_invV (ci := 10) (As := [vI (A692 b43 (v35 + 1)), vI (A692 b43 (v35 + 2)), vI z701]) (rest := [vI z690]) dL_law_1064 lkL_126 rfl t703 rfl rfl (vX9_becomes (d := 4) (Nat.le_of_ble_eq_true rfl) hW693 t703 (hW693.ai t45 rfl) (hW693.ai t45 rfl) (ez701 ▸ jB_ite (by decide) (by decide)) hp705) rfl rfl (Nat.le_of_ble_eq_true rfl) (Nat.le_trans (Nat.le_of_ble_eq_true rfl) hd) (ckmI fun z706 F707 A708 hW709 p711 r712 => ?_)
              have h := h z706 F707 A708 p711
              obtain ⟨h1, h2⟩ := h
              refine j_icmp_eq 1540 dL_law_1067 rfl r696 r712 (fun q713 => ?_) (fun q713 => ?_)
              · have h := h1 q713
                clear h1 h2
                obtain ⟨r714, h⟩ := h
                refine j_iinc dL_law_1540 rfl (jokR rfl (Nat.le_of_ble_eq_true rfl)) ?_
                refine j_goto 18 dL_law_1543 rfl ?_
                exact J.wk (((((jWk.nil).eq).eq).eq).eq) (ihI41 _ _ _ _ (Nat.lt_of_lt_of_le h.2 (Nat.le_of_lt_succ hmuI41)) hW709 hT40 r714 h.1)
              · have h := h2 q713
                clear h1 h2
                refine j_iconst dL_law_1070 ?_
                exact j_zret dL_law_1071 rfl (nr_bool (by decide)) ⟨_, rfl, hW709, ((((hT6.trans hT15).trans hT23).trans hT32).trans hT40), h, (by decide)⟩
            clear h
            refine j_if_eq 1063 dL_law_1056 rfl (hW693.ai t45 rfl) (fun q700 => ?_) (fun q700 => ?_)
            · refine j_iconst dL_law_1063 ?_
              exact jn702 _ (if_pos q700).symm
            · refine j_iconst dL_law_1059 ?_
              refine j_goto 1064 dL_law_1060 rfl ?_
              exact jn702 _ (if_neg q700).symm
          clear h
          refine j_if_eq 1036 dL_law_1029 rfl (hW39.ai t45 rfl) (fun q684 => ?_) (fun q684 => ?_)
          · refine j_iconst dL_law_1036 ?_
            exact jn686 _ (if_pos q684).symm
          · refine j_iconst dL_law_1032 ?_
            refine j_goto 1037 dL_law_1033 rfl ?_
            exact jn686 _ (if_neg q684).symm
        clear h1
        obtain ⟨h1, h⟩ := h
        by_cases q1132 : ((A38 b43 v35) % 64) = 26
        · refine j_tableIn (off := 1039) 1072 dL_law_33 (jR_mod (x := A38 b43 v35) (m := 64) (by decide)) (by rw [q1132]; decide) (by rw [q1132]; decide) (by rw [q1132]; rfl) rfl ?_
          have h := h1 q1132
          clear h1
          refine r_aload_n dL_law_1072 rfl ?_
          refine r_aload_n dL_law_1073 rfl ?_
          refine j_iload_n dL_law_1074 rfl ?_
          refine j_iconst dL_law_1075 ?_
          refine j_iadd dL_law_1076 ?_
          obtain ⟨c715, h⟩ := h
          refine r_iald dL_law_1077 hz44 t45 c715 ?_
          refine r_aload_n dL_law_1078 rfl ?_
          refine j_iload_n dL_law_1079 rfl ?_
          refine j_iconst dL_law_1080 ?_
          refine j_iadd dL_law_1081 ?_
          obtain ⟨c716, h⟩ := h
          refine r_iald dL_law_1082 hz44 t45 c716 ?_
          refine r_aload_n dL_law_1083 rfl ?_
          refine j_iload_n dL_law_1084 rfl ?_
          refine j_iconst dL_law_1085 ?_
          refine j_iadd dL_law_1086 ?_
          obtain ⟨c717, h⟩ := h
          refine r_iald dL_law_1087 hz44 t45 c717 ?_
          have t718 : jtg N36 b1 = 1 := (hT40.tg hW31 (hT32.tg hW24 (hT23.tg hW14 (hT15.tg hW7 t4))))
          obtain ⟨P719, hp720, h⟩ := h
          refine r_invV (ci := 1) (As := [vI (A38 b43 (v35 + 1)), vI (A38 b43 (v35 + 2)), vI (A38 b43 (v35 + 3))]) (rest := []) dL_law_1088 lkL_127 rfl t718 rfl rfl (vX0_round (d := 8) (Nat.le_of_ble_eq_true rfl) hW39 t718 (hW39.ai t45 rfl) (hW39.ai t45 rfl) (hW39.ai t45 rfl) hp720) rfl rfl (Nat.le_of_ble_eq_true rfl) (Nat.le_trans (Nat.le_of_ble_eq_true rfl) hd) (ckmI fun z721 F722 A723 hW724 p726 r727 => ?_)
          have h := h z721 F722 A723 p726
          refine r_aload_n dL_law_1091 rfl ?_
          refine r_aload_n dL_law_1092 rfl ?_
          refine j_iload_n dL_law_1093 rfl ?_
          refine j_iconst dL_law_1094 ?_
          refine j_iadd dL_law_1095 ?_
          obtain ⟨c728, h⟩ := h
          refine r_iald dL_law_1096 hz44 t45 c728 ?_
          refine r_aload_n dL_law_1097 rfl ?_
          refine j_iload_n dL_law_1098 rfl ?_
          refine j_iconst dL_law_1099 ?_
          refine j_iadd dL_law_1100 ?_
          obtain ⟨c729, h⟩ := h
          refine r_iald dL_law_1101 hz44 t45 c729 ?_
          refine r_aload_n dL_law_1102 rfl ?_
          refine j_iload_n dL_law_1103 rfl ?_
          refine j_iconst dL_law_1104 ?_
          refine j_iadd dL_law_1105 ?_
          obtain ⟨c730, h⟩ := h
          refine r_iald dL_law_1106 hz44 t45 c730 ?_
          have t731 : jtg N36 b18 = 10 := (hT40.tg hW31 (hT32.tg hW24 t21))
          obtain ⟨P732, hp733, h⟩ := h
          refine r_invV (ci := 10) (As := [vI (A723 b43 (v35 + 1)), vI (A723 b43 (v35 + 2)), vI (A723 b43 (v35 + 3))]) (rest := [vI z721]) dL_law_1107 lkL_130 rfl t731 rfl rfl (vX9_round (d := 4) (Nat.le_of_ble_eq_true rfl) hW724 t731 (hW724.ai t45 rfl) (hW724.ai t45 rfl) (hW724.ai t45 rfl) hp733) rfl rfl (Nat.le_of_ble_eq_true rfl) (Nat.le_trans (Nat.le_of_ble_eq_true rfl) hd) (ckmI fun z734 F735 A736 hW737 p739 r740 => ?_)
          have h := h z734 F735 A736 p739
          obtain ⟨h1, h2⟩ := h
          refine j_icmp_eq 1540 dL_law_1110 rfl r727 r740 (fun q741 => ?_) (fun q741 => ?_)
          · have h := h1 q741
            clear h1 h2
            obtain ⟨r742, h⟩ := h
            refine j_iinc dL_law_1540 rfl (jokR rfl (Nat.le_of_ble_eq_true rfl)) ?_
            refine j_goto 18 dL_law_1543 rfl ?_
            exact J.wk (((((jWk.nil).eq).eq).eq).eq) (ihI41 _ _ _ _ (Nat.lt_of_lt_of_le h.2 (Nat.le_of_lt_succ hmuI41)) hW737 hT40 r742 h.1)
          · have h := h2 q741
            clear h1 h2
            refine j_iconst dL_law_1113 ?_
            exact j_zret dL_law_1114 rfl (nr_bool (by decide)) ⟨_, rfl, hW737, ((((hT6.trans hT15).trans hT23).trans hT32).trans hT40), h, (by decide)⟩
        clear h1
        obtain ⟨h1, h⟩ := h
        by_cases q1133 : ((A38 b43 v35) % 64) = 27
        · refine j_tableIn (off := 1082) 1115 dL_law_33 (jR_mod (x := A38 b43 v35) (m := 64) (by decide)) (by rw [q1133]; decide) (by rw [q1133]; decide) (by rw [q1133]; rfl) rfl ?_
          have h := h1 q1133
          clear h1
          refine r_aload_n dL_law_1115 rfl ?_
          refine r_aload_n dL_law_1116 rfl ?_
          refine j_iload_n dL_law_1117 rfl ?_
          refine j_iconst dL_law_1118 ?_
          refine j_iadd dL_law_1119 ?_
          obtain ⟨c743, h⟩ := h
          refine r_iald dL_law_1120 hz44 t45 c743 ?_
          refine r_aload_n dL_law_1121 rfl ?_
          refine j_iload_n dL_law_1122 rfl ?_
          refine j_iconst dL_law_1123 ?_
          refine j_iadd dL_law_1124 ?_
          obtain ⟨c744, h⟩ := h
          refine r_iald dL_law_1125 hz44 t45 c744 ?_
          have t745 : jtg N36 b1 = 1 := (hT40.tg hW31 (hT32.tg hW24 (hT23.tg hW14 (hT15.tg hW7 t4))))
          obtain ⟨P746, hp747, h⟩ := h
          refine r_invV (ci := 1) (As := [vI (A38 b43 (v35 + 1)), vI (A38 b43 (v35 + 2))]) (rest := []) dL_law_1126 lkL_131 rfl t745 rfl rfl (vX0_best (d := 68) (Nat.le_of_ble_eq_true rfl) hW39 t745 (hW39.ai t45 rfl) (hW39.ai t45 rfl) hp747) rfl rfl (Nat.le_of_ble_eq_true rfl) (Nat.le_trans (Nat.le_of_ble_eq_true rfl) hd) (ckmI fun z748 F749 A750 hW751 p753 r754 => ?_)
          have h := h z748 F749 A750 p753
          refine r_aload_n dL_law_1129 rfl ?_
          refine r_aload_n dL_law_1130 rfl ?_
          refine j_iload_n dL_law_1131 rfl ?_
          refine j_iconst dL_law_1132 ?_
          refine j_iadd dL_law_1133 ?_
          obtain ⟨c755, h⟩ := h
          refine r_iald dL_law_1134 hz44 t45 c755 ?_
          refine r_aload_n dL_law_1135 rfl ?_
          refine j_iload_n dL_law_1136 rfl ?_
          refine j_iconst dL_law_1137 ?_
          refine j_iadd dL_law_1138 ?_
          obtain ⟨c756, h⟩ := h
          refine r_iald dL_law_1139 hz44 t45 c756 ?_
          have t757 : jtg N36 b18 = 10 := (hT40.tg hW31 (hT32.tg hW24 t21))
          obtain ⟨P758, hp759, h⟩ := h
          refine r_invV (ci := 10) (As := [vI (A750 b43 (v35 + 1)), vI (A750 b43 (v35 + 2))]) (rest := [vI z748]) dL_law_1140 lkL_134 rfl t757 rfl rfl (vX9_best (d := 5) (Nat.le_of_ble_eq_true rfl) hW751 t757 (hW751.ai t45 rfl) (hW751.ai t45 rfl) hp759) rfl rfl (Nat.le_of_ble_eq_true rfl) (Nat.le_trans (Nat.le_of_ble_eq_true rfl) hd) (ckmI fun z760 F761 A762 hW763 p765 r766 => ?_)
          have h := h z760 F761 A762 p765
          obtain ⟨h1, h2⟩ := h
          refine j_icmp_eq 1540 dL_law_1143 rfl r754 r766 (fun q767 => ?_) (fun q767 => ?_)
          · have h := h1 q767
            clear h1 h2
            obtain ⟨r768, h⟩ := h
            refine j_iinc dL_law_1540 rfl (jokR rfl (Nat.le_of_ble_eq_true rfl)) ?_
            refine j_goto 18 dL_law_1543 rfl ?_
            exact J.wk (((((jWk.nil).eq).eq).eq).eq) (ihI41 _ _ _ _ (Nat.lt_of_lt_of_le h.2 (Nat.le_of_lt_succ hmuI41)) hW763 hT40 r768 h.1)
          · have h := h2 q767
            clear h1 h2
            refine j_iconst dL_law_1146 ?_
            exact j_zret dL_law_1147 rfl (nr_bool (by decide)) ⟨_, rfl, hW763, ((((hT6.trans hT15).trans hT23).trans hT32).trans hT40), h, (by decide)⟩
        clear h1
        obtain ⟨h1, h⟩ := h
        by_cases q1134 : ((A38 b43 v35) % 64) = 28
        · refine j_tableIn (off := 1115) 1148 dL_law_33 (jR_mod (x := A38 b43 v35) (m := 64) (by decide)) (by rw [q1134]; decide) (by rw [q1134]; decide) (by rw [q1134]; rfl) rfl ?_
          have h := h1 q1134
          clear h1
          refine r_aload_n dL_law_1148 rfl ?_
          refine r_aload_n dL_law_1149 rfl ?_
          refine j_iload_n dL_law_1150 rfl ?_
          refine j_iconst dL_law_1151 ?_
          refine j_iadd dL_law_1152 ?_
          obtain ⟨c769, h⟩ := h
          refine r_iald dL_law_1153 hz44 t45 c769 ?_
          refine r_aload_n dL_law_1154 rfl ?_
          refine j_iload_n dL_law_1155 rfl ?_
          refine j_iconst dL_law_1156 ?_
          refine j_iadd dL_law_1157 ?_
          obtain ⟨c770, h⟩ := h
          refine r_iald dL_law_1158 hz44 t45 c770 ?_
          have t771 : jtg N36 b1 = 1 := (hT40.tg hW31 (hT32.tg hW24 (hT23.tg hW14 (hT15.tg hW7 t4))))
          obtain ⟨P772, hp773, h⟩ := h
          refine r_invV (ci := 1) (As := [vI (A38 b43 (v35 + 1)), vI (A38 b43 (v35 + 2))]) (rest := []) dL_law_1159 lkL_135 rfl t771 rfl rfl (vX0_mended (d := 9) (Nat.le_of_ble_eq_true rfl) hW39 t771 (hW39.ai t45 rfl) (hW39.ai t45 rfl) hp773) rfl rfl (Nat.le_of_ble_eq_true rfl) (Nat.le_trans (Nat.le_of_ble_eq_true rfl) hd) (ckmI fun z774 F775 A776 hW777 p779 r780 => ?_)
          have h := h z774 F775 A776 p779
          refine r_aload_n dL_law_1162 rfl ?_
          refine r_aload_n dL_law_1163 rfl ?_
          refine j_iload_n dL_law_1164 rfl ?_
          refine j_iconst dL_law_1165 ?_
          refine j_iadd dL_law_1166 ?_
          obtain ⟨c781, h⟩ := h
          refine r_iald dL_law_1167 hz44 t45 c781 ?_
          refine r_aload_n dL_law_1168 rfl ?_
          refine j_iload_n dL_law_1169 rfl ?_
          refine j_iconst dL_law_1170 ?_
          refine j_iadd dL_law_1171 ?_
          obtain ⟨c782, h⟩ := h
          refine r_iald dL_law_1172 hz44 t45 c782 ?_
          have t783 : jtg N36 b18 = 10 := (hT40.tg hW31 (hT32.tg hW24 t21))
          obtain ⟨P784, hp785, h⟩ := h
          refine r_invV (ci := 10) (As := [vI (A776 b43 (v35 + 1)), vI (A776 b43 (v35 + 2))]) (rest := [vI z774]) dL_law_1173 lkL_138 rfl t783 rfl rfl (vX9_mended (d := 8) (Nat.le_of_ble_eq_true rfl) hW777 t783 (hW777.ai t45 rfl) (hW777.ai t45 rfl) hp785) rfl rfl (Nat.le_of_ble_eq_true rfl) (Nat.le_trans (Nat.le_of_ble_eq_true rfl) hd) (ckmI fun z786 F787 A788 hW789 p791 r792 => ?_)
          have h := h z786 F787 A788 p791
          obtain ⟨h1, h2⟩ := h
          refine j_icmp_eq 1540 dL_law_1176 rfl r780 r792 (fun q793 => ?_) (fun q793 => ?_)
          · have h := h1 q793
            clear h1 h2
            obtain ⟨r794, h⟩ := h
            refine j_iinc dL_law_1540 rfl (jokR rfl (Nat.le_of_ble_eq_true rfl)) ?_
            refine j_goto 18 dL_law_1543 rfl ?_
            exact J.wk (((((jWk.nil).eq).eq).eq).eq) (ihI41 _ _ _ _ (Nat.lt_of_lt_of_le h.2 (Nat.le_of_lt_succ hmuI41)) hW789 hT40 r794 h.1)
          · have h := h2 q793
            clear h1 h2
            refine j_iconst dL_law_1179 ?_
            exact j_zret dL_law_1180 rfl (nr_bool (by decide)) ⟨_, rfl, hW789, ((((hT6.trans hT15).trans hT23).trans hT32).trans hT40), h, (by decide)⟩
        clear h1
        obtain ⟨h1, h⟩ := h
        by_cases q1135 : ((A38 b43 v35) % 64) = 29
        · refine j_tableIn (off := 1148) 1181 dL_law_33 (jR_mod (x := A38 b43 v35) (m := 64) (by decide)) (by rw [q1135]; decide) (by rw [q1135]; decide) (by rw [q1135]; rfl) rfl ?_
          have h := h1 q1135
          clear h1
          refine r_aload_n dL_law_1181 rfl ?_
          refine r_aload_n dL_law_1182 rfl ?_
          refine j_iload_n dL_law_1183 rfl ?_
          refine j_iconst dL_law_1184 ?_
          refine j_iadd dL_law_1185 ?_
          obtain ⟨c795, h⟩ := h
          refine r_iald dL_law_1186 hz44 t45 c795 ?_
          refine r_aload_n dL_law_1187 rfl ?_
          refine j_iload_n dL_law_1188 rfl ?_
          refine j_iconst dL_law_1189 ?_
          refine j_iadd dL_law_1190 ?_
          obtain ⟨c796, h⟩ := h
          refine r_iald dL_law_1191 hz44 t45 c796 ?_
          have t797 : jtg N36 b1 = 1 := (hT40.tg hW31 (hT32.tg hW24 (hT23.tg hW14 (hT15.tg hW7 t4))))
          obtain ⟨P798, hp799, h⟩ := h
          refine r_invV (ci := 1) (As := [vI (A38 b43 (v35 + 1)), vI (A38 b43 (v35 + 2))]) (rest := []) dL_law_1192 lkL_139 rfl t797 rfl rfl (vX0_forty (d := 70) (Nat.le_of_ble_eq_true rfl) hW39 t797 (hW39.ai t45 rfl) (hW39.ai t45 rfl) hp799) rfl rfl (Nat.le_of_ble_eq_true rfl) (Nat.le_trans (Nat.le_of_ble_eq_true rfl) hd) (ckmI fun z800 F801 A802 hW803 p805 r806 => ?_)
          have h := h z800 F801 A802 p805
          refine r_aload_n dL_law_1195 rfl ?_
          refine r_aload_n dL_law_1196 rfl ?_
          refine j_iload_n dL_law_1197 rfl ?_
          refine j_iconst dL_law_1198 ?_
          refine j_iadd dL_law_1199 ?_
          obtain ⟨c807, h⟩ := h
          refine r_iald dL_law_1200 hz44 t45 c807 ?_
          refine r_aload_n dL_law_1201 rfl ?_
          refine j_iload_n dL_law_1202 rfl ?_
          refine j_iconst dL_law_1203 ?_
          refine j_iadd dL_law_1204 ?_
          obtain ⟨c808, h⟩ := h
          refine r_iald dL_law_1205 hz44 t45 c808 ?_
          have t809 : jtg N36 b18 = 10 := (hT40.tg hW31 (hT32.tg hW24 t21))
          obtain ⟨P810, hp811, h⟩ := h
          refine r_invV (ci := 10) (As := [vI (A802 b43 (v35 + 1)), vI (A802 b43 (v35 + 2))]) (rest := [vI z800]) dL_law_1206 lkL_142 rfl t809 rfl rfl (vX9_forty (d := 6) (Nat.le_of_ble_eq_true rfl) hW803 t809 (hW803.ai t45 rfl) (hW803.ai t45 rfl) hp811) rfl rfl (Nat.le_of_ble_eq_true rfl) (Nat.le_trans (Nat.le_of_ble_eq_true rfl) hd) (ckmI fun z812 F813 A814 hW815 p817 r818 => ?_)
          have h := h z812 F813 A814 p817
          obtain ⟨h1, h2⟩ := h
          refine j_icmp_eq 1540 dL_law_1209 rfl r806 r818 (fun q819 => ?_) (fun q819 => ?_)
          · have h := h1 q819
            clear h1 h2
            obtain ⟨r820, h⟩ := h
            refine j_iinc dL_law_1540 rfl (jokR rfl (Nat.le_of_ble_eq_true rfl)) ?_
            refine j_goto 18 dL_law_1543 rfl ?_
            exact J.wk (((((jWk.nil).eq).eq).eq).eq) (ihI41 _ _ _ _ (Nat.lt_of_lt_of_le h.2 (Nat.le_of_lt_succ hmuI41)) hW815 hT40 r820 h.1)
          · have h := h2 q819
            clear h1 h2
            refine j_iconst dL_law_1212 ?_
            exact j_zret dL_law_1213 rfl (nr_bool (by decide)) ⟨_, rfl, hW815, ((((hT6.trans hT15).trans hT23).trans hT32).trans hT40), h, (by decide)⟩
        clear h1
        obtain ⟨h1, h⟩ := h
        by_cases q1136 : ((A38 b43 v35) % 64) = 30
        · refine j_tableIn (off := 1181) 1214 dL_law_33 (jR_mod (x := A38 b43 v35) (m := 64) (by decide)) (by rw [q1136]; decide) (by rw [q1136]; decide) (by rw [q1136]; rfl) rfl ?_
          have h := h1 q1136
          clear h1
          refine r_aload_n dL_law_1214 rfl ?_
          refine r_aload_n dL_law_1215 rfl ?_
          refine j_iload_n dL_law_1216 rfl ?_
          refine j_iconst dL_law_1217 ?_
          refine j_iadd dL_law_1218 ?_
          obtain ⟨c821, h⟩ := h
          refine r_iald dL_law_1219 hz44 t45 c821 ?_
          refine r_aload_n dL_law_1220 rfl ?_
          refine j_iload_n dL_law_1221 rfl ?_
          refine j_iconst dL_law_1222 ?_
          refine j_iadd dL_law_1223 ?_
          obtain ⟨c822, h⟩ := h
          refine r_iald dL_law_1224 hz44 t45 c822 ?_
          have t823 : jtg N36 b1 = 1 := (hT40.tg hW31 (hT32.tg hW24 (hT23.tg hW14 (hT15.tg hW7 t4))))
          obtain ⟨P824, hp825, h⟩ := h
          refine r_invV (ci := 1) (As := [vI (A38 b43 (v35 + 1)), vI (A38 b43 (v35 + 2))]) (rest := []) dL_law_1225 lkL_143 rfl t823 rfl rfl (vX0_sorted (d := 10) (Nat.le_of_ble_eq_true rfl) hW39 t823 (hW39.ai t45 rfl) (hW39.ai t45 rfl) hp825) rfl rfl (Nat.le_of_ble_eq_true rfl) (Nat.le_trans (Nat.le_of_ble_eq_true rfl) hd) (ckmI fun z826 F827 A828 hW829 p831 r832 => ?_)
          have h := h z826 F827 A828 p831
          refine r_aload_n dL_law_1228 rfl ?_
          refine r_aload_n dL_law_1229 rfl ?_
          refine j_iload_n dL_law_1230 rfl ?_
          refine j_iconst dL_law_1231 ?_
          refine j_iadd dL_law_1232 ?_
          obtain ⟨c833, h⟩ := h
          refine r_iald dL_law_1233 hz44 t45 c833 ?_
          refine r_aload_n dL_law_1234 rfl ?_
          refine j_iload_n dL_law_1235 rfl ?_
          refine j_iconst dL_law_1236 ?_
          refine j_iadd dL_law_1237 ?_
          obtain ⟨c834, h⟩ := h
          refine r_iald dL_law_1238 hz44 t45 c834 ?_
          have t835 : jtg N36 b18 = 10 := (hT40.tg hW31 (hT32.tg hW24 t21))
          obtain ⟨P836, hp837, h⟩ := h
          refine r_invV (ci := 10) (As := [vI (A828 b43 (v35 + 1)), vI (A828 b43 (v35 + 2))]) (rest := [vI z826]) dL_law_1239 lkL_146 rfl t835 rfl rfl (vX9_sorted (d := 8) (Nat.le_of_ble_eq_true rfl) hW829 t835 (hW829.ai t45 rfl) (hW829.ai t45 rfl) hp837) rfl rfl (Nat.le_of_ble_eq_true rfl) (Nat.le_trans (Nat.le_of_ble_eq_true rfl) hd) (ckmI fun z838 F839 A840 hW841 p843 r844 => ?_)
          have h := h z838 F839 A840 p843
          obtain ⟨h1, h2⟩ := h
          refine j_icmp_eq 1540 dL_law_1242 rfl r832 r844 (fun q845 => ?_) (fun q845 => ?_)
          · have h := h1 q845
            clear h1 h2
            obtain ⟨r846, h⟩ := h
            refine j_iinc dL_law_1540 rfl (jokR rfl (Nat.le_of_ble_eq_true rfl)) ?_
            refine j_goto 18 dL_law_1543 rfl ?_
            exact J.wk (((((jWk.nil).eq).eq).eq).eq) (ihI41 _ _ _ _ (Nat.lt_of_lt_of_le h.2 (Nat.le_of_lt_succ hmuI41)) hW841 hT40 r846 h.1)
          · have h := h2 q845
            clear h1 h2
            refine j_iconst dL_law_1245 ?_
            exact j_zret dL_law_1246 rfl (nr_bool (by decide)) ⟨_, rfl, hW841, ((((hT6.trans hT15).trans hT23).trans hT32).trans hT40), h, (by decide)⟩
        clear h1
        obtain ⟨h1, h⟩ := h
        by_cases q1137 : ((A38 b43 v35) % 64) = 31
        · refine j_tableIn (off := 1214) 1247 dL_law_33 (jR_mod (x := A38 b43 v35) (m := 64) (by decide)) (by rw [q1137]; decide) (by rw [q1137]; decide) (by rw [q1137]; rfl) rfl ?_
          have h := h1 q1137
          clear h1
          refine r_aload_n dL_law_1247 rfl ?_
          refine r_aload_n dL_law_1248 rfl ?_
          refine j_iload_n dL_law_1249 rfl ?_
          refine j_iconst dL_law_1250 ?_
          refine j_iadd dL_law_1251 ?_
          obtain ⟨c847, h⟩ := h
          refine r_iald dL_law_1252 hz44 t45 c847 ?_
          have t848 : jtg N36 b1 = 1 := (hT40.tg hW31 (hT32.tg hW24 (hT23.tg hW14 (hT15.tg hW7 t4))))
          obtain ⟨P849, hp850, h⟩ := h
          refine r_invV (ci := 1) (As := [vI (A38 b43 (v35 + 1))]) (rest := []) dL_law_1253 lkL_147 rfl t848 rfl rfl (vX0_apart (d := 50) (Nat.le_of_ble_eq_true rfl) hW39 t848 (hW39.ai t45 rfl) hp850) rfl rfl (Nat.le_of_ble_eq_true rfl) (Nat.le_trans (Nat.le_of_ble_eq_true rfl) hd) (jkpI fun z851 p854 r855 => ?_)
          have h := h z851 p854
          refine r_aload_n dL_law_1256 rfl ?_
          refine r_aload_n dL_law_1257 rfl ?_
          refine j_iload_n dL_law_1258 rfl ?_
          refine j_iconst dL_law_1259 ?_
          refine j_iadd dL_law_1260 ?_
          obtain ⟨c856, h⟩ := h
          refine r_iald dL_law_1261 hz44 t45 c856 ?_
          have t857 : jtg N36 b18 = 10 := (hT40.tg hW31 (hT32.tg hW24 t21))
          obtain ⟨P858, hp859, h⟩ := h
          refine r_invV (ci := 10) (As := [vI (A38 b43 (v35 + 1))]) (rest := [vI z851]) dL_law_1262 lkL_150 rfl t857 rfl rfl (vX9_apart (d := 5) (Nat.le_of_ble_eq_true rfl) hW39 t857 (hW39.ai t45 rfl) hp859) rfl rfl (Nat.le_of_ble_eq_true rfl) (Nat.le_trans (Nat.le_of_ble_eq_true rfl) hd) (jkpI fun z860 p863 r864 => ?_)
          have h := h z860 p863
          obtain ⟨h1, h2⟩ := h
          refine j_icmp_eq 1540 dL_law_1265 rfl r855 r864 (fun q865 => ?_) (fun q865 => ?_)
          · have h := h1 q865
            clear h1 h2
            obtain ⟨r866, h⟩ := h
            refine j_iinc dL_law_1540 rfl (jokR rfl (Nat.le_of_ble_eq_true rfl)) ?_
            refine j_goto 18 dL_law_1543 rfl ?_
            exact J.wk (((((jWk.nil).eq).eq).eq).eq) (ihI41 _ _ _ _ (Nat.lt_of_lt_of_le h.2 (Nat.le_of_lt_succ hmuI41)) hW39 hT40 r866 h.1)
          · have h := h2 q865
            clear h1 h2
            refine j_iconst dL_law_1268 ?_
            exact j_zret dL_law_1269 rfl (nr_bool (by decide)) ⟨_, rfl, hW39, ((((hT6.trans hT15).trans hT23).trans hT32).trans hT40), h, (by decide)⟩
        clear h1
        obtain ⟨h1, h⟩ := h
        by_cases q1138 : ((A38 b43 v35) % 64) = 32
        · refine j_tableIn (off := 1237) 1270 dL_law_33 (jR_mod (x := A38 b43 v35) (m := 64) (by decide)) (by rw [q1138]; decide) (by rw [q1138]; decide) (by rw [q1138]; rfl) rfl ?_
          have h := h1 q1138
          clear h1
          refine r_aload_n dL_law_1270 rfl ?_
          refine r_aload_n dL_law_1271 rfl ?_
          refine j_iload_n dL_law_1272 rfl ?_
          refine j_iconst dL_law_1273 ?_
          refine j_iadd dL_law_1274 ?_
          obtain ⟨c867, h⟩ := h
          refine r_iald dL_law_1275 hz44 t45 c867 ?_
          have t868 : jtg N36 b1 = 1 := (hT40.tg hW31 (hT32.tg hW24 (hT23.tg hW14 (hT15.tg hW7 t4))))
          obtain ⟨P869, hp870, h⟩ := h
          refine r_invV (ci := 1) (As := [vI (A38 b43 (v35 + 1))]) (rest := []) dL_law_1276 lkL_151 rfl t868 rfl rfl (vX0_against (d := 50) (Nat.le_of_ble_eq_true rfl) hW39 t868 (hW39.ai t45 rfl) hp870) rfl rfl (Nat.le_of_ble_eq_true rfl) (Nat.le_trans (Nat.le_of_ble_eq_true rfl) hd) (jkpI fun z871 p874 r875 => ?_)
          have h := h z871 p874
          refine r_aload_n dL_law_1279 rfl ?_
          refine r_aload_n dL_law_1280 rfl ?_
          refine j_iload_n dL_law_1281 rfl ?_
          refine j_iconst dL_law_1282 ?_
          refine j_iadd dL_law_1283 ?_
          obtain ⟨c876, h⟩ := h
          refine r_iald dL_law_1284 hz44 t45 c876 ?_
          have t877 : jtg N36 b18 = 10 := (hT40.tg hW31 (hT32.tg hW24 t21))
          obtain ⟨P878, hp879, h⟩ := h
          refine r_invV (ci := 10) (As := [vI (A38 b43 (v35 + 1))]) (rest := [vI z871]) dL_law_1285 lkL_154 rfl t877 rfl rfl (vX9_against (d := 5) (Nat.le_of_ble_eq_true rfl) hW39 t877 (hW39.ai t45 rfl) hp879) rfl rfl (Nat.le_of_ble_eq_true rfl) (Nat.le_trans (Nat.le_of_ble_eq_true rfl) hd) (jkpI fun z880 p883 r884 => ?_)
          have h := h z880 p883
          obtain ⟨h1, h2⟩ := h
          refine j_icmp_eq 1540 dL_law_1288 rfl r875 r884 (fun q885 => ?_) (fun q885 => ?_)
          · have h := h1 q885
            clear h1 h2
            obtain ⟨r886, h⟩ := h
            refine j_iinc dL_law_1540 rfl (jokR rfl (Nat.le_of_ble_eq_true rfl)) ?_
            refine j_goto 18 dL_law_1543 rfl ?_
            exact J.wk (((((jWk.nil).eq).eq).eq).eq) (ihI41 _ _ _ _ (Nat.lt_of_lt_of_le h.2 (Nat.le_of_lt_succ hmuI41)) hW39 hT40 r886 h.1)
          · have h := h2 q885
            clear h1 h2
            refine j_iconst dL_law_1291 ?_
            exact j_zret dL_law_1292 rfl (nr_bool (by decide)) ⟨_, rfl, hW39, ((((hT6.trans hT15).trans hT23).trans hT32).trans hT40), h, (by decide)⟩
        clear h1
        obtain ⟨h1, h⟩ := h
        by_cases q1139 : ((A38 b43 v35) % 64) = 33
        · refine j_tableIn (off := 1260) 1293 dL_law_33 (jR_mod (x := A38 b43 v35) (m := 64) (by decide)) (by rw [q1139]; decide) (by rw [q1139]; decide) (by rw [q1139]; rfl) rfl ?_
          have h := h1 q1139
          clear h1
          refine r_aload_n dL_law_1293 rfl ?_
          refine r_aload_n dL_law_1294 rfl ?_
          refine j_iload_n dL_law_1295 rfl ?_
          refine j_iconst dL_law_1296 ?_
          refine j_iadd dL_law_1297 ?_
          obtain ⟨c887, h⟩ := h
          refine r_iald dL_law_1298 hz44 t45 c887 ?_
          refine r_aload_n dL_law_1299 rfl ?_
          refine j_iload_n dL_law_1300 rfl ?_
          refine j_iconst dL_law_1301 ?_
          refine j_iadd dL_law_1302 ?_
          obtain ⟨c888, h⟩ := h
          refine r_iald dL_law_1303 hz44 t45 c888 ?_
          refine r_aload_n dL_law_1304 rfl ?_
          refine j_iload_n dL_law_1305 rfl ?_
          refine j_iconst dL_law_1306 ?_
          refine j_iadd dL_law_1307 ?_
          obtain ⟨c889, h⟩ := h
          refine r_iald dL_law_1308 hz44 t45 c889 ?_
          refine r_aload_n dL_law_1309 rfl ?_
          refine j_iload_n dL_law_1310 rfl ?_
          refine j_iconst dL_law_1311 ?_
          refine j_iadd dL_law_1312 ?_
          obtain ⟨c890, h⟩ := h
          refine r_iald dL_law_1313 hz44 t45 c890 ?_
          have t891 : jtg N36 b1 = 1 := (hT40.tg hW31 (hT32.tg hW24 (hT23.tg hW14 (hT15.tg hW7 t4))))
          obtain ⟨P892, hp893, h⟩ := h
          refine r_invV (ci := 1) (As := [vI (A38 b43 (v35 + 1)), vI (A38 b43 (v35 + 2)), vI (A38 b43 (v35 + 3)), vI (A38 b43 (v35 + 4))]) (rest := []) dL_law_1314 lkL_155 rfl t891 rfl rfl (vX0_once (d := 67) (Nat.le_of_ble_eq_true rfl) hW39 t891 (hW39.ai t45 rfl) (hW39.ai t45 rfl) (hW39.ai t45 rfl) (hW39.ai t45 rfl) hp893) rfl rfl (Nat.le_of_ble_eq_true rfl) (Nat.le_trans (Nat.le_of_ble_eq_true rfl) hd) (ckmI fun z894 F895 A896 hW897 p899 r900 => ?_)
          have h := h z894 F895 A896 p899
          refine r_aload_n dL_law_1317 rfl ?_
          refine r_aload_n dL_law_1318 rfl ?_
          refine j_iload_n dL_law_1319 rfl ?_
          refine j_iconst dL_law_1320 ?_
          refine j_iadd dL_law_1321 ?_
          obtain ⟨c901, h⟩ := h
          refine r_iald dL_law_1322 hz44 t45 c901 ?_
          refine r_aload_n dL_law_1323 rfl ?_
          refine j_iload_n dL_law_1324 rfl ?_
          refine j_iconst dL_law_1325 ?_
          refine j_iadd dL_law_1326 ?_
          obtain ⟨c902, h⟩ := h
          refine r_iald dL_law_1327 hz44 t45 c902 ?_
          refine r_aload_n dL_law_1328 rfl ?_
          refine j_iload_n dL_law_1329 rfl ?_
          refine j_iconst dL_law_1330 ?_
          refine j_iadd dL_law_1331 ?_
          obtain ⟨c903, h⟩ := h
          refine r_iald dL_law_1332 hz44 t45 c903 ?_
          refine r_aload_n dL_law_1333 rfl ?_
          refine j_iload_n dL_law_1334 rfl ?_
          refine j_iconst dL_law_1335 ?_
          refine j_iadd dL_law_1336 ?_
          obtain ⟨c904, h⟩ := h
          refine r_iald dL_law_1337 hz44 t45 c904 ?_
          have t905 : jtg N36 b18 = 10 := (hT40.tg hW31 (hT32.tg hW24 t21))
          obtain ⟨P906, hp907, h⟩ := h
          refine r_invV (ci := 10) (As := [vI (A896 b43 (v35 + 1)), vI (A896 b43 (v35 + 2)), vI (A896 b43 (v35 + 3)), vI (A896 b43 (v35 + 4))]) (rest := [vI z894]) dL_law_1338 lkL_159 rfl t905 rfl rfl (vX9_once (d := 4) (Nat.le_of_ble_eq_true rfl) hW897 t905 (hW897.ai t45 rfl) (hW897.ai t45 rfl) (hW897.ai t45 rfl) (hW897.ai t45 rfl) hp907) rfl rfl (Nat.le_of_ble_eq_true rfl) (Nat.le_trans (Nat.le_of_ble_eq_true rfl) hd) (ckmI fun z908 F909 A910 hW911 p913 r914 => ?_)
          have h := h z908 F909 A910 p913
          obtain ⟨h1, h2⟩ := h
          refine j_icmp_eq 1540 dL_law_1341 rfl r900 r914 (fun q915 => ?_) (fun q915 => ?_)
          · have h := h1 q915
            clear h1 h2
            obtain ⟨r916, h⟩ := h
            refine j_iinc dL_law_1540 rfl (jokR rfl (Nat.le_of_ble_eq_true rfl)) ?_
            refine j_goto 18 dL_law_1543 rfl ?_
            exact J.wk (((((jWk.nil).eq).eq).eq).eq) (ihI41 _ _ _ _ (Nat.lt_of_lt_of_le h.2 (Nat.le_of_lt_succ hmuI41)) hW911 hT40 r916 h.1)
          · have h := h2 q915
            clear h1 h2
            refine j_iconst dL_law_1344 ?_
            exact j_zret dL_law_1345 rfl (nr_bool (by decide)) ⟨_, rfl, hW911, ((((hT6.trans hT15).trans hT23).trans hT32).trans hT40), h, (by decide)⟩
        clear h1
        obtain ⟨h1, h⟩ := h
        by_cases q1140 : ((A38 b43 v35) % 64) = 34
        · refine j_tableIn (off := 1313) 1346 dL_law_33 (jR_mod (x := A38 b43 v35) (m := 64) (by decide)) (by rw [q1140]; decide) (by rw [q1140]; decide) (by rw [q1140]; rfl) rfl ?_
          have h := h1 q1140
          clear h1
          refine r_aload_n dL_law_1346 rfl ?_
          refine r_aload_n dL_law_1347 rfl ?_
          refine j_iload_n dL_law_1348 rfl ?_
          refine j_iconst dL_law_1349 ?_
          refine j_iadd dL_law_1350 ?_
          obtain ⟨c917, h⟩ := h
          refine r_iald dL_law_1351 hz44 t45 c917 ?_
          have t918 : jtg N36 b1 = 1 := (hT40.tg hW31 (hT32.tg hW24 (hT23.tg hW14 (hT15.tg hW7 t4))))
          obtain ⟨P919, hp920, h⟩ := h
          refine r_invV (ci := 1) (As := [vI (A38 b43 (v35 + 1))]) (rest := []) dL_law_1352 lkL_160 rfl t918 rfl rfl (vX0_meaning (d := 6) (Nat.le_of_ble_eq_true rfl) hW39 t918 (hW39.ai t45 rfl) hp920) rfl rfl (Nat.le_of_ble_eq_true rfl) (Nat.le_trans (Nat.le_of_ble_eq_true rfl) hd) (jkpI fun z921 p924 r925 => ?_)
          have h := h z921 p924
          refine r_aload_n dL_law_1355 rfl ?_
          refine r_aload_n dL_law_1356 rfl ?_
          refine j_iload_n dL_law_1357 rfl ?_
          refine j_iconst dL_law_1358 ?_
          refine j_iadd dL_law_1359 ?_
          obtain ⟨c926, h⟩ := h
          refine r_iald dL_law_1360 hz44 t45 c926 ?_
          have t927 : jtg N36 b18 = 10 := (hT40.tg hW31 (hT32.tg hW24 t21))
          obtain ⟨P928, hp929, h⟩ := h
          refine r_invV (ci := 10) (As := [vI (A38 b43 (v35 + 1))]) (rest := [vI z921]) dL_law_1361 lkL_163 rfl t927 rfl rfl (vX9_meaning (d := 3) (Nat.le_of_ble_eq_true rfl) hW39 t927 (hW39.ai t45 rfl) hp929) rfl rfl (Nat.le_of_ble_eq_true rfl) (Nat.le_trans (Nat.le_of_ble_eq_true rfl) hd) (ckmI fun z930 F931 A932 hW933 p935 r936 => ?_)
          have h := h z930 F931 A932 p935
          obtain ⟨h1, h2⟩ := h
          refine j_icmp_eq 1540 dL_law_1364 rfl r925 r936 (fun q937 => ?_) (fun q937 => ?_)
          · have h := h1 q937
            clear h1 h2
            obtain ⟨r938, h⟩ := h
            refine j_iinc dL_law_1540 rfl (jokR rfl (Nat.le_of_ble_eq_true rfl)) ?_
            refine j_goto 18 dL_law_1543 rfl ?_
            exact J.wk (((((jWk.nil).eq).eq).eq).eq) (ihI41 _ _ _ _ (Nat.lt_of_lt_of_le h.2 (Nat.le_of_lt_succ hmuI41)) hW933 hT40 r938 h.1)
          · have h := h2 q937
            clear h1 h2
            refine j_iconst dL_law_1367 ?_
            exact j_zret dL_law_1368 rfl (nr_bool (by decide)) ⟨_, rfl, hW933, ((((hT6.trans hT15).trans hT23).trans hT32).trans hT40), h, (by decide)⟩
        clear h1
        obtain ⟨h1, h⟩ := h
        by_cases q1141 : ((A38 b43 v35) % 64) = 35
        · refine j_tableIn (off := 1336) 1369 dL_law_33 (jR_mod (x := A38 b43 v35) (m := 64) (by decide)) (by rw [q1141]; decide) (by rw [q1141]; decide) (by rw [q1141]; rfl) rfl ?_
          have h := h1 q1141
          clear h1
          refine r_aload_n dL_law_1369 rfl ?_
          refine r_aload_n dL_law_1370 rfl ?_
          refine j_iload_n dL_law_1371 rfl ?_
          refine j_iconst dL_law_1372 ?_
          refine j_iadd dL_law_1373 ?_
          obtain ⟨c939, h⟩ := h
          refine r_iald dL_law_1374 hz44 t45 c939 ?_
          have t940 : jtg N36 b1 = 1 := (hT40.tg hW31 (hT32.tg hW24 (hT23.tg hW14 (hT15.tg hW7 t4))))
          obtain ⟨P941, hp942, h⟩ := h
          refine r_invV (ci := 1) (As := [vI (A38 b43 (v35 + 1))]) (rest := []) dL_law_1375 lkL_164 rfl t940 rfl rfl (vX0_harm (d := 7) (Nat.le_of_ble_eq_true rfl) hW39 t940 (hW39.ai t45 rfl) hp942) rfl rfl (Nat.le_of_ble_eq_true rfl) (Nat.le_trans (Nat.le_of_ble_eq_true rfl) hd) (ckmI fun z943 F944 A945 hW946 p948 r949 => ?_)
          have h := h z943 F944 A945 p948
          refine r_aload_n dL_law_1378 rfl ?_
          refine r_aload_n dL_law_1379 rfl ?_
          refine j_iload_n dL_law_1380 rfl ?_
          refine j_iconst dL_law_1381 ?_
          refine j_iadd dL_law_1382 ?_
          obtain ⟨c950, h⟩ := h
          refine r_iald dL_law_1383 hz44 t45 c950 ?_
          have t951 : jtg N36 b18 = 10 := (hT40.tg hW31 (hT32.tg hW24 t21))
          obtain ⟨P952, hp953, h⟩ := h
          refine r_invV (ci := 10) (As := [vI (A945 b43 (v35 + 1))]) (rest := [vI z943]) dL_law_1384 lkL_167 rfl t951 rfl rfl (vX9_harm (d := 6) (Nat.le_of_ble_eq_true rfl) hW946 t951 (hW946.ai t45 rfl) hp953) rfl rfl (Nat.le_of_ble_eq_true rfl) (Nat.le_trans (Nat.le_of_ble_eq_true rfl) hd) (ckmI fun z954 F955 A956 hW957 p959 r960 => ?_)
          have h := h z954 F955 A956 p959
          obtain ⟨h1, h2⟩ := h
          refine j_icmp_eq 1540 dL_law_1387 rfl r949 r960 (fun q961 => ?_) (fun q961 => ?_)
          · have h := h1 q961
            clear h1 h2
            obtain ⟨r962, h⟩ := h
            refine j_iinc dL_law_1540 rfl (jokR rfl (Nat.le_of_ble_eq_true rfl)) ?_
            refine j_goto 18 dL_law_1543 rfl ?_
            exact J.wk (((((jWk.nil).eq).eq).eq).eq) (ihI41 _ _ _ _ (Nat.lt_of_lt_of_le h.2 (Nat.le_of_lt_succ hmuI41)) hW957 hT40 r962 h.1)
          · have h := h2 q961
            clear h1 h2
            refine j_iconst dL_law_1390 ?_
            exact j_zret dL_law_1391 rfl (nr_bool (by decide)) ⟨_, rfl, hW957, ((((hT6.trans hT15).trans hT23).trans hT32).trans hT40), h, (by decide)⟩
        clear h1
        obtain ⟨h1, h⟩ := h
        by_cases q1142 : ((A38 b43 v35) % 64) = 36
        · refine j_tableIn (off := 1359) 1392 dL_law_33 (jR_mod (x := A38 b43 v35) (m := 64) (by decide)) (by rw [q1142]; decide) (by rw [q1142]; decide) (by rw [q1142]; rfl) rfl ?_
          have h := h1 q1142
          clear h1
          refine r_aload_n dL_law_1392 rfl ?_
          refine r_aload_n dL_law_1393 rfl ?_
          refine j_iload_n dL_law_1394 rfl ?_
          refine j_iconst dL_law_1395 ?_
          refine j_iadd dL_law_1396 ?_
          obtain ⟨c963, h⟩ := h
          refine r_iald dL_law_1397 hz44 t45 c963 ?_
          refine r_aload_n dL_law_1398 rfl ?_
          refine j_iload_n dL_law_1399 rfl ?_
          refine j_iconst dL_law_1400 ?_
          refine j_iadd dL_law_1401 ?_
          obtain ⟨c964, h⟩ := h
          refine r_iald dL_law_1402 hz44 t45 c964 ?_
          have t965 : jtg N36 b1 = 1 := (hT40.tg hW31 (hT32.tg hW24 (hT23.tg hW14 (hT15.tg hW7 t4))))
          obtain ⟨P966, hp967, h⟩ := h
          refine r_invV (ci := 1) (As := [vI (A38 b43 (v35 + 1)), vI (A38 b43 (v35 + 2))]) (rest := []) dL_law_1403 lkL_168 rfl t965 rfl rfl (vX0_needs (d := 7) (Nat.le_of_ble_eq_true rfl) hW39 t965 (hW39.ai t45 rfl) (hW39.ai t45 rfl) hp967) rfl rfl (Nat.le_of_ble_eq_true rfl) (Nat.le_trans (Nat.le_of_ble_eq_true rfl) hd) (ckmI fun z968 F969 A970 hW971 p973 r974 => ?_)
          have h := h z968 F969 A970 p973
          refine r_aload_n dL_law_1406 rfl ?_
          refine r_aload_n dL_law_1407 rfl ?_
          refine j_iload_n dL_law_1408 rfl ?_
          refine j_iconst dL_law_1409 ?_
          refine j_iadd dL_law_1410 ?_
          obtain ⟨c975, h⟩ := h
          refine r_iald dL_law_1411 hz44 t45 c975 ?_
          refine r_aload_n dL_law_1412 rfl ?_
          refine j_iload_n dL_law_1413 rfl ?_
          refine j_iconst dL_law_1414 ?_
          refine j_iadd dL_law_1415 ?_
          obtain ⟨c976, h⟩ := h
          refine r_iald dL_law_1416 hz44 t45 c976 ?_
          have t977 : jtg N36 b18 = 10 := (hT40.tg hW31 (hT32.tg hW24 t21))
          obtain ⟨P978, hp979, h⟩ := h
          refine r_invV (ci := 10) (As := [vI (A970 b43 (v35 + 1)), vI (A970 b43 (v35 + 2))]) (rest := [vI z968]) dL_law_1417 lkL_171 rfl t977 rfl rfl (vX9_needs (d := 5) (Nat.le_of_ble_eq_true rfl) hW971 t977 (hW971.ai t45 rfl) (hW971.ai t45 rfl) hp979) rfl rfl (Nat.le_of_ble_eq_true rfl) (Nat.le_trans (Nat.le_of_ble_eq_true rfl) hd) (ckmI fun z980 F981 A982 hW983 p985 r986 => ?_)
          have h := h z980 F981 A982 p985
          obtain ⟨h1, h2⟩ := h
          refine j_icmp_eq 1540 dL_law_1420 rfl r974 r986 (fun q987 => ?_) (fun q987 => ?_)
          · have h := h1 q987
            clear h1 h2
            obtain ⟨r988, h⟩ := h
            refine j_iinc dL_law_1540 rfl (jokR rfl (Nat.le_of_ble_eq_true rfl)) ?_
            refine j_goto 18 dL_law_1543 rfl ?_
            exact J.wk (((((jWk.nil).eq).eq).eq).eq) (ihI41 _ _ _ _ (Nat.lt_of_lt_of_le h.2 (Nat.le_of_lt_succ hmuI41)) hW983 hT40 r988 h.1)
          · have h := h2 q987
            clear h1 h2
            refine j_iconst dL_law_1423 ?_
            exact j_zret dL_law_1424 rfl (nr_bool (by decide)) ⟨_, rfl, hW983, ((((hT6.trans hT15).trans hT23).trans hT32).trans hT40), h, (by decide)⟩
        clear h1
        obtain ⟨h1, h⟩ := h
        by_cases q1143 : ((A38 b43 v35) % 64) = 37
        · refine j_tableIn (off := 1392) 1425 dL_law_33 (jR_mod (x := A38 b43 v35) (m := 64) (by decide)) (by rw [q1143]; decide) (by rw [q1143]; decide) (by rw [q1143]; rfl) rfl ?_
          have h := h1 q1143
          clear h1
          refine r_aload_n dL_law_1425 rfl ?_
          refine r_aload_n dL_law_1426 rfl ?_
          refine j_iload_n dL_law_1427 rfl ?_
          refine j_iconst dL_law_1428 ?_
          refine j_iadd dL_law_1429 ?_
          obtain ⟨c989, h⟩ := h
          refine r_iald dL_law_1430 hz44 t45 c989 ?_
          refine r_aload_n dL_law_1431 rfl ?_
          refine j_iload_n dL_law_1432 rfl ?_
          refine j_iconst dL_law_1433 ?_
          refine j_iadd dL_law_1434 ?_
          obtain ⟨c990, h⟩ := h
          refine r_iald dL_law_1435 hz44 t45 c990 ?_
          refine r_aload_n dL_law_1436 rfl ?_
          refine j_iload_n dL_law_1437 rfl ?_
          refine j_iconst dL_law_1438 ?_
          refine j_iadd dL_law_1439 ?_
          obtain ⟨c991, h⟩ := h
          refine r_iald dL_law_1440 hz44 t45 c991 ?_
          have t992 : jtg N36 b1 = 1 := (hT40.tg hW31 (hT32.tg hW24 (hT23.tg hW14 (hT15.tg hW7 t4))))
          obtain ⟨P993, hp994, h⟩ := h
          refine r_invV (ci := 1) (As := [vI (A38 b43 (v35 + 1)), vI (A38 b43 (v35 + 2)), vI (A38 b43 (v35 + 3))]) (rest := []) dL_law_1441 lkL_172 rfl t992 rfl rfl (vX0_runs (d := 12) (Nat.le_of_ble_eq_true rfl) hW39 t992 (hW39.ai t45 rfl) (hW39.ai t45 rfl) (hW39.ai t45 rfl) hp994) rfl rfl (Nat.le_of_ble_eq_true rfl) (Nat.le_trans (Nat.le_of_ble_eq_true rfl) hd) (cknI fun z995 N998 F996 A997 hW999 hT1000 p1001 r1002 => ?_)
          have h := h z995 N998 F996 A997 p1001
          refine r_aload_n dL_law_1444 rfl ?_
          refine r_aload_n dL_law_1445 rfl ?_
          refine j_iload_n dL_law_1446 rfl ?_
          refine j_iconst dL_law_1447 ?_
          refine j_iadd dL_law_1448 ?_
          have t1003 : jtg N998 b43 = 102 := (hT1000.tg hW39 t45)
          obtain ⟨c1004, h⟩ := h
          refine r_iald dL_law_1449 hz44 t1003 c1004 ?_
          refine r_aload_n dL_law_1450 rfl ?_
          refine j_iload_n dL_law_1451 rfl ?_
          refine j_iconst dL_law_1452 ?_
          refine j_iadd dL_law_1453 ?_
          obtain ⟨c1005, h⟩ := h
          refine r_iald dL_law_1454 hz44 t1003 c1005 ?_
          refine r_aload_n dL_law_1455 rfl ?_
          refine j_iload_n dL_law_1456 rfl ?_
          refine j_iconst dL_law_1457 ?_
          refine j_iadd dL_law_1458 ?_
          obtain ⟨c1006, h⟩ := h
          refine r_iald dL_law_1459 hz44 t1003 c1006 ?_
          have t1007 : jtg N998 b18 = 10 := (hT1000.tg hW39 (hT40.tg hW31 (hT32.tg hW24 t21)))
          obtain ⟨P1008, hp1009, h⟩ := h
          refine r_invV (ci := 10) (As := [vI (A997 b43 (v35 + 1)), vI (A997 b43 (v35 + 2)), vI (A997 b43 (v35 + 3))]) (rest := [vI z995]) dL_law_1460 lkL_175 rfl t1007 rfl rfl (vX9_runs (d := 7) (Nat.le_of_ble_eq_true rfl) hW999 t1007 (hW999.ai t1003 rfl) (hW999.ai t1003 rfl) (hW999.ai t1003 rfl) hp1009) rfl rfl (Nat.le_of_ble_eq_true rfl) (Nat.le_trans (Nat.le_of_ble_eq_true rfl) hd) (ckmI fun z1010 F1011 A1012 hW1013 p1015 r1016 => ?_)
          have h := h z1010 F1011 A1012 p1015
          obtain ⟨h1, h2⟩ := h
          refine j_icmp_eq 1540 dL_law_1463 rfl r1002 r1016 (fun q1017 => ?_) (fun q1017 => ?_)
          · have h := h1 q1017
            clear h1 h2
            obtain ⟨r1018, h⟩ := h
            refine j_iinc dL_law_1540 rfl (jokR rfl (Nat.le_of_ble_eq_true rfl)) ?_
            refine j_goto 18 dL_law_1543 rfl ?_
            exact J.wk (((((jWk.nil).eq).eq).eq).eq) (ihI41 _ _ _ _ (Nat.lt_of_lt_of_le h.2 (Nat.le_of_lt_succ hmuI41)) hW1013 (hT40.trans hT1000) r1018 h.1)
          · have h := h2 q1017
            clear h1 h2
            refine j_iconst dL_law_1466 ?_
            exact j_zret dL_law_1467 rfl (nr_bool (by decide)) ⟨_, rfl, hW1013, (((((hT6.trans hT15).trans hT23).trans hT32).trans hT40).trans hT1000), h, (by decide)⟩
        clear h1
        obtain ⟨h1, h⟩ := h
        by_cases q1144 : ((A38 b43 v35) % 64) = 38
        · refine j_tableIn (off := 1435) 1468 dL_law_33 (jR_mod (x := A38 b43 v35) (m := 64) (by decide)) (by rw [q1144]; decide) (by rw [q1144]; decide) (by rw [q1144]; rfl) rfl ?_
          have h := h1 q1144
          clear h1
          refine r_aload_n dL_law_1468 rfl ?_
          have t1019 : jtg N36 b1 = 1 := (hT40.tg hW31 (hT32.tg hW24 (hT23.tg hW14 (hT15.tg hW7 t4))))
          obtain ⟨P1020, hp1021, h⟩ := h
          refine r_invV (ci := 1) (As := []) (rest := []) dL_law_1469 lkL_176 rfl t1019 rfl rfl (vX0_image (d := 9) (Nat.le_of_ble_eq_true rfl) hW39 t1019  hp1021) rfl rfl (Nat.le_of_ble_eq_true rfl) (Nat.le_trans (Nat.le_of_ble_eq_true rfl) hd) (cknI fun z1022 N1025 F1023 A1024 hW1026 hT1027 p1028 r1029 => ?_)
          have h := h z1022 N1025 F1023 A1024 p1028
          refine r_aload_n dL_law_1472 rfl ?_
          have t1030 : jtg N1025 b18 = 10 := (hT1027.tg hW39 (hT40.tg hW31 (hT32.tg hW24 t21)))
          obtain ⟨P1031, hp1032, h⟩ := h
          refine r_invV (ci := 10) (As := []) (rest := [vI z1022]) dL_law_1473 lkL_179 rfl t1030 rfl rfl (vX9_image (d := 2) (Nat.le_of_ble_eq_true rfl) hW1026 t1030  hp1032) rfl rfl (Nat.le_of_ble_eq_true rfl) (Nat.le_trans (Nat.le_of_ble_eq_true rfl) hd) (ckmI fun z1033 F1034 A1035 hW1036 p1038 r1039 => ?_)
          have h := h z1033 F1034 A1035 p1038
          obtain ⟨h1, h2⟩ := h
          refine j_icmp_eq 1540 dL_law_1476 rfl r1029 r1039 (fun q1040 => ?_) (fun q1040 => ?_)
          · have h := h1 q1040
            clear h1 h2
            obtain ⟨r1041, h⟩ := h
            refine j_iinc dL_law_1540 rfl (jokR rfl (Nat.le_of_ble_eq_true rfl)) ?_
            refine j_goto 18 dL_law_1543 rfl ?_
            exact J.wk (((((jWk.nil).eq).eq).eq).eq) (ihI41 _ _ _ _ (Nat.lt_of_lt_of_le h.2 (Nat.le_of_lt_succ hmuI41)) hW1036 (hT40.trans hT1027) r1041 h.1)
          · have h := h2 q1040
            clear h1 h2
            refine j_iconst dL_law_1479 ?_
            exact j_zret dL_law_1480 rfl (nr_bool (by decide)) ⟨_, rfl, hW1036, (((((hT6.trans hT15).trans hT23).trans hT32).trans hT40).trans hT1027), h, (by decide)⟩
        clear h1
        obtain ⟨h1, h⟩ := h
        by_cases q1145 : ((A38 b43 v35) % 64) = 39
        · refine j_tableIn (off := 1448) 1481 dL_law_33 (jR_mod (x := A38 b43 v35) (m := 64) (by decide)) (by rw [q1145]; decide) (by rw [q1145]; decide) (by rw [q1145]; rfl) rfl ?_
          have h := h1 q1145
          clear h1
          refine r_aload_n dL_law_1481 rfl ?_
          refine r_aload_n dL_law_1482 rfl ?_
          refine j_iload_n dL_law_1483 rfl ?_
          refine j_iconst dL_law_1484 ?_
          refine j_iadd dL_law_1485 ?_
          obtain ⟨c1042, h⟩ := h
          refine r_iald dL_law_1486 hz44 t45 c1042 ?_
          have t1043 : jtg N36 b1 = 1 := (hT40.tg hW31 (hT32.tg hW24 (hT23.tg hW14 (hT15.tg hW7 t4))))
          obtain ⟨P1044, hp1045, h⟩ := h
          refine r_invV (ci := 1) (As := [vI (A38 b43 (v35 + 1))]) (rest := []) dL_law_1487 lkL_180 rfl t1043 rfl rfl (vX0_octet (d := 6) (Nat.le_of_ble_eq_true rfl) hW39 t1043 (hW39.ai t45 rfl) hp1045) rfl rfl (Nat.le_of_ble_eq_true rfl) (Nat.le_trans (Nat.le_of_ble_eq_true rfl) hd) (jkpI fun z1046 p1049 r1050 => ?_)
          have h := h z1046 p1049
          refine r_aload_n dL_law_1490 rfl ?_
          refine r_aload_n dL_law_1491 rfl ?_
          refine j_iload_n dL_law_1492 rfl ?_
          refine j_iconst dL_law_1493 ?_
          refine j_iadd dL_law_1494 ?_
          obtain ⟨c1051, h⟩ := h
          refine r_iald dL_law_1495 hz44 t45 c1051 ?_
          have t1052 : jtg N36 b18 = 10 := (hT40.tg hW31 (hT32.tg hW24 t21))
          obtain ⟨P1053, hp1054, h⟩ := h
          refine r_invV (ci := 10) (As := [vI (A38 b43 (v35 + 1))]) (rest := [vI z1046]) dL_law_1496 lkL_183 rfl t1052 rfl rfl (vX9_octet (d := 2) (Nat.le_of_ble_eq_true rfl) hW39 t1052 (hW39.ai t45 rfl) hp1054) rfl rfl (Nat.le_of_ble_eq_true rfl) (Nat.le_trans (Nat.le_of_ble_eq_true rfl) hd) (jkpI fun z1055 p1058 r1059 => ?_)
          have h := h z1055 p1058
          obtain ⟨h1, h2⟩ := h
          refine j_icmp_eq 1540 dL_law_1499 rfl r1050 r1059 (fun q1060 => ?_) (fun q1060 => ?_)
          · have h := h1 q1060
            clear h1 h2
            obtain ⟨r1061, h⟩ := h
            refine j_iinc dL_law_1540 rfl (jokR rfl (Nat.le_of_ble_eq_true rfl)) ?_
            refine j_goto 18 dL_law_1543 rfl ?_
            exact J.wk (((((jWk.nil).eq).eq).eq).eq) (ihI41 _ _ _ _ (Nat.lt_of_lt_of_le h.2 (Nat.le_of_lt_succ hmuI41)) hW39 hT40 r1061 h.1)
          · have h := h2 q1060
            clear h1 h2
            refine j_iconst dL_law_1502 ?_
            exact j_zret dL_law_1503 rfl (nr_bool (by decide)) ⟨_, rfl, hW39, ((((hT6.trans hT15).trans hT23).trans hT32).trans hT40), h, (by decide)⟩
        clear h1
        obtain ⟨h1, h⟩ := h
        by_cases q1146 : ((A38 b43 v35) % 64) = 40
        · refine j_tableIn (off := 1471) 1504 dL_law_33 (jR_mod (x := A38 b43 v35) (m := 64) (by decide)) (by rw [q1146]; decide) (by rw [q1146]; decide) (by rw [q1146]; rfl) rfl ?_
          have h := h1 q1146
          clear h1
          refine r_aload_n dL_law_1504 rfl ?_
          have t1062 : jtg N36 b1 = 1 := (hT40.tg hW31 (hT32.tg hW24 (hT23.tg hW14 (hT15.tg hW7 t4))))
          obtain ⟨P1063, hp1064, h⟩ := h
          refine r_invV (ci := 1) (As := []) (rest := []) dL_law_1505 lkL_184 rfl t1062 rfl rfl (vX0_on (d := 9) (Nat.le_of_ble_eq_true rfl) hW39 t1062  hp1064) rfl rfl (Nat.le_of_ble_eq_true rfl) (Nat.le_trans (Nat.le_of_ble_eq_true rfl) hd) (cknB fun z1065 N1068 F1066 A1067 hW1069 hT1070 p1071 r1072 => ?_)
          have h := h z1065 N1068 F1066 A1067 p1071
          refine r_aload_n dL_law_1508 rfl ?_
          have t1073 : jtg N1068 b18 = 10 := (hT1070.tg hW39 (hT40.tg hW31 (hT32.tg hW24 t21)))
          obtain ⟨P1074, hp1075, h⟩ := h
          refine r_invV (ci := 10) (As := []) (rest := [vI z1065]) dL_law_1509 lkL_187 rfl t1073 rfl rfl (vX9_on (d := 4) (Nat.le_of_ble_eq_true rfl) hW1069 t1073  hp1075) rfl rfl (Nat.le_of_ble_eq_true rfl) (Nat.le_trans (Nat.le_of_ble_eq_true rfl) hd) (ckmB fun z1076 F1077 A1078 hW1079 p1081 r1082 => ?_)
          have h := h z1076 F1077 A1078 p1081
          obtain ⟨h1, h2⟩ := h
          refine j_icmp_eq 1540 dL_law_1512 rfl (jR_b r1072) (jR_b r1082) (fun q1083 => ?_) (fun q1083 => ?_)
          · have h := h1 q1083
            clear h1 h2
            obtain ⟨r1084, h⟩ := h
            refine j_iinc dL_law_1540 rfl (jokR rfl (Nat.le_of_ble_eq_true rfl)) ?_
            refine j_goto 18 dL_law_1543 rfl ?_
            exact J.wk (((((jWk.nil).eq).eq).eq).eq) (ihI41 _ _ _ _ (Nat.lt_of_lt_of_le h.2 (Nat.le_of_lt_succ hmuI41)) hW1079 (hT40.trans hT1070) r1084 h.1)
          · have h := h2 q1083
            clear h1 h2
            refine j_iconst dL_law_1515 ?_
            exact j_zret dL_law_1516 rfl (nr_bool (by decide)) ⟨_, rfl, hW1079, (((((hT6.trans hT15).trans hT23).trans hT32).trans hT40).trans hT1070), h, (by decide)⟩
        clear h1
        obtain ⟨h1, h⟩ := h
        by_cases q1147 : ((A38 b43 v35) % 64) = 41
        · refine j_tableIn (off := 1484) 1517 dL_law_33 (jR_mod (x := A38 b43 v35) (m := 64) (by decide)) (by rw [q1147]; decide) (by rw [q1147]; decide) (by rw [q1147]; rfl) rfl ?_
          have h := h1 q1147
          clear h1
          refine r_aload_n dL_law_1517 rfl ?_
          refine r_aload_n dL_law_1518 rfl ?_
          refine j_iload_n dL_law_1519 rfl ?_
          refine j_iconst dL_law_1520 ?_
          refine j_iadd dL_law_1521 ?_
          obtain ⟨c1085, h⟩ := h
          refine r_iald dL_law_1522 hz44 t45 c1085 ?_
          have t1086 : jtg N36 b1 = 1 := (hT40.tg hW31 (hT32.tg hW24 (hT23.tg hW14 (hT15.tg hW7 t4))))
          obtain ⟨P1087, hp1088, h⟩ := h
          refine r_invV (ci := 1) (As := [vI (A38 b43 (v35 + 1))]) (rest := []) dL_law_1523 lkL_188 rfl t1086 rfl rfl (vX0_status (d := 3) (Nat.le_of_ble_eq_true rfl) hW39 t1086 (hW39.ai t45 rfl) hp1088) rfl rfl (Nat.le_of_ble_eq_true rfl) (Nat.le_trans (Nat.le_of_ble_eq_true rfl) hd) (jkpI fun z1089 p1092 r1093 => ?_)
          have h := h z1089 p1092
          refine r_aload_n dL_law_1526 rfl ?_
          refine r_aload_n dL_law_1527 rfl ?_
          refine j_iload_n dL_law_1528 rfl ?_
          refine j_iconst dL_law_1529 ?_
          refine j_iadd dL_law_1530 ?_
          obtain ⟨c1094, h⟩ := h
          refine r_iald dL_law_1531 hz44 t45 c1094 ?_
          have t1095 : jtg N36 b18 = 10 := (hT40.tg hW31 (hT32.tg hW24 t21))
          obtain ⟨P1096, hp1097, h⟩ := h
          refine r_invV (ci := 10) (As := [vI (A38 b43 (v35 + 1))]) (rest := [vI z1089]) dL_law_1532 lkL_191 rfl t1095 rfl rfl (vX9_status (d := 2) (Nat.le_of_ble_eq_true rfl) hW39 t1095 (hW39.ai t45 rfl) hp1097) rfl rfl (Nat.le_of_ble_eq_true rfl) (Nat.le_trans (Nat.le_of_ble_eq_true rfl) hd) (jkpI fun z1098 p1101 r1102 => ?_)
          have h := h z1098 p1101
          obtain ⟨h1, h2⟩ := h
          refine j_icmp_eq 1540 dL_law_1535 rfl r1093 r1102 (fun q1103 => ?_) (fun q1103 => ?_)
          · have h := h1 q1103
            clear h1 h2
            obtain ⟨r1104, h⟩ := h
            refine j_iinc dL_law_1540 rfl (jokR rfl (Nat.le_of_ble_eq_true rfl)) ?_
            refine j_goto 18 dL_law_1543 rfl ?_
            exact J.wk (((((jWk.nil).eq).eq).eq).eq) (ihI41 _ _ _ _ (Nat.lt_of_lt_of_le h.2 (Nat.le_of_lt_succ hmuI41)) hW39 hT40 r1104 h.1)
          · have h := h2 q1103
            clear h1 h2
            refine j_iconst dL_law_1538 ?_
            exact j_zret dL_law_1539 rfl (nr_bool (by decide)) ⟨_, rfl, hW39, ((((hT6.trans hT15).trans hT23).trans hT32).trans hT40), h, (by decide)⟩
        clear h1
        have h := h q1106 q1107 q1108 q1109 q1110 q1111 q1112 q1113 q1114 q1115 q1116 q1117 q1118 q1119 q1120 q1121 q1122 q1123 q1124 q1125 q1126 q1127 q1128 q1129 q1130 q1131 q1132 q1133 q1134 q1135 q1136 q1137 q1138 q1139 q1140 q1141 q1142 q1143 q1144 q1145 q1146 q1147
        refine j_tableOut 1540 dL_law_33 (jR_mod (x := A38 b43 v35) (m := 64) (by decide)) (by omega) rfl ?_
        obtain ⟨r1105, h⟩ := h
        refine j_iinc dL_law_1540 rfl (jokR rfl (Nat.le_of_ble_eq_true rfl)) ?_
        refine j_goto 18 dL_law_1543 rfl ?_
        exact J.wk (((((jWk.nil).eq).eq).eq).eq) (ihI41 _ _ _ _ (Nat.lt_of_lt_of_le h.2 (Nat.le_of_lt_succ hmuI41)) hW39 hT40 r1105 h.1)
  exact J.wk (((((jWk.nil).eq).eq).eq).eq) (lp _ _ _ _ _ (Nat.lt_succ_self _) hW31 (jTx.refl _) (by decide) h0)
