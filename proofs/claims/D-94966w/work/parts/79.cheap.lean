set_option maxRecDepth 100000
set_option linter.unusedVariables false
/-! a heap that grows -/
def nb (N : jSh) : Prop := ∀ a : Nat, jtg N a ≠ 0 → a < jnx N
def nex (N N' : jSh) : Prop := jnx N ≤ jnx N' ∧ ∀ a : Nat, a < jnx N → jtg N' a = jtg N a ∧ jln N' a = jln N a ∧ ∀ f, jfn N' f a = jfn N f a
theorem nex.refl (N : jSh) : nex N N := ⟨Nat.le_refl _, fun _ _ => ⟨rfl, rfl, fun _ => rfl⟩⟩
theorem nex.trans {N N' N'' : jSh} (h : nex N N') (h2 : nex N' N'') : nex N N'' := ⟨Nat.le_trans h.1 h2.1, fun a ha => by
  obtain ⟨e1, e2, e3⟩ := h.2 a ha
  obtain ⟨f1, f2, f3⟩ := h2.2 a (Nat.lt_of_lt_of_le ha h.1)
  exact ⟨f1.trans e1, f2.trans e2, fun f => (f3 f).trans (e3 f)⟩⟩
theorem nex.tg {N N' : jSh} (h : nex N N') (hn : nb N) {a t : Nat} (ht : jtg N a = t) (h0 : t ≠ 0) : jtg N' a = t := by rw [(h.2 a (hn a (by rw [ht]; exact h0))).1, ht]
theorem nex.ln {N N' : jSh} (h : nex N N') (hn : nb N) {a t : Nat} (ht : jtg N a = t) (h0 : t ≠ 0) : jln N' a = jln N a := (h.2 a (hn a (by rw [ht]; exact h0))).2.1
theorem nex.fn {N N' : jSh} (h : nex N N') (hn : nb N) {a t : Nat} (ht : jtg N a = t) (h0 : t ≠ 0) (f : Nat) : jfn N' f a = jfn N f a := (h.2 a (hn a (by rw [ht]; exact h0))).2.2 f
theorem jnewNx (N : jSh) (t n sl : Nat) (o : Int) : jnx (jnew N t n sl o) = jnx N + 1 := rfl
theorem jnewSu (N : jSh) (t n sl : Nat) (o : Int) : jsu (jnew N t n sl o) = jsu N + sl := rfl
theorem jnewTg (N : jSh) (t n sl : Nat) (o : Int) : jtg (jnew N t n sl o) (jnx N) = t := if_pos rfl
theorem jnewLn (N : jSh) (t n sl : Nat) (o : Int) : jln (jnew N t n sl o) (jnx N) = n := if_pos rfl
theorem jnew_f0 (N : jSh) (t n sl : Nat) (o : Int) : jfn (jnew N t n sl o) 0 (jnx N) = o := by
  show (if jnx N = jnx N then (if (0 : Nat) = 0 then o else jdf 0) else _) = o
  rw [if_pos rfl, if_pos rfl]
theorem jnew_tgo {N : jSh} {t n sl a : Nat} {o : Int} (h : a ≠ jnx N) : jtg (jnew N t n sl o) a = jtg N a := if_neg h
theorem jnew_lno {N : jSh} {t n sl a : Nat} {o : Int} (h : a ≠ jnx N) : jln (jnew N t n sl o) a = jln N a := if_neg h
theorem jnew_fno {N : jSh} {t n sl a f : Nat} {o : Int} (h : a ≠ jnx N) : jfn (jnew N t n sl o) f a = jfn N f a := if_neg h
theorem nex.new (N : jSh) (t n sl : Nat) (o : Int) : nex N (jnew N t n sl o) := ⟨by rw [jnewNx]; omega, fun a ha => ⟨jnew_tgo (by omega), jnew_lno (by omega), fun f => jnew_fno (by omega)⟩⟩
theorem nb.new {N : jSh} (h : nb N) {t n sl : Nat} {o : Int} : nb (jnew N t n sl o) := fun a ha => by
  rw [jnewNx]
  by_cases q : a = jnx N
  · omega
  · rw [jnew_tgo q] at ha; have := h a ha; omega
theorem jpF_nx (N : jSh) (f a : Nat) (z : Int) : jnx (jpF N f a z) = jnx N := rfl
theorem jpF_su (N : jSh) (f a : Nat) (z : Int) : jsu (jpF N f a z) = jsu N := rfl
theorem jpF_tg (N : jSh) (f a b : Nat) (z : Int) : jtg (jpF N f a z) b = jtg N b := rfl
theorem jpF_ln (N : jSh) (f a b : Nat) (z : Int) : jln (jpF N f a z) b = jln N b := rfl
theorem jpF_s (N : jSh) (f a : Nat) (z : Int) : jfn (jpF N f a z) f a = z := if_pos ⟨rfl, rfl⟩
theorem jpF_f {N : jSh} {f a g b : Nat} {z : Int} (h : g ≠ f) : jfn (jpF N f a z) g b = jfn N g b := if_neg (fun w => h w.1)
theorem jpF_a {N : jSh} {f a g b : Nat} {z : Int} (h : b ≠ a) : jfn (jpF N f a z) g b = jfn N g b := if_neg (fun w => h w.2)
theorem nwF_s (N : jSh) (F : jFl) (f : Nat) : nwF N F f (jnx N) = jdf f := if_pos rfl
theorem nwF_o {N : jSh} {F : jFl} {f a : Nat} (h : a ≠ jnx N) : nwF N F f a = F f a := if_neg h
theorem nwA_s (N : jSh) (t : Nat) (A : jAr) (i : Int) : nwA N t A (jnx N) i = jdf t := if_pos rfl
theorem nwA_o {N : jSh} {t : Nat} {A : jAr} {a : Nat} (h : a ≠ jnx N) : nwA N t A a = A a := by
  funext i
  exact if_neg h
/-- all through: what is marked lies below, empty arrays are one, lists have arrays of their own, so many changes of lists at most -/
def gi (S : Nat → Nat) (M : Int) (N : jSh) (F : jFl) : Prop := nb N ∧ (∀ b : Nat, jtg N b = 104 → jln N b = 0 → b = S 19) ∧ (∀ l : Nat, jtg N l = 20 → F 6002 l < (jnx N : Int) ∧ 0 ≤ F 6900 l ∧ F 6900 l ≤ M) ∧ (∀ l l' : Nat, jtg N l = 20 → jtg N l' = 20 → l ≠ l' → F 6002 l = F 6002 l' → 0 ≤ F 6002 l → jln N (F 6002 l).toNat = 0) ∧ (0 ≤ M ∧ M ≤ 1000000000)
/-- below hi all is as it was but what D says -/
def frD (D : Nat → Prop) (hi : Nat) (F : jFl) (A : jAr) (F' : jFl) (A' : jAr) : Prop := ∀ a : Nat, a < hi → ¬ D a → (∀ f, F' f a = F f a) ∧ A' a = A a
theorem frD.refl (D : Nat → Prop) (hi : Nat) (F : jFl) (A : jAr) : frD D hi F A F A := fun _ _ _ => ⟨fun _ => rfl, rfl⟩
theorem frD.trans {D : Nat → Prop} {hi hi2 : Nat} {F F' F'' : jFl} {A A' A'' : jAr} (h : frD D hi F A F' A') (h2 : frD D hi2 F' A' F'' A'') (hh : hi ≤ hi2) : frD D hi F A F'' A'' := fun a ha hd => ⟨fun f => ((h2 a (by omega) hd).1 f).trans ((h a ha hd).1 f), (h2 a (by omega) hd).2.trans (h a ha hd).2⟩
theorem frD.mono {D D' : Nat → Prop} {hi : Nat} {F F' : jFl} {A A' : jAr} (h : frD D hi F A F' A') (hd : ∀ a, D a → D' a) : frD D' hi F A F' A' := fun a ha q => h a ha (fun w => q (hd a w))
theorem jast.ex {N N' : jSh} {C : String} {z : Int} (h : jast N C z) (hn : nb N) (e : nex N N') : jast N' C z := by
  rcases h with h | ⟨b, cl, h1, h2, h3⟩
  · exact Or.inl h
  · refine Or.inr ⟨b, cl, h1, ?_, h3⟩
    by_cases q : jtg N b = 0
    · rw [q] at h2; cases h2
    · rw [(e.2 b (hn b q)).1]; exact h2
/-- a list's array -/
abbrev lar (F : jFl) (l : Nat) : Nat := (F 6002 l).toNat
/-- its room -/
abbrev lcp (N : jSh) (F : jFl) (l : Nat) : Nat := jln N (lar F l)
theorem jli.moved {N N' : jSh} {F F' : jFl} {A A' : jAr} {l : Nat} {n : Int} {e : Int → Int} (h : jli N F A l n e) (hn : nb N) (ex : nex N N') (h1 : F' 6003 l = F 6003 l) (h2 : F' 6002 l = F 6002 l) (h3 : n ≠ 0 ∨ jln N (lar F l) ≠ 0 → A' (lar F l) = A (lar F l)) : jli N' F' A' l n e := by
  obtain ⟨e1, e2, e3, b, e4, e5, e6, e7, ⟨e8, e9, e10⟩, e11⟩ := h
  have eb : lar F l = b := by show (F 6002 l).toNat = b; rw [e4]; rfl
  have el := ex.ln hn e5 (by decide)
  refine ⟨⟨ex.tg hn e1.1 (by decide), by rw [ex.fn hn e1.1 (by decide)]; exact e1.2⟩, by rw [h1, e2], e3, b, by rw [h2, e4], ex.tg hn e5 (by decide), by rw [el]; exact e6, fun k k0 k1 => ?_, ⟨by rw [ex.fn hn e5 (by decide), el]; exact e8, by rw [el]; exact e9, fun k k0 k1 => ?_⟩, fun k k0 k1 => (e11 k k0 k1).ex hn ex⟩
  · rw [eb] at h3
    rw [h3 (Or.inl (by omega))]; exact e7 k k0 k1
  · rw [eb] at h3
    rw [el] at k1
    rw [h3 (Or.inr (by omega))]; exact e10 k k0 k1
