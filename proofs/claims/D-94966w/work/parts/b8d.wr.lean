set_option maxRecDepth 100000
set_option linter.unusedVariables false
/-! the model as it is called from without; printed by gen/emit_law.py wrap -/
def mSh (N : jSh) (o : Nat) : Prop := jtg N o = 10 ∧ jfn N 0 o = 1 ∧ ∀ q ∈ mTab, jfn N q.1 o = ((o + q.2.1 : Nat) : Int) ∧ jln N (o + q.2.1) = q.2.2.1 ∧ jtg N (o + q.2.1) = q.2.2.2
def wqX9_feed (o : Nat) (a1 : Int) (a2 : Int) (a3 : Int) (a4 : Int) (a5 : Int) (N : jSh) (F : jFl) (A : jAr) (Q : Int → jFl → jAr → Prop) : Prop := mSh N o ∧ wpX9_feed o a1 a2 a3 a4 a5 F A Q
theorem vX9_feed {G : jG} {l : Launch} {d : Nat} {N : jSh} {F : jFl} {A : jAr} {o : Nat} {a1 a2 a3 a4 a5 : Int} {Q : Int → jFl → jAr → Prop} (hd : 2 ≤ d) (hW : jWg G N F A) (ht : jtg N o = 10) (ra1 : jR a1) (ra2 : jR a2) (ra3 : jR a3) (ra4 : jR a4) (ra5 : jR a5) (h : wqX9_feed o a1 a2 a3 a4 a5 N F A Q) : jCall G l d mX9_feed [vR (o : Int), vI a1, vI a2, vI a3, vI a4, vI a5] N F A (cmI G N Q) := by
  rw [vR_nat]
  exact (wX9_feed hd ⟨h.1.1, hW.2.1 o h.1.2.1, h.1.2.2⟩ hW.1 ra1 ra2 ra3 ra4 ra5 h.2).mono (fun o1 N1 F1 A1 ⟨z, h1, h2, h3, h4, h5⟩ => ⟨z, h1, h2, ⟨h3, hW.2⟩, h4, h5⟩)
def wqX9_end (o : Nat) (a1 : Int) (N : jSh) (F : jFl) (A : jAr) (Q : Int → jFl → jAr → Prop) : Prop := mSh N o ∧ wpX9_end o a1 F A Q
theorem vX9_end {G : jG} {l : Launch} {d : Nat} {N : jSh} {F : jFl} {A : jAr} {o : Nat} {a1 : Int} {Q : Int → jFl → jAr → Prop} (hd : 2 ≤ d) (hW : jWg G N F A) (ht : jtg N o = 10) (ra1 : jR a1) (h : wqX9_end o a1 N F A Q) : jCall G l d mX9_end [vR (o : Int), vI a1] N F A (cmB G N Q) := by
  rw [vR_nat]
  exact (wX9_end hd ⟨h.1.1, hW.2.1 o h.1.2.1, h.1.2.2⟩ hW.1 ra1 h.2).mono (fun o1 N1 F1 A1 ⟨z, h1, h2, h3, h4, h5⟩ => ⟨z, h1, h2, ⟨h3, hW.2⟩, h4, h5⟩)
def wqX9_town (o : Nat) (N : jSh) (F : jFl) (A : jAr) (Q : Int → jFl → jAr → Prop) : Prop := mSh N o ∧ wpX9_town o F A Q
theorem vX9_town {G : jG} {l : Launch} {d : Nat} {N : jSh} {F : jFl} {A : jAr} {o : Nat} {Q : Int → jFl → jAr → Prop} (hd : 9 ≤ d) (hW : jWg G N F A) (ht : jtg N o = 10) (h : wqX9_town o N F A Q) : jCall G l d mX9_town [vR (o : Int)] N F A (cmI G N Q) := by
  rw [vR_nat]
  exact (wX9_town hd ⟨h.1.1, hW.2.1 o h.1.2.1, h.1.2.2⟩ hW.1 h.2).mono (fun o1 N1 F1 A1 ⟨z, h1, h2, h3, h4, h5⟩ => ⟨z, h1, h2, ⟨h3, hW.2⟩, h4, h5⟩)
def wqX9_fault (o : Nat) (a1 : Int) (N : jSh) (F : jFl) (A : jAr) (Q : Int → Prop) : Prop := mSh N o ∧ wpX9_fault o a1 F A Q
theorem vX9_fault {G : jG} {l : Launch} {d : Nat} {N : jSh} {F : jFl} {A : jAr} {o : Nat} {a1 : Int} {Q : Int → Prop} (hd : 1 ≤ d) (hW : jWg G N F A) (ht : jtg N o = 10) (ra1 : jR a1) (h : wqX9_fault o a1 N F A Q) : jCall G l d mX9_fault [vR (o : Int), vI a1] N F A (jpI N F A Q) := by
  rw [vR_nat]
  exact wX9_fault hd ⟨h.1.1, hW.2.1 o h.1.2.1, h.1.2.2⟩ hW.1 ra1 h.2
def wqX9_status (o : Nat) (a1 : Int) (N : jSh) (F : jFl) (A : jAr) (Q : Int → Prop) : Prop := mSh N o ∧ wpX9_status o a1 F A Q
theorem vX9_status {G : jG} {l : Launch} {d : Nat} {N : jSh} {F : jFl} {A : jAr} {o : Nat} {a1 : Int} {Q : Int → Prop} (hd : 2 ≤ d) (hW : jWg G N F A) (ht : jtg N o = 10) (ra1 : jR a1) (h : wqX9_status o a1 N F A Q) : jCall G l d mX9_status [vR (o : Int), vI a1] N F A (jpI N F A Q) := by
  rw [vR_nat]
  exact wX9_status hd ⟨h.1.1, hW.2.1 o h.1.2.1, h.1.2.2⟩ hW.1 ra1 h.2
def wqX9_undo (o : Nat) (N : jSh) (F : jFl) (A : jAr) (Q : Int → jFl → jAr → Prop) : Prop := mSh N o ∧ wpX9_undo o F A Q
theorem vX9_undo {G : jG} {l : Launch} {d : Nat} {N : jSh} {F : jFl} {A : jAr} {o : Nat} {Q : Int → jFl → jAr → Prop} (hd : 2 ≤ d) (hW : jWg G N F A) (ht : jtg N o = 10) (h : wqX9_undo o N F A Q) : jCall G l d mX9_undo [vR (o : Int)] N F A (cmB G N Q) := by
  rw [vR_nat]
  exact (wX9_undo hd ⟨h.1.1, hW.2.1 o h.1.2.1, h.1.2.2⟩ hW.1 h.2).mono (fun o1 N1 F1 A1 ⟨z, h1, h2, h3, h4, h5⟩ => ⟨z, h1, h2, ⟨h3, hW.2⟩, h4, h5⟩)
def wqX9_alike (o : Nat) (a1 : Int) (a2 : Int) (N : jSh) (F : jFl) (A : jAr) (Q : Int → Prop) : Prop := mSh N o ∧ wpX9_alike o a1 a2 F A Q
theorem vX9_alike {G : jG} {l : Launch} {d : Nat} {N : jSh} {F : jFl} {A : jAr} {o : Nat} {a1 a2 : Int} {Q : Int → Prop} (hd : 2 ≤ d) (hW : jWg G N F A) (ht : jtg N o = 10) (ra1 : jR a1) (ra2 : jR a2) (h : wqX9_alike o a1 a2 N F A Q) : jCall G l d mX9_alike [vR (o : Int), vI a1, vI a2] N F A (jpI N F A Q) := by
  rw [vR_nat]
  exact wX9_alike hd ⟨h.1.1, hW.2.1 o h.1.2.1, h.1.2.2⟩ hW.1 ra1 ra2 h.2
def wqX9_hears (o : Nat) (a1 : Int) (a2 : Int) (a3 : Int) (N : jSh) (F : jFl) (A : jAr) (Q : Int → Prop) : Prop := mSh N o ∧ wpX9_hears o a1 a2 a3 F A Q
theorem vX9_hears {G : jG} {l : Launch} {d : Nat} {N : jSh} {F : jFl} {A : jAr} {o : Nat} {a1 a2 a3 : Int} {Q : Int → Prop} (hd : 3 ≤ d) (hW : jWg G N F A) (ht : jtg N o = 10) (ra1 : jR a1) (ra2 : jR a2) (ba3 : a3 = 0 ∨ a3 = 1) (h : wqX9_hears o a1 a2 a3 N F A Q) : jCall G l d mX9_hears [vR (o : Int), vI a1, vI a2, vI a3] N F A (jpI N F A Q) := by
  rw [vR_nat]
  exact wX9_hears hd ⟨h.1.1, hW.2.1 o h.1.2.1, h.1.2.2⟩ hW.1 ra1 ra2 ba3 h.2
def wqX9_says (o : Nat) (a1 : Int) (a2 : Int) (a3 : Int) (N : jSh) (F : jFl) (A : jAr) (Q : Int → jFl → jAr → Prop) : Prop := mSh N o ∧ wpX9_says o a1 a2 a3 F A Q
theorem vX9_says {G : jG} {l : Launch} {d : Nat} {N : jSh} {F : jFl} {A : jAr} {o : Nat} {a1 a2 a3 : Int} {Q : Int → jFl → jAr → Prop} (hd : 4 ≤ d) (hW : jWg G N F A) (ht : jtg N o = 10) (ra1 : jR a1) (ra2 : jR a2) (ra3 : jR a3) (h : wqX9_says o a1 a2 a3 N F A Q) : jCall G l d mX9_says [vR (o : Int), vI a1, vI a2, vI a3] N F A (cmI G N Q) := by
  rw [vR_nat]
  exact (wX9_says hd ⟨h.1.1, hW.2.1 o h.1.2.1, h.1.2.2⟩ hW.1 ra1 ra2 ra3 h.2).mono (fun o1 N1 F1 A1 ⟨z, h1, h2, h3, h4, h5⟩ => ⟨z, h1, h2, ⟨h3, hW.2⟩, h4, h5⟩)
def wqX9_sits (o : Nat) (a1 : Int) (a2 : Int) (a3 : Int) (N : jSh) (F : jFl) (A : jAr) (Q : Int → jFl → jAr → Prop) : Prop := mSh N o ∧ wpX9_sits o a1 a2 a3 F A Q
theorem vX9_sits {G : jG} {l : Launch} {d : Nat} {N : jSh} {F : jFl} {A : jAr} {o : Nat} {a1 a2 a3 : Int} {Q : Int → jFl → jAr → Prop} (hd : 6 ≤ d) (hW : jWg G N F A) (ht : jtg N o = 10) (ra1 : jR a1) (ra2 : jR a2) (ra3 : jR a3) (h : wqX9_sits o a1 a2 a3 N F A Q) : jCall G l d mX9_sits [vR (o : Int), vI a1, vI a2, vI a3] N F A (cmI G N Q) := by
  rw [vR_nat]
  exact (wX9_sits hd ⟨h.1.1, hW.2.1 o h.1.2.1, h.1.2.2⟩ hW.1 ra1 ra2 ra3 h.2).mono (fun o1 N1 F1 A1 ⟨z, h1, h2, h3, h4, h5⟩ => ⟨z, h1, h2, ⟨h3, hW.2⟩, h4, h5⟩)
def wqX9_sitting (o : Nat) (a1 : Int) (a2 : Int) (N : jSh) (F : jFl) (A : jAr) (Q : Int → jFl → jAr → Prop) : Prop := mSh N o ∧ wpX9_sitting o a1 a2 F A Q
theorem vX9_sitting {G : jG} {l : Launch} {d : Nat} {N : jSh} {F : jFl} {A : jAr} {o : Nat} {a1 a2 : Int} {Q : Int → jFl → jAr → Prop} (hd : 6 ≤ d) (hW : jWg G N F A) (ht : jtg N o = 10) (ra1 : jR a1) (ra2 : jR a2) (h : wqX9_sitting o a1 a2 N F A Q) : jCall G l d mX9_sitting [vR (o : Int), vI a1, vI a2] N F A (cmI G N Q) := by
  rw [vR_nat]
  exact (wX9_sitting hd ⟨h.1.1, hW.2.1 o h.1.2.1, h.1.2.2⟩ hW.1 ra1 ra2 h.2).mono (fun o1 N1 F1 A1 ⟨z, h1, h2, h3, h4, h5⟩ => ⟨z, h1, h2, ⟨h3, hW.2⟩, h4, h5⟩)
def wqX9_tell (o : Nat) (a1 : Int) (a2 : Int) (N : jSh) (F : jFl) (A : jAr) (Q : Int → jFl → jAr → Prop) : Prop := mSh N o ∧ wpX9_tell o a1 a2 F A Q
theorem vX9_tell {G : jG} {l : Launch} {d : Nat} {N : jSh} {F : jFl} {A : jAr} {o : Nat} {a1 a2 : Int} {Q : Int → jFl → jAr → Prop} (hd : 4 ≤ d) (hW : jWg G N F A) (ht : jtg N o = 10) (ra1 : jR a1) (ra2 : jR a2) (h : wqX9_tell o a1 a2 N F A Q) : jCall G l d mX9_tell [vR (o : Int), vI a1, vI a2] N F A (cmI G N Q) := by
  rw [vR_nat]
  exact (wX9_tell hd ⟨h.1.1, hW.2.1 o h.1.2.1, h.1.2.2⟩ hW.1 ra1 ra2 h.2).mono (fun o1 N1 F1 A1 ⟨z, h1, h2, h3, h4, h5⟩ => ⟨z, h1, h2, ⟨h3, hW.2⟩, h4, h5⟩)
def wqX9_anew (o : Nat) (a1 : Int) (N : jSh) (F : jFl) (A : jAr) (Q : Int → jFl → jAr → Prop) : Prop := mSh N o ∧ wpX9_anew o a1 F A Q
theorem vX9_anew {G : jG} {l : Launch} {d : Nat} {N : jSh} {F : jFl} {A : jAr} {o : Nat} {a1 : Int} {Q : Int → jFl → jAr → Prop} (hd : 6 ≤ d) (hW : jWg G N F A) (ht : jtg N o = 10) (ra1 : jR a1) (h : wqX9_anew o a1 N F A Q) : jCall G l d mX9_anew [vR (o : Int), vI a1] N F A (cmI G N Q) := by
  rw [vR_nat]
  exact (wX9_anew hd ⟨h.1.1, hW.2.1 o h.1.2.1, h.1.2.2⟩ hW.1 ra1 h.2).mono (fun o1 N1 F1 A1 ⟨z, h1, h2, h3, h4, h5⟩ => ⟨z, h1, h2, ⟨h3, hW.2⟩, h4, h5⟩)
def wqX9_council (o : Nat) (a1 : Int) (N : jSh) (F : jFl) (A : jAr) (Q : Int → jFl → jAr → Prop) : Prop := mSh N o ∧ wpX9_council o a1 F A Q
theorem vX9_council {G : jG} {l : Launch} {d : Nat} {N : jSh} {F : jFl} {A : jAr} {o : Nat} {a1 : Int} {Q : Int → jFl → jAr → Prop} (hd : 7 ≤ d) (hW : jWg G N F A) (ht : jtg N o = 10) (ra1 : jR a1) (h : wqX9_council o a1 N F A Q) : jCall G l d mX9_council [vR (o : Int), vI a1] N F A (cmI G N Q) := by
  rw [vR_nat]
  exact (wX9_council hd ⟨h.1.1, hW.2.1 o h.1.2.1, h.1.2.2⟩ hW.1 ra1 h.2).mono (fun o1 N1 F1 A1 ⟨z, h1, h2, h3, h4, h5⟩ => ⟨z, h1, h2, ⟨h3, hW.2⟩, h4, h5⟩)
def wqX9_sing (o : Nat) (a1 : Int) (a2 : Int) (N : jSh) (F : jFl) (A : jAr) (Q : Int → jFl → jAr → Prop) : Prop := mSh N o ∧ wpX9_sing o a1 a2 F A Q
theorem vX9_sing {G : jG} {l : Launch} {d : Nat} {N : jSh} {F : jFl} {A : jAr} {o : Nat} {a1 a2 : Int} {Q : Int → jFl → jAr → Prop} (hd : 3 ≤ d) (hW : jWg G N F A) (ht : jtg N o = 10) (ra1 : jR a1) (ba2 : a2 = 0 ∨ a2 = 1) (h : wqX9_sing o a1 a2 N F A Q) : jCall G l d mX9_sing [vR (o : Int), vI a1, vI a2] N F A (cmB G N Q) := by
  rw [vR_nat]
  exact (wX9_sing hd ⟨h.1.1, hW.2.1 o h.1.2.1, h.1.2.2⟩ hW.1 ra1 ba2 h.2).mono (fun o1 N1 F1 A1 ⟨z, h1, h2, h3, h4, h5⟩ => ⟨z, h1, h2, ⟨h3, hW.2⟩, h4, h5⟩)
def wqX9_swap (o : Nat) (a1 : Int) (a2 : Int) (N : jSh) (F : jFl) (A : jAr) (Q : Int → jFl → jAr → Prop) : Prop := mSh N o ∧ wpX9_swap o a1 a2 F A Q
theorem vX9_swap {G : jG} {l : Launch} {d : Nat} {N : jSh} {F : jFl} {A : jAr} {o : Nat} {a1 a2 : Int} {Q : Int → jFl → jAr → Prop} (hd : 3 ≤ d) (hW : jWg G N F A) (ht : jtg N o = 10) (ra1 : jR a1) (ra2 : jR a2) (h : wqX9_swap o a1 a2 N F A Q) : jCall G l d mX9_swap [vR (o : Int), vI a1, vI a2] N F A (cmB G N Q) := by
  rw [vR_nat]
  exact (wX9_swap hd ⟨h.1.1, hW.2.1 o h.1.2.1, h.1.2.2⟩ hW.1 ra1 ra2 h.2).mono (fun o1 N1 F1 A1 ⟨z, h1, h2, h3, h4, h5⟩ => ⟨z, h1, h2, ⟨h3, hW.2⟩, h4, h5⟩)
def wqX9_years (o : Nat) (a1 : Int) (N : jSh) (F : jFl) (A : jAr) (Q : Int → jFl → jAr → Prop) : Prop := mSh N o ∧ wpX9_years o a1 F A Q
theorem vX9_years {G : jG} {l : Launch} {d : Nat} {N : jSh} {F : jFl} {A : jAr} {o : Nat} {a1 : Int} {Q : Int → jFl → jAr → Prop} (hd : 7 ≤ d) (hW : jWg G N F A) (ht : jtg N o = 10) (ra1 : jR a1) (h : wqX9_years o a1 N F A Q) : jCall G l d mX9_years [vR (o : Int), vI a1] N F A (cmI G N Q) := by
  rw [vR_nat]
  exact (wX9_years hd ⟨h.1.1, hW.2.1 o h.1.2.1, h.1.2.2⟩ hW.1 ra1 h.2).mono (fun o1 N1 F1 A1 ⟨z, h1, h2, h3, h4, h5⟩ => ⟨z, h1, h2, ⟨h3, hW.2⟩, h4, h5⟩)
def wqX9_seed (o : Nat) (a1 : Int) (N : jSh) (F : jFl) (A : jAr) (Q : Int → jFl → jAr → Prop) : Prop := mSh N o ∧ wpX9_seed o a1 F A Q
theorem vX9_seed {G : jG} {l : Launch} {d : Nat} {N : jSh} {F : jFl} {A : jAr} {o : Nat} {a1 : Int} {Q : Int → jFl → jAr → Prop} (hd : 2 ≤ d) (hW : jWg G N F A) (ht : jtg N o = 10) (ra1 : jR a1) (h : wqX9_seed o a1 N F A Q) : jCall G l d mX9_seed [vR (o : Int), vI a1] N F A (cmB G N Q) := by
  rw [vR_nat]
  exact (wX9_seed hd ⟨h.1.1, hW.2.1 o h.1.2.1, h.1.2.2⟩ hW.1 ra1 h.2).mono (fun o1 N1 F1 A1 ⟨z, h1, h2, h3, h4, h5⟩ => ⟨z, h1, h2, ⟨h3, hW.2⟩, h4, h5⟩)
def wqX9_book (o : Nat) (a1 : Int) (a2 : Int) (N : jSh) (F : jFl) (A : jAr) (Q : Int → Prop) : Prop := mSh N o ∧ wpX9_book o a1 a2 F A Q
theorem vX9_book {G : jG} {l : Launch} {d : Nat} {N : jSh} {F : jFl} {A : jAr} {o : Nat} {a1 a2 : Int} {Q : Int → Prop} (hd : 2 ≤ d) (hW : jWg G N F A) (ht : jtg N o = 10) (ra1 : jR a1) (ra2 : jR a2) (h : wqX9_book o a1 a2 N F A Q) : jCall G l d mX9_book [vR (o : Int), vI a1, vI a2] N F A (jpI N F A Q) := by
  rw [vR_nat]
  exact wX9_book hd ⟨h.1.1, hW.2.1 o h.1.2.1, h.1.2.2⟩ hW.1 ra1 ra2 h.2
def wqX9_has (o : Nat) (a1 : Int) (N : jSh) (F : jFl) (A : jAr) (Q : Int → Prop) : Prop := mSh N o ∧ wpX9_has o a1 F A Q
theorem vX9_has {G : jG} {l : Launch} {d : Nat} {N : jSh} {F : jFl} {A : jAr} {o : Nat} {a1 : Int} {Q : Int → Prop} (hd : 3 ≤ d) (hW : jWg G N F A) (ht : jtg N o = 10) (ra1 : jR a1) (h : wqX9_has o a1 N F A Q) : jCall G l d mX9_has [vR (o : Int), vI a1] N F A (jpI N F A Q) := by
  rw [vR_nat]
  exact wX9_has hd ⟨h.1.1, hW.2.1 o h.1.2.1, h.1.2.2⟩ hW.1 ra1 h.2
def wqX9_letter (o : Nat) (a1 : Int) (a2 : Int) (a3 : Int) (N : jSh) (F : jFl) (A : jAr) (Q : Int → Prop) : Prop := mSh N o ∧ wpX9_letter o a1 a2 a3 F A Q
theorem vX9_letter {G : jG} {l : Launch} {d : Nat} {N : jSh} {F : jFl} {A : jAr} {o : Nat} {a1 a2 a3 : Int} {Q : Int → Prop} (hd : 2 ≤ d) (hW : jWg G N F A) (ht : jtg N o = 10) (ra1 : jR a1) (ra2 : jR a2) (ra3 : jR a3) (h : wqX9_letter o a1 a2 a3 N F A Q) : jCall G l d mX9_letter [vR (o : Int), vI a1, vI a2, vI a3] N F A (jpI N F A Q) := by
  rw [vR_nat]
  exact wX9_letter hd ⟨h.1.1, hW.2.1 o h.1.2.1, h.1.2.2⟩ hW.1 ra1 ra2 ra3 h.2
def wqX9_word (o : Nat) (a1 : Int) (a2 : Int) (N : jSh) (F : jFl) (A : jAr) (Q : Int → Prop) : Prop := mSh N o ∧ wpX9_word o a1 a2 F A Q
theorem vX9_word {G : jG} {l : Launch} {d : Nat} {N : jSh} {F : jFl} {A : jAr} {o : Nat} {a1 a2 : Int} {Q : Int → Prop} (hd : 2 ≤ d) (hW : jWg G N F A) (ht : jtg N o = 10) (ra1 : jR a1) (ra2 : jR a2) (h : wqX9_word o a1 a2 N F A Q) : jCall G l d mX9_word [vR (o : Int), vI a1, vI a2] N F A (jpI N F A Q) := by
  rw [vR_nat]
  exact wX9_word hd ⟨h.1.1, hW.2.1 o h.1.2.1, h.1.2.2⟩ hW.1 ra1 ra2 h.2
def wqX9_child (o : Nat) (a1 : Int) (a2 : Int) (N : jSh) (F : jFl) (A : jAr) (Q : Int → jFl → jAr → Prop) : Prop := mSh N o ∧ wpX9_child o a1 a2 F A Q
theorem vX9_child {G : jG} {l : Launch} {d : Nat} {N : jSh} {F : jFl} {A : jAr} {o : Nat} {a1 a2 : Int} {Q : Int → jFl → jAr → Prop} (hd : 5 ≤ d) (hW : jWg G N F A) (ht : jtg N o = 10) (ra1 : jR a1) (ra2 : jR a2) (h : wqX9_child o a1 a2 N F A Q) : jCall G l d mX9_child [vR (o : Int), vI a1, vI a2] N F A (cmI G N Q) := by
  rw [vR_nat]
  exact (wX9_child hd ⟨h.1.1, hW.2.1 o h.1.2.1, h.1.2.2⟩ hW.1 ra1 ra2 h.2).mono (fun o1 N1 F1 A1 ⟨z, h1, h2, h3, h4, h5⟩ => ⟨z, h1, h2, ⟨h3, hW.2⟩, h4, h5⟩)
def wqX9_law (o : Nat) (a1 : Int) (a2 : Int) (N : jSh) (F : jFl) (A : jAr) (Q : Int → jFl → jAr → Prop) : Prop := mSh N o ∧ wpX9_law o a1 a2 F A Q
theorem vX9_law {G : jG} {l : Launch} {d : Nat} {N : jSh} {F : jFl} {A : jAr} {o : Nat} {a1 a2 : Int} {Q : Int → jFl → jAr → Prop} (hd : 6 ≤ d) (hW : jWg G N F A) (ht : jtg N o = 10) (ra1 : jR a1) (ra2 : jR a2) (h : wqX9_law o a1 a2 N F A Q) : jCall G l d mX9_law [vR (o : Int), vI a1, vI a2] N F A (cmI G N Q) := by
  rw [vR_nat]
  exact (wX9_law hd ⟨h.1.1, hW.2.1 o h.1.2.1, h.1.2.2⟩ hW.1 ra1 ra2 h.2).mono (fun o1 N1 F1 A1 ⟨z, h1, h2, h3, h4, h5⟩ => ⟨z, h1, h2, ⟨h3, hW.2⟩, h4, h5⟩)
def wqX9_order (o : Nat) (a1 : Int) (N : jSh) (F : jFl) (A : jAr) (Q : Int → Prop) : Prop := mSh N o ∧ wpX9_order o a1 F A Q
theorem vX9_order {G : jG} {l : Launch} {d : Nat} {N : jSh} {F : jFl} {A : jAr} {o : Nat} {a1 : Int} {Q : Int → Prop} (hd : 2 ≤ d) (hW : jWg G N F A) (ht : jtg N o = 10) (ra1 : jR a1) (h : wqX9_order o a1 N F A Q) : jCall G l d mX9_order [vR (o : Int), vI a1] N F A (jpI N F A Q) := by
  rw [vR_nat]
  exact wX9_order hd ⟨h.1.1, hW.2.1 o h.1.2.1, h.1.2.2⟩ hW.1 ra1 h.2
def wqX9_odds (o : Nat) (a1 : Int) (N : jSh) (F : jFl) (A : jAr) (Q : Int → jFl → jAr → Prop) : Prop := mSh N o ∧ wpX9_odds o a1 F A Q
theorem vX9_odds {G : jG} {l : Launch} {d : Nat} {N : jSh} {F : jFl} {A : jAr} {o : Nat} {a1 : Int} {Q : Int → jFl → jAr → Prop} (hd : 6 ≤ d) (hW : jWg G N F A) (ht : jtg N o = 10) (ra1 : jR a1) (h : wqX9_odds o a1 N F A Q) : jCall G l d mX9_odds [vR (o : Int), vI a1] N F A (cmI G N Q) := by
  rw [vR_nat]
  exact (wX9_odds hd ⟨h.1.1, hW.2.1 o h.1.2.1, h.1.2.2⟩ hW.1 ra1 h.2).mono (fun o1 N1 F1 A1 ⟨z, h1, h2, h3, h4, h5⟩ => ⟨z, h1, h2, ⟨h3, hW.2⟩, h4, h5⟩)
def wqX9_becomes (o : Nat) (a1 : Int) (a2 : Int) (a3 : Int) (N : jSh) (F : jFl) (A : jAr) (Q : Int → jFl → jAr → Prop) : Prop := mSh N o ∧ wpX9_becomes o a1 a2 a3 F A Q
theorem vX9_becomes {G : jG} {l : Launch} {d : Nat} {N : jSh} {F : jFl} {A : jAr} {o : Nat} {a1 a2 a3 : Int} {Q : Int → jFl → jAr → Prop} (hd : 4 ≤ d) (hW : jWg G N F A) (ht : jtg N o = 10) (ra1 : jR a1) (ra2 : jR a2) (ba3 : a3 = 0 ∨ a3 = 1) (h : wqX9_becomes o a1 a2 a3 N F A Q) : jCall G l d mX9_becomes [vR (o : Int), vI a1, vI a2, vI a3] N F A (cmI G N Q) := by
  rw [vR_nat]
  exact (wX9_becomes hd ⟨h.1.1, hW.2.1 o h.1.2.1, h.1.2.2⟩ hW.1 ra1 ra2 ba3 h.2).mono (fun o1 N1 F1 A1 ⟨z, h1, h2, h3, h4, h5⟩ => ⟨z, h1, h2, ⟨h3, hW.2⟩, h4, h5⟩)
def wqX9_round (o : Nat) (a1 : Int) (a2 : Int) (a3 : Int) (N : jSh) (F : jFl) (A : jAr) (Q : Int → jFl → jAr → Prop) : Prop := mSh N o ∧ wpX9_round o a1 a2 a3 F A Q
theorem vX9_round {G : jG} {l : Launch} {d : Nat} {N : jSh} {F : jFl} {A : jAr} {o : Nat} {a1 a2 a3 : Int} {Q : Int → jFl → jAr → Prop} (hd : 4 ≤ d) (hW : jWg G N F A) (ht : jtg N o = 10) (ra1 : jR a1) (ra2 : jR a2) (ra3 : jR a3) (h : wqX9_round o a1 a2 a3 N F A Q) : jCall G l d mX9_round [vR (o : Int), vI a1, vI a2, vI a3] N F A (cmI G N Q) := by
  rw [vR_nat]
  exact (wX9_round hd ⟨h.1.1, hW.2.1 o h.1.2.1, h.1.2.2⟩ hW.1 ra1 ra2 ra3 h.2).mono (fun o1 N1 F1 A1 ⟨z, h1, h2, h3, h4, h5⟩ => ⟨z, h1, h2, ⟨h3, hW.2⟩, h4, h5⟩)
def wqX9_best (o : Nat) (a1 : Int) (a2 : Int) (N : jSh) (F : jFl) (A : jAr) (Q : Int → jFl → jAr → Prop) : Prop := mSh N o ∧ wpX9_best o a1 a2 F A Q
theorem vX9_best {G : jG} {l : Launch} {d : Nat} {N : jSh} {F : jFl} {A : jAr} {o : Nat} {a1 a2 : Int} {Q : Int → jFl → jAr → Prop} (hd : 5 ≤ d) (hW : jWg G N F A) (ht : jtg N o = 10) (ra1 : jR a1) (ra2 : jR a2) (h : wqX9_best o a1 a2 N F A Q) : jCall G l d mX9_best [vR (o : Int), vI a1, vI a2] N F A (cmI G N Q) := by
  rw [vR_nat]
  exact (wX9_best hd ⟨h.1.1, hW.2.1 o h.1.2.1, h.1.2.2⟩ hW.1 ra1 ra2 h.2).mono (fun o1 N1 F1 A1 ⟨z, h1, h2, h3, h4, h5⟩ => ⟨z, h1, h2, ⟨h3, hW.2⟩, h4, h5⟩)
def wqX9_mended (o : Nat) (a1 : Int) (a2 : Int) (N : jSh) (F : jFl) (A : jAr) (Q : Int → jFl → jAr → Prop) : Prop := mSh N o ∧ wpX9_mended o a1 a2 F A Q
theorem vX9_mended {G : jG} {l : Launch} {d : Nat} {N : jSh} {F : jFl} {A : jAr} {o : Nat} {a1 a2 : Int} {Q : Int → jFl → jAr → Prop} (hd : 8 ≤ d) (hW : jWg G N F A) (ht : jtg N o = 10) (ra1 : jR a1) (ra2 : jR a2) (h : wqX9_mended o a1 a2 N F A Q) : jCall G l d mX9_mended [vR (o : Int), vI a1, vI a2] N F A (cmI G N Q) := by
  rw [vR_nat]
  exact (wX9_mended hd ⟨h.1.1, hW.2.1 o h.1.2.1, h.1.2.2⟩ hW.1 ra1 ra2 h.2).mono (fun o1 N1 F1 A1 ⟨z, h1, h2, h3, h4, h5⟩ => ⟨z, h1, h2, ⟨h3, hW.2⟩, h4, h5⟩)
def wqX9_forty (o : Nat) (a1 : Int) (a2 : Int) (N : jSh) (F : jFl) (A : jAr) (Q : Int → jFl → jAr → Prop) : Prop := mSh N o ∧ wpX9_forty o a1 a2 F A Q
theorem vX9_forty {G : jG} {l : Launch} {d : Nat} {N : jSh} {F : jFl} {A : jAr} {o : Nat} {a1 a2 : Int} {Q : Int → jFl → jAr → Prop} (hd : 6 ≤ d) (hW : jWg G N F A) (ht : jtg N o = 10) (ra1 : jR a1) (ra2 : jR a2) (h : wqX9_forty o a1 a2 N F A Q) : jCall G l d mX9_forty [vR (o : Int), vI a1, vI a2] N F A (cmI G N Q) := by
  rw [vR_nat]
  exact (wX9_forty hd ⟨h.1.1, hW.2.1 o h.1.2.1, h.1.2.2⟩ hW.1 ra1 ra2 h.2).mono (fun o1 N1 F1 A1 ⟨z, h1, h2, h3, h4, h5⟩ => ⟨z, h1, h2, ⟨h3, hW.2⟩, h4, h5⟩)
def wqX9_sorted (o : Nat) (a1 : Int) (a2 : Int) (N : jSh) (F : jFl) (A : jAr) (Q : Int → jFl → jAr → Prop) : Prop := mSh N o ∧ wpX9_sorted o a1 a2 F A Q
theorem vX9_sorted {G : jG} {l : Launch} {d : Nat} {N : jSh} {F : jFl} {A : jAr} {o : Nat} {a1 a2 : Int} {Q : Int → jFl → jAr → Prop} (hd : 8 ≤ d) (hW : jWg G N F A) (ht : jtg N o = 10) (ra1 : jR a1) (ra2 : jR a2) (h : wqX9_sorted o a1 a2 N F A Q) : jCall G l d mX9_sorted [vR (o : Int), vI a1, vI a2] N F A (cmI G N Q) := by
  rw [vR_nat]
  exact (wX9_sorted hd ⟨h.1.1, hW.2.1 o h.1.2.1, h.1.2.2⟩ hW.1 ra1 ra2 h.2).mono (fun o1 N1 F1 A1 ⟨z, h1, h2, h3, h4, h5⟩ => ⟨z, h1, h2, ⟨h3, hW.2⟩, h4, h5⟩)
def wqX9_apart (o : Nat) (a1 : Int) (N : jSh) (F : jFl) (A : jAr) (Q : Int → Prop) : Prop := mSh N o ∧ wpX9_apart o a1 F A Q
theorem vX9_apart {G : jG} {l : Launch} {d : Nat} {N : jSh} {F : jFl} {A : jAr} {o : Nat} {a1 : Int} {Q : Int → Prop} (hd : 5 ≤ d) (hW : jWg G N F A) (ht : jtg N o = 10) (ra1 : jR a1) (h : wqX9_apart o a1 N F A Q) : jCall G l d mX9_apart [vR (o : Int), vI a1] N F A (jpI N F A Q) := by
  rw [vR_nat]
  exact wX9_apart hd ⟨h.1.1, hW.2.1 o h.1.2.1, h.1.2.2⟩ hW.1 ra1 h.2
def wqX9_against (o : Nat) (a1 : Int) (N : jSh) (F : jFl) (A : jAr) (Q : Int → Prop) : Prop := mSh N o ∧ wpX9_against o a1 F A Q
theorem vX9_against {G : jG} {l : Launch} {d : Nat} {N : jSh} {F : jFl} {A : jAr} {o : Nat} {a1 : Int} {Q : Int → Prop} (hd : 5 ≤ d) (hW : jWg G N F A) (ht : jtg N o = 10) (ra1 : jR a1) (h : wqX9_against o a1 N F A Q) : jCall G l d mX9_against [vR (o : Int), vI a1] N F A (jpI N F A Q) := by
  rw [vR_nat]
  exact wX9_against hd ⟨h.1.1, hW.2.1 o h.1.2.1, h.1.2.2⟩ hW.1 ra1 h.2
def wqX9_once (o : Nat) (a1 : Int) (a2 : Int) (a3 : Int) (a4 : Int) (N : jSh) (F : jFl) (A : jAr) (Q : Int → jFl → jAr → Prop) : Prop := mSh N o ∧ wpX9_once o a1 a2 a3 a4 F A Q
theorem vX9_once {G : jG} {l : Launch} {d : Nat} {N : jSh} {F : jFl} {A : jAr} {o : Nat} {a1 a2 a3 a4 : Int} {Q : Int → jFl → jAr → Prop} (hd : 4 ≤ d) (hW : jWg G N F A) (ht : jtg N o = 10) (ra1 : jR a1) (ra2 : jR a2) (ra3 : jR a3) (ra4 : jR a4) (h : wqX9_once o a1 a2 a3 a4 N F A Q) : jCall G l d mX9_once [vR (o : Int), vI a1, vI a2, vI a3, vI a4] N F A (cmI G N Q) := by
  rw [vR_nat]
  exact (wX9_once hd ⟨h.1.1, hW.2.1 o h.1.2.1, h.1.2.2⟩ hW.1 ra1 ra2 ra3 ra4 h.2).mono (fun o1 N1 F1 A1 ⟨z, h1, h2, h3, h4, h5⟩ => ⟨z, h1, h2, ⟨h3, hW.2⟩, h4, h5⟩)
def wqX9_meaning (o : Nat) (a1 : Int) (N : jSh) (F : jFl) (A : jAr) (Q : Int → jFl → jAr → Prop) : Prop := mSh N o ∧ wpX9_meaning o a1 F A Q
theorem vX9_meaning {G : jG} {l : Launch} {d : Nat} {N : jSh} {F : jFl} {A : jAr} {o : Nat} {a1 : Int} {Q : Int → jFl → jAr → Prop} (hd : 3 ≤ d) (hW : jWg G N F A) (ht : jtg N o = 10) (ra1 : jR a1) (h : wqX9_meaning o a1 N F A Q) : jCall G l d mX9_meaning [vR (o : Int), vI a1] N F A (cmI G N Q) := by
  rw [vR_nat]
  exact (wX9_meaning hd ⟨h.1.1, hW.2.1 o h.1.2.1, h.1.2.2⟩ hW.1 ra1 h.2).mono (fun o1 N1 F1 A1 ⟨z, h1, h2, h3, h4, h5⟩ => ⟨z, h1, h2, ⟨h3, hW.2⟩, h4, h5⟩)
def wqX9_harm (o : Nat) (a1 : Int) (N : jSh) (F : jFl) (A : jAr) (Q : Int → jFl → jAr → Prop) : Prop := mSh N o ∧ wpX9_harm o a1 F A Q
theorem vX9_harm {G : jG} {l : Launch} {d : Nat} {N : jSh} {F : jFl} {A : jAr} {o : Nat} {a1 : Int} {Q : Int → jFl → jAr → Prop} (hd : 6 ≤ d) (hW : jWg G N F A) (ht : jtg N o = 10) (ra1 : jR a1) (h : wqX9_harm o a1 N F A Q) : jCall G l d mX9_harm [vR (o : Int), vI a1] N F A (cmI G N Q) := by
  rw [vR_nat]
  exact (wX9_harm hd ⟨h.1.1, hW.2.1 o h.1.2.1, h.1.2.2⟩ hW.1 ra1 h.2).mono (fun o1 N1 F1 A1 ⟨z, h1, h2, h3, h4, h5⟩ => ⟨z, h1, h2, ⟨h3, hW.2⟩, h4, h5⟩)
def wqX9_needs (o : Nat) (a1 : Int) (a2 : Int) (N : jSh) (F : jFl) (A : jAr) (Q : Int → jFl → jAr → Prop) : Prop := mSh N o ∧ wpX9_needs o a1 a2 F A Q
theorem vX9_needs {G : jG} {l : Launch} {d : Nat} {N : jSh} {F : jFl} {A : jAr} {o : Nat} {a1 a2 : Int} {Q : Int → jFl → jAr → Prop} (hd : 5 ≤ d) (hW : jWg G N F A) (ht : jtg N o = 10) (ra1 : jR a1) (ra2 : jR a2) (h : wqX9_needs o a1 a2 N F A Q) : jCall G l d mX9_needs [vR (o : Int), vI a1, vI a2] N F A (cmI G N Q) := by
  rw [vR_nat]
  exact (wX9_needs hd ⟨h.1.1, hW.2.1 o h.1.2.1, h.1.2.2⟩ hW.1 ra1 ra2 h.2).mono (fun o1 N1 F1 A1 ⟨z, h1, h2, h3, h4, h5⟩ => ⟨z, h1, h2, ⟨h3, hW.2⟩, h4, h5⟩)
def wqX9_runs (o : Nat) (a1 : Int) (a2 : Int) (a3 : Int) (N : jSh) (F : jFl) (A : jAr) (Q : Int → jFl → jAr → Prop) : Prop := mSh N o ∧ wpX9_runs o a1 a2 a3 F A Q
theorem vX9_runs {G : jG} {l : Launch} {d : Nat} {N : jSh} {F : jFl} {A : jAr} {o : Nat} {a1 a2 a3 : Int} {Q : Int → jFl → jAr → Prop} (hd : 7 ≤ d) (hW : jWg G N F A) (ht : jtg N o = 10) (ra1 : jR a1) (ra2 : jR a2) (ra3 : jR a3) (h : wqX9_runs o a1 a2 a3 N F A Q) : jCall G l d mX9_runs [vR (o : Int), vI a1, vI a2, vI a3] N F A (cmI G N Q) := by
  rw [vR_nat]
  exact (wX9_runs hd ⟨h.1.1, hW.2.1 o h.1.2.1, h.1.2.2⟩ hW.1 ra1 ra2 ra3 h.2).mono (fun o1 N1 F1 A1 ⟨z, h1, h2, h3, h4, h5⟩ => ⟨z, h1, h2, ⟨h3, hW.2⟩, h4, h5⟩)
def wqX9_image (o : Nat) (N : jSh) (F : jFl) (A : jAr) (Q : Int → jFl → jAr → Prop) : Prop := mSh N o ∧ wpX9_image o F A Q
theorem vX9_image {G : jG} {l : Launch} {d : Nat} {N : jSh} {F : jFl} {A : jAr} {o : Nat} {Q : Int → jFl → jAr → Prop} (hd : 2 ≤ d) (hW : jWg G N F A) (ht : jtg N o = 10) (h : wqX9_image o N F A Q) : jCall G l d mX9_image [vR (o : Int)] N F A (cmI G N Q) := by
  rw [vR_nat]
  exact (wX9_image hd ⟨h.1.1, hW.2.1 o h.1.2.1, h.1.2.2⟩ hW.1 h.2).mono (fun o1 N1 F1 A1 ⟨z, h1, h2, h3, h4, h5⟩ => ⟨z, h1, h2, ⟨h3, hW.2⟩, h4, h5⟩)
def wqX9_octet (o : Nat) (a1 : Int) (N : jSh) (F : jFl) (A : jAr) (Q : Int → Prop) : Prop := mSh N o ∧ wpX9_octet o a1 F A Q
theorem vX9_octet {G : jG} {l : Launch} {d : Nat} {N : jSh} {F : jFl} {A : jAr} {o : Nat} {a1 : Int} {Q : Int → Prop} (hd : 2 ≤ d) (hW : jWg G N F A) (ht : jtg N o = 10) (ra1 : jR a1) (h : wqX9_octet o a1 N F A Q) : jCall G l d mX9_octet [vR (o : Int), vI a1] N F A (jpI N F A Q) := by
  rw [vR_nat]
  exact wX9_octet hd ⟨h.1.1, hW.2.1 o h.1.2.1, h.1.2.2⟩ hW.1 ra1 h.2
def wqX9_on (o : Nat) (N : jSh) (F : jFl) (A : jAr) (Q : Int → jFl → jAr → Prop) : Prop := mSh N o ∧ wpX9_on o F A Q
theorem vX9_on {G : jG} {l : Launch} {d : Nat} {N : jSh} {F : jFl} {A : jAr} {o : Nat} {Q : Int → jFl → jAr → Prop} (hd : 4 ≤ d) (hW : jWg G N F A) (ht : jtg N o = 10) (h : wqX9_on o N F A Q) : jCall G l d mX9_on [vR (o : Int)] N F A (cmB G N Q) := by
  rw [vR_nat]
  exact (wX9_on hd ⟨h.1.1, hW.2.1 o h.1.2.1, h.1.2.2⟩ hW.1 h.2).mono (fun o1 N1 F1 A1 ⟨z, h1, h2, h3, h4, h5⟩ => ⟨z, h1, h2, ⟨h3, hW.2⟩, h4, h5⟩)
