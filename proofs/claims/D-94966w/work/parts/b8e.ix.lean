set_option maxRecDepth 100000
set_option linter.unusedVariables false
/-! the constructor of the model; printed by gen/emit_law.py init -/
/-- ChildSaysModel.<init>()V -/
def wqX9_init (o : Nat) (N : jSh) (F : jFl) (A : jAr) (Q : jSh → jFl → jAr → Prop) : Prop :=
  ∀ (b1 : Nat) (N2 : jSh) (F3 : jFl) (A4 : jAr), b1 = jnx N → N2 = jnew N 102 1800 1800 1 → F3 = nwF N F → A4 = nwA N 102 A →
  jfn N2 0 o = 1 ∧
  ∀ N12 : jSh, N12 = jpF N2 3002 o (b1 : Int) →
  ∀ F18 : jFl, F18 = upF F3 3003 o 0 →
  ∀ F20 : jFl, F20 = upF F18 3006 o 0 →
  ∀ F22 : jFl, F22 = upF F20 3009 o 0 →
  ∀ F24 : jFl, F24 = upF F22 3012 o 0 →
  ∀ F26 : jFl, F26 = upF F24 3015 o 0 →
  ∀ F28 : jFl, F28 = upF F26 3018 o 0 →
  ∀ F30 : jFl, F30 = upF F28 3022 o 0 →
  ∀ F32 : jFl, F32 = upF F30 3024 o 0 →
  ∀ F34 : jFl, F34 = upF F32 3027 o (-1) →
  ∀ F36 : jFl, F36 = upF F34 3030 o 0 →
  ∀ F38 : jFl, F38 = upF F36 3033 o (-1) →
  ∀ F40 : jFl, F40 = upF F38 3036 o (-1) →
  ∀ F42 : jFl, F42 = upF F40 3039 o 0 →
  ∀ (b43 : Nat) (N44 : jSh) (F45 : jFl) (A46 : jAr), b43 = jnx N12 → N44 = jnew N12 102 2 2 1 → F45 = nwF N12 F42 → A46 = nwA N12 102 A4 →
  ∀ N55 : jSh, N55 = jpF N44 3044 o (b43 : Int) →
  ∀ (b57 : Nat) (N58 : jSh) (F59 : jFl) (A60 : jAr), b57 = jnx N55 → N58 = jnew N55 103 48 48 1 → F59 = nwF N55 F45 → A60 = nwA N55 103 A46 →
  ∀ N71 : jSh, N71 = jpF N58 3047 o (b57 : Int) →
  ∀ (b73 : Nat) (N74 : jSh) (F75 : jFl) (A76 : jAr), b73 = jnx N71 → N74 = jnew N71 102 48 48 1 → F75 = nwF N71 F59 → A76 = nwA N71 102 A60 →
  ∀ N87 : jSh, N87 = jpF N74 3050 o (b73 : Int) →
  ∀ (b89 : Nat) (N90 : jSh) (F91 : jFl) (A92 : jAr), b89 = jnx N87 → N90 = jnew N87 102 48 48 1 → F91 = nwF N87 F75 → A92 = nwA N87 102 A76 →
  ∀ N103 : jSh, N103 = jpF N90 3053 o (b89 : Int) →
  ∀ (b105 : Nat) (N106 : jSh) (F107 : jFl) (A108 : jAr), b105 = jnx N103 → N106 = jnew N103 102 48 48 1 → F107 = nwF N103 F91 → A108 = nwA N103 102 A92 →
  ∀ N119 : jSh, N119 = jpF N106 3056 o (b105 : Int) →
  ∀ (b121 : Nat) (N122 : jSh) (F123 : jFl) (A124 : jAr), b121 = jnx N119 → N122 = jnew N119 102 48 48 1 → F123 = nwF N119 F107 → A124 = nwA N119 102 A108 →
  ∀ N135 : jSh, N135 = jpF N122 3059 o (b121 : Int) →
  ∀ (b137 : Nat) (N138 : jSh) (F139 : jFl) (A140 : jAr), b137 = jnx N135 → N138 = jnew N135 102 48 48 1 → F139 = nwF N135 F123 → A140 = nwA N135 102 A124 →
  ∀ N151 : jSh, N151 = jpF N138 3062 o (b137 : Int) →
  ∀ (b153 : Nat) (N154 : jSh) (F155 : jFl) (A156 : jAr), b153 = jnx N151 → N154 = jnew N151 102 2 2 1 → F155 = nwF N151 F139 → A156 = nwA N151 102 A140 →
  ∀ N167 : jSh, N167 = jpF N154 3065 o (b153 : Int) →
  ∀ (b169 : Nat) (N170 : jSh) (F171 : jFl) (A172 : jAr), b169 = jnx N167 → N170 = jnew N167 103 12 12 1 → F171 = nwF N167 F155 → A172 = nwA N167 103 A156 →
  ∀ N183 : jSh, N183 = jpF N170 3068 o (b169 : Int) →
  ∀ (b185 : Nat) (N186 : jSh) (F187 : jFl) (A188 : jAr), b185 = jnx N183 → N186 = jnew N183 102 288 288 1 → F187 = nwF N183 F171 → A188 = nwA N183 102 A172 →
  ∀ N199 : jSh, N199 = jpF N186 3071 o (b185 : Int) →
  ∀ (b201 : Nat) (N202 : jSh) (F203 : jFl) (A204 : jAr), b201 = jnx N199 → N202 = jnew N199 102 2 2 1 → F203 = nwF N199 F187 → A204 = nwA N199 102 A188 →
  ∀ N215 : jSh, N215 = jpF N202 3074 o (b201 : Int) →
  ∀ (b217 : Nat) (N218 : jSh) (F219 : jFl) (A220 : jAr), b217 = jnx N215 → N218 = jnew N215 103 20 20 1 → F219 = nwF N215 F203 → A220 = nwA N215 103 A204 →
  ∀ N231 : jSh, N231 = jpF N218 3077 o (b217 : Int) →
  ∀ (b233 : Nat) (N234 : jSh) (F235 : jFl) (A236 : jAr), b233 = jnx N231 → N234 = jnew N231 102 20 20 1 → F235 = nwF N231 F219 → A236 = nwA N231 102 A220 →
  ∀ N247 : jSh, N247 = jpF N234 3080 o (b233 : Int) →
  ∀ (b249 : Nat) (N250 : jSh) (F251 : jFl) (A252 : jAr), b249 = jnx N247 → N250 = jnew N247 102 20 20 1 → F251 = nwF N247 F235 → A252 = nwA N247 102 A236 →
  ∀ N263 : jSh, N263 = jpF N250 3083 o (b249 : Int) →
  ∀ (b265 : Nat) (N266 : jSh) (F267 : jFl) (A268 : jAr), b265 = jnx N263 → N266 = jnew N263 102 480 480 1 → F267 = nwF N263 F251 → A268 = nwA N263 102 A252 →
  ∀ N279 : jSh, N279 = jpF N266 3086 o (b265 : Int) →
  ∀ (b281 : Nat) (N282 : jSh) (F283 : jFl) (A284 : jAr), b281 = jnx N279 → N282 = jnew N279 102 2 2 1 → F283 = nwF N279 F267 → A284 = nwA N279 102 A268 →
  ∀ N295 : jSh, N295 = jpF N282 3089 o (b281 : Int) →
  ∀ (b297 : Nat) (N298 : jSh) (F299 : jFl) (A300 : jAr), b297 = jnx N295 → N298 = jnew N295 103 24 24 1 → F299 = nwF N295 F283 → A300 = nwA N295 103 A284 →
  ∀ N311 : jSh, N311 = jpF N298 3092 o (b297 : Int) →
  ∀ (b313 : Nat) (N314 : jSh) (F315 : jFl) (A316 : jAr), b313 = jnx N311 → N314 = jnew N311 102 24 24 1 → F315 = nwF N311 F299 → A316 = nwA N311 102 A300 →
  ∀ N327 : jSh, N327 = jpF N314 3095 o (b313 : Int) →
  ∀ (b329 : Nat) (N330 : jSh) (F331 : jFl) (A332 : jAr), b329 = jnx N327 → N330 = jnew N327 102 24 24 1 → F331 = nwF N327 F315 → A332 = nwA N327 102 A316 →
  ∀ N343 : jSh, N343 = jpF N330 3098 o (b329 : Int) →
  ∀ (b345 : Nat) (N346 : jSh) (F347 : jFl) (A348 : jAr), b345 = jnx N343 → N346 = jnew N343 102 24 24 1 → F347 = nwF N343 F331 → A348 = nwA N343 102 A332 →
  ∀ N359 : jSh, N359 = jpF N346 3101 o (b345 : Int) →
  ∀ (b361 : Nat) (N362 : jSh) (F363 : jFl) (A364 : jAr), b361 = jnx N359 → N362 = jnew N359 102 288 288 1 → F363 = nwF N359 F347 → A364 = nwA N359 102 A348 →
  ∀ N375 : jSh, N375 = jpF N362 3104 o (b361 : Int) →
  ∀ (b377 : Nat) (N378 : jSh) (F379 : jFl) (A380 : jAr), b377 = jnx N375 → N378 = jnew N375 102 2 2 1 → F379 = nwF N375 F363 → A380 = nwA N375 102 A364 →
  ∀ N391 : jSh, N391 = jpF N378 3107 o (b377 : Int) →
  ∀ (b393 : Nat) (N394 : jSh) (F395 : jFl) (A396 : jAr), b393 = jnx N391 → N394 = jnew N391 102 2 2 1 → F395 = nwF N391 F379 → A396 = nwA N391 102 A380 →
  ∀ N407 : jSh, N407 = jpF N394 3110 o (b393 : Int) →
  ∀ (b409 : Nat) (N410 : jSh) (F411 : jFl) (A412 : jAr), b409 = jnx N407 → N410 = jnew N407 102 2 2 1 → F411 = nwF N407 F395 → A412 = nwA N407 102 A396 →
  ∀ N423 : jSh, N423 = jpF N410 3113 o (b409 : Int) →
  ∀ F429 : jFl, F429 = upF F411 3114 o 1 →
  ∀ (b430 : Nat) (N431 : jSh) (F432 : jFl) (A433 : jAr), b430 = jnx N423 → N431 = jnew N423 102 12 12 1 → F432 = nwF N423 F429 → A433 = nwA N423 102 A412 →
  ∀ N442 : jSh, N442 = jpF N431 3119 o (b430 : Int) →
  ∀ F448 : jFl, F448 = upF F432 3120 o 0 →
  ∀ F450 : jFl, F450 = upF F448 3123 o 0 →
  ∀ (b451 : Nat) (N452 : jSh) (F453 : jFl) (A454 : jAr), b451 = jnx N442 → N452 = jnew N442 102 6 6 1 → F453 = nwF N442 F450 → A454 = nwA N442 102 A433 →
  ∀ N463 : jSh, N463 = jpF N452 3128 o (b451 : Int) →
  ∀ (b465 : Nat) (N466 : jSh) (F467 : jFl) (A468 : jAr), b465 = jnx N463 → N466 = jnew N463 102 22 22 1 → F467 = nwF N463 F453 → A468 = nwA N463 102 A454 →
  ∀ N479 : jSh, N479 = jpF N466 3131 o (b465 : Int) →
  ∀ (b481 : Nat) (N482 : jSh) (F483 : jFl) (A484 : jAr), b481 = jnx N479 → N482 = jnew N479 102 264 264 1 → F483 = nwF N479 F467 → A484 = nwA N479 102 A468 →
  ∀ N495 : jSh, N495 = jpF N482 3134 o (b481 : Int) →
  ∀ (b497 : Nat) (N498 : jSh) (F499 : jFl) (A500 : jAr), b497 = jnx N495 → N498 = jnew N495 102 264 264 1 → F499 = nwF N495 F483 → A500 = nwA N495 102 A484 →
  ∀ N511 : jSh, N511 = jpF N498 3137 o (b497 : Int) →
  ∀ (b513 : Nat) (N514 : jSh) (F515 : jFl) (A516 : jAr), b513 = jnx N511 → N514 = jnew N511 102 264 264 1 → F515 = nwF N511 F499 → A516 = nwA N511 102 A500 →
  ∀ N527 : jSh, N527 = jpF N514 3140 o (b513 : Int) →
  ∀ (b529 : Nat) (N530 : jSh) (F531 : jFl) (A532 : jAr), b529 = jnx N527 → N530 = jnew N527 102 264 264 1 → F531 = nwF N527 F515 → A532 = nwA N527 102 A516 →
  ∀ N543 : jSh, N543 = jpF N530 3143 o (b529 : Int) →
  ∀ (b545 : Nat) (N546 : jSh) (F547 : jFl) (A548 : jAr), b545 = jnx N543 → N546 = jnew N543 102 3168 3168 1 → F547 = nwF N543 F531 → A548 = nwA N543 102 A532 →
  ∀ N559 : jSh, N559 = jpF N546 3146 o (b545 : Int) →
  ∀ (b561 : Nat) (N562 : jSh) (F563 : jFl) (A564 : jAr), b561 = jnx N559 → N562 = jnew N559 102 22 22 1 → F563 = nwF N559 F547 → A564 = nwA N559 102 A548 →
  ∀ N575 : jSh, N575 = jpF N562 3149 o (b561 : Int) →
  ∀ (b577 : Nat) (N578 : jSh) (F579 : jFl) (A580 : jAr), b577 = jnx N575 → N578 = jnew N575 102 8800 8800 1 → F579 = nwF N575 F563 → A580 = nwA N575 102 A564 →
  ∀ N591 : jSh, N591 = jpF N578 3152 o (b577 : Int) →
  ∀ F597 : jFl, F597 = upF F579 3153 o 0 →
  ∀ F599 : jFl, F599 = upF F597 3156 o 0 →
  ∀ F601 : jFl, F601 = upF F599 3160 o 1 →
  ∀ (b602 : Nat) (N603 : jSh) (F604 : jFl) (A605 : jAr), b602 = jnx N591 → N603 = jnew N591 102 12 12 1 → F604 = nwF N591 F601 → A605 = nwA N591 102 A580 →
  ∀ N614 : jSh, N614 = jpF N603 3164 o (b602 : Int) →
  ∀ F620 : jFl, F620 = upF F604 3165 o 0 →
  ∀ F622 : jFl, F622 = upF F620 3168 o 0 →
  ∀ F624 : jFl, F624 = upF F622 3171 o 0 →
  ∀ (b625 : Nat) (N626 : jSh) (F627 : jFl) (A628 : jAr), b625 = jnx N614 → N626 = jnew N614 102 12 12 1 → F627 = nwF N614 F624 → A628 = nwA N614 102 A605 →
  ∀ N637 : jSh, N637 = jpF N626 3176 o (b625 : Int) →
  ∀ F643 : jFl, F643 = upF F627 3177 o 0 →
  ∀ F645 : jFl, F645 = upF F643 3180 o 0 →
  ∀ F647 : jFl, F647 = upF F645 3183 o 0 →
  ∀ F649 : jFl, F649 = upF F647 3186 o (-1) →
  ∀ (b650 : Nat) (N651 : jSh) (F652 : jFl) (A653 : jAr), b650 = jnx N637 → N651 = jnew N637 102 12 12 1 → F652 = nwF N637 F649 → A653 = nwA N637 102 A628 →
  ∀ N662 : jSh, N662 = jpF N651 3191 o (b650 : Int) →
  ∀ F668 : jFl, F668 = upF F652 3192 o 0 →
  ∀ (b669 : Nat) (N670 : jSh) (F671 : jFl) (A672 : jAr), b669 = jnx N662 → N670 = jnew N662 102 12 12 1 → F671 = nwF N662 F668 → A672 = nwA N662 102 A653 →
  ∀ N681 : jSh, N681 = jpF N670 3197 o (b669 : Int) →
  ∀ (b683 : Nat) (N684 : jSh) (F685 : jFl) (A686 : jAr), b683 = jnx N681 → N684 = jnew N681 102 12 12 1 → F685 = nwF N681 F671 → A686 = nwA N681 102 A672 →
  ∀ N697 : jSh, N697 = jpF N684 3200 o (b683 : Int) →
  ∀ (b699 : Nat) (N700 : jSh) (F701 : jFl) (A702 : jAr), b699 = jnx N697 → N700 = jnew N697 102 12 12 1 → F701 = nwF N697 F685 → A702 = nwA N697 102 A686 →
  ∀ N713 : jSh, N713 = jpF N700 3203 o (b699 : Int) →
  ∀ (b715 : Nat) (N716 : jSh) (F717 : jFl) (A718 : jAr), b715 = jnx N713 → N716 = jnew N713 102 144 144 1 → F717 = nwF N713 F701 → A718 = nwA N713 102 A702 →
  ∀ N729 : jSh, N729 = jpF N716 3206 o (b715 : Int) →
  ∀ (b731 : Nat) (N732 : jSh) (F733 : jFl) (A734 : jAr), b731 = jnx N729 → N732 = jnew N729 102 29400 29400 1 → F733 = nwF N729 F717 → A734 = nwA N729 102 A718 →
  ∀ N745 : jSh, N745 = jpF N732 3209 o (b731 : Int) →
  ∀ (b747 : Nat) (N748 : jSh) (F749 : jFl) (A750 : jAr), b747 = jnx N745 → N748 = jnew N745 102 10 10 1 → F749 = nwF N745 F733 → A750 = nwA N745 102 A734 →
  ∀ N761 : jSh, N761 = jpF N748 3212 o (b747 : Int) →
  ∀ (b763 : Nat) (N764 : jSh) (F765 : jFl) (A766 : jAr), b763 = jnx N761 → N764 = jnew N761 102 10 10 1 → F765 = nwF N761 F749 → A766 = nwA N761 102 A750 →
  ∀ N777 : jSh, N777 = jpF N764 3215 o (b763 : Int) →
  ∀ (b779 : Nat) (N780 : jSh) (F781 : jFl) (A782 : jAr), b779 = jnx N777 → N780 = jnew N777 102 12 12 1 → F781 = nwF N777 F765 → A782 = nwA N777 102 A766 →
  ∀ N793 : jSh, N793 = jpF N780 3218 o (b779 : Int) →
  ∀ (b795 : Nat) (N796 : jSh) (F797 : jFl) (A798 : jAr), b795 = jnx N793 → N796 = jnew N793 102 12 12 1 → F797 = nwF N793 F781 → A798 = nwA N793 102 A782 →
  ∀ N809 : jSh, N809 = jpF N796 3221 o (b795 : Int) →
  ∀ F815 : jFl, F815 = upF F797 3222 o 0 →
  ∀ F817 : jFl, F817 = upF F815 3225 o 0 →
  ∀ F819 : jFl, F819 = upF F817 3228 o 0 →
  ∀ F821 : jFl, F821 = upF F819 3231 o 0 →
  ∀ (b822 : Nat) (N823 : jSh) (F824 : jFl) (A825 : jAr), b822 = jnx N809 → N823 = jnew N809 102 210 210 1 → F824 = nwF N809 F821 → A825 = nwA N809 102 A798 →
  ∀ N834 : jSh, N834 = jpF N823 3236 o (b822 : Int) →
  ∀ F840 : jFl, F840 = upF F824 3237 o 0 →
  ∃ b841 : Nat, jfn N834 3107 o = (b841 : Int) ∧
  jtg N834 b841 = 102 ∧
  jfn N834 0 b841 = 1 ∧
  ((0 : Int) ≤ 0 ∧ (0 : Int) < (jln N834 b841 : Int)) ∧
  ∀ A846 : jAr, A846 = upA A825 b841 0 12 →
  ∃ b848 : Nat, jfn N834 3110 o = (b848 : Int) ∧
  jtg N834 b848 = 102 ∧
  jfn N834 0 b848 = 1 ∧
  ((0 : Int) ≤ 0 ∧ (0 : Int) < (jln N834 b848 : Int)) ∧
  ∀ A853 : jAr, A853 = upA A846 b848 0 2 →
  Q N834 F840 A853
theorem vX9_init {G : jG} {l : Launch} {d : Nat} {N : jSh} {F : jFl} {A : jAr} {o : Nat} {Q : jSh → jFl → jAr → Prop} (hd : 2 ≤ d) (hW : jWg G N F A) (ht : jtg N o = 10) (h : wqX9_init o N F A Q) : jCall G l d mX9_init [vR (o : Int)] N F A (cnV G N Q) := by
  unfold wqX9_init at h
  refine jCall.of (by decide) rfl (ls := [vR (o : Int)]) (by simp only [jent_R, jent_I, jent_L, jent_nil]; exact Nat.le_of_ble_eq_true rfl) (by simp only [jloc, jent_R, jent_I, jent_L, jent_nil]; rfl) ?_
  refine r_aload_n dX9_init_0 rfl ?_
  refine r_objInit dX9_init_1 q1928 rfl (Nat.le_trans (Nat.le_of_ble_eq_true rfl) hd) (Nat.le_of_ble_eq_true rfl) ?_
  refine r_aload_n dX9_init_4 rfl ?_
  refine j_sipush dX9_init_5 ?_
  refine c_newa (t := 102) (n := 1800) hW dX9_init_8 rfl rfl rfl (fun _ h => by cases h) q223 (by decide) rfl (Nat.le_of_ble_eq_true rfl) fun b1 N2 F3 A4 eb1 eN2 eF3 eA4 t5 w6 hT7 hW8 => ?_
  have h := h b1 N2 F3 A4 eb1 eN2 eF3 eA4
  have t9 : jtg N2 o = 10 := (hT7.tg hW ht)
  obtain ⟨w10, h⟩ := h
  refine c_pRF hW8 dX9_init_10 flX9_7_10 rfl t9 w10 rfl (ty := (.array .int)) rfl (by intro c hc; cases hc; rfl) (by decide) (by decide +kernel) (Or.inr ⟨_, rfl⟩) fun N12 eN12 hT13 hW11 => ?_
  have h := h N12 eN12
  refine r_aload_n dX9_init_13 rfl ?_
  refine j_iconst dX9_init_14 ?_
  have t14 : jtg N12 o = 10 := (hT13.tg hW8 t9)
  have w15 : jfn N12 0 o = 1 := hT13.ow hW8 t9 w10
  have t16 : jtg N12 o = 10 := hT13.tg hW8 t9
  refine c_pI hW11 dX9_init_15 flX9_13_10 rfl t14 w15 rfl (by decide) fun F18 eF18 hW17 => ?_
  have h := h F18 eF18
  refine r_aload_n dX9_init_18 rfl ?_
  refine j_iconst dX9_init_19 ?_
  refine c_pI hW17 dX9_init_20 flX9_17_10 rfl t14 w15 rfl (by decide) fun F20 eF20 hW19 => ?_
  have h := h F20 eF20
  refine r_aload_n dX9_init_23 rfl ?_
  refine j_iconst dX9_init_24 ?_
  refine c_pI hW19 dX9_init_25 flX9_20_10 rfl t14 w15 rfl (by decide) fun F22 eF22 hW21 => ?_
  have h := h F22 eF22
  refine r_aload_n dX9_init_28 rfl ?_
  refine j_iconst dX9_init_29 ?_
  refine c_pI hW21 dX9_init_30 flX9_23_10 rfl t14 w15 rfl (by decide) fun F24 eF24 hW23 => ?_
  have h := h F24 eF24
  refine r_aload_n dX9_init_33 rfl ?_
  refine j_iconst dX9_init_34 ?_
  refine c_pI hW23 dX9_init_35 flX9_26_10 rfl t14 w15 rfl (by decide) fun F26 eF26 hW25 => ?_
  have h := h F26 eF26
  refine r_aload_n dX9_init_38 rfl ?_
  refine j_iconst dX9_init_39 ?_
  refine c_pI hW25 dX9_init_40 flX9_29_10 rfl t14 w15 rfl (by decide) fun F28 eF28 hW27 => ?_
  have h := h F28 eF28
  refine r_aload_n dX9_init_43 rfl ?_
  refine j_lconst 0 rfl dX9_init_44 ?_
  refine c_pJ hW27 dX9_init_45 flX9_32_10 rfl t14 w15 rfl (by decide) fun F30 eF30 hW29 => ?_
  have h := h F30 eF30
  refine r_aload_n dX9_init_48 rfl ?_
  refine j_iconst dX9_init_49 ?_
  refine c_pI hW29 dX9_init_50 flX9_36_10 rfl t14 w15 rfl (by decide) fun F32 eF32 hW31 => ?_
  have h := h F32 eF32
  refine r_aload_n dX9_init_53 rfl ?_
  refine j_iconst dX9_init_54 ?_
  refine c_pI hW31 dX9_init_55 flX9_39_10 rfl t14 w15 rfl (by decide) fun F34 eF34 hW33 => ?_
  have h := h F34 eF34
  refine r_aload_n dX9_init_58 rfl ?_
  refine j_iconst dX9_init_59 ?_
  refine c_pI hW33 dX9_init_60 flX9_42_10 rfl t14 w15 rfl (by decide) fun F36 eF36 hW35 => ?_
  have h := h F36 eF36
  refine r_aload_n dX9_init_63 rfl ?_
  refine j_iconst dX9_init_64 ?_
  refine c_pI hW35 dX9_init_65 flX9_45_10 rfl t14 w15 rfl (by decide) fun F38 eF38 hW37 => ?_
  have h := h F38 eF38
  refine r_aload_n dX9_init_68 rfl ?_
  refine j_iconst dX9_init_69 ?_
  refine c_pI hW37 dX9_init_70 flX9_48_10 rfl t14 w15 rfl (by decide) fun F40 eF40 hW39 => ?_
  have h := h F40 eF40
  refine r_aload_n dX9_init_73 rfl ?_
  refine j_iconst dX9_init_74 ?_
  refine c_pI hW39 dX9_init_75 flX9_51_10 rfl t14 w15 rfl (by decide) fun F42 eF42 hW41 => ?_
  have h := h F42 eF42
  refine r_aload_n dX9_init_78 rfl ?_
  refine j_iconst dX9_init_79 ?_
  refine c_newa (t := 102) (n := 2) hW41 dX9_init_80 rfl rfl rfl (fun _ h => by cases h) q223 (by decide) rfl (Nat.le_of_ble_eq_true rfl) fun b43 N44 F45 A46 eb43 eN44 eF45 eA46 t47 w48 hT49 hW50 => ?_
  have h := h b43 N44 F45 A46 eb43 eN44 eF45 eA46
  have t51 : jtg N44 o = 10 := (hT49.tg hW41 t14)
  have w52 : jfn N44 0 o = 1 := hT49.ow hW41 t16 w15
  have t53 : jtg N44 o = 10 := hT49.tg hW41 t16
  refine c_pRF hW50 dX9_init_82 flX9_54_10 rfl t51 w52 rfl (ty := (.array .int)) rfl (by intro c hc; cases hc; rfl) (by decide) (by decide +kernel) (Or.inr ⟨_, rfl⟩) fun N55 eN55 hT56 hW54 => ?_
  have h := h N55 eN55
  refine r_aload_n dX9_init_85 rfl ?_
  refine j_bipush dX9_init_86 ?_
  refine c_newa (t := 103) (n := 48) hW54 dX9_init_88 rfl rfl rfl (fun _ h => by cases h) q2170 (by decide) rfl (Nat.le_of_ble_eq_true rfl) fun b57 N58 F59 A60 eb57 eN58 eF59 eA60 t61 w62 hT63 hW64 => ?_
  have h := h b57 N58 F59 A60 eb57 eN58 eF59 eA60
  have t65 : jtg N58 o = 10 := (hT63.tg hW54 (hT56.tg hW50 t51))
  have w66 : jfn N55 0 o = 1 := hT56.ow hW50 t53 w52
  have t67 : jtg N55 o = 10 := hT56.tg hW50 t53
  have w68 : jfn N58 0 o = 1 := hT63.ow hW54 t67 w66
  have t69 : jtg N58 o = 10 := hT63.tg hW54 t67
  refine c_pRF hW64 dX9_init_90 flX9_57_10 rfl t65 w68 rfl (ty := (.array .long)) rfl (by intro c hc; cases hc; rfl) (by decide) (by decide +kernel) (Or.inr ⟨_, rfl⟩) fun N71 eN71 hT72 hW70 => ?_
  have h := h N71 eN71
  refine r_aload_n dX9_init_93 rfl ?_
  refine j_bipush dX9_init_94 ?_
  refine c_newa (t := 102) (n := 48) hW70 dX9_init_96 rfl rfl rfl (fun _ h => by cases h) q223 (by decide) rfl (Nat.le_of_ble_eq_true rfl) fun b73 N74 F75 A76 eb73 eN74 eF75 eA76 t77 w78 hT79 hW80 => ?_
  have h := h b73 N74 F75 A76 eb73 eN74 eF75 eA76
  have t81 : jtg N74 o = 10 := (hT79.tg hW70 (hT72.tg hW64 t65))
  have w82 : jfn N71 0 o = 1 := hT72.ow hW64 t69 w68
  have t83 : jtg N71 o = 10 := hT72.tg hW64 t69
  have w84 : jfn N74 0 o = 1 := hT79.ow hW70 t83 w82
  have t85 : jtg N74 o = 10 := hT79.tg hW70 t83
  refine c_pRF hW80 dX9_init_98 flX9_61_10 rfl t81 w84 rfl (ty := (.array .int)) rfl (by intro c hc; cases hc; rfl) (by decide) (by decide +kernel) (Or.inr ⟨_, rfl⟩) fun N87 eN87 hT88 hW86 => ?_
  have h := h N87 eN87
  refine r_aload_n dX9_init_101 rfl ?_
  refine j_bipush dX9_init_102 ?_
  refine c_newa (t := 102) (n := 48) hW86 dX9_init_104 rfl rfl rfl (fun _ h => by cases h) q223 (by decide) rfl (Nat.le_of_ble_eq_true rfl) fun b89 N90 F91 A92 eb89 eN90 eF91 eA92 t93 w94 hT95 hW96 => ?_
  have h := h b89 N90 F91 A92 eb89 eN90 eF91 eA92
  have t97 : jtg N90 o = 10 := (hT95.tg hW86 (hT88.tg hW80 t81))
  have w98 : jfn N87 0 o = 1 := hT88.ow hW80 t85 w84
  have t99 : jtg N87 o = 10 := hT88.tg hW80 t85
  have w100 : jfn N90 0 o = 1 := hT95.ow hW86 t99 w98
  have t101 : jtg N90 o = 10 := hT95.tg hW86 t99
  refine c_pRF hW96 dX9_init_106 flX9_64_10 rfl t97 w100 rfl (ty := (.array .int)) rfl (by intro c hc; cases hc; rfl) (by decide) (by decide +kernel) (Or.inr ⟨_, rfl⟩) fun N103 eN103 hT104 hW102 => ?_
  have h := h N103 eN103
  refine r_aload_n dX9_init_109 rfl ?_
  refine j_bipush dX9_init_110 ?_
  refine c_newa (t := 102) (n := 48) hW102 dX9_init_112 rfl rfl rfl (fun _ h => by cases h) q223 (by decide) rfl (Nat.le_of_ble_eq_true rfl) fun b105 N106 F107 A108 eb105 eN106 eF107 eA108 t109 w110 hT111 hW112 => ?_
  have h := h b105 N106 F107 A108 eb105 eN106 eF107 eA108
  have t113 : jtg N106 o = 10 := (hT111.tg hW102 (hT104.tg hW96 t97))
  have w114 : jfn N103 0 o = 1 := hT104.ow hW96 t101 w100
  have t115 : jtg N103 o = 10 := hT104.tg hW96 t101
  have w116 : jfn N106 0 o = 1 := hT111.ow hW102 t115 w114
  have t117 : jtg N106 o = 10 := hT111.tg hW102 t115
  refine c_pRF hW112 dX9_init_114 flX9_67_10 rfl t113 w116 rfl (ty := (.array .int)) rfl (by intro c hc; cases hc; rfl) (by decide) (by decide +kernel) (Or.inr ⟨_, rfl⟩) fun N119 eN119 hT120 hW118 => ?_
  have h := h N119 eN119
  refine r_aload_n dX9_init_117 rfl ?_
  refine j_bipush dX9_init_118 ?_
  refine c_newa (t := 102) (n := 48) hW118 dX9_init_120 rfl rfl rfl (fun _ h => by cases h) q223 (by decide) rfl (Nat.le_of_ble_eq_true rfl) fun b121 N122 F123 A124 eb121 eN122 eF123 eA124 t125 w126 hT127 hW128 => ?_
  have h := h b121 N122 F123 A124 eb121 eN122 eF123 eA124
  have t129 : jtg N122 o = 10 := (hT127.tg hW118 (hT120.tg hW112 t113))
  have w130 : jfn N119 0 o = 1 := hT120.ow hW112 t117 w116
  have t131 : jtg N119 o = 10 := hT120.tg hW112 t117
  have w132 : jfn N122 0 o = 1 := hT127.ow hW118 t131 w130
  have t133 : jtg N122 o = 10 := hT127.tg hW118 t131
  refine c_pRF hW128 dX9_init_122 flX9_70_10 rfl t129 w132 rfl (ty := (.array .int)) rfl (by intro c hc; cases hc; rfl) (by decide) (by decide +kernel) (Or.inr ⟨_, rfl⟩) fun N135 eN135 hT136 hW134 => ?_
  have h := h N135 eN135
  refine r_aload_n dX9_init_125 rfl ?_
  refine j_bipush dX9_init_126 ?_
  refine c_newa (t := 102) (n := 48) hW134 dX9_init_128 rfl rfl rfl (fun _ h => by cases h) q223 (by decide) rfl (Nat.le_of_ble_eq_true rfl) fun b137 N138 F139 A140 eb137 eN138 eF139 eA140 t141 w142 hT143 hW144 => ?_
  have h := h b137 N138 F139 A140 eb137 eN138 eF139 eA140
  have t145 : jtg N138 o = 10 := (hT143.tg hW134 (hT136.tg hW128 t129))
  have w146 : jfn N135 0 o = 1 := hT136.ow hW128 t133 w132
  have t147 : jtg N135 o = 10 := hT136.tg hW128 t133
  have w148 : jfn N138 0 o = 1 := hT143.ow hW134 t147 w146
  have t149 : jtg N138 o = 10 := hT143.tg hW134 t147
  refine c_pRF hW144 dX9_init_130 flX9_73_10 rfl t145 w148 rfl (ty := (.array .int)) rfl (by intro c hc; cases hc; rfl) (by decide) (by decide +kernel) (Or.inr ⟨_, rfl⟩) fun N151 eN151 hT152 hW150 => ?_
  have h := h N151 eN151
  refine r_aload_n dX9_init_133 rfl ?_
  refine j_iconst dX9_init_134 ?_
  refine c_newa (t := 102) (n := 2) hW150 dX9_init_135 rfl rfl rfl (fun _ h => by cases h) q223 (by decide) rfl (Nat.le_of_ble_eq_true rfl) fun b153 N154 F155 A156 eb153 eN154 eF155 eA156 t157 w158 hT159 hW160 => ?_
  have h := h b153 N154 F155 A156 eb153 eN154 eF155 eA156
  have t161 : jtg N154 o = 10 := (hT159.tg hW150 (hT152.tg hW144 t145))
  have w162 : jfn N151 0 o = 1 := hT152.ow hW144 t149 w148
  have t163 : jtg N151 o = 10 := hT152.tg hW144 t149
  have w164 : jfn N154 0 o = 1 := hT159.ow hW150 t163 w162
  have t165 : jtg N154 o = 10 := hT159.tg hW150 t163
  refine c_pRF hW160 dX9_init_137 flX9_76_10 rfl t161 w164 rfl (ty := (.array .int)) rfl (by intro c hc; cases hc; rfl) (by decide) (by decide +kernel) (Or.inr ⟨_, rfl⟩) fun N167 eN167 hT168 hW166 => ?_
  have h := h N167 eN167
  refine r_aload_n dX9_init_140 rfl ?_
  refine j_bipush dX9_init_141 ?_
  refine c_newa (t := 103) (n := 12) hW166 dX9_init_143 rfl rfl rfl (fun _ h => by cases h) q2170 (by decide) rfl (Nat.le_of_ble_eq_true rfl) fun b169 N170 F171 A172 eb169 eN170 eF171 eA172 t173 w174 hT175 hW176 => ?_
  have h := h b169 N170 F171 A172 eb169 eN170 eF171 eA172
  have t177 : jtg N170 o = 10 := (hT175.tg hW166 (hT168.tg hW160 t161))
  have w178 : jfn N167 0 o = 1 := hT168.ow hW160 t165 w164
  have t179 : jtg N167 o = 10 := hT168.tg hW160 t165
  have w180 : jfn N170 0 o = 1 := hT175.ow hW166 t179 w178
  have t181 : jtg N170 o = 10 := hT175.tg hW166 t179
  refine c_pRF hW176 dX9_init_145 flX9_79_10 rfl t177 w180 rfl (ty := (.array .long)) rfl (by intro c hc; cases hc; rfl) (by decide) (by decide +kernel) (Or.inr ⟨_, rfl⟩) fun N183 eN183 hT184 hW182 => ?_
  have h := h N183 eN183
  refine r_aload_n dX9_init_148 rfl ?_
  refine j_sipush dX9_init_149 ?_
  refine c_newa (t := 102) (n := 288) hW182 dX9_init_152 rfl rfl rfl (fun _ h => by cases h) q223 (by decide) rfl (Nat.le_of_ble_eq_true rfl) fun b185 N186 F187 A188 eb185 eN186 eF187 eA188 t189 w190 hT191 hW192 => ?_
  have h := h b185 N186 F187 A188 eb185 eN186 eF187 eA188
  have t193 : jtg N186 o = 10 := (hT191.tg hW182 (hT184.tg hW176 t177))
  have w194 : jfn N183 0 o = 1 := hT184.ow hW176 t181 w180
  have t195 : jtg N183 o = 10 := hT184.tg hW176 t181
  have w196 : jfn N186 0 o = 1 := hT191.ow hW182 t195 w194
  have t197 : jtg N186 o = 10 := hT191.tg hW182 t195
  refine c_pRF hW192 dX9_init_154 flX9_82_10 rfl t193 w196 rfl (ty := (.array .int)) rfl (by intro c hc; cases hc; rfl) (by decide) (by decide +kernel) (Or.inr ⟨_, rfl⟩) fun N199 eN199 hT200 hW198 => ?_
  have h := h N199 eN199
  refine r_aload_n dX9_init_157 rfl ?_
  refine j_iconst dX9_init_158 ?_
  refine c_newa (t := 102) (n := 2) hW198 dX9_init_159 rfl rfl rfl (fun _ h => by cases h) q223 (by decide) rfl (Nat.le_of_ble_eq_true rfl) fun b201 N202 F203 A204 eb201 eN202 eF203 eA204 t205 w206 hT207 hW208 => ?_
  have h := h b201 N202 F203 A204 eb201 eN202 eF203 eA204
  have t209 : jtg N202 o = 10 := (hT207.tg hW198 (hT200.tg hW192 t193))
  have w210 : jfn N199 0 o = 1 := hT200.ow hW192 t197 w196
  have t211 : jtg N199 o = 10 := hT200.tg hW192 t197
  have w212 : jfn N202 0 o = 1 := hT207.ow hW198 t211 w210
  have t213 : jtg N202 o = 10 := hT207.tg hW198 t211
  refine c_pRF hW208 dX9_init_161 flX9_85_10 rfl t209 w212 rfl (ty := (.array .int)) rfl (by intro c hc; cases hc; rfl) (by decide) (by decide +kernel) (Or.inr ⟨_, rfl⟩) fun N215 eN215 hT216 hW214 => ?_
  have h := h N215 eN215
  refine r_aload_n dX9_init_164 rfl ?_
  refine j_bipush dX9_init_165 ?_
  refine c_newa (t := 103) (n := 20) hW214 dX9_init_167 rfl rfl rfl (fun _ h => by cases h) q2170 (by decide) rfl (Nat.le_of_ble_eq_true rfl) fun b217 N218 F219 A220 eb217 eN218 eF219 eA220 t221 w222 hT223 hW224 => ?_
  have h := h b217 N218 F219 A220 eb217 eN218 eF219 eA220
  have t225 : jtg N218 o = 10 := (hT223.tg hW214 (hT216.tg hW208 t209))
  have w226 : jfn N215 0 o = 1 := hT216.ow hW208 t213 w212
  have t227 : jtg N215 o = 10 := hT216.tg hW208 t213
  have w228 : jfn N218 0 o = 1 := hT223.ow hW214 t227 w226
  have t229 : jtg N218 o = 10 := hT223.tg hW214 t227
  refine c_pRF hW224 dX9_init_169 flX9_88_10 rfl t225 w228 rfl (ty := (.array .long)) rfl (by intro c hc; cases hc; rfl) (by decide) (by decide +kernel) (Or.inr ⟨_, rfl⟩) fun N231 eN231 hT232 hW230 => ?_
  have h := h N231 eN231
  refine r_aload_n dX9_init_172 rfl ?_
  refine j_bipush dX9_init_173 ?_
  refine c_newa (t := 102) (n := 20) hW230 dX9_init_175 rfl rfl rfl (fun _ h => by cases h) q223 (by decide) rfl (Nat.le_of_ble_eq_true rfl) fun b233 N234 F235 A236 eb233 eN234 eF235 eA236 t237 w238 hT239 hW240 => ?_
  have h := h b233 N234 F235 A236 eb233 eN234 eF235 eA236
  have t241 : jtg N234 o = 10 := (hT239.tg hW230 (hT232.tg hW224 t225))
  have w242 : jfn N231 0 o = 1 := hT232.ow hW224 t229 w228
  have t243 : jtg N231 o = 10 := hT232.tg hW224 t229
  have w244 : jfn N234 0 o = 1 := hT239.ow hW230 t243 w242
  have t245 : jtg N234 o = 10 := hT239.tg hW230 t243
  refine c_pRF hW240 dX9_init_177 flX9_91_10 rfl t241 w244 rfl (ty := (.array .int)) rfl (by intro c hc; cases hc; rfl) (by decide) (by decide +kernel) (Or.inr ⟨_, rfl⟩) fun N247 eN247 hT248 hW246 => ?_
  have h := h N247 eN247
  refine r_aload_n dX9_init_180 rfl ?_
  refine j_bipush dX9_init_181 ?_
  refine c_newa (t := 102) (n := 20) hW246 dX9_init_183 rfl rfl rfl (fun _ h => by cases h) q223 (by decide) rfl (Nat.le_of_ble_eq_true rfl) fun b249 N250 F251 A252 eb249 eN250 eF251 eA252 t253 w254 hT255 hW256 => ?_
  have h := h b249 N250 F251 A252 eb249 eN250 eF251 eA252
  have t257 : jtg N250 o = 10 := (hT255.tg hW246 (hT248.tg hW240 t241))
  have w258 : jfn N247 0 o = 1 := hT248.ow hW240 t245 w244
  have t259 : jtg N247 o = 10 := hT248.tg hW240 t245
  have w260 : jfn N250 0 o = 1 := hT255.ow hW246 t259 w258
  have t261 : jtg N250 o = 10 := hT255.tg hW246 t259
  refine c_pRF hW256 dX9_init_185 flX9_94_10 rfl t257 w260 rfl (ty := (.array .int)) rfl (by intro c hc; cases hc; rfl) (by decide) (by decide +kernel) (Or.inr ⟨_, rfl⟩) fun N263 eN263 hT264 hW262 => ?_
  have h := h N263 eN263
  refine r_aload_n dX9_init_188 rfl ?_
  refine j_sipush dX9_init_189 ?_
  refine c_newa (t := 102) (n := 480) hW262 dX9_init_192 rfl rfl rfl (fun _ h => by cases h) q223 (by decide) rfl (Nat.le_of_ble_eq_true rfl) fun b265 N266 F267 A268 eb265 eN266 eF267 eA268 t269 w270 hT271 hW272 => ?_
  have h := h b265 N266 F267 A268 eb265 eN266 eF267 eA268
  have t273 : jtg N266 o = 10 := (hT271.tg hW262 (hT264.tg hW256 t257))
  have w274 : jfn N263 0 o = 1 := hT264.ow hW256 t261 w260
  have t275 : jtg N263 o = 10 := hT264.tg hW256 t261
  have w276 : jfn N266 0 o = 1 := hT271.ow hW262 t275 w274
  have t277 : jtg N266 o = 10 := hT271.tg hW262 t275
  refine c_pRF hW272 dX9_init_194 flX9_97_10 rfl t273 w276 rfl (ty := (.array .int)) rfl (by intro c hc; cases hc; rfl) (by decide) (by decide +kernel) (Or.inr ⟨_, rfl⟩) fun N279 eN279 hT280 hW278 => ?_
  have h := h N279 eN279
  refine r_aload_n dX9_init_197 rfl ?_
  refine j_iconst dX9_init_198 ?_
  refine c_newa (t := 102) (n := 2) hW278 dX9_init_199 rfl rfl rfl (fun _ h => by cases h) q223 (by decide) rfl (Nat.le_of_ble_eq_true rfl) fun b281 N282 F283 A284 eb281 eN282 eF283 eA284 t285 w286 hT287 hW288 => ?_
  have h := h b281 N282 F283 A284 eb281 eN282 eF283 eA284
  have t289 : jtg N282 o = 10 := (hT287.tg hW278 (hT280.tg hW272 t273))
  have w290 : jfn N279 0 o = 1 := hT280.ow hW272 t277 w276
  have t291 : jtg N279 o = 10 := hT280.tg hW272 t277
  have w292 : jfn N282 0 o = 1 := hT287.ow hW278 t291 w290
  have t293 : jtg N282 o = 10 := hT287.tg hW278 t291
  refine c_pRF hW288 dX9_init_201 flX9_100_10 rfl t289 w292 rfl (ty := (.array .int)) rfl (by intro c hc; cases hc; rfl) (by decide) (by decide +kernel) (Or.inr ⟨_, rfl⟩) fun N295 eN295 hT296 hW294 => ?_
  have h := h N295 eN295
  refine r_aload_n dX9_init_204 rfl ?_
  refine j_bipush dX9_init_205 ?_
  refine c_newa (t := 103) (n := 24) hW294 dX9_init_207 rfl rfl rfl (fun _ h => by cases h) q2170 (by decide) rfl (Nat.le_of_ble_eq_true rfl) fun b297 N298 F299 A300 eb297 eN298 eF299 eA300 t301 w302 hT303 hW304 => ?_
  have h := h b297 N298 F299 A300 eb297 eN298 eF299 eA300
  have t305 : jtg N298 o = 10 := (hT303.tg hW294 (hT296.tg hW288 t289))
  have w306 : jfn N295 0 o = 1 := hT296.ow hW288 t293 w292
  have t307 : jtg N295 o = 10 := hT296.tg hW288 t293
  have w308 : jfn N298 0 o = 1 := hT303.ow hW294 t307 w306
  have t309 : jtg N298 o = 10 := hT303.tg hW294 t307
  refine c_pRF hW304 dX9_init_209 flX9_103_10 rfl t305 w308 rfl (ty := (.array .long)) rfl (by intro c hc; cases hc; rfl) (by decide) (by decide +kernel) (Or.inr ⟨_, rfl⟩) fun N311 eN311 hT312 hW310 => ?_
  have h := h N311 eN311
  refine r_aload_n dX9_init_212 rfl ?_
  refine j_bipush dX9_init_213 ?_
  refine c_newa (t := 102) (n := 24) hW310 dX9_init_215 rfl rfl rfl (fun _ h => by cases h) q223 (by decide) rfl (Nat.le_of_ble_eq_true rfl) fun b313 N314 F315 A316 eb313 eN314 eF315 eA316 t317 w318 hT319 hW320 => ?_
  have h := h b313 N314 F315 A316 eb313 eN314 eF315 eA316
  have t321 : jtg N314 o = 10 := (hT319.tg hW310 (hT312.tg hW304 t305))
  have w322 : jfn N311 0 o = 1 := hT312.ow hW304 t309 w308
  have t323 : jtg N311 o = 10 := hT312.tg hW304 t309
  have w324 : jfn N314 0 o = 1 := hT319.ow hW310 t323 w322
  have t325 : jtg N314 o = 10 := hT319.tg hW310 t323
  refine c_pRF hW320 dX9_init_217 flX9_106_10 rfl t321 w324 rfl (ty := (.array .int)) rfl (by intro c hc; cases hc; rfl) (by decide) (by decide +kernel) (Or.inr ⟨_, rfl⟩) fun N327 eN327 hT328 hW326 => ?_
  have h := h N327 eN327
  refine r_aload_n dX9_init_220 rfl ?_
  refine j_bipush dX9_init_221 ?_
  refine c_newa (t := 102) (n := 24) hW326 dX9_init_223 rfl rfl rfl (fun _ h => by cases h) q223 (by decide) rfl (Nat.le_of_ble_eq_true rfl) fun b329 N330 F331 A332 eb329 eN330 eF331 eA332 t333 w334 hT335 hW336 => ?_
  have h := h b329 N330 F331 A332 eb329 eN330 eF331 eA332
  have t337 : jtg N330 o = 10 := (hT335.tg hW326 (hT328.tg hW320 t321))
  have w338 : jfn N327 0 o = 1 := hT328.ow hW320 t325 w324
  have t339 : jtg N327 o = 10 := hT328.tg hW320 t325
  have w340 : jfn N330 0 o = 1 := hT335.ow hW326 t339 w338
  have t341 : jtg N330 o = 10 := hT335.tg hW326 t339
  refine c_pRF hW336 dX9_init_225 flX9_109_10 rfl t337 w340 rfl (ty := (.array .int)) rfl (by intro c hc; cases hc; rfl) (by decide) (by decide +kernel) (Or.inr ⟨_, rfl⟩) fun N343 eN343 hT344 hW342 => ?_
  have h := h N343 eN343
  refine r_aload_n dX9_init_228 rfl ?_
  refine j_bipush dX9_init_229 ?_
  refine c_newa (t := 102) (n := 24) hW342 dX9_init_231 rfl rfl rfl (fun _ h => by cases h) q223 (by decide) rfl (Nat.le_of_ble_eq_true rfl) fun b345 N346 F347 A348 eb345 eN346 eF347 eA348 t349 w350 hT351 hW352 => ?_
  have h := h b345 N346 F347 A348 eb345 eN346 eF347 eA348
  have t353 : jtg N346 o = 10 := (hT351.tg hW342 (hT344.tg hW336 t337))
  have w354 : jfn N343 0 o = 1 := hT344.ow hW336 t341 w340
  have t355 : jtg N343 o = 10 := hT344.tg hW336 t341
  have w356 : jfn N346 0 o = 1 := hT351.ow hW342 t355 w354
  have t357 : jtg N346 o = 10 := hT351.tg hW342 t355
  refine c_pRF hW352 dX9_init_233 flX9_112_10 rfl t353 w356 rfl (ty := (.array .int)) rfl (by intro c hc; cases hc; rfl) (by decide) (by decide +kernel) (Or.inr ⟨_, rfl⟩) fun N359 eN359 hT360 hW358 => ?_
  have h := h N359 eN359
  refine r_aload_n dX9_init_236 rfl ?_
  refine j_sipush dX9_init_237 ?_
  refine c_newa (t := 102) (n := 288) hW358 dX9_init_240 rfl rfl rfl (fun _ h => by cases h) q223 (by decide) rfl (Nat.le_of_ble_eq_true rfl) fun b361 N362 F363 A364 eb361 eN362 eF363 eA364 t365 w366 hT367 hW368 => ?_
  have h := h b361 N362 F363 A364 eb361 eN362 eF363 eA364
  have t369 : jtg N362 o = 10 := (hT367.tg hW358 (hT360.tg hW352 t353))
  have w370 : jfn N359 0 o = 1 := hT360.ow hW352 t357 w356
  have t371 : jtg N359 o = 10 := hT360.tg hW352 t357
  have w372 : jfn N362 0 o = 1 := hT367.ow hW358 t371 w370
  have t373 : jtg N362 o = 10 := hT367.tg hW358 t371
  refine c_pRF hW368 dX9_init_242 flX9_115_10 rfl t369 w372 rfl (ty := (.array .int)) rfl (by intro c hc; cases hc; rfl) (by decide) (by decide +kernel) (Or.inr ⟨_, rfl⟩) fun N375 eN375 hT376 hW374 => ?_
  have h := h N375 eN375
  refine r_aload_n dX9_init_245 rfl ?_
  refine j_iconst dX9_init_246 ?_
  refine c_newa (t := 102) (n := 2) hW374 dX9_init_247 rfl rfl rfl (fun _ h => by cases h) q223 (by decide) rfl (Nat.le_of_ble_eq_true rfl) fun b377 N378 F379 A380 eb377 eN378 eF379 eA380 t381 w382 hT383 hW384 => ?_
  have h := h b377 N378 F379 A380 eb377 eN378 eF379 eA380
  have t385 : jtg N378 o = 10 := (hT383.tg hW374 (hT376.tg hW368 t369))
  have w386 : jfn N375 0 o = 1 := hT376.ow hW368 t373 w372
  have t387 : jtg N375 o = 10 := hT376.tg hW368 t373
  have w388 : jfn N378 0 o = 1 := hT383.ow hW374 t387 w386
  have t389 : jtg N378 o = 10 := hT383.tg hW374 t387
  refine c_pRF hW384 dX9_init_249 flX9_118_10 rfl t385 w388 rfl (ty := (.array .int)) rfl (by intro c hc; cases hc; rfl) (by decide) (by decide +kernel) (Or.inr ⟨_, rfl⟩) fun N391 eN391 hT392 hW390 => ?_
  have h := h N391 eN391
  refine r_aload_n dX9_init_252 rfl ?_
  refine j_iconst dX9_init_253 ?_
  refine c_newa (t := 102) (n := 2) hW390 dX9_init_254 rfl rfl rfl (fun _ h => by cases h) q223 (by decide) rfl (Nat.le_of_ble_eq_true rfl) fun b393 N394 F395 A396 eb393 eN394 eF395 eA396 t397 w398 hT399 hW400 => ?_
  have h := h b393 N394 F395 A396 eb393 eN394 eF395 eA396
  have t401 : jtg N394 o = 10 := (hT399.tg hW390 (hT392.tg hW384 t385))
  have w402 : jfn N391 0 o = 1 := hT392.ow hW384 t389 w388
  have t403 : jtg N391 o = 10 := hT392.tg hW384 t389
  have w404 : jfn N394 0 o = 1 := hT399.ow hW390 t403 w402
  have t405 : jtg N394 o = 10 := hT399.tg hW390 t403
  refine c_pRF hW400 dX9_init_256 flX9_121_10 rfl t401 w404 rfl (ty := (.array .int)) rfl (by intro c hc; cases hc; rfl) (by decide) (by decide +kernel) (Or.inr ⟨_, rfl⟩) fun N407 eN407 hT408 hW406 => ?_
  have h := h N407 eN407
  refine r_aload_n dX9_init_259 rfl ?_
  refine j_iconst dX9_init_260 ?_
  refine c_newa (t := 102) (n := 2) hW406 dX9_init_261 rfl rfl rfl (fun _ h => by cases h) q223 (by decide) rfl (Nat.le_of_ble_eq_true rfl) fun b409 N410 F411 A412 eb409 eN410 eF411 eA412 t413 w414 hT415 hW416 => ?_
  have h := h b409 N410 F411 A412 eb409 eN410 eF411 eA412
  have t417 : jtg N410 o = 10 := (hT415.tg hW406 (hT408.tg hW400 t401))
  have w418 : jfn N407 0 o = 1 := hT408.ow hW400 t405 w404
  have t419 : jtg N407 o = 10 := hT408.tg hW400 t405
  have w420 : jfn N410 0 o = 1 := hT415.ow hW406 t419 w418
  have t421 : jtg N410 o = 10 := hT415.tg hW406 t419
  refine c_pRF hW416 dX9_init_263 flX9_124_10 rfl t417 w420 rfl (ty := (.array .int)) rfl (by intro c hc; cases hc; rfl) (by decide) (by decide +kernel) (Or.inr ⟨_, rfl⟩) fun N423 eN423 hT424 hW422 => ?_
  have h := h N423 eN423
  refine r_aload_n dX9_init_266 rfl ?_
  refine j_iconst dX9_init_267 ?_
  have t425 : jtg N423 o = 10 := (hT424.tg hW416 t417)
  have w426 : jfn N423 0 o = 1 := hT424.ow hW416 t421 w420
  have t427 : jtg N423 o = 10 := hT424.tg hW416 t421
  refine c_pI hW422 dX9_init_268 flX9_127_10 rfl t425 w426 rfl (by decide) fun F429 eF429 hW428 => ?_
  have h := h F429 eF429
  refine r_aload_n dX9_init_271 rfl ?_
  refine j_bipush dX9_init_272 ?_
  refine c_newa (t := 102) (n := 12) hW428 dX9_init_274 rfl rfl rfl (fun _ h => by cases h) q223 (by decide) rfl (Nat.le_of_ble_eq_true rfl) fun b430 N431 F432 A433 eb430 eN431 eF432 eA433 t434 w435 hT436 hW437 => ?_
  have h := h b430 N431 F432 A433 eb430 eN431 eF432 eA433
  have t438 : jtg N431 o = 10 := (hT436.tg hW428 t425)
  have w439 : jfn N431 0 o = 1 := hT436.ow hW428 t427 w426
  have t440 : jtg N431 o = 10 := hT436.tg hW428 t427
  refine c_pRF hW437 dX9_init_276 flX9_130_10 rfl t438 w439 rfl (ty := (.array .int)) rfl (by intro c hc; cases hc; rfl) (by decide) (by decide +kernel) (Or.inr ⟨_, rfl⟩) fun N442 eN442 hT443 hW441 => ?_
  have h := h N442 eN442
  refine r_aload_n dX9_init_279 rfl ?_
  refine j_iconst dX9_init_280 ?_
  have t444 : jtg N442 o = 10 := (hT443.tg hW437 t438)
  have w445 : jfn N442 0 o = 1 := hT443.ow hW437 t440 w439
  have t446 : jtg N442 o = 10 := hT443.tg hW437 t440
  refine c_pI hW441 dX9_init_281 flX9_133_10 rfl t444 w445 rfl (by decide) fun F448 eF448 hW447 => ?_
  have h := h F448 eF448
  refine r_aload_n dX9_init_284 rfl ?_
  refine j_iconst dX9_init_285 ?_
  refine c_pI hW447 dX9_init_286 flX9_136_10 rfl t444 w445 rfl (by decide) fun F450 eF450 hW449 => ?_
  have h := h F450 eF450
  refine r_aload_n dX9_init_289 rfl ?_
  refine j_bipush dX9_init_290 ?_
  refine c_newa (t := 102) (n := 6) hW449 dX9_init_292 rfl rfl rfl (fun _ h => by cases h) q223 (by decide) rfl (Nat.le_of_ble_eq_true rfl) fun b451 N452 F453 A454 eb451 eN452 eF453 eA454 t455 w456 hT457 hW458 => ?_
  have h := h b451 N452 F453 A454 eb451 eN452 eF453 eA454
  have t459 : jtg N452 o = 10 := (hT457.tg hW449 t444)
  have w460 : jfn N452 0 o = 1 := hT457.ow hW449 t446 w445
  have t461 : jtg N452 o = 10 := hT457.tg hW449 t446
  refine c_pRF hW458 dX9_init_294 flX9_139_10 rfl t459 w460 rfl (ty := (.array .int)) rfl (by intro c hc; cases hc; rfl) (by decide) (by decide +kernel) (Or.inr ⟨_, rfl⟩) fun N463 eN463 hT464 hW462 => ?_
  have h := h N463 eN463
  refine r_aload_n dX9_init_297 rfl ?_
  refine j_bipush dX9_init_298 ?_
  refine c_newa (t := 102) (n := 22) hW462 dX9_init_300 rfl rfl rfl (fun _ h => by cases h) q223 (by decide) rfl (Nat.le_of_ble_eq_true rfl) fun b465 N466 F467 A468 eb465 eN466 eF467 eA468 t469 w470 hT471 hW472 => ?_
  have h := h b465 N466 F467 A468 eb465 eN466 eF467 eA468
  have t473 : jtg N466 o = 10 := (hT471.tg hW462 (hT464.tg hW458 t459))
  have w474 : jfn N463 0 o = 1 := hT464.ow hW458 t461 w460
  have t475 : jtg N463 o = 10 := hT464.tg hW458 t461
  have w476 : jfn N466 0 o = 1 := hT471.ow hW462 t475 w474
  have t477 : jtg N466 o = 10 := hT471.tg hW462 t475
  refine c_pRF hW472 dX9_init_302 flX9_142_10 rfl t473 w476 rfl (ty := (.array .int)) rfl (by intro c hc; cases hc; rfl) (by decide) (by decide +kernel) (Or.inr ⟨_, rfl⟩) fun N479 eN479 hT480 hW478 => ?_
  have h := h N479 eN479
  refine r_aload_n dX9_init_305 rfl ?_
  refine j_sipush dX9_init_306 ?_
  refine c_newa (t := 102) (n := 264) hW478 dX9_init_309 rfl rfl rfl (fun _ h => by cases h) q223 (by decide) rfl (Nat.le_of_ble_eq_true rfl) fun b481 N482 F483 A484 eb481 eN482 eF483 eA484 t485 w486 hT487 hW488 => ?_
  have h := h b481 N482 F483 A484 eb481 eN482 eF483 eA484
  have t489 : jtg N482 o = 10 := (hT487.tg hW478 (hT480.tg hW472 t473))
  have w490 : jfn N479 0 o = 1 := hT480.ow hW472 t477 w476
  have t491 : jtg N479 o = 10 := hT480.tg hW472 t477
  have w492 : jfn N482 0 o = 1 := hT487.ow hW478 t491 w490
  have t493 : jtg N482 o = 10 := hT487.tg hW478 t491
  refine c_pRF hW488 dX9_init_311 flX9_145_10 rfl t489 w492 rfl (ty := (.array .int)) rfl (by intro c hc; cases hc; rfl) (by decide) (by decide +kernel) (Or.inr ⟨_, rfl⟩) fun N495 eN495 hT496 hW494 => ?_
  have h := h N495 eN495
  refine r_aload_n dX9_init_314 rfl ?_
  refine j_sipush dX9_init_315 ?_
  refine c_newa (t := 102) (n := 264) hW494 dX9_init_318 rfl rfl rfl (fun _ h => by cases h) q223 (by decide) rfl (Nat.le_of_ble_eq_true rfl) fun b497 N498 F499 A500 eb497 eN498 eF499 eA500 t501 w502 hT503 hW504 => ?_
  have h := h b497 N498 F499 A500 eb497 eN498 eF499 eA500
  have t505 : jtg N498 o = 10 := (hT503.tg hW494 (hT496.tg hW488 t489))
  have w506 : jfn N495 0 o = 1 := hT496.ow hW488 t493 w492
  have t507 : jtg N495 o = 10 := hT496.tg hW488 t493
  have w508 : jfn N498 0 o = 1 := hT503.ow hW494 t507 w506
  have t509 : jtg N498 o = 10 := hT503.tg hW494 t507
  refine c_pRF hW504 dX9_init_320 flX9_148_10 rfl t505 w508 rfl (ty := (.array .int)) rfl (by intro c hc; cases hc; rfl) (by decide) (by decide +kernel) (Or.inr ⟨_, rfl⟩) fun N511 eN511 hT512 hW510 => ?_
  have h := h N511 eN511
  refine r_aload_n dX9_init_323 rfl ?_
  refine j_sipush dX9_init_324 ?_
  refine c_newa (t := 102) (n := 264) hW510 dX9_init_327 rfl rfl rfl (fun _ h => by cases h) q223 (by decide) rfl (Nat.le_of_ble_eq_true rfl) fun b513 N514 F515 A516 eb513 eN514 eF515 eA516 t517 w518 hT519 hW520 => ?_
  have h := h b513 N514 F515 A516 eb513 eN514 eF515 eA516
  have t521 : jtg N514 o = 10 := (hT519.tg hW510 (hT512.tg hW504 t505))
  have w522 : jfn N511 0 o = 1 := hT512.ow hW504 t509 w508
  have t523 : jtg N511 o = 10 := hT512.tg hW504 t509
  have w524 : jfn N514 0 o = 1 := hT519.ow hW510 t523 w522
  have t525 : jtg N514 o = 10 := hT519.tg hW510 t523
  refine c_pRF hW520 dX9_init_329 flX9_151_10 rfl t521 w524 rfl (ty := (.array .int)) rfl (by intro c hc; cases hc; rfl) (by decide) (by decide +kernel) (Or.inr ⟨_, rfl⟩) fun N527 eN527 hT528 hW526 => ?_
  have h := h N527 eN527
  refine r_aload_n dX9_init_332 rfl ?_
  refine j_sipush dX9_init_333 ?_
  refine c_newa (t := 102) (n := 264) hW526 dX9_init_336 rfl rfl rfl (fun _ h => by cases h) q223 (by decide) rfl (Nat.le_of_ble_eq_true rfl) fun b529 N530 F531 A532 eb529 eN530 eF531 eA532 t533 w534 hT535 hW536 => ?_
  have h := h b529 N530 F531 A532 eb529 eN530 eF531 eA532
  have t537 : jtg N530 o = 10 := (hT535.tg hW526 (hT528.tg hW520 t521))
  have w538 : jfn N527 0 o = 1 := hT528.ow hW520 t525 w524
  have t539 : jtg N527 o = 10 := hT528.tg hW520 t525
  have w540 : jfn N530 0 o = 1 := hT535.ow hW526 t539 w538
  have t541 : jtg N530 o = 10 := hT535.tg hW526 t539
  refine c_pRF hW536 dX9_init_338 flX9_154_10 rfl t537 w540 rfl (ty := (.array .int)) rfl (by intro c hc; cases hc; rfl) (by decide) (by decide +kernel) (Or.inr ⟨_, rfl⟩) fun N543 eN543 hT544 hW542 => ?_
  have h := h N543 eN543
  refine r_aload_n dX9_init_341 rfl ?_
  refine j_sipush dX9_init_342 ?_
  refine c_newa (t := 102) (n := 3168) hW542 dX9_init_345 rfl rfl rfl (fun _ h => by cases h) q223 (by decide) rfl (Nat.le_of_ble_eq_true rfl) fun b545 N546 F547 A548 eb545 eN546 eF547 eA548 t549 w550 hT551 hW552 => ?_
  have h := h b545 N546 F547 A548 eb545 eN546 eF547 eA548
  have t553 : jtg N546 o = 10 := (hT551.tg hW542 (hT544.tg hW536 t537))
  have w554 : jfn N543 0 o = 1 := hT544.ow hW536 t541 w540
  have t555 : jtg N543 o = 10 := hT544.tg hW536 t541
  have w556 : jfn N546 0 o = 1 := hT551.ow hW542 t555 w554
  have t557 : jtg N546 o = 10 := hT551.tg hW542 t555
  refine c_pRF hW552 dX9_init_347 flX9_157_10 rfl t553 w556 rfl (ty := (.array .int)) rfl (by intro c hc; cases hc; rfl) (by decide) (by decide +kernel) (Or.inr ⟨_, rfl⟩) fun N559 eN559 hT560 hW558 => ?_
  have h := h N559 eN559
  refine r_aload_n dX9_init_350 rfl ?_
  refine j_bipush dX9_init_351 ?_
  refine c_newa (t := 102) (n := 22) hW558 dX9_init_353 rfl rfl rfl (fun _ h => by cases h) q223 (by decide) rfl (Nat.le_of_ble_eq_true rfl) fun b561 N562 F563 A564 eb561 eN562 eF563 eA564 t565 w566 hT567 hW568 => ?_
  have h := h b561 N562 F563 A564 eb561 eN562 eF563 eA564
  have t569 : jtg N562 o = 10 := (hT567.tg hW558 (hT560.tg hW552 t553))
  have w570 : jfn N559 0 o = 1 := hT560.ow hW552 t557 w556
  have t571 : jtg N559 o = 10 := hT560.tg hW552 t557
  have w572 : jfn N562 0 o = 1 := hT567.ow hW558 t571 w570
  have t573 : jtg N562 o = 10 := hT567.tg hW558 t571
  refine c_pRF hW568 dX9_init_355 flX9_160_10 rfl t569 w572 rfl (ty := (.array .int)) rfl (by intro c hc; cases hc; rfl) (by decide) (by decide +kernel) (Or.inr ⟨_, rfl⟩) fun N575 eN575 hT576 hW574 => ?_
  have h := h N575 eN575
  refine r_aload_n dX9_init_358 rfl ?_
  refine j_sipush dX9_init_359 ?_
  refine c_newa (t := 102) (n := 8800) hW574 dX9_init_362 rfl rfl rfl (fun _ h => by cases h) q223 (by decide) rfl (Nat.le_of_ble_eq_true rfl) fun b577 N578 F579 A580 eb577 eN578 eF579 eA580 t581 w582 hT583 hW584 => ?_
  have h := h b577 N578 F579 A580 eb577 eN578 eF579 eA580
  have t585 : jtg N578 o = 10 := (hT583.tg hW574 (hT576.tg hW568 t569))
  have w586 : jfn N575 0 o = 1 := hT576.ow hW568 t573 w572
  have t587 : jtg N575 o = 10 := hT576.tg hW568 t573
  have w588 : jfn N578 0 o = 1 := hT583.ow hW574 t587 w586
  have t589 : jtg N578 o = 10 := hT583.tg hW574 t587
  refine c_pRF hW584 dX9_init_364 flX9_163_10 rfl t585 w588 rfl (ty := (.array .int)) rfl (by intro c hc; cases hc; rfl) (by decide) (by decide +kernel) (Or.inr ⟨_, rfl⟩) fun N591 eN591 hT592 hW590 => ?_
  have h := h N591 eN591
  refine r_aload_n dX9_init_367 rfl ?_
  refine j_iconst dX9_init_368 ?_
  have t593 : jtg N591 o = 10 := (hT592.tg hW584 t585)
  have w594 : jfn N591 0 o = 1 := hT592.ow hW584 t589 w588
  have t595 : jtg N591 o = 10 := hT592.tg hW584 t589
  refine c_pI hW590 dX9_init_369 flX9_166_10 rfl t593 w594 rfl (by decide) fun F597 eF597 hW596 => ?_
  have h := h F597 eF597
  refine r_aload_n dX9_init_372 rfl ?_
  refine j_iconst dX9_init_373 ?_
  refine c_pI hW596 dX9_init_374 flX9_169_10 rfl t593 w594 rfl (by decide) fun F599 eF599 hW598 => ?_
  have h := h F599 eF599
  refine r_aload_n dX9_init_377 rfl ?_
  refine j_lconst 1 rfl dX9_init_378 ?_
  refine c_pJ hW598 dX9_init_379 flX9_172_10 rfl t593 w594 rfl (by decide) fun F601 eF601 hW600 => ?_
  have h := h F601 eF601
  refine r_aload_n dX9_init_382 rfl ?_
  refine j_bipush dX9_init_383 ?_
  refine c_newa (t := 102) (n := 12) hW600 dX9_init_385 rfl rfl rfl (fun _ h => by cases h) q223 (by decide) rfl (Nat.le_of_ble_eq_true rfl) fun b602 N603 F604 A605 eb602 eN603 eF604 eA605 t606 w607 hT608 hW609 => ?_
  have h := h b602 N603 F604 A605 eb602 eN603 eF604 eA605
  have t610 : jtg N603 o = 10 := (hT608.tg hW600 t593)
  have w611 : jfn N603 0 o = 1 := hT608.ow hW600 t595 w594
  have t612 : jtg N603 o = 10 := hT608.tg hW600 t595
  refine c_pRF hW609 dX9_init_387 flX9_175_10 rfl t610 w611 rfl (ty := (.array .int)) rfl (by intro c hc; cases hc; rfl) (by decide) (by decide +kernel) (Or.inr ⟨_, rfl⟩) fun N614 eN614 hT615 hW613 => ?_
  have h := h N614 eN614
  refine r_aload_n dX9_init_390 rfl ?_
  refine j_iconst dX9_init_391 ?_
  have t616 : jtg N614 o = 10 := (hT615.tg hW609 t610)
  have w617 : jfn N614 0 o = 1 := hT615.ow hW609 t612 w611
  have t618 : jtg N614 o = 10 := hT615.tg hW609 t612
  refine c_pI hW613 dX9_init_392 flX9_178_10 rfl t616 w617 rfl (by decide) fun F620 eF620 hW619 => ?_
  have h := h F620 eF620
  refine r_aload_n dX9_init_395 rfl ?_
  refine j_iconst dX9_init_396 ?_
  refine c_pI hW619 dX9_init_397 flX9_181_10 rfl t616 w617 rfl (by decide) fun F622 eF622 hW621 => ?_
  have h := h F622 eF622
  refine r_aload_n dX9_init_400 rfl ?_
  refine j_iconst dX9_init_401 ?_
  refine c_pZ hW621 dX9_init_402 flX9_184_10 rfl t616 w617 rfl (by decide) (by decide) fun F624 eF624 hW623 => ?_
  have h := h F624 eF624
  refine r_aload_n dX9_init_405 rfl ?_
  refine j_bipush dX9_init_406 ?_
  refine c_newa (t := 102) (n := 12) hW623 dX9_init_408 rfl rfl rfl (fun _ h => by cases h) q223 (by decide) rfl (Nat.le_of_ble_eq_true rfl) fun b625 N626 F627 A628 eb625 eN626 eF627 eA628 t629 w630 hT631 hW632 => ?_
  have h := h b625 N626 F627 A628 eb625 eN626 eF627 eA628
  have t633 : jtg N626 o = 10 := (hT631.tg hW623 t616)
  have w634 : jfn N626 0 o = 1 := hT631.ow hW623 t618 w617
  have t635 : jtg N626 o = 10 := hT631.tg hW623 t618
  refine c_pRF hW632 dX9_init_410 flX9_188_10 rfl t633 w634 rfl (ty := (.array .int)) rfl (by intro c hc; cases hc; rfl) (by decide) (by decide +kernel) (Or.inr ⟨_, rfl⟩) fun N637 eN637 hT638 hW636 => ?_
  have h := h N637 eN637
  refine r_aload_n dX9_init_413 rfl ?_
  refine j_iconst dX9_init_414 ?_
  have t639 : jtg N637 o = 10 := (hT638.tg hW632 t633)
  have w640 : jfn N637 0 o = 1 := hT638.ow hW632 t635 w634
  have t641 : jtg N637 o = 10 := hT638.tg hW632 t635
  refine c_pI hW636 dX9_init_415 flX9_191_10 rfl t639 w640 rfl (by decide) fun F643 eF643 hW642 => ?_
  have h := h F643 eF643
  refine r_aload_n dX9_init_418 rfl ?_
  refine j_iconst dX9_init_419 ?_
  refine c_pI hW642 dX9_init_420 flX9_194_10 rfl t639 w640 rfl (by decide) fun F645 eF645 hW644 => ?_
  have h := h F645 eF645
  refine r_aload_n dX9_init_423 rfl ?_
  refine j_iconst dX9_init_424 ?_
  refine c_pI hW644 dX9_init_425 flX9_197_10 rfl t639 w640 rfl (by decide) fun F647 eF647 hW646 => ?_
  have h := h F647 eF647
  refine r_aload_n dX9_init_428 rfl ?_
  refine j_iconst dX9_init_429 ?_
  refine c_pI hW646 dX9_init_430 flX9_200_10 rfl t639 w640 rfl (by decide) fun F649 eF649 hW648 => ?_
  have h := h F649 eF649
  refine r_aload_n dX9_init_433 rfl ?_
  refine j_bipush dX9_init_434 ?_
  refine c_newa (t := 102) (n := 12) hW648 dX9_init_436 rfl rfl rfl (fun _ h => by cases h) q223 (by decide) rfl (Nat.le_of_ble_eq_true rfl) fun b650 N651 F652 A653 eb650 eN651 eF652 eA653 t654 w655 hT656 hW657 => ?_
  have h := h b650 N651 F652 A653 eb650 eN651 eF652 eA653
  have t658 : jtg N651 o = 10 := (hT656.tg hW648 t639)
  have w659 : jfn N651 0 o = 1 := hT656.ow hW648 t641 w640
  have t660 : jtg N651 o = 10 := hT656.tg hW648 t641
  refine c_pRF hW657 dX9_init_438 flX9_203_10 rfl t658 w659 rfl (ty := (.array .int)) rfl (by intro c hc; cases hc; rfl) (by decide) (by decide +kernel) (Or.inr ⟨_, rfl⟩) fun N662 eN662 hT663 hW661 => ?_
  have h := h N662 eN662
  refine r_aload_n dX9_init_441 rfl ?_
  refine j_iconst dX9_init_442 ?_
  have t664 : jtg N662 o = 10 := (hT663.tg hW657 t658)
  have w665 : jfn N662 0 o = 1 := hT663.ow hW657 t660 w659
  have t666 : jtg N662 o = 10 := hT663.tg hW657 t660
  refine c_pI hW661 dX9_init_443 flX9_206_10 rfl t664 w665 rfl (by decide) fun F668 eF668 hW667 => ?_
  have h := h F668 eF668
  refine r_aload_n dX9_init_446 rfl ?_
  refine j_bipush dX9_init_447 ?_
  refine c_newa (t := 102) (n := 12) hW667 dX9_init_449 rfl rfl rfl (fun _ h => by cases h) q223 (by decide) rfl (Nat.le_of_ble_eq_true rfl) fun b669 N670 F671 A672 eb669 eN670 eF671 eA672 t673 w674 hT675 hW676 => ?_
  have h := h b669 N670 F671 A672 eb669 eN670 eF671 eA672
  have t677 : jtg N670 o = 10 := (hT675.tg hW667 t664)
  have w678 : jfn N670 0 o = 1 := hT675.ow hW667 t666 w665
  have t679 : jtg N670 o = 10 := hT675.tg hW667 t666
  refine c_pRF hW676 dX9_init_451 flX9_209_10 rfl t677 w678 rfl (ty := (.array .int)) rfl (by intro c hc; cases hc; rfl) (by decide) (by decide +kernel) (Or.inr ⟨_, rfl⟩) fun N681 eN681 hT682 hW680 => ?_
  have h := h N681 eN681
  refine r_aload_n dX9_init_454 rfl ?_
  refine j_bipush dX9_init_455 ?_
  refine c_newa (t := 102) (n := 12) hW680 dX9_init_457 rfl rfl rfl (fun _ h => by cases h) q223 (by decide) rfl (Nat.le_of_ble_eq_true rfl) fun b683 N684 F685 A686 eb683 eN684 eF685 eA686 t687 w688 hT689 hW690 => ?_
  have h := h b683 N684 F685 A686 eb683 eN684 eF685 eA686
  have t691 : jtg N684 o = 10 := (hT689.tg hW680 (hT682.tg hW676 t677))
  have w692 : jfn N681 0 o = 1 := hT682.ow hW676 t679 w678
  have t693 : jtg N681 o = 10 := hT682.tg hW676 t679
  have w694 : jfn N684 0 o = 1 := hT689.ow hW680 t693 w692
  have t695 : jtg N684 o = 10 := hT689.tg hW680 t693
  refine c_pRF hW690 dX9_init_459 flX9_212_10 rfl t691 w694 rfl (ty := (.array .int)) rfl (by intro c hc; cases hc; rfl) (by decide) (by decide +kernel) (Or.inr ⟨_, rfl⟩) fun N697 eN697 hT698 hW696 => ?_
  have h := h N697 eN697
  refine r_aload_n dX9_init_462 rfl ?_
  refine j_bipush dX9_init_463 ?_
  refine c_newa (t := 102) (n := 12) hW696 dX9_init_465 rfl rfl rfl (fun _ h => by cases h) q223 (by decide) rfl (Nat.le_of_ble_eq_true rfl) fun b699 N700 F701 A702 eb699 eN700 eF701 eA702 t703 w704 hT705 hW706 => ?_
  have h := h b699 N700 F701 A702 eb699 eN700 eF701 eA702
  have t707 : jtg N700 o = 10 := (hT705.tg hW696 (hT698.tg hW690 t691))
  have w708 : jfn N697 0 o = 1 := hT698.ow hW690 t695 w694
  have t709 : jtg N697 o = 10 := hT698.tg hW690 t695
  have w710 : jfn N700 0 o = 1 := hT705.ow hW696 t709 w708
  have t711 : jtg N700 o = 10 := hT705.tg hW696 t709
  refine c_pRF hW706 dX9_init_467 flX9_215_10 rfl t707 w710 rfl (ty := (.array .int)) rfl (by intro c hc; cases hc; rfl) (by decide) (by decide +kernel) (Or.inr ⟨_, rfl⟩) fun N713 eN713 hT714 hW712 => ?_
  have h := h N713 eN713
  refine r_aload_n dX9_init_470 rfl ?_
  refine j_sipush dX9_init_471 ?_
  refine c_newa (t := 102) (n := 144) hW712 dX9_init_474 rfl rfl rfl (fun _ h => by cases h) q223 (by decide) rfl (Nat.le_of_ble_eq_true rfl) fun b715 N716 F717 A718 eb715 eN716 eF717 eA718 t719 w720 hT721 hW722 => ?_
  have h := h b715 N716 F717 A718 eb715 eN716 eF717 eA718
  have t723 : jtg N716 o = 10 := (hT721.tg hW712 (hT714.tg hW706 t707))
  have w724 : jfn N713 0 o = 1 := hT714.ow hW706 t711 w710
  have t725 : jtg N713 o = 10 := hT714.tg hW706 t711
  have w726 : jfn N716 0 o = 1 := hT721.ow hW712 t725 w724
  have t727 : jtg N716 o = 10 := hT721.tg hW712 t725
  refine c_pRF hW722 dX9_init_476 flX9_218_10 rfl t723 w726 rfl (ty := (.array .int)) rfl (by intro c hc; cases hc; rfl) (by decide) (by decide +kernel) (Or.inr ⟨_, rfl⟩) fun N729 eN729 hT730 hW728 => ?_
  have h := h N729 eN729
  refine r_aload_n dX9_init_479 rfl ?_
  refine j_sipush dX9_init_480 ?_
  refine c_newa (t := 102) (n := 29400) hW728 dX9_init_483 rfl rfl rfl (fun _ h => by cases h) q223 (by decide) rfl (Nat.le_of_ble_eq_true rfl) fun b731 N732 F733 A734 eb731 eN732 eF733 eA734 t735 w736 hT737 hW738 => ?_
  have h := h b731 N732 F733 A734 eb731 eN732 eF733 eA734
  have t739 : jtg N732 o = 10 := (hT737.tg hW728 (hT730.tg hW722 t723))
  have w740 : jfn N729 0 o = 1 := hT730.ow hW722 t727 w726
  have t741 : jtg N729 o = 10 := hT730.tg hW722 t727
  have w742 : jfn N732 0 o = 1 := hT737.ow hW728 t741 w740
  have t743 : jtg N732 o = 10 := hT737.tg hW728 t741
  refine c_pRF hW738 dX9_init_485 flX9_221_10 rfl t739 w742 rfl (ty := (.array .int)) rfl (by intro c hc; cases hc; rfl) (by decide) (by decide +kernel) (Or.inr ⟨_, rfl⟩) fun N745 eN745 hT746 hW744 => ?_
  have h := h N745 eN745
  refine r_aload_n dX9_init_488 rfl ?_
  refine j_bipush dX9_init_489 ?_
  refine c_newa (t := 102) (n := 10) hW744 dX9_init_491 rfl rfl rfl (fun _ h => by cases h) q223 (by decide) rfl (Nat.le_of_ble_eq_true rfl) fun b747 N748 F749 A750 eb747 eN748 eF749 eA750 t751 w752 hT753 hW754 => ?_
  have h := h b747 N748 F749 A750 eb747 eN748 eF749 eA750
  have t755 : jtg N748 o = 10 := (hT753.tg hW744 (hT746.tg hW738 t739))
  have w756 : jfn N745 0 o = 1 := hT746.ow hW738 t743 w742
  have t757 : jtg N745 o = 10 := hT746.tg hW738 t743
  have w758 : jfn N748 0 o = 1 := hT753.ow hW744 t757 w756
  have t759 : jtg N748 o = 10 := hT753.tg hW744 t757
  refine c_pRF hW754 dX9_init_493 flX9_224_10 rfl t755 w758 rfl (ty := (.array .int)) rfl (by intro c hc; cases hc; rfl) (by decide) (by decide +kernel) (Or.inr ⟨_, rfl⟩) fun N761 eN761 hT762 hW760 => ?_
  have h := h N761 eN761
  refine r_aload_n dX9_init_496 rfl ?_
  refine j_bipush dX9_init_497 ?_
  refine c_newa (t := 102) (n := 10) hW760 dX9_init_499 rfl rfl rfl (fun _ h => by cases h) q223 (by decide) rfl (Nat.le_of_ble_eq_true rfl) fun b763 N764 F765 A766 eb763 eN764 eF765 eA766 t767 w768 hT769 hW770 => ?_
  have h := h b763 N764 F765 A766 eb763 eN764 eF765 eA766
  have t771 : jtg N764 o = 10 := (hT769.tg hW760 (hT762.tg hW754 t755))
  have w772 : jfn N761 0 o = 1 := hT762.ow hW754 t759 w758
  have t773 : jtg N761 o = 10 := hT762.tg hW754 t759
  have w774 : jfn N764 0 o = 1 := hT769.ow hW760 t773 w772
  have t775 : jtg N764 o = 10 := hT769.tg hW760 t773
  refine c_pRF hW770 dX9_init_501 flX9_227_10 rfl t771 w774 rfl (ty := (.array .int)) rfl (by intro c hc; cases hc; rfl) (by decide) (by decide +kernel) (Or.inr ⟨_, rfl⟩) fun N777 eN777 hT778 hW776 => ?_
  have h := h N777 eN777
  refine r_aload_n dX9_init_504 rfl ?_
  refine j_bipush dX9_init_505 ?_
  refine c_newa (t := 102) (n := 12) hW776 dX9_init_507 rfl rfl rfl (fun _ h => by cases h) q223 (by decide) rfl (Nat.le_of_ble_eq_true rfl) fun b779 N780 F781 A782 eb779 eN780 eF781 eA782 t783 w784 hT785 hW786 => ?_
  have h := h b779 N780 F781 A782 eb779 eN780 eF781 eA782
  have t787 : jtg N780 o = 10 := (hT785.tg hW776 (hT778.tg hW770 t771))
  have w788 : jfn N777 0 o = 1 := hT778.ow hW770 t775 w774
  have t789 : jtg N777 o = 10 := hT778.tg hW770 t775
  have w790 : jfn N780 0 o = 1 := hT785.ow hW776 t789 w788
  have t791 : jtg N780 o = 10 := hT785.tg hW776 t789
  refine c_pRF hW786 dX9_init_509 flX9_230_10 rfl t787 w790 rfl (ty := (.array .int)) rfl (by intro c hc; cases hc; rfl) (by decide) (by decide +kernel) (Or.inr ⟨_, rfl⟩) fun N793 eN793 hT794 hW792 => ?_
  have h := h N793 eN793
  refine r_aload_n dX9_init_512 rfl ?_
  refine j_bipush dX9_init_513 ?_
  refine c_newa (t := 102) (n := 12) hW792 dX9_init_515 rfl rfl rfl (fun _ h => by cases h) q223 (by decide) rfl (Nat.le_of_ble_eq_true rfl) fun b795 N796 F797 A798 eb795 eN796 eF797 eA798 t799 w800 hT801 hW802 => ?_
  have h := h b795 N796 F797 A798 eb795 eN796 eF797 eA798
  have t803 : jtg N796 o = 10 := (hT801.tg hW792 (hT794.tg hW786 t787))
  have w804 : jfn N793 0 o = 1 := hT794.ow hW786 t791 w790
  have t805 : jtg N793 o = 10 := hT794.tg hW786 t791
  have w806 : jfn N796 0 o = 1 := hT801.ow hW792 t805 w804
  have t807 : jtg N796 o = 10 := hT801.tg hW792 t805
  refine c_pRF hW802 dX9_init_517 flX9_233_10 rfl t803 w806 rfl (ty := (.array .int)) rfl (by intro c hc; cases hc; rfl) (by decide) (by decide +kernel) (Or.inr ⟨_, rfl⟩) fun N809 eN809 hT810 hW808 => ?_
  have h := h N809 eN809
  refine r_aload_n dX9_init_520 rfl ?_
  refine j_iconst dX9_init_521 ?_
  have t811 : jtg N809 o = 10 := (hT810.tg hW802 t803)
  have w812 : jfn N809 0 o = 1 := hT810.ow hW802 t807 w806
  have t813 : jtg N809 o = 10 := hT810.tg hW802 t807
  refine c_pI hW808 dX9_init_522 flX9_236_10 rfl t811 w812 rfl (by decide) fun F815 eF815 hW814 => ?_
  have h := h F815 eF815
  refine r_aload_n dX9_init_525 rfl ?_
  refine j_iconst dX9_init_526 ?_
  refine c_pI hW814 dX9_init_527 flX9_239_10 rfl t811 w812 rfl (by decide) fun F817 eF817 hW816 => ?_
  have h := h F817 eF817
  refine r_aload_n dX9_init_530 rfl ?_
  refine j_iconst dX9_init_531 ?_
  refine c_pI hW816 dX9_init_532 flX9_242_10 rfl t811 w812 rfl (by decide) fun F819 eF819 hW818 => ?_
  have h := h F819 eF819
  refine r_aload_n dX9_init_535 rfl ?_
  refine j_iconst dX9_init_536 ?_
  refine c_pI hW818 dX9_init_537 flX9_245_10 rfl t811 w812 rfl (by decide) fun F821 eF821 hW820 => ?_
  have h := h F821 eF821
  refine r_aload_n dX9_init_540 rfl ?_
  refine j_sipush dX9_init_541 ?_
  refine c_newa (t := 102) (n := 210) hW820 dX9_init_544 rfl rfl rfl (fun _ h => by cases h) q223 (by decide) rfl (Nat.le_of_ble_eq_true rfl) fun b822 N823 F824 A825 eb822 eN823 eF824 eA825 t826 w827 hT828 hW829 => ?_
  have h := h b822 N823 F824 A825 eb822 eN823 eF824 eA825
  have t830 : jtg N823 o = 10 := (hT828.tg hW820 t811)
  have w831 : jfn N823 0 o = 1 := hT828.ow hW820 t813 w812
  have t832 : jtg N823 o = 10 := hT828.tg hW820 t813
  refine c_pRF hW829 dX9_init_546 flX9_248_10 rfl t830 w831 rfl (ty := (.array .int)) rfl (by intro c hc; cases hc; rfl) (by decide) (by decide +kernel) (Or.inr ⟨_, rfl⟩) fun N834 eN834 hT835 hW833 => ?_
  have h := h N834 eN834
  refine r_aload_n dX9_init_549 rfl ?_
  refine j_iconst dX9_init_550 ?_
  have t836 : jtg N834 o = 10 := (hT835.tg hW829 t830)
  have w837 : jfn N834 0 o = 1 := hT835.ow hW829 t832 w831
  have t838 : jtg N834 o = 10 := hT835.tg hW829 t832
  refine c_pI hW833 dX9_init_551 flX9_251_10 rfl t836 w837 rfl (by decide) fun F840 eF840 hW839 => ?_
  have h := h F840 eF840
  refine r_aload_n dX9_init_554 rfl ?_
  refine r_gRF dX9_init_555 flX9_118_10 rfl t836 rfl ?_
  refine j_iconst dX9_init_558 ?_
  refine j_bipush dX9_init_559 ?_
  obtain ⟨b841, hz842, h⟩ := h
  obtain ⟨t843, h⟩ := h
  obtain ⟨w844, h⟩ := h
  obtain ⟨c845, h⟩ := h
  refine c_iast hW839 dX9_init_561 hz842 t843 w844 c845 (by decide) fun A846 eA846 hW847 => ?_
  have h := h A846 eA846
  refine r_aload_n dX9_init_562 rfl ?_
  refine r_gRF dX9_init_563 flX9_121_10 rfl t836 rfl ?_
  refine j_iconst dX9_init_566 ?_
  refine j_iconst dX9_init_567 ?_
  obtain ⟨b848, hz849, h⟩ := h
  obtain ⟨t850, h⟩ := h
  obtain ⟨w851, h⟩ := h
  obtain ⟨c852, h⟩ := h
  refine c_iast hW847 dX9_init_568 hz849 t850 w851 c852 (by decide) fun A853 eA853 hW854 => ?_
  have h := h A853 eA853
  exact j_vret dX9_init_569 rfl ⟨rfl, hW854, (((((((((((((((((((((((((((((((((((((((((((((((((((((((((((((((((((((((((((((((((((((((((((((((hT7.trans hT13).trans hT49).trans hT56).trans hT63).trans hT72).trans hT79).trans hT88).trans hT95).trans hT104).trans hT111).trans hT120).trans hT127).trans hT136).trans hT143).trans hT152).trans hT159).trans hT168).trans hT175).trans hT184).trans hT191).trans hT200).trans hT207).trans hT216).trans hT223).trans hT232).trans hT239).trans hT248).trans hT255).trans hT264).trans hT271).trans hT280).trans hT287).trans hT296).trans hT303).trans hT312).trans hT319).trans hT328).trans hT335).trans hT344).trans hT351).trans hT360).trans hT367).trans hT376).trans hT383).trans hT392).trans hT399).trans hT408).trans hT415).trans hT424).trans hT436).trans hT443).trans hT457).trans hT464).trans hT471).trans hT480).trans hT487).trans hT496).trans hT503).trans hT512).trans hT519).trans hT528).trans hT535).trans hT544).trans hT551).trans hT560).trans hT567).trans hT576).trans hT583).trans hT592).trans hT608).trans hT615).trans hT631).trans hT638).trans hT656).trans hT663).trans hT675).trans hT682).trans hT689).trans hT698).trans hT705).trans hT714).trans hT721).trans hT730).trans hT737).trans hT746).trans hT753).trans hT762).trans hT769).trans hT778).trans hT785).trans hT794).trans hT801).trans hT810).trans hT828).trans hT835), h⟩
