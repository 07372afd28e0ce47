/-! EVERY ANSWER LEAVES A BRIDGE THAT HOLDS WHAT IS ASKED. -/
theorem OKS_come {T : Nat} {S : BS} {b v : Int32} (hok : OKS T S) (hb : b = 0 ∨ b = 1) (h1 : 1 ≤ v ∧ v ≤ 6) (hn : sN S < 40) : OKS T (sCome S b v) := by
  obtain ⟨a1, a2, a3, a4, a5, a6, a7, a8, a9, a10⟩ := hok
  have key : ∀ k, k < sN S + 1 → tSt (va_up (sTv S) (sN S) (b, v, sMi S, 0, 0, 0, -1) k) = 1 → k < sN S ∧ tSt (sTv S k) = 1 := by
    intro k hk e
    by_cases hkn : k = sN S
    · subst hkn
      rw [va_up_self] at e
      exact absurd e (by show ¬ (0 : Nat) = 1; decide)
    · rw [va_up_ne _ _ hkn] at e
      exact ⟨by omega, e⟩
  refine ⟨a1, a2, a3, a4, a5, a6, a7, by show sN S + 1 ≤ 40; omega, fun k hk => ?_, fun i j hi hj ei ej => a10 i j (key i hi ei).1 (key j hj ej).1 (key i hi ei).2 (key j hj ej).2⟩
  have hk : k < sN S + 1 := hk
  show OKT (va_up (sTv S) (sN S) (b, v, sMi S, 0, 0, 0, -1) k)
  by_cases hkn : k = sN S
  · subst hkn
    rw [va_up_self]
    exact ⟨hb, h1, by show (0 : Nat) < 4; decide, fun e => absurd e (by show ¬ (0 : Nat) = 1; decide)⟩
  · rw [va_up_ne _ _ hkn]
    exact a9 k (by omega)
theorem OKS_gone {T : Nat} {S : BS} {j : Nat} (hok : OKS T S) (hj : j < sN S) : OKS T (sGone S j) := by
  obtain ⟨a1, a2, a3, a4, a5, a6, a7, a8, a9, a10⟩ := hok
  have key : ∀ k, tSt (va_up (sTv S) j (tGone (sTv S j)) k) = 1 → tSt (sTv S k) = 1 := by
    intro k e
    by_cases hkn : k = j
    · subst hkn
      rw [va_up_self] at e
      exact absurd e (by show ¬ (3 : Nat) = 1; decide)
    · rw [va_up_ne _ _ hkn] at e
      exact e
  refine ⟨a1, a2, a3, a4, a5, a6, a7, a8, fun k hk => ?_, fun i j hi hj ei ej => a10 i j hi hj (key i ei) (key j ej)⟩
  show OKT (va_up (sTv S) j (tGone (sTv S j)) k)
  by_cases hkn : k = j
  · subst hkn
    rw [va_up_self]
    obtain ⟨g1, g2, g3, g4⟩ := a9 k hj
    exact ⟨g1, g2, by show (3 : Nat) < 4; decide, fun e => absurd e (by show ¬ (3 : Nat) = 1; decide)⟩
  · rw [va_up_ne _ _ hkn]
    exact a9 k hk
theorem OKS_ice {T : Nat} {S : BS} {v : Int32} (hok : OKS T S) (h : 0 ≤ v ∧ v ≤ 9) : OKS T (sIce S v) := by
  obtain ⟨a1, a2, a3, a4, a5⟩ := hok
  exact ⟨a1, a2, a3, h, a5⟩
theorem OKS_cold {T : Nat} {S : BS} {h : Nat} {v : Int32} (hok : OKS T S) (hv : -3 ≤ v ∧ v ≤ 3) : OKS T (sCol S h v) := by
  obtain ⟨a1, a2, a3, a4, a5, a6, a7, a8⟩ := hok
  refine ⟨a1, a2, a3, a4, a5, a6, fun k => ?_, a8⟩
  show -3 ≤ upd (sCd S) h v k ∧ upd (sCd S) h v k ≤ 3
  by_cases e : k = h
  · subst e
    rw [upd_at]
    exact hv
  · rw [upd_ne _ _ e]
    exact a7 k
theorem ice3 {T : Nat} {S : BS} (hok : OKS T S) : 0 ≤ (if 0 < sIc S - 3 then sIc S - 3 else 0) ∧ (if 0 < sIc S - 3 then sIc S - 3 else 0) ≤ 9 := by
  obtain ⟨j, hj1, hj2⟩ := i_in (n := 9) rfl hok.2.2.2.1.1 hok.2.2.2.1.2
  have key : ∀ j, j < 10 → 0 ≤ (if 0 < nI j - 3 then nI j - 3 else 0) ∧ (if 0 < nI j - 3 then nI j - 3 else 0) ≤ 9 := by decide +kernel
  rw [hj2]
  exact key j (by omega)
theorem ok_up {T : Nat} {S : BS} (h : OKS T S) : OKS (T + 240) S := OKS_mono h (Nat.le_add_right T 240)
theorem ok_come {T : Nat} {S : BS} {b v : Int32} (h : OKS T S) (hb : b = 0 ∨ b = 1) : OKS (T + 240) (aCome S b v).2.2 := by
  unfold aCome
  split
  · rename_i h1
    split
    · exact ok_up h
    · rename_i h2
      exact ok_up (OKS_come h hb h1 (by have := h.2.2.2.2.2.2.2.1; rcases Nat.lt_or_ge (sN S) 40 with q | q; exact q; exact absurd (show nI (sN S) = nI 40 by rw [show sN S = 40 by omega]) h2))
  · exact ok_up h
theorem ok_leave {T : Nat} {S : BS} {k : Int32} (h : OKS T S) : OKS (T + 240) (aLeave S k).2.2 := by
  unfold aLeave
  split
  · rename_i h1
    obtain ⟨j, hj, hkj⟩ := isT_ex h.2.2.2.2.2.2.2.1 h1
    split
    · rw [hkj, nI_clamp (by have := h.2.2.2.2.2.2.2.1; omega)]
      exact ok_up (OKS_gone h hj)
    · exact ok_up h
  · exact ok_up h
theorem ok_ring {T : Nat} {S : BS} {v : Int32} (h : OKS T S) : OKS (T + 240) (aRing S v).2.2 := by
  unfold aRing
  split
  · rename_i h1
    obtain ⟨j, hj, hkj⟩ := i_in (n := 4) rfl h1.1 h1.2
    rw [hkj, nI_clamp (by omega)]
    exact ok_up (OKS_code h (by omega))
  · exact ok_up h
theorem ok_poise {T : Nat} {S : BS} {v : Int32} (h : OKS T S) : OKS (T + 240) (aPoise S v).2.2 := by
  unfold aPoise
  split
  · rename_i h1
    split
    · exact ok_up (OKS_poise h h1.1 h1.2)
    · exact ok_up h
  · exact ok_up h
theorem ok_setCold {T : Nat} {S : BS} {k v : Int32} (h : OKS T S) : OKS (T + 240) (aCold S k v).2.2 := by
  unfold aCold
  split
  · split
    · rename_i h2
      exact ok_up (OKS_cold h h2)
    · exact ok_up h
  · exact ok_up h
theorem ok_crack {T : Nat} {S : BS} (h : OKS T S) : OKS (T + 240) (aCrack S).2.2 := ok_up (OKS_ice h (ice3 h))
theorem ok_traveller {T : Nat} {S : BS} {k w : Int32} (h : OKS T S) : OKS (T + 240) (aTrav S k w).2.2 := by
  unfold aTrav
  split <;> exact ok_up h
theorem ok_count {T : Nat} {S : BS} {w : Int32} (h : OKS T S) : OKS (T + 240) (aCount S w).2.2 := by
  unfold aCount
  split <;> exact ok_up h
theorem ok_pass {T : Nat} {S : BS} {v : Int32} (h : OKS T S) : OKS (T + 240) (aPass S v).2.2 := by
  unfold aPass
  split
  · rename_i h1
    obtain ⟨n, hn1, hn2, hkj⟩ := in1_ex h1
    rw [hkj, nI_clamp (by omega)]
    exact OKS_mono (OKS_run h n) (by omega)
  · exact ok_up h
theorem ok_when {T : Nat} {S : BS} {k : Int32} (h : OKS T S) : OKS (T + 240) (aWhen S k).2.2 := by
  unfold aWhen
  split <;> exact ok_up h
theorem ok_foresee {T : Nat} {S : BS} {v w : Int32} (h : OKS T S) : OKS (T + 240) (aFore S v w).2.2 := by
  unfold aFore
  split
  · split <;> exact ok_up h
  · exact ok_up h
theorem ok_bestCode {T : Nat} {S : BS} {v : Int32} (h : OKS T S) : OKS (T + 240) (aBestC S v).2.2 := by
  unfold aBestC
  split <;> exact ok_up h
theorem ok_bestPoise {T : Nat} {S : BS} {v : Int32} (h : OKS T S) : OKS (T + 240) (aBestP S v).2.2 := by
  unfold aBestP
  split <;> exact ok_up h
/-! WHAT HOLDS BETWEEN TWO CALLS: both sides in the heap, apart. -/
def LI (g : GT) (x o : Nat) (M B C : Nat → Nat) (F : Nat → Prop) (b : Nat) (th : Int32) (S1 S2 : BS) (f : Nat → Int64) (H : Heap) : Prop :=
  XB g F x b S1 H ∧ MX g M B C th S2 H ∧ va_at (gD g) bbCl (o, ouA g f) H ∧ (∀ q, F q → q < H.size ∧ ¬ FM M B C q ∧ q ≠ o) ∧ (∀ q, FM M B C q → q < H.size ∧ q ≠ x ∧ q ≠ o) ∧ x ≠ o
/-- the component's turn -/
theorem LI.comp {g : GT} {x o : Nat} {M B C : Nat → Nat} {F : Nat → Prop} {b : Nat} {th : Int32} {S S1 : BS} {f : Nat → Int64} {H H1 : Heap} (h : LI g x o M B C F b th S S f H) (hz : H.size ≤ H1.size) (hX : XB g (fun q => F q ∨ (H.size ≤ q ∧ q < H1.size)) x b S1 H1) {f1 : Nat → Int64} (ho : va_at (gD g) bbCl (o, ouA g f1) H1) (hk : ∀ q : Nat, q < H.size → ¬ (F q ∨ q = o ∨ H.size ≤ q) → H1[q]? = H[q]?) : LI g x o M B C (fun q => F q ∨ (H.size ≤ q ∧ q < H1.size)) b th S1 S f1 H1 := by
  obtain ⟨h1, h2, h3, h4, h5, h6⟩ := h
  refine ⟨hX, h2.kept (fun q hq hF => hk q hq (fun e => ?_)), ho, fun q hq => ?_, fun q hq => ⟨Nat.lt_of_lt_of_le (h5 q hq).1 hz, (h5 q hq).2⟩, h6⟩
  · rcases e with e | e | e
    · exact (h4 q e).2.1 hF
    · exact (h5 q hF).2.2 e
    · exact absurd e (Nat.not_le.mpr (h5 q hF).1)
  · rcases hq with hq | hq
    · exact ⟨Nat.lt_of_lt_of_le (h4 q hq).1 hz, (h4 q hq).2⟩
    · refine ⟨hq.2, fun e => absurd hq.1 (Nat.not_le.mpr (h5 q e).1), fun e => ?_⟩
      have := h3.lt
      rw [e] at hq
      exact absurd hq.1 (Nat.not_le.mpr this)
/-- the model's turn -/
theorem LI.model {g : GT} {x o : Nat} {M B C : Nat → Nat} {F : Nat → Prop} {b : Nat} {th th1 : Int32} {S1 S2 S3 : BS} {f : Nat → Int64} {H H1 : Heap} (h : LI g x o M B C F b th S1 S2 f H) (hz : H.size ≤ H1.size) (hM : MX g M B C th1 S3 H1) (hk : ∀ q : Nat, q < H.size → ¬ (FM M B C q ∨ H.size ≤ q) → H1[q]? = H[q]?) : LI g x o M B C F b th1 S1 S3 f H1 := by
  obtain ⟨h1, h2, h3, h4, h5, h6⟩ := h
  refine ⟨h1.kept (fun q hq hF => hk q hq (fun e => ?_)), hM, h3.kept (hk _ h3.lt (fun e => ?_)), fun q hq => ⟨Nat.lt_of_lt_of_le (h4 q hq).1 hz, (h4 q hq).2⟩, fun q hq => ⟨Nat.lt_of_lt_of_le (h5 q hq).1 hz, (h5 q hq).2⟩, h6⟩
  · rcases e with e | e
    · rcases hF with hF | hF
      · exact (h4 q hF).2.1 e
      · exact (h5 q e).2.1 hF
    · exact absurd e (Nat.not_le.mpr hq)
  · rcases e with e | e
    · exact (h5 o e).2.2 rfl
    · exact absurd e (Nat.not_le.mpr h3.lt)
