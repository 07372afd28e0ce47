/-! PLAIN LAWS of the bridge: a minute keeps what holds of it. -/
theorem i_le {x y : Int32} : x ≤ y ↔ x.toInt ≤ y.toInt := Int32.le_iff_toInt_le
theorem i_lt {x y : Int32} : x < y ↔ x.toInt < y.toInt := Int32.lt_iff_toInt_lt
theorem i_in {x M : Int32} {n : Nat} (hM : M.toInt = n) (h0 : 0 ≤ x) (h5 : x ≤ M) : ∃ j : Nat, j ≤ n ∧ x = nI j :=
  nI_of2 hM (by rw [i_lt]; rw [i_le] at h0; omega) h5
theorem nI_in60 {j : Nat} (h : j ≤ 60) : 0 ≤ nI j ∧ nI j ≤ 60 := ⟨nI_pos' (by omega), nI_le (b := 60) h (by decide)⟩
/-- who is served next is nobody, or one that waits, and then nobody passes -/
theorem bFirst_or (S : BS) (b : Int32) : (bFirst S b = -1) ∨ ∃ k, k < sN S ∧ bFirst S b = nI k ∧ tSt (sTv S k) = 0 := by
  rcases srch_or (pW S b) (sN S) 0 with ⟨h, -⟩ | ⟨j, -, h2, h3, h4, -⟩
  · exact Or.inl h
  · refine Or.inr ⟨j, by omega, h4, ?_⟩
    simp only [pW, Bool.and_eq_true, decide_eq_true_eq] at h3
    exact h3.1
theorem bKind_or (S : BS) (b : Int32) : (bKind S b = -1) ∨ ∃ k, k < sN S ∧ bKind S b = nI k ∧ tSt (sTv S k) = 0 := by
  unfold bKind
  split
  · exact bFirst_or S _
  · exact bFirst_or S _
theorem bEither_or {P : Int32 → Prop} {x y : Int32} (hx : P x) (hy : P y) : P (bEither x y) := by
  unfold bEither
  split
  · exact hy
  · split
    · exact hx
    · split
      · exact hy
      · exact hx
theorem bCode_or (S : BS) : (bCode S = -1) ∨ ∃ k, k < sN S ∧ bCode S = nI k ∧ tSt (sTv S k) = 0 := by
  unfold bCode
  split
  · exact bEither_or (P := fun x => x = -1 ∨ ∃ k, k < sN S ∧ x = nI k ∧ tSt (sTv S k) = 0) (bFirst_or S 1) (bFirst_or S 0)
  · split
    · exact bKind_or S _
    · split
      · exact bKind_or S _
      · split
        · exact bKind_or S _
        · exact Or.inl rfl
theorem bPassing_none {S : BS} (h : bPassing S = -1) (hn : sN S ≤ 40) : ∀ j, j < sN S → tSt (sTv S j) ≠ 1 := by
  intro j hj
  rcases srch_or (pS S 1) (sN S) 0 with ⟨-, h2⟩ | ⟨k, -, h2, -, h4, -⟩
  · have := h2 j (Nat.zero_le _) (by omega)
    simpa [pS] using this
  · exact absurd (h4.symm.trans h) (nI_m1 (by omega))
theorem bNext_or {S : BS} (hn : sN S ≤ 40) : (bNext S = -1) ∨ ∃ k, k < sN S ∧ bNext S = nI k ∧ tSt (sTv S k) = 0 ∧ ∀ j, j < sN S → tSt (sTv S j) ≠ 1 := by
  unfold bNext
  split
  · rename_i h
    rcases bCode_or S with h1 | ⟨k, h1, h2, h3⟩
    · exact Or.inl h1
    · exact Or.inr ⟨k, h1, h2, h3, bPassing_none h hn⟩
  · exact Or.inl rfl
theorem bSp0_in {S : BS} (hp : 0 ≤ sPo S ∧ sPo S ≤ 30) (up : Int32) : ∃ v, 1 ≤ v ∧ v ≤ 6 ∧ bSp0 S up = nI v := by
  obtain ⟨p, hp1, hp2⟩ := i_in (n := 30) rfl hp.1 hp.2
  have key : ∀ p, p < 31 → (∃ v, v < 7 ∧ 1 ≤ v ∧ 6 - nI p / 6 = nI v) ∧ (∃ v, v < 7 ∧ 1 ≤ v ∧ 1 + nI p / 6 = nI v) := by decide +kernel
  obtain ⟨⟨v, a1, a2, a3⟩, ⟨w, b1, b2, b3⟩⟩ := key p (by omega)
  unfold bSp0
  rw [hp2]
  split
  · exact ⟨v, a2, by omega, a3⟩
  · exact ⟨w, b2, by omega, b3⟩
theorem bSpeed_in {S : BS} (hp : 0 ≤ sPo S ∧ sPo S ≤ 30) (up : Int32) : ∃ v, 1 ≤ v ∧ v ≤ 6 ∧ bSpeed S up = nI v := by
  obtain ⟨v, h1, h2, h3⟩ := bSp0_in hp up
  have key : ∀ v, v < 7 → ∃ w, w < 7 ∧ 1 ≤ w ∧ (if 1 < nI v / 2 then nI v / 2 else 1) = nI w := by decide +kernel
  unfold bSpeed
  rw [h3]
  split
  · exact ⟨v, h1, h2, rfl⟩
  · obtain ⟨w, a1, a2, a3⟩ := key v (by omega)
    exact ⟨w, a2, by omega, a3⟩
theorem OKT_go {t : TT} {mi : Int32} (h : OKT t) : OKT (tGo mi t) := by
  obtain ⟨h1, h2, h3, h4⟩ := h
  unfold tGo
  split
  · exact ⟨h1, h2, h3, h4⟩
  · split
    · rename_i hs
      split
      · exact ⟨h1, h2, by show (2 : Nat) < 4; decide, fun e => absurd (show (2 : Nat) = 1 from e) (by decide)⟩
      · rename_i hle
        refine ⟨h1, h2, h3, fun _ => ?_⟩
        obtain ⟨j, hj1, hj2⟩ := i_in (n := 6) rfl (by have := (h4 hs).1; rw [i_le] at this ⊢; exact Int.le_trans (by decide) this) (h4 hs).2
        have key : ∀ j, j < 7 → ¬ nI j - 1 ≤ 0 → 1 ≤ nI j - 1 ∧ nI j - 1 ≤ 6 := by decide +kernel
        show 1 ≤ tLe t - 1 ∧ tLe t - 1 ≤ 6
        rw [hj2] at hle ⊢
        exact key j (by omega) hle
    · exact ⟨h1, h2, h3, h4⟩
theorem tGo_1 {t : TT} {mi : Int32} (h : tSt (tGo mi t) = 1) : tSt t = 1 := by
  unfold tGo at h
  split at h
  · rename_i h0
    exact absurd (h0.symm.trans h) (by decide)
  · split at h
    · rename_i h1
      exact h1
    · exact h
theorem OKS_serve {T : Nat} {S : BS} {k : Nat} (h : OKS T S) (hk : k < sN S) (hn : ∀ j, j < sN S → tSt (sTv S j) ≠ 1) : OKS T (bServe S k) := by
  obtain ⟨h1, h2, h3, h4, h5, h6, h7, h8, h9, h10⟩ := h
  obtain ⟨a, ha1, ha2⟩ := i_in (n := 60) rfl h2.1 h2.2
  unfold bServe
  split
  · refine ⟨h1, h2, h3, h4, h5, (h9 k hk).1, h7, h8, fun j hj => ?_, fun i j hi hj ei ej => ?_⟩
    · show OKT (va_up (sTv S) k (tPass (sTv S k)) j)
      by_cases hjk : j = k
      · subst hjk
        rw [va_up_self]
        obtain ⟨g1, g2, g3, g4⟩ := h9 j hj
        exact ⟨g1, g2, by show (1 : Nat) < 4; decide, fun _ => g2⟩
      · rw [va_up_ne _ _ hjk]
        exact h9 j hj
    · have key : ∀ j, j < sN S → tSt (va_up (sTv S) k (tPass (sTv S k)) j) = 1 → j = k := by
        intro j hj e
        by_cases hjk : j = k
        · exact hjk
        · rw [va_up_ne _ _ hjk] at e
          exact absurd e (hn j hj)
      rw [key i hi ei, key j hj ej]
  · split
    · obtain ⟨v, hv1, hv2, hv3⟩ := bSpeed_in h3 0
      refine ⟨h1, ?_, h3, h4, h5, h6, h7, h8, h9, h10⟩
      show 0 ≤ (if 0 < sAn S - bSpeed S 0 then sAn S - bSpeed S 0 else 0) ∧ (if 0 < sAn S - bSpeed S 0 then sAn S - bSpeed S 0 else 0) ≤ 60
      rw [hv3, ha2]
      have e := pk_sub_toInt (a := a) (b := v) (by omega) (by omega)
      split
      · rename_i hlt
        rw [i_lt] at hlt
        rw [i_le, i_le, e]
        rw [e] at hlt
        have e0 : (0 : Int32).toInt = 0 := by decide
        have e6 : (60 : Int32).toInt = 60 := by decide
        omega
      · exact ⟨by decide, by decide⟩
    · obtain ⟨v, hv1, hv2, hv3⟩ := bSpeed_in h3 1
      refine ⟨h1, ?_, h3, h4, h5, h6, h7, h8, h9, h10⟩
      show 0 ≤ (if sAn S + bSpeed S 1 < 60 then sAn S + bSpeed S 1 else 60) ∧ (if sAn S + bSpeed S 1 < 60 then sAn S + bSpeed S 1 else 60) ≤ 60
      rw [hv3, ha2, nI_add]
      split
      · rename_i hlt
        have : a + v < 60 := by
          rcases Nat.lt_or_ge (a + v) 60 with q | q
          · exact q
          · exact absurd hlt (nI_nlt (b := 60) q (by omega))
        exact nI_in60 (by omega)
      · exact ⟨by decide, by decide⟩
theorem OKS_served {T : Nat} {S : BS} (h : OKS T S) : OKS T (bServed S) := by
  unfold bServed
  split
  · exact h
  · rename_i hne
    rcases bNext_or h.2.2.2.2.2.2.2.1 with h1 | ⟨k, h1, h2, h3, h4⟩
    · exact absurd h1 hne
    · rw [h2, nI_clamp (by have := h.2.2.2.2.2.2.2.1; omega)]
      exact OKS_serve h h1 h4
theorem OKS_go {T : Nat} {S : BS} (h : OKS T S) : OKS T (bGo S) := by
  obtain ⟨h1, h2, h3, h4, h5, h6, h7, h8, h9, h10⟩ := h
  exact ⟨h1, h2, h3, h4, h5, h6, h7, h8, fun k hk => OKT_go (h9 k hk), fun i j hi hj ei ej => h10 i j hi hj (tGo_1 ei) (tGo_1 ej)⟩
theorem bIce_in {S : BS} (h : 0 ≤ sIc S ∧ sIc S ≤ 9) : 0 ≤ bIce S ∧ bIce S ≤ 9 := by
  unfold bIce
  split
  · dsimp only
    generalize sIc S + sCd S (sMi S / 60 - sMi S / 60 / 8 * 8).toNatClampNeg = x
    have e0 : (0 : Int32).toInt = 0 := by decide
    have e9 : (9 : Int32).toInt = 9 := by decide
    split
    · rename_i hx
      split
      · rename_i h0
        rw [i_lt] at hx h0
        rw [i_le, i_le]
        omega
      · exact ⟨by decide, by decide⟩
    · split
      · exact ⟨by decide, by decide⟩
      · exact ⟨by decide, by decide⟩
  · exact h
theorem OKS_tick {T : Nat} {S : BS} (h : OKS T S) : OKS (T + 1) (bTick S) := by
  obtain ⟨⟨mi, a1, a2⟩, h2, h3, h4, h5, h6, h7, h8, h9, h10⟩ := h
  exact ⟨⟨mi + 1, by omega, by show sMi S + 1 = _; rw [a2, nI_1]⟩, h2, h3, bIce_in h4, h5, h6, h7, h8, h9, h10⟩
theorem OKS_step {T : Nat} {S : BS} (h : OKS T S) : OKS (T + 1) (bStep S) := OKS_tick (OKS_go (OKS_served h))
theorem OKS_mono {T U : Nat} {S : BS} (h : OKS T S) (hTU : T ≤ U) : OKS U S := by
  obtain ⟨⟨mi, a1, a2⟩, h⟩ := h
  exact ⟨⟨mi, by omega, a2⟩, h⟩
/-- the first k have gone their minute -/
def bGoK (S : BS) (k : Nat) : BS := (S.1, sCd S, sN S, fun i => if i < k then tGo (sMi S) (sTv S i) else sTv S i)
theorem bGoK_0 (S : BS) : bGoK S 0 = S := by
  unfold bGoK
  have : (fun i => if i < 0 then tGo (sMi S) (sTv S i) else sTv S i) = sTv S := by
    funext i
    rw [if_neg (by omega)]
  rw [this]
theorem bGoK_s (S : BS) (k : Nat) : bGoK S (k + 1) = (S.1, sCd S, sN S, va_up (sTv (bGoK S k)) k (tGo (sMi S) (sTv S k))) := by
  unfold bGoK
  congr 3
  funext i
  show _ = va_up (fun i => if i < k then tGo (sMi S) (sTv S i) else sTv S i) k (tGo (sMi S) (sTv S k)) i
  by_cases hi : i = k
  · subst hi
    rw [va_up_self, if_pos (by omega)]
  · rw [va_up_ne _ _ hi]
    by_cases hk : i < k
    · rw [if_pos (by omega), if_pos hk]
    · rw [if_neg (by omega), if_neg hk]
theorem bGoK_at (S : BS) (k : Nat) : sTv (bGoK S k) k = sTv S k := by
  show (if k < k then _ else _) = _
  rw [if_neg (by omega)]
theorem OKS_goK {T : Nat} {S : BS} (k : Nat) (h : OKS T S) : OKS T (bGoK S k) := by
  obtain ⟨h1, h2, h3, h4, h5, h6, h7, h8, h9, h10⟩ := h
  have key : ∀ i, tSt (if i < k then tGo (sMi S) (sTv S i) else sTv S i) = 1 → tSt (sTv S i) = 1 := by
    intro i
    split
    · exact tGo_1
    · exact id
  refine ⟨h1, h2, h3, h4, h5, h6, h7, h8, fun i hi => ?_, fun i j hi hj ei ej => h10 i j hi hj (key i ei) (key j ej)⟩
  show OKT (if i < k then tGo (sMi S) (sTv S i) else sTv S i)
  split
  · exact OKT_go (h9 i hi)
  · exact h9 i hi
/-- a bridge whose travellers are the same as far as there are any -/
theorem BX.ext {g : GT} {F : Nat → Prop} {b cd al el cap : Nat} {mc : Int32} {arr : Nat → Option Nat} {ad : Nat → Nat} {S : BS} {H : Heap} (h : BX g F b cd al el cap mc arr ad S H) (f : Nat → TT) (hf : ∀ k, k < sN S → f k = sTv S k) : BX g F b cd al el cap mc arr ad (S.1, sCd S, sN S, f) H := by
  obtain ⟨h1, h2, h3, h4, h5, h6⟩ := h
  refine ⟨h1, h2, h3, h4, fun k hk => ⟨(h5 k hk).1, ?_⟩, h6⟩
  show va_at (gD g) bbCl (ad k, tvE g (f k)) H
  rw [hf k hk]
  exact (h5 k hk).2
theorem mi_rem {mi : Nat} (h : mi < 2 ^ 31) : nI mi - nI mi / 60 * 60 = nI (mi % 60) := pk_rem (d := 60) h (by decide) (by decide)
theorem mi_cold {mi : Nat} (h : mi < 2 ^ 31) : nI mi / 60 - nI mi / 60 / 8 * 8 = nI (mi / 60 % 8) := by
  have e : nI mi / 60 = nI (mi / 60) := pk_div (d := 60) h (by decide) (by decide)
  rw [e]
  exact pk_rem (d := 8) (by omega) (by decide) (by decide)
